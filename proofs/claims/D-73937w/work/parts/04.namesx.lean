/-! BackLogic$Fault -/
set_option maxRecDepth 100000
def RX1 : String := "BackLogic$Fault"
def TX1 : u_T := fun k => match k with
  | 0 => ("java/lang/Throwable", "cause", "Ljava/lang/Throwable;", false)
  | 1 => ("java/lang/Throwable", "stackTrace", "[Ljava/lang/StackTraceElement;", false)
  | 2 => ("java/lang/Throwable", "suppressedExceptions", "Ljava/util/List;", false)
  | 3 => ("java/lang/Throwable", "detailMessage", "Ljava/lang/String;", false)
  | 4 => ("java/lang/Throwable", "backtrace", "Ljava/lang/Object;", false)
  | 5 => ("java/lang/Throwable", "depth", "I", false)
  | 6 => ("BackLogic$Fault", "number", "I", false)
  | _ => ("BackLogic$Fault", "place", "I", false)
def tyX1 : Nat → FieldType := fun k => match k with
  | 0 => .object "java/lang/Throwable"
  | 1 => .array (.object "java/lang/StackTraceElement")
  | 2 => .object "java/util/List"
  | 3 => .object "java/lang/String"
  | 4 => .object "java/lang/Object"
  | 5 => .int
  | 6 => .int
  | _ => .int
abbrev wsX10 : List Cond := u_ws RX1 TX1 8
theorem nmX1 : ∀ a, a < 8 → ∀ b, b < 8 → a ≠ b → (TX1 a).2.1 ≠ (TX1 b).2.1 := by decide +kernel
theorem tyX1_ok : ∀ k, k < 8 → parseFieldDescriptor (TX1 k).2.2.1 = some (tyX1 k) := by decide +kernel
abbrev cX1_init : ByteArray := prog_3_method_1_code
def yX1_init : MethodName := ⟨RX1, "<init>", "()V"⟩
def dkwX1_init_0 : List UInt8 := [42, 18, 1, 1, 3, 3, 183, 0, 3, 177]
abbrev dktX1_init_0 : List UInt8 := dkwX1_init_0 ++ []
theorem dksX1_init_0 : cX1_init.data.toList.drop 0 = dktX1_init_0 := by decide +kernel
theorem dX1_init_0 : decode cX1_init 0 = .ok (.aload_n 0, 1) := dk_42 (dk_at dksX1_init_0 0 rfl rfl)
theorem dX1_init_1 : decode cX1_init 1 = .ok (.ldc 1, 2) := dk_18 1 (dk_at dksX1_init_0 1 rfl rfl)
theorem dX1_init_3 : decode cX1_init 3 = .ok (.aconst_null, 1) := dk_1 (dk_at dksX1_init_0 3 rfl rfl)
theorem dX1_init_4 : decode cX1_init 4 = .ok (.iconst 0, 1) := dk_3 (dk_at dksX1_init_0 4 rfl rfl)
theorem dX1_init_5 : decode cX1_init 5 = .ok (.iconst 0, 1) := dk_3 (dk_at dksX1_init_0 5 rfl rfl)
theorem dX1_init_6 : decode cX1_init 6 = .ok (.invokespecial 3, 3) := dk_183 0 3 (dk_at dksX1_init_0 6 rfl rfl)
theorem dX1_init_9 : decode cX1_init 9 = .ok (.return_, 1) := dk_177 (dk_at dksX1_init_0 9 rfl rfl)
abbrev cX1_of : ByteArray := prog_3_method_2_code
def yX1_of : MethodName := ⟨RX1, "of", "(II)LBackLogic$Fault;"⟩
def dkwX1_of_0 : List UInt8 := [42, 27, 181, 0, 9, 42, 28, 181, 0, 15, 42, 176]
abbrev dktX1_of_0 : List UInt8 := dkwX1_of_0 ++ []
theorem dksX1_of_0 : cX1_of.data.toList.drop 0 = dktX1_of_0 := by decide +kernel
theorem dX1_of_0 : decode cX1_of 0 = .ok (.aload_n 0, 1) := dk_42 (dk_at dksX1_of_0 0 rfl rfl)
theorem dX1_of_1 : decode cX1_of 1 = .ok (.iload_n 1, 1) := dk_27 (dk_at dksX1_of_0 1 rfl rfl)
theorem dX1_of_2 : decode cX1_of 2 = .ok (.putfield 9, 3) := dk_181 0 9 (dk_at dksX1_of_0 2 rfl rfl)
theorem dX1_of_5 : decode cX1_of 5 = .ok (.aload_n 0, 1) := dk_42 (dk_at dksX1_of_0 5 rfl rfl)
theorem dX1_of_6 : decode cX1_of 6 = .ok (.iload_n 2, 1) := dk_28 (dk_at dksX1_of_0 6 rfl rfl)
theorem dX1_of_7 : decode cX1_of 7 = .ok (.putfield 15, 3) := dk_181 0 15 (dk_at dksX1_of_0 7 rfl rfl)
theorem dX1_of_10 : decode cX1_of 10 = .ok (.aload_n 0, 1) := dk_42 (dk_at dksX1_of_0 10 rfl rfl)
theorem dX1_of_11 : decode cX1_of 11 = .ok (.areturn, 1) := dk_176 (dk_at dksX1_of_0 11 rfl rfl)
theorem q134 : (Jvm.Cond.initialized "BackLogic$Fault") ∈ lw_all := lw_g (lw_at lw_m1 5 rfl) rfl
theorem q189 : (Jvm.Cond.instantiable "BackLogic$Fault" (8 : Nat)) ∈ lw_all := lw_g (lw_at lw_m1 60 rfl) rfl
theorem q190 : (Jvm.Cond.castable "BackLogic$Fault" "BackLogic$Fault") ∈ lw_tbl := lw_at lw_m1 61 rfl
theorem q197 : (Jvm.Cond.selects "BackLogic$Fault" ({ cls := "java/lang/Throwable", name := "fillInStackTrace", desc := "(I)Ljava/lang/Throwable;" } : Jvm.MethodName) ({ cls := "java/lang/Throwable", name := "fillInStackTrace", desc := "(I)Ljava/lang/Throwable;" } : Jvm.MethodName)) ∈ lw_all := lw_g (lw_at lw_m1 68 rfl) rfl
theorem q198 : (Jvm.Cond.selects "BackLogic$Fault" ({ cls := "java/lang/Throwable", name := "fillInStackTrace", desc := "()Ljava/lang/Throwable;" } : Jvm.MethodName) ({ cls := "java/lang/Throwable", name := "fillInStackTrace", desc := "()Ljava/lang/Throwable;" } : Jvm.MethodName)) ∈ lw_all := lw_g (lw_at lw_m1 69 rfl) rfl
theorem q199 : (Jvm.Cond.lays "BackLogic$Fault" "java/lang/Throwable" "cause" "Ljava/lang/Throwable;") ∈ lw_all := lw_g (lw_at lw_m1 70 rfl) rfl
theorem q201 : (Jvm.Cond.lays "BackLogic$Fault" "java/lang/Throwable" "stackTrace" "[Ljava/lang/StackTraceElement;") ∈ lw_all := lw_g (lw_at lw_m1 72 rfl) rfl
theorem q203 : (Jvm.Cond.lays "BackLogic$Fault" "java/lang/Throwable" "suppressedExceptions" "Ljava/util/List;") ∈ lw_all := lw_g (lw_at lw_m1 74 rfl) rfl
theorem q205 : (Jvm.Cond.lays "BackLogic$Fault" "java/lang/Throwable" "detailMessage" "Ljava/lang/String;") ∈ lw_all := lw_g (lw_at lw_m1 76 rfl) rfl
theorem q207 : (Jvm.Cond.lays "BackLogic$Fault" "java/lang/Throwable" "backtrace" "Ljava/lang/Object;") ∈ lw_all := lw_g (lw_at lw_m1 78 rfl) rfl
theorem q229 : (Jvm.Cond.instanceMethod ({ cls := "BackLogic$Fault", name := "<init>", desc := "()V" } : Jvm.MethodName)) ∈ lw_all := lw_g (lw_at lw_m1 100 rfl) rfl
theorem q230 : (Jvm.Cond.code ({ cls := "BackLogic$Fault", name := "<init>", desc := "()V" } : Jvm.MethodName) prog_3_method_1_code (1 : Nat) (Option.none : Option Jvm.ClassFile.FieldType)) ∈ lw_all := lw_g (lw_at lw_m1 101 rfl) rfl
theorem q231 : (Jvm.Cond.stringRef "BackLogic$Fault" (1 : Nat) "") ∈ lw_tbl := lw_at lw_m1 102 rfl
theorem q232 : (Jvm.Cond.methodLink "BackLogic$Fault" (3 : Nat) ({ cls := "java/lang/RuntimeException", name := "<init>", desc := "(Ljava/lang/String;Ljava/lang/Throwable;ZZ)V" } : Jvm.MethodName)) ∈ lw_all := lw_g (lw_at lw_m1 103 rfl) rfl
theorem q241 : (Jvm.Cond.fieldLink "BackLogic$Fault" (9 : Nat) "BackLogic$Fault" "number" "I") ∈ lw_all := lw_g (lw_at lw_m1 112 rfl) rfl
theorem q243 : (Jvm.Cond.fieldLink "BackLogic$Fault" (15 : Nat) "BackLogic$Fault" "place" "I") ∈ lw_all := lw_g (lw_at lw_m1 114 rfl) rfl
theorem q250 : (Jvm.Cond.lays "BackLogic$Fault" "BackLogic$Fault" "number" "I") ∈ lw_all := lw_g (lw_at lw_m1 121 rfl) rfl
theorem q251 : (Jvm.Cond.soleField "BackLogic$Fault" "number") ∈ lw_all := lw_g (lw_at lw_m1 122 rfl) rfl
theorem q252 : (Jvm.Cond.lays "BackLogic$Fault" "BackLogic$Fault" "place" "I") ∈ lw_all := lw_g (lw_at lw_m1 123 rfl) rfl
theorem q253 : (Jvm.Cond.soleField "BackLogic$Fault" "place") ∈ lw_all := lw_g (lw_at lw_m1 124 rfl) rfl
theorem q258 : (Jvm.Cond.lays "BackLogic$Fault" "java/lang/Throwable" "depth" "I") ∈ lw_all := lw_g (lw_at lw_m1 129 rfl) rfl
theorem q261 : (Jvm.Cond.superclass "BackLogic$Fault" "java/lang/RuntimeException") ∈ lw_all := lw_g (lw_at lw_m1 132 rfl) rfl
theorem q288 : (Jvm.Cond.selects "BackLogic$Fault" ({ cls := "java/lang/Object", name := "getClass", desc := "()Ljava/lang/Class;" } : Jvm.MethodName) ({ cls := "java/lang/Object", name := "getClass", desc := "()Ljava/lang/Class;" } : Jvm.MethodName)) ∈ lw_all := lw_g (lw_at lw_m1 159 rfl) rfl
theorem q900 : (Jvm.Cond.instanceMethod ({ cls := "BackLogic$Fault", name := "of", desc := "(II)LBackLogic$Fault;" } : Jvm.MethodName)) ∈ lw_all := lw_g (lw_at lw_m4 51 rfl) rfl
theorem q901 : (Jvm.Cond.selects "BackLogic$Fault" ({ cls := "BackLogic$Fault", name := "of", desc := "(II)LBackLogic$Fault;" } : Jvm.MethodName) ({ cls := "BackLogic$Fault", name := "of", desc := "(II)LBackLogic$Fault;" } : Jvm.MethodName)) ∈ lw_all := lw_g (lw_at lw_m4 52 rfl) rfl
theorem q902 : (Jvm.Cond.code ({ cls := "BackLogic$Fault", name := "of", desc := "(II)LBackLogic$Fault;" } : Jvm.MethodName) prog_3_method_2_code (3 : Nat) (Option.some (Jvm.ClassFile.FieldType.object "BackLogic$Fault"))) ∈ lw_all := lw_g (lw_at lw_m4 53 rfl) rfl
theorem q1227 : (Jvm.Cond.selects "BackLogic$Fault" ({ cls := "java/lang/Throwable", name := "toString", desc := "()Ljava/lang/String;" } : Jvm.MethodName) ({ cls := "java/lang/Throwable", name := "toString", desc := "()Ljava/lang/String;" } : Jvm.MethodName)) ∈ lw_all := lw_g (lw_at lw_m5 138 rfl) rfl
theorem q1234 : (Jvm.Cond.selects "BackLogic$Fault" ({ cls := "java/lang/Throwable", name := "getLocalizedMessage", desc := "()Ljava/lang/String;" } : Jvm.MethodName) ({ cls := "java/lang/Throwable", name := "getLocalizedMessage", desc := "()Ljava/lang/String;" } : Jvm.MethodName)) ∈ lw_all := lw_g (lw_at lw_m5 145 rfl) rfl
theorem q1240 : (Jvm.Cond.selects "BackLogic$Fault" ({ cls := "java/lang/Throwable", name := "getMessage", desc := "()Ljava/lang/String;" } : Jvm.MethodName) ({ cls := "java/lang/Throwable", name := "getMessage", desc := "()Ljava/lang/String;" } : Jvm.MethodName)) ∈ lw_all := lw_g (lw_at lw_m5 151 rfl) rfl
theorem q2684 : (Jvm.Cond.castable "BackLogic$Fault" "java/lang/Object") ∈ lw_tbl := lw_at lw_m11 155 rfl
theorem in_X1 : ∀ w ∈ wsX10, w ∈ lw_all := lw_in wsX10 [199, 201, 203, 205, 207, 258, 250, 252] (by decide +kernel) (by decide +kernel)
/-! BackLogic$Tokens -/
set_option maxRecDepth 100000
def RX2 : String := "BackLogic$Tokens"
def TX2 : u_T := fun k => match k with
  | 0 => ("BackLogic$Tokens", "words", "Ljava/util/List;", true)
  | 1 => ("BackLogic$Tokens", "tape", "[B", true)
  | 2 => ("BackLogic$Tokens", "taped", "I", false)
  | 3 => ("BackLogic$Tokens", "sort", "[B", true)
  | 4 => ("BackLogic$Tokens", "from", "[S", true)
  | 5 => ("BackLogic$Tokens", "to", "[S", true)
  | 6 => ("BackLogic$Tokens", "what", "[S", true)
  | _ => ("BackLogic$Tokens", "many", "I", false)
def tyX2 : Nat → FieldType := fun k => match k with
  | 0 => .object "java/util/List"
  | 1 => .array .byte
  | 2 => .int
  | 3 => .array .byte
  | 4 => .array .short
  | 5 => .array .short
  | 6 => .array .short
  | _ => .int
abbrev wsX20 : List Cond := u_ws RX2 TX2 8
theorem nmX2 : ∀ a, a < 8 → ∀ b, b < 8 → a ≠ b → (TX2 a).2.1 ≠ (TX2 b).2.1 := by decide +kernel
theorem tyX2_ok : ∀ k, k < 8 → parseFieldDescriptor (TX2 k).2.2.1 = some (tyX2 k) := by decide +kernel
abbrev cX2_init : ByteArray := prog_11_method_1_code
def yX2_init : MethodName := ⟨RX2, "<init>", "()V"⟩
def dkwX2_init_2 : List UInt8 := [17, 7, 209, 188, 9, 181, 0, 40, 42, 17, 7, 209, 188, 9, 181, 0, 43, 177]
abbrev dktX2_init_2 : List UInt8 := dkwX2_init_2 ++ []
def dkwX2_init_1 : List UInt8 := [188, 8, 181, 0, 29, 42, 17, 7, 209, 188, 8, 181, 0, 33, 42, 17, 7, 209, 188, 9, 181, 0, 36, 42]
abbrev dktX2_init_1 : List UInt8 := dkwX2_init_1 ++ dktX2_init_2
def dkwX2_init_0 : List UInt8 := [42, 183, 0, 3, 42, 18, 9, 18, 11, 18, 13, 18, 15, 184, 0, 17, 181, 0, 23, 42, 17, 7, 208]
abbrev dktX2_init_0 : List UInt8 := dkwX2_init_0 ++ dktX2_init_1
theorem dksX2_init_0 : cX2_init.data.toList.drop 0 = dktX2_init_0 := by decide +kernel
theorem dksX2_init_1 : cX2_init.data.toList.drop 23 = dktX2_init_1 := dk_seg dksX2_init_0 23 rfl rfl
theorem dksX2_init_2 : cX2_init.data.toList.drop 47 = dktX2_init_2 := dk_seg dksX2_init_1 24 rfl rfl
theorem dX2_init_0 : decode cX2_init 0 = .ok (.aload_n 0, 1) := dk_42 (dk_at dksX2_init_0 0 rfl rfl)
theorem dX2_init_1 : decode cX2_init 1 = .ok (.invokespecial 3, 3) := dk_183 0 3 (dk_at dksX2_init_0 1 rfl rfl)
theorem dX2_init_4 : decode cX2_init 4 = .ok (.aload_n 0, 1) := dk_42 (dk_at dksX2_init_0 4 rfl rfl)
theorem dX2_init_5 : decode cX2_init 5 = .ok (.ldc 9, 2) := dk_18 9 (dk_at dksX2_init_0 5 rfl rfl)
theorem dX2_init_7 : decode cX2_init 7 = .ok (.ldc 11, 2) := dk_18 11 (dk_at dksX2_init_0 7 rfl rfl)
theorem dX2_init_9 : decode cX2_init 9 = .ok (.ldc 13, 2) := dk_18 13 (dk_at dksX2_init_0 9 rfl rfl)
theorem dX2_init_11 : decode cX2_init 11 = .ok (.ldc 15, 2) := dk_18 15 (dk_at dksX2_init_0 11 rfl rfl)
theorem dX2_init_13 : decode cX2_init 13 = .ok (.invokestatic 17, 3) := dk_184 0 17 (dk_at dksX2_init_0 13 rfl rfl)
theorem dX2_init_16 : decode cX2_init 16 = .ok (.putfield 23, 3) := dk_181 0 23 (dk_at dksX2_init_0 16 rfl rfl)
theorem dX2_init_19 : decode cX2_init 19 = .ok (.aload_n 0, 1) := dk_42 (dk_at dksX2_init_0 19 rfl rfl)
theorem dX2_init_20 : decode cX2_init 20 = .ok (.sipush 2000, 3) := dk_17 7 208 (dk_at dksX2_init_0 20 rfl rfl)
theorem dX2_init_23 : decode cX2_init 23 = .ok (.newarray .byte, 2) := dk_188_8 (dk_at dksX2_init_1 0 rfl rfl)
theorem dX2_init_25 : decode cX2_init 25 = .ok (.putfield 29, 3) := dk_181 0 29 (dk_at dksX2_init_1 2 rfl rfl)
theorem dX2_init_28 : decode cX2_init 28 = .ok (.aload_n 0, 1) := dk_42 (dk_at dksX2_init_1 5 rfl rfl)
theorem dX2_init_29 : decode cX2_init 29 = .ok (.sipush 2001, 3) := dk_17 7 209 (dk_at dksX2_init_1 6 rfl rfl)
theorem dX2_init_32 : decode cX2_init 32 = .ok (.newarray .byte, 2) := dk_188_8 (dk_at dksX2_init_1 9 rfl rfl)
theorem dX2_init_34 : decode cX2_init 34 = .ok (.putfield 33, 3) := dk_181 0 33 (dk_at dksX2_init_1 11 rfl rfl)
theorem dX2_init_37 : decode cX2_init 37 = .ok (.aload_n 0, 1) := dk_42 (dk_at dksX2_init_1 14 rfl rfl)
theorem dX2_init_38 : decode cX2_init 38 = .ok (.sipush 2001, 3) := dk_17 7 209 (dk_at dksX2_init_1 15 rfl rfl)
theorem dX2_init_41 : decode cX2_init 41 = .ok (.newarray .short, 2) := dk_188_9 (dk_at dksX2_init_1 18 rfl rfl)
theorem dX2_init_43 : decode cX2_init 43 = .ok (.putfield 36, 3) := dk_181 0 36 (dk_at dksX2_init_1 20 rfl rfl)
theorem dX2_init_46 : decode cX2_init 46 = .ok (.aload_n 0, 1) := dk_42 (dk_at dksX2_init_1 23 rfl rfl)
theorem dX2_init_47 : decode cX2_init 47 = .ok (.sipush 2001, 3) := dk_17 7 209 (dk_at dksX2_init_2 0 rfl rfl)
theorem dX2_init_50 : decode cX2_init 50 = .ok (.newarray .short, 2) := dk_188_9 (dk_at dksX2_init_2 3 rfl rfl)
theorem dX2_init_52 : decode cX2_init 52 = .ok (.putfield 40, 3) := dk_181 0 40 (dk_at dksX2_init_2 5 rfl rfl)
theorem dX2_init_55 : decode cX2_init 55 = .ok (.aload_n 0, 1) := dk_42 (dk_at dksX2_init_2 8 rfl rfl)
theorem dX2_init_56 : decode cX2_init 56 = .ok (.sipush 2001, 3) := dk_17 7 209 (dk_at dksX2_init_2 9 rfl rfl)
theorem dX2_init_59 : decode cX2_init 59 = .ok (.newarray .short, 2) := dk_188_9 (dk_at dksX2_init_2 12 rfl rfl)
theorem dX2_init_61 : decode cX2_init 61 = .ok (.putfield 43, 3) := dk_181 0 43 (dk_at dksX2_init_2 14 rfl rfl)
theorem dX2_init_64 : decode cX2_init 64 = .ok (.return_, 1) := dk_177 (dk_at dksX2_init_2 17 rfl rfl)
abbrev cX2_read : ByteArray := prog_11_method_7_code
def yX2_read : MethodName := ⟨RX2, "read", "()V"⟩
def dkwX2_read_9 : List UInt8 := [167, 0, 4, 3, 61, 21, 4, 60, 167, 255, 50, 28, 153, 0, 11, 42, 7, 27, 27, 3, 182, 0, 85, 177]
abbrev dktX2_read_9 : List UInt8 := dkwX2_read_9 ++ []
def dkwX2_read_8 : List UInt8 := [167, 0, 4, 8, 54, 5, 42, 21, 5, 27, 21, 4, 21, 6, 182, 0, 85, 21, 5, 8, 159, 0, 7, 4]
abbrev dktX2_read_8 : List UInt8 := dkwX2_read_8 ++ dktX2_read_9
def dkwX2_read_7 : List UInt8 := [4, 54, 5, 167, 0, 25, 29, 54, 6, 29, 16, 59, 159, 0, 9, 29, 16, 45, 160, 0, 7, 5]
abbrev dktX2_read_7 : List UInt8 := dkwX2_read_7 ++ dktX2_read_8
def dkwX2_read_6 : List UInt8 := [182, 0, 82, 153, 0, 9, 132, 4, 1, 167, 255, 244, 21, 4, 27, 100, 7, 164, 0, 7, 8, 167, 0, 4]
abbrev dktX2_read_6 : List UInt8 := dkwX2_read_6 ++ dktX2_read_7
def dkwX2_read_5 : List UInt8 := [164, 0, 7, 8, 167, 0, 4, 3, 54, 5, 167, 0, 66, 42, 27, 182, 0, 82, 153, 0, 36, 42, 21, 4]
abbrev dktX2_read_5 : List UInt8 := dkwX2_read_5 ++ dktX2_read_6
def dkwX2_read_4 : List UInt8 := [21, 4, 182, 0, 78, 54, 6, 21, 6, 155, 0, 7, 6, 167, 0, 17, 21, 4, 27, 100, 16, 8]
abbrev dktX2_read_4 : List UInt8 := dkwX2_read_4 ++ dktX2_read_5
def dkwX2_read_3 : List UInt8 := [182, 0, 74, 153, 0, 55, 42, 21, 4, 182, 0, 74, 153, 0, 9, 132, 4, 1, 167, 255, 244, 42, 27]
abbrev dktX2_read_3 : List UInt8 := dkwX2_read_3 ++ dktX2_read_4
def dkwX2_read_2 : List UInt8 := [16, 10, 159, 0, 9, 29, 16, 13, 160, 0, 9, 132, 1, 1, 167, 255, 205, 3, 54, 6, 42, 27]
abbrev dktX2_read_2 : List UInt8 := dkwX2_read_2 ++ dktX2_read_3
def dkwX2_read_1 : List UInt8 := [180, 0, 29, 27, 51, 62, 27, 4, 96, 54, 4, 29, 16, 32, 159, 0, 21, 29, 16, 9, 159, 0, 15, 29]
abbrev dktX2_read_1 : List UInt8 := dkwX2_read_1 ++ dktX2_read_2
def dkwX2_read_0 : List UInt8 := [42, 3, 181, 0, 54, 3, 60, 4, 61, 27, 42, 180, 0, 46, 162, 0, 204, 28, 153, 0, 200, 42]
abbrev dktX2_read_0 : List UInt8 := dkwX2_read_0 ++ dktX2_read_1
theorem dksX2_read_0 : cX2_read.data.toList.drop 0 = dktX2_read_0 := by decide +kernel
theorem dksX2_read_1 : cX2_read.data.toList.drop 22 = dktX2_read_1 := dk_seg dksX2_read_0 22 rfl rfl
theorem dksX2_read_2 : cX2_read.data.toList.drop 46 = dktX2_read_2 := dk_seg dksX2_read_1 24 rfl rfl
theorem dksX2_read_3 : cX2_read.data.toList.drop 68 = dktX2_read_3 := dk_seg dksX2_read_2 22 rfl rfl
theorem dksX2_read_4 : cX2_read.data.toList.drop 91 = dktX2_read_4 := dk_seg dksX2_read_3 23 rfl rfl
theorem dksX2_read_5 : cX2_read.data.toList.drop 113 = dktX2_read_5 := dk_seg dksX2_read_4 22 rfl rfl
theorem dksX2_read_6 : cX2_read.data.toList.drop 137 = dktX2_read_6 := dk_seg dksX2_read_5 24 rfl rfl
theorem dksX2_read_7 : cX2_read.data.toList.drop 161 = dktX2_read_7 := dk_seg dksX2_read_6 24 rfl rfl
theorem dksX2_read_8 : cX2_read.data.toList.drop 183 = dktX2_read_8 := dk_seg dksX2_read_7 22 rfl rfl
theorem dksX2_read_9 : cX2_read.data.toList.drop 207 = dktX2_read_9 := dk_seg dksX2_read_8 24 rfl rfl
theorem dX2_read_0 : decode cX2_read 0 = .ok (.aload_n 0, 1) := dk_42 (dk_at dksX2_read_0 0 rfl rfl)
theorem dX2_read_1 : decode cX2_read 1 = .ok (.iconst 0, 1) := dk_3 (dk_at dksX2_read_0 1 rfl rfl)
theorem dX2_read_2 : decode cX2_read 2 = .ok (.putfield 54, 3) := dk_181 0 54 (dk_at dksX2_read_0 2 rfl rfl)
theorem dX2_read_5 : decode cX2_read 5 = .ok (.iconst 0, 1) := dk_3 (dk_at dksX2_read_0 5 rfl rfl)
theorem dX2_read_6 : decode cX2_read 6 = .ok (.istore_n 1, 1) := dk_60 (dk_at dksX2_read_0 6 rfl rfl)
theorem dX2_read_7 : decode cX2_read 7 = .ok (.iconst 1, 1) := dk_4 (dk_at dksX2_read_0 7 rfl rfl)
theorem dX2_read_8 : decode cX2_read 8 = .ok (.istore_n 2, 1) := dk_61 (dk_at dksX2_read_0 8 rfl rfl)
theorem dX2_read_9 : decode cX2_read 9 = .ok (.iload_n 1, 1) := dk_27 (dk_at dksX2_read_0 9 rfl rfl)
theorem dX2_read_10 : decode cX2_read 10 = .ok (.aload_n 0, 1) := dk_42 (dk_at dksX2_read_0 10 rfl rfl)
theorem dX2_read_11 : decode cX2_read 11 = .ok (.getfield 46, 3) := dk_180 0 46 (dk_at dksX2_read_0 11 rfl rfl)
theorem dX2_read_14 : decode cX2_read 14 = .ok (.if_icmp .ge 204, 3) := dk_162 0 204 (dk_at dksX2_read_0 14 rfl rfl)
theorem dX2_read_17 : decode cX2_read 17 = .ok (.iload_n 2, 1) := dk_28 (dk_at dksX2_read_0 17 rfl rfl)
theorem dX2_read_18 : decode cX2_read 18 = .ok (.ifCond .eq 200, 3) := dk_153 0 200 (dk_at dksX2_read_0 18 rfl rfl)
theorem dX2_read_21 : decode cX2_read 21 = .ok (.aload_n 0, 1) := dk_42 (dk_at dksX2_read_0 21 rfl rfl)
theorem dX2_read_22 : decode cX2_read 22 = .ok (.getfield 29, 3) := dk_180 0 29 (dk_at dksX2_read_1 0 rfl rfl)
theorem dX2_read_25 : decode cX2_read 25 = .ok (.iload_n 1, 1) := dk_27 (dk_at dksX2_read_1 3 rfl rfl)
theorem dX2_read_26 : decode cX2_read 26 = .ok (.baload, 1) := dk_51 (dk_at dksX2_read_1 4 rfl rfl)
theorem dX2_read_27 : decode cX2_read 27 = .ok (.istore_n 3, 1) := dk_62 (dk_at dksX2_read_1 5 rfl rfl)
theorem dX2_read_28 : decode cX2_read 28 = .ok (.iload_n 1, 1) := dk_27 (dk_at dksX2_read_1 6 rfl rfl)
theorem dX2_read_29 : decode cX2_read 29 = .ok (.iconst 1, 1) := dk_4 (dk_at dksX2_read_1 7 rfl rfl)
theorem dX2_read_30 : decode cX2_read 30 = .ok (.iadd, 1) := dk_96 (dk_at dksX2_read_1 8 rfl rfl)
theorem dX2_read_31 : decode cX2_read 31 = .ok (.istore 4, 2) := dk_54 4 (dk_at dksX2_read_1 9 rfl rfl)
theorem dX2_read_33 : decode cX2_read 33 = .ok (.iload_n 3, 1) := dk_29 (dk_at dksX2_read_1 11 rfl rfl)
theorem dX2_read_34 : decode cX2_read 34 = .ok (.bipush 32, 2) := dk_16 32 (dk_at dksX2_read_1 12 rfl rfl)
theorem dX2_read_36 : decode cX2_read 36 = .ok (.if_icmp .eq 21, 3) := dk_159 0 21 (dk_at dksX2_read_1 14 rfl rfl)
theorem dX2_read_39 : decode cX2_read 39 = .ok (.iload_n 3, 1) := dk_29 (dk_at dksX2_read_1 17 rfl rfl)
theorem dX2_read_40 : decode cX2_read 40 = .ok (.bipush 9, 2) := dk_16 9 (dk_at dksX2_read_1 18 rfl rfl)
theorem dX2_read_42 : decode cX2_read 42 = .ok (.if_icmp .eq 15, 3) := dk_159 0 15 (dk_at dksX2_read_1 20 rfl rfl)
theorem dX2_read_45 : decode cX2_read 45 = .ok (.iload_n 3, 1) := dk_29 (dk_at dksX2_read_1 23 rfl rfl)
theorem dX2_read_46 : decode cX2_read 46 = .ok (.bipush 10, 2) := dk_16 10 (dk_at dksX2_read_2 0 rfl rfl)
theorem dX2_read_48 : decode cX2_read 48 = .ok (.if_icmp .eq 9, 3) := dk_159 0 9 (dk_at dksX2_read_2 2 rfl rfl)
theorem dX2_read_51 : decode cX2_read 51 = .ok (.iload_n 3, 1) := dk_29 (dk_at dksX2_read_2 5 rfl rfl)
theorem dX2_read_52 : decode cX2_read 52 = .ok (.bipush 13, 2) := dk_16 13 (dk_at dksX2_read_2 6 rfl rfl)
theorem dX2_read_54 : decode cX2_read 54 = .ok (.if_icmp .ne 9, 3) := dk_160 0 9 (dk_at dksX2_read_2 8 rfl rfl)
theorem dX2_read_57 : decode cX2_read 57 = .ok (.iinc 1 1, 3) := dk_132 1 1 (dk_at dksX2_read_2 11 rfl rfl)
theorem dX2_read_60 : decode cX2_read 60 = .ok (.goto (-51), 3) := dk_167 255 205 (dk_at dksX2_read_2 14 rfl rfl)
theorem dX2_read_63 : decode cX2_read 63 = .ok (.iconst 0, 1) := dk_3 (dk_at dksX2_read_2 17 rfl rfl)
theorem dX2_read_64 : decode cX2_read 64 = .ok (.istore 6, 2) := dk_54 6 (dk_at dksX2_read_2 18 rfl rfl)
theorem dX2_read_66 : decode cX2_read 66 = .ok (.aload_n 0, 1) := dk_42 (dk_at dksX2_read_2 20 rfl rfl)
theorem dX2_read_67 : decode cX2_read 67 = .ok (.iload_n 1, 1) := dk_27 (dk_at dksX2_read_2 21 rfl rfl)
theorem dX2_read_68 : decode cX2_read 68 = .ok (.invokevirtual 74, 3) := dk_182 0 74 (dk_at dksX2_read_3 0 rfl rfl)
theorem dX2_read_71 : decode cX2_read 71 = .ok (.ifCond .eq 55, 3) := dk_153 0 55 (dk_at dksX2_read_3 3 rfl rfl)
theorem dX2_read_74 : decode cX2_read 74 = .ok (.aload_n 0, 1) := dk_42 (dk_at dksX2_read_3 6 rfl rfl)
theorem dX2_read_75 : decode cX2_read 75 = .ok (.iload 4, 2) := dk_21 4 (dk_at dksX2_read_3 7 rfl rfl)
theorem dX2_read_77 : decode cX2_read 77 = .ok (.invokevirtual 74, 3) := dk_182 0 74 (dk_at dksX2_read_3 9 rfl rfl)
theorem dX2_read_80 : decode cX2_read 80 = .ok (.ifCond .eq 9, 3) := dk_153 0 9 (dk_at dksX2_read_3 12 rfl rfl)
theorem dX2_read_83 : decode cX2_read 83 = .ok (.iinc 4 1, 3) := dk_132 4 1 (dk_at dksX2_read_3 15 rfl rfl)
theorem dX2_read_86 : decode cX2_read 86 = .ok (.goto (-12), 3) := dk_167 255 244 (dk_at dksX2_read_3 18 rfl rfl)
theorem dX2_read_89 : decode cX2_read 89 = .ok (.aload_n 0, 1) := dk_42 (dk_at dksX2_read_3 21 rfl rfl)
theorem dX2_read_90 : decode cX2_read 90 = .ok (.iload_n 1, 1) := dk_27 (dk_at dksX2_read_3 22 rfl rfl)
theorem dX2_read_91 : decode cX2_read 91 = .ok (.iload 4, 2) := dk_21 4 (dk_at dksX2_read_4 0 rfl rfl)
theorem dX2_read_93 : decode cX2_read 93 = .ok (.invokevirtual 78, 3) := dk_182 0 78 (dk_at dksX2_read_4 2 rfl rfl)
theorem dX2_read_96 : decode cX2_read 96 = .ok (.istore 6, 2) := dk_54 6 (dk_at dksX2_read_4 5 rfl rfl)
theorem dX2_read_98 : decode cX2_read 98 = .ok (.iload 6, 2) := dk_21 6 (dk_at dksX2_read_4 7 rfl rfl)
theorem dX2_read_100 : decode cX2_read 100 = .ok (.ifCond .lt 7, 3) := dk_155 0 7 (dk_at dksX2_read_4 9 rfl rfl)
theorem dX2_read_103 : decode cX2_read 103 = .ok (.iconst 3, 1) := dk_6 (dk_at dksX2_read_4 12 rfl rfl)
theorem dX2_read_104 : decode cX2_read 104 = .ok (.goto 17, 3) := dk_167 0 17 (dk_at dksX2_read_4 13 rfl rfl)
theorem dX2_read_107 : decode cX2_read 107 = .ok (.iload 4, 2) := dk_21 4 (dk_at dksX2_read_4 16 rfl rfl)
theorem dX2_read_109 : decode cX2_read 109 = .ok (.iload_n 1, 1) := dk_27 (dk_at dksX2_read_4 18 rfl rfl)
theorem dX2_read_110 : decode cX2_read 110 = .ok (.isub, 1) := dk_100 (dk_at dksX2_read_4 19 rfl rfl)
theorem dX2_read_111 : decode cX2_read 111 = .ok (.bipush 8, 2) := dk_16 8 (dk_at dksX2_read_4 20 rfl rfl)
theorem dX2_read_113 : decode cX2_read 113 = .ok (.if_icmp .le 7, 3) := dk_164 0 7 (dk_at dksX2_read_5 0 rfl rfl)
theorem dX2_read_116 : decode cX2_read 116 = .ok (.iconst 5, 1) := dk_8 (dk_at dksX2_read_5 3 rfl rfl)
theorem dX2_read_117 : decode cX2_read 117 = .ok (.goto 4, 3) := dk_167 0 4 (dk_at dksX2_read_5 4 rfl rfl)
theorem dX2_read_120 : decode cX2_read 120 = .ok (.iconst 0, 1) := dk_3 (dk_at dksX2_read_5 7 rfl rfl)
theorem dX2_read_121 : decode cX2_read 121 = .ok (.istore 5, 2) := dk_54 5 (dk_at dksX2_read_5 8 rfl rfl)
theorem dX2_read_123 : decode cX2_read 123 = .ok (.goto 66, 3) := dk_167 0 66 (dk_at dksX2_read_5 10 rfl rfl)
theorem dX2_read_126 : decode cX2_read 126 = .ok (.aload_n 0, 1) := dk_42 (dk_at dksX2_read_5 13 rfl rfl)
theorem dX2_read_127 : decode cX2_read 127 = .ok (.iload_n 1, 1) := dk_27 (dk_at dksX2_read_5 14 rfl rfl)
theorem dX2_read_128 : decode cX2_read 128 = .ok (.invokevirtual 82, 3) := dk_182 0 82 (dk_at dksX2_read_5 15 rfl rfl)
theorem dX2_read_131 : decode cX2_read 131 = .ok (.ifCond .eq 36, 3) := dk_153 0 36 (dk_at dksX2_read_5 18 rfl rfl)
theorem dX2_read_134 : decode cX2_read 134 = .ok (.aload_n 0, 1) := dk_42 (dk_at dksX2_read_5 21 rfl rfl)
theorem dX2_read_135 : decode cX2_read 135 = .ok (.iload 4, 2) := dk_21 4 (dk_at dksX2_read_5 22 rfl rfl)
theorem dX2_read_137 : decode cX2_read 137 = .ok (.invokevirtual 82, 3) := dk_182 0 82 (dk_at dksX2_read_6 0 rfl rfl)
theorem dX2_read_140 : decode cX2_read 140 = .ok (.ifCond .eq 9, 3) := dk_153 0 9 (dk_at dksX2_read_6 3 rfl rfl)
theorem dX2_read_143 : decode cX2_read 143 = .ok (.iinc 4 1, 3) := dk_132 4 1 (dk_at dksX2_read_6 6 rfl rfl)
theorem dX2_read_146 : decode cX2_read 146 = .ok (.goto (-12), 3) := dk_167 255 244 (dk_at dksX2_read_6 9 rfl rfl)
theorem dX2_read_149 : decode cX2_read 149 = .ok (.iload 4, 2) := dk_21 4 (dk_at dksX2_read_6 12 rfl rfl)
theorem dX2_read_151 : decode cX2_read 151 = .ok (.iload_n 1, 1) := dk_27 (dk_at dksX2_read_6 14 rfl rfl)
theorem dX2_read_152 : decode cX2_read 152 = .ok (.isub, 1) := dk_100 (dk_at dksX2_read_6 15 rfl rfl)
theorem dX2_read_153 : decode cX2_read 153 = .ok (.iconst 4, 1) := dk_7 (dk_at dksX2_read_6 16 rfl rfl)
theorem dX2_read_154 : decode cX2_read 154 = .ok (.if_icmp .le 7, 3) := dk_164 0 7 (dk_at dksX2_read_6 17 rfl rfl)
theorem dX2_read_157 : decode cX2_read 157 = .ok (.iconst 5, 1) := dk_8 (dk_at dksX2_read_6 20 rfl rfl)
theorem dX2_read_158 : decode cX2_read 158 = .ok (.goto 4, 3) := dk_167 0 4 (dk_at dksX2_read_6 21 rfl rfl)
theorem dX2_read_161 : decode cX2_read 161 = .ok (.iconst 1, 1) := dk_4 (dk_at dksX2_read_7 0 rfl rfl)
theorem dX2_read_162 : decode cX2_read 162 = .ok (.istore 5, 2) := dk_54 5 (dk_at dksX2_read_7 1 rfl rfl)
theorem dX2_read_164 : decode cX2_read 164 = .ok (.goto 25, 3) := dk_167 0 25 (dk_at dksX2_read_7 3 rfl rfl)
theorem dX2_read_167 : decode cX2_read 167 = .ok (.iload_n 3, 1) := dk_29 (dk_at dksX2_read_7 6 rfl rfl)
theorem dX2_read_168 : decode cX2_read 168 = .ok (.istore 6, 2) := dk_54 6 (dk_at dksX2_read_7 7 rfl rfl)
theorem dX2_read_170 : decode cX2_read 170 = .ok (.iload_n 3, 1) := dk_29 (dk_at dksX2_read_7 9 rfl rfl)
theorem dX2_read_171 : decode cX2_read 171 = .ok (.bipush 59, 2) := dk_16 59 (dk_at dksX2_read_7 10 rfl rfl)
theorem dX2_read_173 : decode cX2_read 173 = .ok (.if_icmp .eq 9, 3) := dk_159 0 9 (dk_at dksX2_read_7 12 rfl rfl)
theorem dX2_read_176 : decode cX2_read 176 = .ok (.iload_n 3, 1) := dk_29 (dk_at dksX2_read_7 15 rfl rfl)
theorem dX2_read_177 : decode cX2_read 177 = .ok (.bipush 45, 2) := dk_16 45 (dk_at dksX2_read_7 16 rfl rfl)
theorem dX2_read_179 : decode cX2_read 179 = .ok (.if_icmp .ne 7, 3) := dk_160 0 7 (dk_at dksX2_read_7 18 rfl rfl)
theorem dX2_read_182 : decode cX2_read 182 = .ok (.iconst 2, 1) := dk_5 (dk_at dksX2_read_7 21 rfl rfl)
theorem dX2_read_183 : decode cX2_read 183 = .ok (.goto 4, 3) := dk_167 0 4 (dk_at dksX2_read_8 0 rfl rfl)
theorem dX2_read_186 : decode cX2_read 186 = .ok (.iconst 5, 1) := dk_8 (dk_at dksX2_read_8 3 rfl rfl)
theorem dX2_read_187 : decode cX2_read 187 = .ok (.istore 5, 2) := dk_54 5 (dk_at dksX2_read_8 4 rfl rfl)
theorem dX2_read_189 : decode cX2_read 189 = .ok (.aload_n 0, 1) := dk_42 (dk_at dksX2_read_8 6 rfl rfl)
theorem dX2_read_190 : decode cX2_read 190 = .ok (.iload 5, 2) := dk_21 5 (dk_at dksX2_read_8 7 rfl rfl)
theorem dX2_read_192 : decode cX2_read 192 = .ok (.iload_n 1, 1) := dk_27 (dk_at dksX2_read_8 9 rfl rfl)
theorem dX2_read_193 : decode cX2_read 193 = .ok (.iload 4, 2) := dk_21 4 (dk_at dksX2_read_8 10 rfl rfl)
theorem dX2_read_195 : decode cX2_read 195 = .ok (.iload 6, 2) := dk_21 6 (dk_at dksX2_read_8 12 rfl rfl)
theorem dX2_read_197 : decode cX2_read 197 = .ok (.invokevirtual 85, 3) := dk_182 0 85 (dk_at dksX2_read_8 14 rfl rfl)
theorem dX2_read_200 : decode cX2_read 200 = .ok (.iload 5, 2) := dk_21 5 (dk_at dksX2_read_8 17 rfl rfl)
theorem dX2_read_202 : decode cX2_read 202 = .ok (.iconst 5, 1) := dk_8 (dk_at dksX2_read_8 19 rfl rfl)
theorem dX2_read_203 : decode cX2_read 203 = .ok (.if_icmp .eq 7, 3) := dk_159 0 7 (dk_at dksX2_read_8 20 rfl rfl)
theorem dX2_read_206 : decode cX2_read 206 = .ok (.iconst 1, 1) := dk_4 (dk_at dksX2_read_8 23 rfl rfl)
theorem dX2_read_207 : decode cX2_read 207 = .ok (.goto 4, 3) := dk_167 0 4 (dk_at dksX2_read_9 0 rfl rfl)
theorem dX2_read_210 : decode cX2_read 210 = .ok (.iconst 0, 1) := dk_3 (dk_at dksX2_read_9 3 rfl rfl)
theorem dX2_read_211 : decode cX2_read 211 = .ok (.istore_n 2, 1) := dk_61 (dk_at dksX2_read_9 4 rfl rfl)
theorem dX2_read_212 : decode cX2_read 212 = .ok (.iload 4, 2) := dk_21 4 (dk_at dksX2_read_9 5 rfl rfl)
theorem dX2_read_214 : decode cX2_read 214 = .ok (.istore_n 1, 1) := dk_60 (dk_at dksX2_read_9 7 rfl rfl)
theorem dX2_read_215 : decode cX2_read 215 = .ok (.goto (-206), 3) := dk_167 255 50 (dk_at dksX2_read_9 8 rfl rfl)
theorem dX2_read_218 : decode cX2_read 218 = .ok (.iload_n 2, 1) := dk_28 (dk_at dksX2_read_9 11 rfl rfl)
theorem dX2_read_219 : decode cX2_read 219 = .ok (.ifCond .eq 11, 3) := dk_153 0 11 (dk_at dksX2_read_9 12 rfl rfl)
theorem dX2_read_222 : decode cX2_read 222 = .ok (.aload_n 0, 1) := dk_42 (dk_at dksX2_read_9 15 rfl rfl)
theorem dX2_read_223 : decode cX2_read 223 = .ok (.iconst 4, 1) := dk_7 (dk_at dksX2_read_9 16 rfl rfl)
theorem dX2_read_224 : decode cX2_read 224 = .ok (.iload_n 1, 1) := dk_27 (dk_at dksX2_read_9 17 rfl rfl)
theorem dX2_read_225 : decode cX2_read 225 = .ok (.iload_n 1, 1) := dk_27 (dk_at dksX2_read_9 18 rfl rfl)
theorem dX2_read_226 : decode cX2_read 226 = .ok (.iconst 0, 1) := dk_3 (dk_at dksX2_read_9 19 rfl rfl)
theorem dX2_read_227 : decode cX2_read 227 = .ok (.invokevirtual 85, 3) := dk_182 0 85 (dk_at dksX2_read_9 20 rfl rfl)
theorem dX2_read_230 : decode cX2_read 230 = .ok (.return_, 1) := dk_177 (dk_at dksX2_read_9 23 rfl rfl)
abbrev cX2_isLetter : ByteArray := prog_11_method_4_code
def yX2_isLetter : MethodName := ⟨RX2, "isLetter", "(I)Z"⟩
def dkwX2_isLetter_1 : List UInt8 := [3, 172]
abbrev dktX2_isLetter_1 : List UInt8 := dkwX2_isLetter_1 ++ []
def dkwX2_isLetter_0 : List UInt8 := [42, 27, 182, 0, 50, 16, 97, 161, 0, 17, 42, 27, 182, 0, 50, 16, 122, 163, 0, 7, 4, 167, 0, 4]
abbrev dktX2_isLetter_0 : List UInt8 := dkwX2_isLetter_0 ++ dktX2_isLetter_1
theorem dksX2_isLetter_0 : cX2_isLetter.data.toList.drop 0 = dktX2_isLetter_0 := by decide +kernel
theorem dksX2_isLetter_1 : cX2_isLetter.data.toList.drop 24 = dktX2_isLetter_1 := dk_seg dksX2_isLetter_0 24 rfl rfl
theorem dX2_isLetter_0 : decode cX2_isLetter 0 = .ok (.aload_n 0, 1) := dk_42 (dk_at dksX2_isLetter_0 0 rfl rfl)
theorem dX2_isLetter_1 : decode cX2_isLetter 1 = .ok (.iload_n 1, 1) := dk_27 (dk_at dksX2_isLetter_0 1 rfl rfl)
theorem dX2_isLetter_2 : decode cX2_isLetter 2 = .ok (.invokevirtual 50, 3) := dk_182 0 50 (dk_at dksX2_isLetter_0 2 rfl rfl)
theorem dX2_isLetter_5 : decode cX2_isLetter 5 = .ok (.bipush 97, 2) := dk_16 97 (dk_at dksX2_isLetter_0 5 rfl rfl)
theorem dX2_isLetter_7 : decode cX2_isLetter 7 = .ok (.if_icmp .lt 17, 3) := dk_161 0 17 (dk_at dksX2_isLetter_0 7 rfl rfl)
theorem dX2_isLetter_10 : decode cX2_isLetter 10 = .ok (.aload_n 0, 1) := dk_42 (dk_at dksX2_isLetter_0 10 rfl rfl)
theorem dX2_isLetter_11 : decode cX2_isLetter 11 = .ok (.iload_n 1, 1) := dk_27 (dk_at dksX2_isLetter_0 11 rfl rfl)
theorem dX2_isLetter_12 : decode cX2_isLetter 12 = .ok (.invokevirtual 50, 3) := dk_182 0 50 (dk_at dksX2_isLetter_0 12 rfl rfl)
theorem dX2_isLetter_15 : decode cX2_isLetter 15 = .ok (.bipush 122, 2) := dk_16 122 (dk_at dksX2_isLetter_0 15 rfl rfl)
theorem dX2_isLetter_17 : decode cX2_isLetter 17 = .ok (.if_icmp .gt 7, 3) := dk_163 0 7 (dk_at dksX2_isLetter_0 17 rfl rfl)
theorem dX2_isLetter_20 : decode cX2_isLetter 20 = .ok (.iconst 1, 1) := dk_4 (dk_at dksX2_isLetter_0 20 rfl rfl)
theorem dX2_isLetter_21 : decode cX2_isLetter 21 = .ok (.goto 4, 3) := dk_167 0 4 (dk_at dksX2_isLetter_0 21 rfl rfl)
theorem dX2_isLetter_24 : decode cX2_isLetter 24 = .ok (.iconst 0, 1) := dk_3 (dk_at dksX2_isLetter_1 0 rfl rfl)
theorem dX2_isLetter_25 : decode cX2_isLetter 25 = .ok (.ireturn, 1) := dk_172 (dk_at dksX2_isLetter_1 1 rfl rfl)
abbrev cX2_at : ByteArray := prog_11_method_2_code
def yX2_at : MethodName := ⟨RX2, "at", "(I)I"⟩
def dkwX2_at_0 : List UInt8 := [27, 42, 180, 0, 46, 162, 0, 12, 42, 180, 0, 29, 27, 51, 167, 0, 4, 3, 172]
abbrev dktX2_at_0 : List UInt8 := dkwX2_at_0 ++ []
theorem dksX2_at_0 : cX2_at.data.toList.drop 0 = dktX2_at_0 := by decide +kernel
theorem dX2_at_0 : decode cX2_at 0 = .ok (.iload_n 1, 1) := dk_27 (dk_at dksX2_at_0 0 rfl rfl)
theorem dX2_at_1 : decode cX2_at 1 = .ok (.aload_n 0, 1) := dk_42 (dk_at dksX2_at_0 1 rfl rfl)
theorem dX2_at_2 : decode cX2_at 2 = .ok (.getfield 46, 3) := dk_180 0 46 (dk_at dksX2_at_0 2 rfl rfl)
theorem dX2_at_5 : decode cX2_at 5 = .ok (.if_icmp .ge 12, 3) := dk_162 0 12 (dk_at dksX2_at_0 5 rfl rfl)
theorem dX2_at_8 : decode cX2_at 8 = .ok (.aload_n 0, 1) := dk_42 (dk_at dksX2_at_0 8 rfl rfl)
theorem dX2_at_9 : decode cX2_at 9 = .ok (.getfield 29, 3) := dk_180 0 29 (dk_at dksX2_at_0 9 rfl rfl)
theorem dX2_at_12 : decode cX2_at 12 = .ok (.iload_n 1, 1) := dk_27 (dk_at dksX2_at_0 12 rfl rfl)
theorem dX2_at_13 : decode cX2_at 13 = .ok (.baload, 1) := dk_51 (dk_at dksX2_at_0 13 rfl rfl)
theorem dX2_at_14 : decode cX2_at 14 = .ok (.goto 4, 3) := dk_167 0 4 (dk_at dksX2_at_0 14 rfl rfl)
theorem dX2_at_17 : decode cX2_at 17 = .ok (.iconst 0, 1) := dk_3 (dk_at dksX2_at_0 17 rfl rfl)
theorem dX2_at_18 : decode cX2_at 18 = .ok (.ireturn, 1) := dk_172 (dk_at dksX2_at_0 18 rfl rfl)
abbrev cX2_word : ByteArray := prog_11_method_6_code
def yX2_word : MethodName := ⟨RX2, "word", "(II)I"⟩
def dkwX2_word_4 : List UInt8 := [3, 54, 4, 132, 5, 1, 167, 255, 205, 21, 4, 153, 0, 5, 29, 172, 132, 3, 1, 167, 255, 147, 2, 172]
abbrev dktX2_word_4 : List UInt8 := dkwX2_word_4 ++ []
def dkwX2_word_3 : List UInt8 := [192, 0, 65, 21, 5, 27, 100, 182, 0, 70, 42, 180, 0, 29, 21, 5, 51, 160, 0, 7, 4, 167, 0, 4]
abbrev dktX2_word_3 : List UInt8 := dkwX2_word_3 ++ dktX2_word_4
def dkwX2_word_2 : List UInt8 := [27, 54, 5, 21, 5, 28, 162, 0, 51, 21, 4, 153, 0, 46, 42, 180, 0, 23, 29, 185, 0, 61, 2, 0]
abbrev dktX2_word_2 : List UInt8 := dkwX2_word_2 ++ dktX2_word_3
def dkwX2_word_1 : List UInt8 := [185, 0, 61, 2, 0, 192, 0, 65, 182, 0, 67, 28, 27, 100, 160, 0, 7, 4, 167, 0, 4, 3, 54, 4]
abbrev dktX2_word_1 : List UInt8 := dkwX2_word_1 ++ dktX2_word_2
def dkwX2_word_0 : List UInt8 := [3, 62, 29, 42, 180, 0, 23, 185, 0, 57, 1, 0, 162, 0, 102, 42, 180, 0, 23, 29]
abbrev dktX2_word_0 : List UInt8 := dkwX2_word_0 ++ dktX2_word_1
theorem dksX2_word_0 : cX2_word.data.toList.drop 0 = dktX2_word_0 := by decide +kernel
theorem dksX2_word_1 : cX2_word.data.toList.drop 20 = dktX2_word_1 := dk_seg dksX2_word_0 20 rfl rfl
theorem dksX2_word_2 : cX2_word.data.toList.drop 44 = dktX2_word_2 := dk_seg dksX2_word_1 24 rfl rfl
theorem dksX2_word_3 : cX2_word.data.toList.drop 68 = dktX2_word_3 := dk_seg dksX2_word_2 24 rfl rfl
theorem dksX2_word_4 : cX2_word.data.toList.drop 92 = dktX2_word_4 := dk_seg dksX2_word_3 24 rfl rfl
theorem dX2_word_0 : decode cX2_word 0 = .ok (.iconst 0, 1) := dk_3 (dk_at dksX2_word_0 0 rfl rfl)
theorem dX2_word_1 : decode cX2_word 1 = .ok (.istore_n 3, 1) := dk_62 (dk_at dksX2_word_0 1 rfl rfl)
theorem dX2_word_2 : decode cX2_word 2 = .ok (.iload_n 3, 1) := dk_29 (dk_at dksX2_word_0 2 rfl rfl)
theorem dX2_word_3 : decode cX2_word 3 = .ok (.aload_n 0, 1) := dk_42 (dk_at dksX2_word_0 3 rfl rfl)
theorem dX2_word_4 : decode cX2_word 4 = .ok (.getfield 23, 3) := dk_180 0 23 (dk_at dksX2_word_0 4 rfl rfl)
theorem dX2_word_7 : decode cX2_word 7 = .ok (.invokeinterface 57 1, 5) := by decide +kernel
theorem dX2_word_12 : decode cX2_word 12 = .ok (.if_icmp .ge 102, 3) := dk_162 0 102 (dk_at dksX2_word_0 12 rfl rfl)
theorem dX2_word_15 : decode cX2_word 15 = .ok (.aload_n 0, 1) := dk_42 (dk_at dksX2_word_0 15 rfl rfl)
theorem dX2_word_16 : decode cX2_word 16 = .ok (.getfield 23, 3) := dk_180 0 23 (dk_at dksX2_word_0 16 rfl rfl)
theorem dX2_word_19 : decode cX2_word 19 = .ok (.iload_n 3, 1) := dk_29 (dk_at dksX2_word_0 19 rfl rfl)
theorem dX2_word_20 : decode cX2_word 20 = .ok (.invokeinterface 61 2, 5) := by decide +kernel
theorem dX2_word_25 : decode cX2_word 25 = .ok (.checkcast 65, 3) := dk_192 0 65 (dk_at dksX2_word_1 5 rfl rfl)
theorem dX2_word_28 : decode cX2_word 28 = .ok (.invokevirtual 67, 3) := dk_182 0 67 (dk_at dksX2_word_1 8 rfl rfl)
theorem dX2_word_31 : decode cX2_word 31 = .ok (.iload_n 2, 1) := dk_28 (dk_at dksX2_word_1 11 rfl rfl)
theorem dX2_word_32 : decode cX2_word 32 = .ok (.iload_n 1, 1) := dk_27 (dk_at dksX2_word_1 12 rfl rfl)
theorem dX2_word_33 : decode cX2_word 33 = .ok (.isub, 1) := dk_100 (dk_at dksX2_word_1 13 rfl rfl)
theorem dX2_word_34 : decode cX2_word 34 = .ok (.if_icmp .ne 7, 3) := dk_160 0 7 (dk_at dksX2_word_1 14 rfl rfl)
theorem dX2_word_37 : decode cX2_word 37 = .ok (.iconst 1, 1) := dk_4 (dk_at dksX2_word_1 17 rfl rfl)
theorem dX2_word_38 : decode cX2_word 38 = .ok (.goto 4, 3) := dk_167 0 4 (dk_at dksX2_word_1 18 rfl rfl)
theorem dX2_word_41 : decode cX2_word 41 = .ok (.iconst 0, 1) := dk_3 (dk_at dksX2_word_1 21 rfl rfl)
theorem dX2_word_42 : decode cX2_word 42 = .ok (.istore 4, 2) := dk_54 4 (dk_at dksX2_word_1 22 rfl rfl)
theorem dX2_word_44 : decode cX2_word 44 = .ok (.iload_n 1, 1) := dk_27 (dk_at dksX2_word_2 0 rfl rfl)
theorem dX2_word_45 : decode cX2_word 45 = .ok (.istore 5, 2) := dk_54 5 (dk_at dksX2_word_2 1 rfl rfl)
theorem dX2_word_47 : decode cX2_word 47 = .ok (.iload 5, 2) := dk_21 5 (dk_at dksX2_word_2 3 rfl rfl)
theorem dX2_word_49 : decode cX2_word 49 = .ok (.iload_n 2, 1) := dk_28 (dk_at dksX2_word_2 5 rfl rfl)
theorem dX2_word_50 : decode cX2_word 50 = .ok (.if_icmp .ge 51, 3) := dk_162 0 51 (dk_at dksX2_word_2 6 rfl rfl)
theorem dX2_word_53 : decode cX2_word 53 = .ok (.iload 4, 2) := dk_21 4 (dk_at dksX2_word_2 9 rfl rfl)
theorem dX2_word_55 : decode cX2_word 55 = .ok (.ifCond .eq 46, 3) := dk_153 0 46 (dk_at dksX2_word_2 11 rfl rfl)
theorem dX2_word_58 : decode cX2_word 58 = .ok (.aload_n 0, 1) := dk_42 (dk_at dksX2_word_2 14 rfl rfl)
theorem dX2_word_59 : decode cX2_word 59 = .ok (.getfield 23, 3) := dk_180 0 23 (dk_at dksX2_word_2 15 rfl rfl)
theorem dX2_word_62 : decode cX2_word 62 = .ok (.iload_n 3, 1) := dk_29 (dk_at dksX2_word_2 18 rfl rfl)
theorem dX2_word_63 : decode cX2_word 63 = .ok (.invokeinterface 61 2, 5) := by decide +kernel
theorem dX2_word_68 : decode cX2_word 68 = .ok (.checkcast 65, 3) := dk_192 0 65 (dk_at dksX2_word_3 0 rfl rfl)
theorem dX2_word_71 : decode cX2_word 71 = .ok (.iload 5, 2) := dk_21 5 (dk_at dksX2_word_3 3 rfl rfl)
theorem dX2_word_73 : decode cX2_word 73 = .ok (.iload_n 1, 1) := dk_27 (dk_at dksX2_word_3 5 rfl rfl)
theorem dX2_word_74 : decode cX2_word 74 = .ok (.isub, 1) := dk_100 (dk_at dksX2_word_3 6 rfl rfl)
theorem dX2_word_75 : decode cX2_word 75 = .ok (.invokevirtual 70, 3) := dk_182 0 70 (dk_at dksX2_word_3 7 rfl rfl)
theorem dX2_word_78 : decode cX2_word 78 = .ok (.aload_n 0, 1) := dk_42 (dk_at dksX2_word_3 10 rfl rfl)
theorem dX2_word_79 : decode cX2_word 79 = .ok (.getfield 29, 3) := dk_180 0 29 (dk_at dksX2_word_3 11 rfl rfl)
theorem dX2_word_82 : decode cX2_word 82 = .ok (.iload 5, 2) := dk_21 5 (dk_at dksX2_word_3 14 rfl rfl)
theorem dX2_word_84 : decode cX2_word 84 = .ok (.baload, 1) := dk_51 (dk_at dksX2_word_3 16 rfl rfl)
theorem dX2_word_85 : decode cX2_word 85 = .ok (.if_icmp .ne 7, 3) := dk_160 0 7 (dk_at dksX2_word_3 17 rfl rfl)
theorem dX2_word_88 : decode cX2_word 88 = .ok (.iconst 1, 1) := dk_4 (dk_at dksX2_word_3 20 rfl rfl)
theorem dX2_word_89 : decode cX2_word 89 = .ok (.goto 4, 3) := dk_167 0 4 (dk_at dksX2_word_3 21 rfl rfl)
theorem dX2_word_92 : decode cX2_word 92 = .ok (.iconst 0, 1) := dk_3 (dk_at dksX2_word_4 0 rfl rfl)
theorem dX2_word_93 : decode cX2_word 93 = .ok (.istore 4, 2) := dk_54 4 (dk_at dksX2_word_4 1 rfl rfl)
theorem dX2_word_95 : decode cX2_word 95 = .ok (.iinc 5 1, 3) := dk_132 5 1 (dk_at dksX2_word_4 3 rfl rfl)
theorem dX2_word_98 : decode cX2_word 98 = .ok (.goto (-51), 3) := dk_167 255 205 (dk_at dksX2_word_4 6 rfl rfl)
theorem dX2_word_101 : decode cX2_word 101 = .ok (.iload 4, 2) := dk_21 4 (dk_at dksX2_word_4 9 rfl rfl)
theorem dX2_word_103 : decode cX2_word 103 = .ok (.ifCond .eq 5, 3) := dk_153 0 5 (dk_at dksX2_word_4 11 rfl rfl)
theorem dX2_word_106 : decode cX2_word 106 = .ok (.iload_n 3, 1) := dk_29 (dk_at dksX2_word_4 14 rfl rfl)
theorem dX2_word_107 : decode cX2_word 107 = .ok (.ireturn, 1) := dk_172 (dk_at dksX2_word_4 15 rfl rfl)
theorem dX2_word_108 : decode cX2_word 108 = .ok (.iinc 3 1, 3) := dk_132 3 1 (dk_at dksX2_word_4 16 rfl rfl)
theorem dX2_word_111 : decode cX2_word 111 = .ok (.goto (-109), 3) := dk_167 255 147 (dk_at dksX2_word_4 19 rfl rfl)
theorem dX2_word_114 : decode cX2_word 114 = .ok (.iconst (-1), 1) := dk_2 (dk_at dksX2_word_4 22 rfl rfl)
theorem dX2_word_115 : decode cX2_word 115 = .ok (.ireturn, 1) := dk_172 (dk_at dksX2_word_4 23 rfl rfl)
abbrev cX2_isDigit : ByteArray := prog_11_method_3_code
def yX2_isDigit : MethodName := ⟨RX2, "isDigit", "(I)Z"⟩
def dkwX2_isDigit_1 : List UInt8 := [3, 172]
abbrev dktX2_isDigit_1 : List UInt8 := dkwX2_isDigit_1 ++ []
def dkwX2_isDigit_0 : List UInt8 := [42, 27, 182, 0, 50, 16, 48, 161, 0, 17, 42, 27, 182, 0, 50, 16, 57, 163, 0, 7, 4, 167, 0, 4]
abbrev dktX2_isDigit_0 : List UInt8 := dkwX2_isDigit_0 ++ dktX2_isDigit_1
theorem dksX2_isDigit_0 : cX2_isDigit.data.toList.drop 0 = dktX2_isDigit_0 := by decide +kernel
theorem dksX2_isDigit_1 : cX2_isDigit.data.toList.drop 24 = dktX2_isDigit_1 := dk_seg dksX2_isDigit_0 24 rfl rfl
theorem dX2_isDigit_0 : decode cX2_isDigit 0 = .ok (.aload_n 0, 1) := dk_42 (dk_at dksX2_isDigit_0 0 rfl rfl)
theorem dX2_isDigit_1 : decode cX2_isDigit 1 = .ok (.iload_n 1, 1) := dk_27 (dk_at dksX2_isDigit_0 1 rfl rfl)
theorem dX2_isDigit_2 : decode cX2_isDigit 2 = .ok (.invokevirtual 50, 3) := dk_182 0 50 (dk_at dksX2_isDigit_0 2 rfl rfl)
theorem dX2_isDigit_5 : decode cX2_isDigit 5 = .ok (.bipush 48, 2) := dk_16 48 (dk_at dksX2_isDigit_0 5 rfl rfl)
theorem dX2_isDigit_7 : decode cX2_isDigit 7 = .ok (.if_icmp .lt 17, 3) := dk_161 0 17 (dk_at dksX2_isDigit_0 7 rfl rfl)
theorem dX2_isDigit_10 : decode cX2_isDigit 10 = .ok (.aload_n 0, 1) := dk_42 (dk_at dksX2_isDigit_0 10 rfl rfl)
theorem dX2_isDigit_11 : decode cX2_isDigit 11 = .ok (.iload_n 1, 1) := dk_27 (dk_at dksX2_isDigit_0 11 rfl rfl)
theorem dX2_isDigit_12 : decode cX2_isDigit 12 = .ok (.invokevirtual 50, 3) := dk_182 0 50 (dk_at dksX2_isDigit_0 12 rfl rfl)
theorem dX2_isDigit_15 : decode cX2_isDigit 15 = .ok (.bipush 57, 2) := dk_16 57 (dk_at dksX2_isDigit_0 15 rfl rfl)
theorem dX2_isDigit_17 : decode cX2_isDigit 17 = .ok (.if_icmp .gt 7, 3) := dk_163 0 7 (dk_at dksX2_isDigit_0 17 rfl rfl)
theorem dX2_isDigit_20 : decode cX2_isDigit 20 = .ok (.iconst 1, 1) := dk_4 (dk_at dksX2_isDigit_0 20 rfl rfl)
theorem dX2_isDigit_21 : decode cX2_isDigit 21 = .ok (.goto 4, 3) := dk_167 0 4 (dk_at dksX2_isDigit_0 21 rfl rfl)
theorem dX2_isDigit_24 : decode cX2_isDigit 24 = .ok (.iconst 0, 1) := dk_3 (dk_at dksX2_isDigit_1 0 rfl rfl)
theorem dX2_isDigit_25 : decode cX2_isDigit 25 = .ok (.ireturn, 1) := dk_172 (dk_at dksX2_isDigit_1 1 rfl rfl)
abbrev cX2_add : ByteArray := prog_11_method_5_code
def yX2_add : MethodName := ⟨RX2, "add", "(IIII)V"⟩
def dkwX2_add_2 : List UInt8 := [180, 0, 54, 4, 96, 181, 0, 54, 177]
abbrev dktX2_add_2 : List UInt8 := dkwX2_add_2 ++ []
def dkwX2_add_1 : List UInt8 := [180, 0, 40, 42, 180, 0, 54, 29, 147, 86, 42, 180, 0, 43, 42, 180, 0, 54, 21, 4, 147, 86, 42, 89]
abbrev dktX2_add_1 : List UInt8 := dkwX2_add_1 ++ dktX2_add_2
def dkwX2_add_0 : List UInt8 := [42, 180, 0, 33, 42, 180, 0, 54, 27, 145, 84, 42, 180, 0, 36, 42, 180, 0, 54, 28, 147, 86, 42]
abbrev dktX2_add_0 : List UInt8 := dkwX2_add_0 ++ dktX2_add_1
theorem dksX2_add_0 : cX2_add.data.toList.drop 0 = dktX2_add_0 := by decide +kernel
theorem dksX2_add_1 : cX2_add.data.toList.drop 23 = dktX2_add_1 := dk_seg dksX2_add_0 23 rfl rfl
theorem dksX2_add_2 : cX2_add.data.toList.drop 47 = dktX2_add_2 := dk_seg dksX2_add_1 24 rfl rfl
theorem dX2_add_0 : decode cX2_add 0 = .ok (.aload_n 0, 1) := dk_42 (dk_at dksX2_add_0 0 rfl rfl)
theorem dX2_add_1 : decode cX2_add 1 = .ok (.getfield 33, 3) := dk_180 0 33 (dk_at dksX2_add_0 1 rfl rfl)
theorem dX2_add_4 : decode cX2_add 4 = .ok (.aload_n 0, 1) := dk_42 (dk_at dksX2_add_0 4 rfl rfl)
theorem dX2_add_5 : decode cX2_add 5 = .ok (.getfield 54, 3) := dk_180 0 54 (dk_at dksX2_add_0 5 rfl rfl)
theorem dX2_add_8 : decode cX2_add 8 = .ok (.iload_n 1, 1) := dk_27 (dk_at dksX2_add_0 8 rfl rfl)
theorem dX2_add_9 : decode cX2_add 9 = .ok (.i2b, 1) := dk_145 (dk_at dksX2_add_0 9 rfl rfl)
theorem dX2_add_10 : decode cX2_add 10 = .ok (.bastore, 1) := dk_84 (dk_at dksX2_add_0 10 rfl rfl)
theorem dX2_add_11 : decode cX2_add 11 = .ok (.aload_n 0, 1) := dk_42 (dk_at dksX2_add_0 11 rfl rfl)
theorem dX2_add_12 : decode cX2_add 12 = .ok (.getfield 36, 3) := dk_180 0 36 (dk_at dksX2_add_0 12 rfl rfl)
theorem dX2_add_15 : decode cX2_add 15 = .ok (.aload_n 0, 1) := dk_42 (dk_at dksX2_add_0 15 rfl rfl)
theorem dX2_add_16 : decode cX2_add 16 = .ok (.getfield 54, 3) := dk_180 0 54 (dk_at dksX2_add_0 16 rfl rfl)
theorem dX2_add_19 : decode cX2_add 19 = .ok (.iload_n 2, 1) := dk_28 (dk_at dksX2_add_0 19 rfl rfl)
theorem dX2_add_20 : decode cX2_add 20 = .ok (.i2s, 1) := dk_147 (dk_at dksX2_add_0 20 rfl rfl)
theorem dX2_add_21 : decode cX2_add 21 = .ok (.sastore, 1) := dk_86 (dk_at dksX2_add_0 21 rfl rfl)
theorem dX2_add_22 : decode cX2_add 22 = .ok (.aload_n 0, 1) := dk_42 (dk_at dksX2_add_0 22 rfl rfl)
theorem dX2_add_23 : decode cX2_add 23 = .ok (.getfield 40, 3) := dk_180 0 40 (dk_at dksX2_add_1 0 rfl rfl)
theorem dX2_add_26 : decode cX2_add 26 = .ok (.aload_n 0, 1) := dk_42 (dk_at dksX2_add_1 3 rfl rfl)
theorem dX2_add_27 : decode cX2_add 27 = .ok (.getfield 54, 3) := dk_180 0 54 (dk_at dksX2_add_1 4 rfl rfl)
theorem dX2_add_30 : decode cX2_add 30 = .ok (.iload_n 3, 1) := dk_29 (dk_at dksX2_add_1 7 rfl rfl)
theorem dX2_add_31 : decode cX2_add 31 = .ok (.i2s, 1) := dk_147 (dk_at dksX2_add_1 8 rfl rfl)
theorem dX2_add_32 : decode cX2_add 32 = .ok (.sastore, 1) := dk_86 (dk_at dksX2_add_1 9 rfl rfl)
theorem dX2_add_33 : decode cX2_add 33 = .ok (.aload_n 0, 1) := dk_42 (dk_at dksX2_add_1 10 rfl rfl)
theorem dX2_add_34 : decode cX2_add 34 = .ok (.getfield 43, 3) := dk_180 0 43 (dk_at dksX2_add_1 11 rfl rfl)
theorem dX2_add_37 : decode cX2_add 37 = .ok (.aload_n 0, 1) := dk_42 (dk_at dksX2_add_1 14 rfl rfl)
theorem dX2_add_38 : decode cX2_add 38 = .ok (.getfield 54, 3) := dk_180 0 54 (dk_at dksX2_add_1 15 rfl rfl)
theorem dX2_add_41 : decode cX2_add 41 = .ok (.iload 4, 2) := dk_21 4 (dk_at dksX2_add_1 18 rfl rfl)
theorem dX2_add_43 : decode cX2_add 43 = .ok (.i2s, 1) := dk_147 (dk_at dksX2_add_1 20 rfl rfl)
theorem dX2_add_44 : decode cX2_add 44 = .ok (.sastore, 1) := dk_86 (dk_at dksX2_add_1 21 rfl rfl)
theorem dX2_add_45 : decode cX2_add 45 = .ok (.aload_n 0, 1) := dk_42 (dk_at dksX2_add_1 22 rfl rfl)
theorem dX2_add_46 : decode cX2_add 46 = .ok (.dup, 1) := dk_89 (dk_at dksX2_add_1 23 rfl rfl)
theorem dX2_add_47 : decode cX2_add 47 = .ok (.getfield 54, 3) := dk_180 0 54 (dk_at dksX2_add_2 0 rfl rfl)
theorem dX2_add_50 : decode cX2_add 50 = .ok (.iconst 1, 1) := dk_4 (dk_at dksX2_add_2 3 rfl rfl)
theorem dX2_add_51 : decode cX2_add 51 = .ok (.iadd, 1) := dk_96 (dk_at dksX2_add_2 4 rfl rfl)
theorem dX2_add_52 : decode cX2_add 52 = .ok (.putfield 54, 3) := dk_181 0 54 (dk_at dksX2_add_2 5 rfl rfl)
theorem dX2_add_55 : decode cX2_add 55 = .ok (.return_, 1) := dk_177 (dk_at dksX2_add_2 8 rfl rfl)
abbrev cX2_isAlike : ByteArray := prog_11_method_9_code
def yX2_isAlike : MethodName := ⟨RX2, "isAlike", "(II)Z"⟩
def dkwX2_isAlike_3 : List UInt8 := [28, 53, 29, 96, 51, 159, 0, 5, 3, 172, 132, 3, 1, 167, 255, 205, 4, 172]
abbrev dktX2_isAlike_3 : List UInt8 := dkwX2_isAlike_3 ++ []
def dkwX2_isAlike_2 : List UInt8 := [162, 0, 40, 42, 180, 0, 29, 42, 180, 0, 36, 27, 53, 29, 96, 51, 42, 180, 0, 29, 42, 180, 0, 36]
abbrev dktX2_isAlike_2 : List UInt8 := dkwX2_isAlike_2 ++ dktX2_isAlike_3
def dkwX2_isAlike_1 : List UInt8 := [53, 100, 159, 0, 5, 3, 172, 3, 62, 29, 42, 180, 0, 40, 27, 53, 42, 180, 0, 36, 27, 53, 100]
abbrev dktX2_isAlike_1 : List UInt8 := dkwX2_isAlike_1 ++ dktX2_isAlike_2
def dkwX2_isAlike_0 : List UInt8 := [42, 180, 0, 40, 27, 53, 42, 180, 0, 36, 27, 53, 100, 42, 180, 0, 40, 28, 53, 42, 180, 0, 36, 28]
abbrev dktX2_isAlike_0 : List UInt8 := dkwX2_isAlike_0 ++ dktX2_isAlike_1
theorem dksX2_isAlike_0 : cX2_isAlike.data.toList.drop 0 = dktX2_isAlike_0 := by decide +kernel
theorem dksX2_isAlike_1 : cX2_isAlike.data.toList.drop 24 = dktX2_isAlike_1 := dk_seg dksX2_isAlike_0 24 rfl rfl
theorem dksX2_isAlike_2 : cX2_isAlike.data.toList.drop 47 = dktX2_isAlike_2 := dk_seg dksX2_isAlike_1 23 rfl rfl
theorem dksX2_isAlike_3 : cX2_isAlike.data.toList.drop 71 = dktX2_isAlike_3 := dk_seg dksX2_isAlike_2 24 rfl rfl
theorem dX2_isAlike_0 : decode cX2_isAlike 0 = .ok (.aload_n 0, 1) := dk_42 (dk_at dksX2_isAlike_0 0 rfl rfl)
theorem dX2_isAlike_1 : decode cX2_isAlike 1 = .ok (.getfield 40, 3) := dk_180 0 40 (dk_at dksX2_isAlike_0 1 rfl rfl)
theorem dX2_isAlike_4 : decode cX2_isAlike 4 = .ok (.iload_n 1, 1) := dk_27 (dk_at dksX2_isAlike_0 4 rfl rfl)
theorem dX2_isAlike_5 : decode cX2_isAlike 5 = .ok (.saload, 1) := dk_53 (dk_at dksX2_isAlike_0 5 rfl rfl)
theorem dX2_isAlike_6 : decode cX2_isAlike 6 = .ok (.aload_n 0, 1) := dk_42 (dk_at dksX2_isAlike_0 6 rfl rfl)
theorem dX2_isAlike_7 : decode cX2_isAlike 7 = .ok (.getfield 36, 3) := dk_180 0 36 (dk_at dksX2_isAlike_0 7 rfl rfl)
theorem dX2_isAlike_10 : decode cX2_isAlike 10 = .ok (.iload_n 1, 1) := dk_27 (dk_at dksX2_isAlike_0 10 rfl rfl)
theorem dX2_isAlike_11 : decode cX2_isAlike 11 = .ok (.saload, 1) := dk_53 (dk_at dksX2_isAlike_0 11 rfl rfl)
theorem dX2_isAlike_12 : decode cX2_isAlike 12 = .ok (.isub, 1) := dk_100 (dk_at dksX2_isAlike_0 12 rfl rfl)
theorem dX2_isAlike_13 : decode cX2_isAlike 13 = .ok (.aload_n 0, 1) := dk_42 (dk_at dksX2_isAlike_0 13 rfl rfl)
theorem dX2_isAlike_14 : decode cX2_isAlike 14 = .ok (.getfield 40, 3) := dk_180 0 40 (dk_at dksX2_isAlike_0 14 rfl rfl)
theorem dX2_isAlike_17 : decode cX2_isAlike 17 = .ok (.iload_n 2, 1) := dk_28 (dk_at dksX2_isAlike_0 17 rfl rfl)
theorem dX2_isAlike_18 : decode cX2_isAlike 18 = .ok (.saload, 1) := dk_53 (dk_at dksX2_isAlike_0 18 rfl rfl)
theorem dX2_isAlike_19 : decode cX2_isAlike 19 = .ok (.aload_n 0, 1) := dk_42 (dk_at dksX2_isAlike_0 19 rfl rfl)
theorem dX2_isAlike_20 : decode cX2_isAlike 20 = .ok (.getfield 36, 3) := dk_180 0 36 (dk_at dksX2_isAlike_0 20 rfl rfl)
theorem dX2_isAlike_23 : decode cX2_isAlike 23 = .ok (.iload_n 2, 1) := dk_28 (dk_at dksX2_isAlike_0 23 rfl rfl)
theorem dX2_isAlike_24 : decode cX2_isAlike 24 = .ok (.saload, 1) := dk_53 (dk_at dksX2_isAlike_1 0 rfl rfl)
theorem dX2_isAlike_25 : decode cX2_isAlike 25 = .ok (.isub, 1) := dk_100 (dk_at dksX2_isAlike_1 1 rfl rfl)
theorem dX2_isAlike_26 : decode cX2_isAlike 26 = .ok (.if_icmp .eq 5, 3) := dk_159 0 5 (dk_at dksX2_isAlike_1 2 rfl rfl)
theorem dX2_isAlike_29 : decode cX2_isAlike 29 = .ok (.iconst 0, 1) := dk_3 (dk_at dksX2_isAlike_1 5 rfl rfl)
theorem dX2_isAlike_30 : decode cX2_isAlike 30 = .ok (.ireturn, 1) := dk_172 (dk_at dksX2_isAlike_1 6 rfl rfl)
theorem dX2_isAlike_31 : decode cX2_isAlike 31 = .ok (.iconst 0, 1) := dk_3 (dk_at dksX2_isAlike_1 7 rfl rfl)
theorem dX2_isAlike_32 : decode cX2_isAlike 32 = .ok (.istore_n 3, 1) := dk_62 (dk_at dksX2_isAlike_1 8 rfl rfl)
theorem dX2_isAlike_33 : decode cX2_isAlike 33 = .ok (.iload_n 3, 1) := dk_29 (dk_at dksX2_isAlike_1 9 rfl rfl)
theorem dX2_isAlike_34 : decode cX2_isAlike 34 = .ok (.aload_n 0, 1) := dk_42 (dk_at dksX2_isAlike_1 10 rfl rfl)
theorem dX2_isAlike_35 : decode cX2_isAlike 35 = .ok (.getfield 40, 3) := dk_180 0 40 (dk_at dksX2_isAlike_1 11 rfl rfl)
theorem dX2_isAlike_38 : decode cX2_isAlike 38 = .ok (.iload_n 1, 1) := dk_27 (dk_at dksX2_isAlike_1 14 rfl rfl)
theorem dX2_isAlike_39 : decode cX2_isAlike 39 = .ok (.saload, 1) := dk_53 (dk_at dksX2_isAlike_1 15 rfl rfl)
theorem dX2_isAlike_40 : decode cX2_isAlike 40 = .ok (.aload_n 0, 1) := dk_42 (dk_at dksX2_isAlike_1 16 rfl rfl)
theorem dX2_isAlike_41 : decode cX2_isAlike 41 = .ok (.getfield 36, 3) := dk_180 0 36 (dk_at dksX2_isAlike_1 17 rfl rfl)
theorem dX2_isAlike_44 : decode cX2_isAlike 44 = .ok (.iload_n 1, 1) := dk_27 (dk_at dksX2_isAlike_1 20 rfl rfl)
theorem dX2_isAlike_45 : decode cX2_isAlike 45 = .ok (.saload, 1) := dk_53 (dk_at dksX2_isAlike_1 21 rfl rfl)
theorem dX2_isAlike_46 : decode cX2_isAlike 46 = .ok (.isub, 1) := dk_100 (dk_at dksX2_isAlike_1 22 rfl rfl)
theorem dX2_isAlike_47 : decode cX2_isAlike 47 = .ok (.if_icmp .ge 40, 3) := dk_162 0 40 (dk_at dksX2_isAlike_2 0 rfl rfl)
theorem dX2_isAlike_50 : decode cX2_isAlike 50 = .ok (.aload_n 0, 1) := dk_42 (dk_at dksX2_isAlike_2 3 rfl rfl)
theorem dX2_isAlike_51 : decode cX2_isAlike 51 = .ok (.getfield 29, 3) := dk_180 0 29 (dk_at dksX2_isAlike_2 4 rfl rfl)
theorem dX2_isAlike_54 : decode cX2_isAlike 54 = .ok (.aload_n 0, 1) := dk_42 (dk_at dksX2_isAlike_2 7 rfl rfl)
theorem dX2_isAlike_55 : decode cX2_isAlike 55 = .ok (.getfield 36, 3) := dk_180 0 36 (dk_at dksX2_isAlike_2 8 rfl rfl)
theorem dX2_isAlike_58 : decode cX2_isAlike 58 = .ok (.iload_n 1, 1) := dk_27 (dk_at dksX2_isAlike_2 11 rfl rfl)
theorem dX2_isAlike_59 : decode cX2_isAlike 59 = .ok (.saload, 1) := dk_53 (dk_at dksX2_isAlike_2 12 rfl rfl)
theorem dX2_isAlike_60 : decode cX2_isAlike 60 = .ok (.iload_n 3, 1) := dk_29 (dk_at dksX2_isAlike_2 13 rfl rfl)
theorem dX2_isAlike_61 : decode cX2_isAlike 61 = .ok (.iadd, 1) := dk_96 (dk_at dksX2_isAlike_2 14 rfl rfl)
theorem dX2_isAlike_62 : decode cX2_isAlike 62 = .ok (.baload, 1) := dk_51 (dk_at dksX2_isAlike_2 15 rfl rfl)
theorem dX2_isAlike_63 : decode cX2_isAlike 63 = .ok (.aload_n 0, 1) := dk_42 (dk_at dksX2_isAlike_2 16 rfl rfl)
theorem dX2_isAlike_64 : decode cX2_isAlike 64 = .ok (.getfield 29, 3) := dk_180 0 29 (dk_at dksX2_isAlike_2 17 rfl rfl)
theorem dX2_isAlike_67 : decode cX2_isAlike 67 = .ok (.aload_n 0, 1) := dk_42 (dk_at dksX2_isAlike_2 20 rfl rfl)
theorem dX2_isAlike_68 : decode cX2_isAlike 68 = .ok (.getfield 36, 3) := dk_180 0 36 (dk_at dksX2_isAlike_2 21 rfl rfl)
theorem dX2_isAlike_71 : decode cX2_isAlike 71 = .ok (.iload_n 2, 1) := dk_28 (dk_at dksX2_isAlike_3 0 rfl rfl)
theorem dX2_isAlike_72 : decode cX2_isAlike 72 = .ok (.saload, 1) := dk_53 (dk_at dksX2_isAlike_3 1 rfl rfl)
theorem dX2_isAlike_73 : decode cX2_isAlike 73 = .ok (.iload_n 3, 1) := dk_29 (dk_at dksX2_isAlike_3 2 rfl rfl)
theorem dX2_isAlike_74 : decode cX2_isAlike 74 = .ok (.iadd, 1) := dk_96 (dk_at dksX2_isAlike_3 3 rfl rfl)
theorem dX2_isAlike_75 : decode cX2_isAlike 75 = .ok (.baload, 1) := dk_51 (dk_at dksX2_isAlike_3 4 rfl rfl)
theorem dX2_isAlike_76 : decode cX2_isAlike 76 = .ok (.if_icmp .eq 5, 3) := dk_159 0 5 (dk_at dksX2_isAlike_3 5 rfl rfl)
theorem dX2_isAlike_79 : decode cX2_isAlike 79 = .ok (.iconst 0, 1) := dk_3 (dk_at dksX2_isAlike_3 8 rfl rfl)
theorem dX2_isAlike_80 : decode cX2_isAlike 80 = .ok (.ireturn, 1) := dk_172 (dk_at dksX2_isAlike_3 9 rfl rfl)
theorem dX2_isAlike_81 : decode cX2_isAlike 81 = .ok (.iinc 3 1, 3) := dk_132 3 1 (dk_at dksX2_isAlike_3 10 rfl rfl)
theorem dX2_isAlike_84 : decode cX2_isAlike 84 = .ok (.goto (-51), 3) := dk_167 255 205 (dk_at dksX2_isAlike_3 13 rfl rfl)
theorem dX2_isAlike_87 : decode cX2_isAlike 87 = .ok (.iconst 1, 1) := dk_4 (dk_at dksX2_isAlike_3 16 rfl rfl)
theorem dX2_isAlike_88 : decode cX2_isAlike 88 = .ok (.ireturn, 1) := dk_172 (dk_at dksX2_isAlike_3 17 rfl rfl)
abbrev cX2_isSign : ByteArray := prog_11_method_8_code
def yX2_isSign : MethodName := ⟨RX2, "isSign", "(II)Z"⟩
def dkwX2_isSign_1 : List UInt8 := [3, 172]
abbrev dktX2_isSign_1 : List UInt8 := dkwX2_isSign_1 ++ []
def dkwX2_isSign_0 : List UInt8 := [42, 180, 0, 33, 27, 51, 5, 160, 0, 17, 42, 180, 0, 43, 27, 53, 28, 160, 0, 7, 4, 167, 0, 4]
abbrev dktX2_isSign_0 : List UInt8 := dkwX2_isSign_0 ++ dktX2_isSign_1
theorem dksX2_isSign_0 : cX2_isSign.data.toList.drop 0 = dktX2_isSign_0 := by decide +kernel
theorem dksX2_isSign_1 : cX2_isSign.data.toList.drop 24 = dktX2_isSign_1 := dk_seg dksX2_isSign_0 24 rfl rfl
theorem dX2_isSign_0 : decode cX2_isSign 0 = .ok (.aload_n 0, 1) := dk_42 (dk_at dksX2_isSign_0 0 rfl rfl)
theorem dX2_isSign_1 : decode cX2_isSign 1 = .ok (.getfield 33, 3) := dk_180 0 33 (dk_at dksX2_isSign_0 1 rfl rfl)
theorem dX2_isSign_4 : decode cX2_isSign 4 = .ok (.iload_n 1, 1) := dk_27 (dk_at dksX2_isSign_0 4 rfl rfl)
theorem dX2_isSign_5 : decode cX2_isSign 5 = .ok (.baload, 1) := dk_51 (dk_at dksX2_isSign_0 5 rfl rfl)
theorem dX2_isSign_6 : decode cX2_isSign 6 = .ok (.iconst 2, 1) := dk_5 (dk_at dksX2_isSign_0 6 rfl rfl)
theorem dX2_isSign_7 : decode cX2_isSign 7 = .ok (.if_icmp .ne 17, 3) := dk_160 0 17 (dk_at dksX2_isSign_0 7 rfl rfl)
theorem dX2_isSign_10 : decode cX2_isSign 10 = .ok (.aload_n 0, 1) := dk_42 (dk_at dksX2_isSign_0 10 rfl rfl)
theorem dX2_isSign_11 : decode cX2_isSign 11 = .ok (.getfield 43, 3) := dk_180 0 43 (dk_at dksX2_isSign_0 11 rfl rfl)
theorem dX2_isSign_14 : decode cX2_isSign 14 = .ok (.iload_n 1, 1) := dk_27 (dk_at dksX2_isSign_0 14 rfl rfl)
theorem dX2_isSign_15 : decode cX2_isSign 15 = .ok (.saload, 1) := dk_53 (dk_at dksX2_isSign_0 15 rfl rfl)
theorem dX2_isSign_16 : decode cX2_isSign 16 = .ok (.iload_n 2, 1) := dk_28 (dk_at dksX2_isSign_0 16 rfl rfl)
theorem dX2_isSign_17 : decode cX2_isSign 17 = .ok (.if_icmp .ne 7, 3) := dk_160 0 7 (dk_at dksX2_isSign_0 17 rfl rfl)
theorem dX2_isSign_20 : decode cX2_isSign 20 = .ok (.iconst 1, 1) := dk_4 (dk_at dksX2_isSign_0 20 rfl rfl)
theorem dX2_isSign_21 : decode cX2_isSign 21 = .ok (.goto 4, 3) := dk_167 0 4 (dk_at dksX2_isSign_0 21 rfl rfl)
theorem dX2_isSign_24 : decode cX2_isSign 24 = .ok (.iconst 0, 1) := dk_3 (dk_at dksX2_isSign_1 0 rfl rfl)
theorem dX2_isSign_25 : decode cX2_isSign 25 = .ok (.ireturn, 1) := dk_172 (dk_at dksX2_isSign_1 1 rfl rfl)
abbrev cX2_number : ByteArray := prog_11_method_10_code
def yX2_number : MethodName := ⟨RX2, "number", "(I)I"⟩
def dkwX2_number_1 : List UInt8 := [180, 0, 29, 29, 51, 96, 16, 48, 100, 61, 132, 3, 1, 167, 255, 228, 28, 172]
abbrev dktX2_number_1 : List UInt8 := dkwX2_number_1 ++ []
def dkwX2_number_0 : List UInt8 := [3, 61, 42, 180, 0, 36, 27, 53, 62, 29, 42, 180, 0, 40, 27, 53, 162, 0, 24, 16, 10, 28, 104, 42]
abbrev dktX2_number_0 : List UInt8 := dkwX2_number_0 ++ dktX2_number_1
theorem dksX2_number_0 : cX2_number.data.toList.drop 0 = dktX2_number_0 := by decide +kernel
theorem dksX2_number_1 : cX2_number.data.toList.drop 24 = dktX2_number_1 := dk_seg dksX2_number_0 24 rfl rfl
theorem dX2_number_0 : decode cX2_number 0 = .ok (.iconst 0, 1) := dk_3 (dk_at dksX2_number_0 0 rfl rfl)
theorem dX2_number_1 : decode cX2_number 1 = .ok (.istore_n 2, 1) := dk_61 (dk_at dksX2_number_0 1 rfl rfl)
theorem dX2_number_2 : decode cX2_number 2 = .ok (.aload_n 0, 1) := dk_42 (dk_at dksX2_number_0 2 rfl rfl)
theorem dX2_number_3 : decode cX2_number 3 = .ok (.getfield 36, 3) := dk_180 0 36 (dk_at dksX2_number_0 3 rfl rfl)
theorem dX2_number_6 : decode cX2_number 6 = .ok (.iload_n 1, 1) := dk_27 (dk_at dksX2_number_0 6 rfl rfl)
theorem dX2_number_7 : decode cX2_number 7 = .ok (.saload, 1) := dk_53 (dk_at dksX2_number_0 7 rfl rfl)
theorem dX2_number_8 : decode cX2_number 8 = .ok (.istore_n 3, 1) := dk_62 (dk_at dksX2_number_0 8 rfl rfl)
theorem dX2_number_9 : decode cX2_number 9 = .ok (.iload_n 3, 1) := dk_29 (dk_at dksX2_number_0 9 rfl rfl)
theorem dX2_number_10 : decode cX2_number 10 = .ok (.aload_n 0, 1) := dk_42 (dk_at dksX2_number_0 10 rfl rfl)
theorem dX2_number_11 : decode cX2_number 11 = .ok (.getfield 40, 3) := dk_180 0 40 (dk_at dksX2_number_0 11 rfl rfl)
theorem dX2_number_14 : decode cX2_number 14 = .ok (.iload_n 1, 1) := dk_27 (dk_at dksX2_number_0 14 rfl rfl)
theorem dX2_number_15 : decode cX2_number 15 = .ok (.saload, 1) := dk_53 (dk_at dksX2_number_0 15 rfl rfl)
theorem dX2_number_16 : decode cX2_number 16 = .ok (.if_icmp .ge 24, 3) := dk_162 0 24 (dk_at dksX2_number_0 16 rfl rfl)
theorem dX2_number_19 : decode cX2_number 19 = .ok (.bipush 10, 2) := dk_16 10 (dk_at dksX2_number_0 19 rfl rfl)
theorem dX2_number_21 : decode cX2_number 21 = .ok (.iload_n 2, 1) := dk_28 (dk_at dksX2_number_0 21 rfl rfl)
theorem dX2_number_22 : decode cX2_number 22 = .ok (.imul, 1) := dk_104 (dk_at dksX2_number_0 22 rfl rfl)
theorem dX2_number_23 : decode cX2_number 23 = .ok (.aload_n 0, 1) := dk_42 (dk_at dksX2_number_0 23 rfl rfl)
theorem dX2_number_24 : decode cX2_number 24 = .ok (.getfield 29, 3) := dk_180 0 29 (dk_at dksX2_number_1 0 rfl rfl)
theorem dX2_number_27 : decode cX2_number 27 = .ok (.iload_n 3, 1) := dk_29 (dk_at dksX2_number_1 3 rfl rfl)
theorem dX2_number_28 : decode cX2_number 28 = .ok (.baload, 1) := dk_51 (dk_at dksX2_number_1 4 rfl rfl)
theorem dX2_number_29 : decode cX2_number 29 = .ok (.iadd, 1) := dk_96 (dk_at dksX2_number_1 5 rfl rfl)
theorem dX2_number_30 : decode cX2_number 30 = .ok (.bipush 48, 2) := dk_16 48 (dk_at dksX2_number_1 6 rfl rfl)
theorem dX2_number_32 : decode cX2_number 32 = .ok (.isub, 1) := dk_100 (dk_at dksX2_number_1 8 rfl rfl)
theorem dX2_number_33 : decode cX2_number 33 = .ok (.istore_n 2, 1) := dk_61 (dk_at dksX2_number_1 9 rfl rfl)
theorem dX2_number_34 : decode cX2_number 34 = .ok (.iinc 3 1, 3) := dk_132 3 1 (dk_at dksX2_number_1 10 rfl rfl)
theorem dX2_number_37 : decode cX2_number 37 = .ok (.goto (-28), 3) := dk_167 255 228 (dk_at dksX2_number_1 13 rfl rfl)
theorem dX2_number_40 : decode cX2_number 40 = .ok (.iload_n 2, 1) := dk_28 (dk_at dksX2_number_1 16 rfl rfl)
theorem dX2_number_41 : decode cX2_number 41 = .ok (.ireturn, 1) := dk_172 (dk_at dksX2_number_1 17 rfl rfl)
theorem q135 : (Jvm.Cond.initialized "BackLogic$Tokens") ∈ lw_all := lw_g (lw_at lw_m1 6 rfl) rfl
theorem q264 : (Jvm.Cond.instantiable "BackLogic$Tokens" (8 : Nat)) ∈ lw_all := lw_g (lw_at lw_m1 135 rfl) rfl
theorem q266 : (Jvm.Cond.instanceMethod ({ cls := "BackLogic$Tokens", name := "<init>", desc := "()V" } : Jvm.MethodName)) ∈ lw_all := lw_g (lw_at lw_m1 137 rfl) rfl
theorem q267 : (Jvm.Cond.code ({ cls := "BackLogic$Tokens", name := "<init>", desc := "()V" } : Jvm.MethodName) prog_11_method_1_code (1 : Nat) (Option.none : Option Jvm.ClassFile.FieldType)) ∈ lw_all := lw_g (lw_at lw_m1 138 rfl) rfl
theorem q268 : (Jvm.Cond.methodLink "BackLogic$Tokens" (3 : Nat) ({ cls := "java/lang/Object", name := "<init>", desc := "()V" } : Jvm.MethodName)) ∈ lw_all := lw_g (lw_at lw_m1 139 rfl) rfl
theorem q269 : (Jvm.Cond.stringRef "BackLogic$Tokens" (9 : Nat) "wire") ∈ lw_tbl := lw_at lw_m1 140 rfl
theorem q270 : (Jvm.Cond.stringRef "BackLogic$Tokens" (11 : Nat) "gate") ∈ lw_tbl := lw_at lw_m1 141 rfl
theorem q271 : (Jvm.Cond.stringRef "BackLogic$Tokens" (13 : Nat) "price") ∈ lw_tbl := lw_at lw_m1 142 rfl
theorem q272 : (Jvm.Cond.stringRef "BackLogic$Tokens" (15 : Nat) "table") ∈ lw_tbl := lw_at lw_m1 143 rfl
theorem q273 : (Jvm.Cond.methodLink "BackLogic$Tokens" (17 : Nat) ({ cls := "java/util/List", name := "of", desc := "(Ljava/lang/Object;Ljava/lang/Object;Ljava/lang/Object;Ljava/lang/Object;)Ljava/util/List;" } : Jvm.MethodName)) ∈ lw_all := lw_g (lw_at lw_m1 144 rfl) rfl
theorem q296 : (Jvm.Cond.selects "BackLogic$Tokens" ({ cls := "java/lang/Object", name := "getClass", desc := "()Ljava/lang/Class;" } : Jvm.MethodName) ({ cls := "java/lang/Object", name := "getClass", desc := "()Ljava/lang/Class;" } : Jvm.MethodName)) ∈ lw_all := lw_g (lw_at lw_m1 167 rfl) rfl
theorem q360 : (Jvm.Cond.fieldLink "BackLogic$Tokens" (23 : Nat) "BackLogic$Tokens" "words" "Ljava/util/List;") ∈ lw_all := lw_g (lw_at lw_m1 231 rfl) rfl
theorem q361 : (Jvm.Cond.fieldLink "BackLogic$Tokens" (29 : Nat) "BackLogic$Tokens" "tape" "[B") ∈ lw_all := lw_g (lw_at lw_m1 232 rfl) rfl
theorem q363 : (Jvm.Cond.fieldLink "BackLogic$Tokens" (46 : Nat) "BackLogic$Tokens" "taped" "I") ∈ lw_all := lw_g (lw_at lw_m1 234 rfl) rfl
theorem q365 : (Jvm.Cond.fieldLink "BackLogic$Tokens" (33 : Nat) "BackLogic$Tokens" "sort" "[B") ∈ lw_all := lw_g (lw_at lw_m1 236 rfl) rfl
theorem q367 : (Jvm.Cond.fieldLink "BackLogic$Tokens" (36 : Nat) "BackLogic$Tokens" "from" "[S") ∈ lw_all := lw_g (lw_at lw_m1 238 rfl) rfl
theorem q369 : (Jvm.Cond.fieldLink "BackLogic$Tokens" (40 : Nat) "BackLogic$Tokens" "to" "[S") ∈ lw_all := lw_g (lw_at lw_m2 0 rfl) rfl
theorem q370 : (Jvm.Cond.fieldLink "BackLogic$Tokens" (43 : Nat) "BackLogic$Tokens" "what" "[S") ∈ lw_all := lw_g (lw_at lw_m2 1 rfl) rfl
theorem q372 : (Jvm.Cond.fieldLink "BackLogic$Tokens" (54 : Nat) "BackLogic$Tokens" "many" "I") ∈ lw_all := lw_g (lw_at lw_m2 3 rfl) rfl
theorem q373 : (Jvm.Cond.laysFinal "BackLogic$Tokens" "BackLogic$Tokens" "words" "Ljava/util/List;") ∈ lw_all := lw_g (lw_at lw_m2 4 rfl) rfl
theorem q374 : (Jvm.Cond.soleField "BackLogic$Tokens" "words") ∈ lw_all := lw_g (lw_at lw_m2 5 rfl) rfl
theorem q375 : (Jvm.Cond.laysFinal "BackLogic$Tokens" "BackLogic$Tokens" "tape" "[B") ∈ lw_all := lw_g (lw_at lw_m2 6 rfl) rfl
theorem q376 : (Jvm.Cond.soleField "BackLogic$Tokens" "tape") ∈ lw_all := lw_g (lw_at lw_m2 7 rfl) rfl
theorem q377 : (Jvm.Cond.lays "BackLogic$Tokens" "BackLogic$Tokens" "taped" "I") ∈ lw_all := lw_g (lw_at lw_m2 8 rfl) rfl
theorem q378 : (Jvm.Cond.soleField "BackLogic$Tokens" "taped") ∈ lw_all := lw_g (lw_at lw_m2 9 rfl) rfl
theorem q379 : (Jvm.Cond.laysFinal "BackLogic$Tokens" "BackLogic$Tokens" "sort" "[B") ∈ lw_all := lw_g (lw_at lw_m2 10 rfl) rfl
theorem q380 : (Jvm.Cond.soleField "BackLogic$Tokens" "sort") ∈ lw_all := lw_g (lw_at lw_m2 11 rfl) rfl
theorem q381 : (Jvm.Cond.laysFinal "BackLogic$Tokens" "BackLogic$Tokens" "from" "[S") ∈ lw_all := lw_g (lw_at lw_m2 12 rfl) rfl
theorem q382 : (Jvm.Cond.soleField "BackLogic$Tokens" "from") ∈ lw_all := lw_g (lw_at lw_m2 13 rfl) rfl
theorem q383 : (Jvm.Cond.laysFinal "BackLogic$Tokens" "BackLogic$Tokens" "to" "[S") ∈ lw_all := lw_g (lw_at lw_m2 14 rfl) rfl
theorem q384 : (Jvm.Cond.soleField "BackLogic$Tokens" "to") ∈ lw_all := lw_g (lw_at lw_m2 15 rfl) rfl
theorem q385 : (Jvm.Cond.laysFinal "BackLogic$Tokens" "BackLogic$Tokens" "what" "[S") ∈ lw_all := lw_g (lw_at lw_m2 16 rfl) rfl
theorem q386 : (Jvm.Cond.soleField "BackLogic$Tokens" "what") ∈ lw_all := lw_g (lw_at lw_m2 17 rfl) rfl
theorem q387 : (Jvm.Cond.lays "BackLogic$Tokens" "BackLogic$Tokens" "many" "I") ∈ lw_all := lw_g (lw_at lw_m2 18 rfl) rfl
theorem q388 : (Jvm.Cond.soleField "BackLogic$Tokens" "many") ∈ lw_all := lw_g (lw_at lw_m2 19 rfl) rfl
theorem q389 : (Jvm.Cond.superclass "BackLogic$Tokens" "java/lang/Object") ∈ lw_all := lw_g (lw_at lw_m2 20 rfl) rfl
theorem q735 : (Jvm.Cond.instanceMethod ({ cls := "BackLogic$Tokens", name := "read", desc := "()V" } : Jvm.MethodName)) ∈ lw_all := lw_g (lw_at lw_m3 126 rfl) rfl
theorem q736 : (Jvm.Cond.selects "BackLogic$Tokens" ({ cls := "BackLogic$Tokens", name := "read", desc := "()V" } : Jvm.MethodName) ({ cls := "BackLogic$Tokens", name := "read", desc := "()V" } : Jvm.MethodName)) ∈ lw_all := lw_g (lw_at lw_m3 127 rfl) rfl
theorem q737 : (Jvm.Cond.code ({ cls := "BackLogic$Tokens", name := "read", desc := "()V" } : Jvm.MethodName) prog_11_method_7_code (7 : Nat) (Option.none : Option Jvm.ClassFile.FieldType)) ∈ lw_all := lw_g (lw_at lw_m3 128 rfl) rfl
theorem q738 : (Jvm.Cond.methodLink "BackLogic$Tokens" (74 : Nat) ({ cls := "BackLogic$Tokens", name := "isLetter", desc := "(I)Z" } : Jvm.MethodName)) ∈ lw_all := lw_g (lw_at lw_m3 129 rfl) rfl
theorem q739 : (Jvm.Cond.privateMethod ({ cls := "BackLogic$Tokens", name := "isLetter", desc := "(I)Z" } : Jvm.MethodName)) ∈ lw_tbl := lw_at lw_m3 130 rfl
theorem q740 : (Jvm.Cond.instanceMethod ({ cls := "BackLogic$Tokens", name := "isLetter", desc := "(I)Z" } : Jvm.MethodName)) ∈ lw_all := lw_g (lw_at lw_m3 131 rfl) rfl
theorem q741 : (Jvm.Cond.code ({ cls := "BackLogic$Tokens", name := "isLetter", desc := "(I)Z" } : Jvm.MethodName) prog_11_method_4_code (2 : Nat) (Option.some Jvm.ClassFile.FieldType.boolean)) ∈ lw_all := lw_g (lw_at lw_m3 132 rfl) rfl
theorem q742 : (Jvm.Cond.methodLink "BackLogic$Tokens" (50 : Nat) ({ cls := "BackLogic$Tokens", name := "at", desc := "(I)I" } : Jvm.MethodName)) ∈ lw_all := lw_g (lw_at lw_m3 133 rfl) rfl
theorem q743 : (Jvm.Cond.privateMethod ({ cls := "BackLogic$Tokens", name := "at", desc := "(I)I" } : Jvm.MethodName)) ∈ lw_tbl := lw_at lw_m3 134 rfl
theorem q744 : (Jvm.Cond.instanceMethod ({ cls := "BackLogic$Tokens", name := "at", desc := "(I)I" } : Jvm.MethodName)) ∈ lw_all := lw_g (lw_at lw_m3 135 rfl) rfl
theorem q745 : (Jvm.Cond.code ({ cls := "BackLogic$Tokens", name := "at", desc := "(I)I" } : Jvm.MethodName) prog_11_method_2_code (2 : Nat) (Option.some Jvm.ClassFile.FieldType.int)) ∈ lw_all := lw_g (lw_at lw_m3 136 rfl) rfl
theorem q746 : (Jvm.Cond.methodLink "BackLogic$Tokens" (78 : Nat) ({ cls := "BackLogic$Tokens", name := "word", desc := "(II)I" } : Jvm.MethodName)) ∈ lw_all := lw_g (lw_at lw_m3 137 rfl) rfl
theorem q747 : (Jvm.Cond.privateMethod ({ cls := "BackLogic$Tokens", name := "word", desc := "(II)I" } : Jvm.MethodName)) ∈ lw_tbl := lw_at lw_m3 138 rfl
theorem q748 : (Jvm.Cond.instanceMethod ({ cls := "BackLogic$Tokens", name := "word", desc := "(II)I" } : Jvm.MethodName)) ∈ lw_all := lw_g (lw_at lw_m3 139 rfl) rfl
theorem q749 : (Jvm.Cond.code ({ cls := "BackLogic$Tokens", name := "word", desc := "(II)I" } : Jvm.MethodName) prog_11_method_6_code (6 : Nat) (Option.some Jvm.ClassFile.FieldType.int)) ∈ lw_all := lw_g (lw_at lw_m3 140 rfl) rfl
theorem q750 : (Jvm.Cond.interfaceEntry "BackLogic$Tokens" (57 : Nat)) ∈ lw_tbl := lw_at lw_m3 141 rfl
theorem q751 : (Jvm.Cond.methodLink "BackLogic$Tokens" (57 : Nat) ({ cls := "java/util/List", name := "size", desc := "()I" } : Jvm.MethodName)) ∈ lw_all := lw_g (lw_at lw_m3 142 rfl) rfl
theorem q778 : (Jvm.Cond.interfaceEntry "BackLogic$Tokens" (61 : Nat)) ∈ lw_tbl := lw_at lw_m3 169 rfl
theorem q779 : (Jvm.Cond.methodLink "BackLogic$Tokens" (61 : Nat) ({ cls := "java/util/List", name := "get", desc := "(I)Ljava/lang/Object;" } : Jvm.MethodName)) ∈ lw_all := lw_g (lw_at lw_m3 170 rfl) rfl
theorem q824 : (Jvm.Cond.classLink "BackLogic$Tokens" (65 : Nat) "java/lang/String") ∈ lw_all := lw_g (lw_at lw_m3 215 rfl) rfl
theorem q825 : (Jvm.Cond.methodLink "BackLogic$Tokens" (67 : Nat) ({ cls := "java/lang/String", name := "length", desc := "()I" } : Jvm.MethodName)) ∈ lw_all := lw_g (lw_at lw_m3 216 rfl) rfl
theorem q835 : (Jvm.Cond.methodLink "BackLogic$Tokens" (70 : Nat) ({ cls := "java/lang/String", name := "charAt", desc := "(I)C" } : Jvm.MethodName)) ∈ lw_all := lw_g (lw_at lw_m3 226 rfl) rfl
theorem q871 : (Jvm.Cond.methodLink "BackLogic$Tokens" (82 : Nat) ({ cls := "BackLogic$Tokens", name := "isDigit", desc := "(I)Z" } : Jvm.MethodName)) ∈ lw_all := lw_g (lw_at lw_m4 22 rfl) rfl
theorem q872 : (Jvm.Cond.privateMethod ({ cls := "BackLogic$Tokens", name := "isDigit", desc := "(I)Z" } : Jvm.MethodName)) ∈ lw_tbl := lw_at lw_m4 23 rfl
theorem q873 : (Jvm.Cond.instanceMethod ({ cls := "BackLogic$Tokens", name := "isDigit", desc := "(I)Z" } : Jvm.MethodName)) ∈ lw_all := lw_g (lw_at lw_m4 24 rfl) rfl
theorem q874 : (Jvm.Cond.code ({ cls := "BackLogic$Tokens", name := "isDigit", desc := "(I)Z" } : Jvm.MethodName) prog_11_method_3_code (2 : Nat) (Option.some Jvm.ClassFile.FieldType.boolean)) ∈ lw_all := lw_g (lw_at lw_m4 25 rfl) rfl
theorem q875 : (Jvm.Cond.methodLink "BackLogic$Tokens" (85 : Nat) ({ cls := "BackLogic$Tokens", name := "add", desc := "(IIII)V" } : Jvm.MethodName)) ∈ lw_all := lw_g (lw_at lw_m4 26 rfl) rfl
theorem q876 : (Jvm.Cond.privateMethod ({ cls := "BackLogic$Tokens", name := "add", desc := "(IIII)V" } : Jvm.MethodName)) ∈ lw_tbl := lw_at lw_m4 27 rfl
theorem q877 : (Jvm.Cond.instanceMethod ({ cls := "BackLogic$Tokens", name := "add", desc := "(IIII)V" } : Jvm.MethodName)) ∈ lw_all := lw_g (lw_at lw_m4 28 rfl) rfl
theorem q878 : (Jvm.Cond.code ({ cls := "BackLogic$Tokens", name := "add", desc := "(IIII)V" } : Jvm.MethodName) prog_11_method_5_code (5 : Nat) (Option.none : Option Jvm.ClassFile.FieldType)) ∈ lw_all := lw_g (lw_at lw_m4 29 rfl) rfl
theorem q920 : (Jvm.Cond.instanceMethod ({ cls := "BackLogic$Tokens", name := "isAlike", desc := "(II)Z" } : Jvm.MethodName)) ∈ lw_all := lw_g (lw_at lw_m4 71 rfl) rfl
theorem q921 : (Jvm.Cond.selects "BackLogic$Tokens" ({ cls := "BackLogic$Tokens", name := "isAlike", desc := "(II)Z" } : Jvm.MethodName) ({ cls := "BackLogic$Tokens", name := "isAlike", desc := "(II)Z" } : Jvm.MethodName)) ∈ lw_all := lw_g (lw_at lw_m4 72 rfl) rfl
theorem q922 : (Jvm.Cond.code ({ cls := "BackLogic$Tokens", name := "isAlike", desc := "(II)Z" } : Jvm.MethodName) prog_11_method_9_code (4 : Nat) (Option.some Jvm.ClassFile.FieldType.boolean)) ∈ lw_all := lw_g (lw_at lw_m4 73 rfl) rfl
theorem q932 : (Jvm.Cond.instanceMethod ({ cls := "BackLogic$Tokens", name := "isSign", desc := "(II)Z" } : Jvm.MethodName)) ∈ lw_all := lw_g (lw_at lw_m4 83 rfl) rfl
theorem q933 : (Jvm.Cond.selects "BackLogic$Tokens" ({ cls := "BackLogic$Tokens", name := "isSign", desc := "(II)Z" } : Jvm.MethodName) ({ cls := "BackLogic$Tokens", name := "isSign", desc := "(II)Z" } : Jvm.MethodName)) ∈ lw_all := lw_g (lw_at lw_m4 84 rfl) rfl
theorem q934 : (Jvm.Cond.code ({ cls := "BackLogic$Tokens", name := "isSign", desc := "(II)Z" } : Jvm.MethodName) prog_11_method_8_code (3 : Nat) (Option.some Jvm.ClassFile.FieldType.boolean)) ∈ lw_all := lw_g (lw_at lw_m4 85 rfl) rfl
theorem q1002 : (Jvm.Cond.instanceMethod ({ cls := "BackLogic$Tokens", name := "number", desc := "(I)I" } : Jvm.MethodName)) ∈ lw_all := lw_g (lw_at lw_m4 153 rfl) rfl
theorem q1003 : (Jvm.Cond.selects "BackLogic$Tokens" ({ cls := "BackLogic$Tokens", name := "number", desc := "(I)I" } : Jvm.MethodName) ({ cls := "BackLogic$Tokens", name := "number", desc := "(I)I" } : Jvm.MethodName)) ∈ lw_all := lw_g (lw_at lw_m4 154 rfl) rfl
theorem q1004 : (Jvm.Cond.code ({ cls := "BackLogic$Tokens", name := "number", desc := "(I)I" } : Jvm.MethodName) prog_11_method_10_code (4 : Nat) (Option.some Jvm.ClassFile.FieldType.int)) ∈ lw_all := lw_g (lw_at lw_m4 155 rfl) rfl
theorem q2685 : (Jvm.Cond.castable "BackLogic$Tokens" "java/lang/Object") ∈ lw_tbl := lw_at lw_m11 156 rfl
theorem in_X2 : ∀ w ∈ wsX20, w ∈ lw_all := lw_in wsX20 [373, 375, 377, 379, 381, 383, 385, 387] (by decide +kernel) (by decide +kernel)
/-! BackLogic$Parser -/
set_option maxRecDepth 100000
def RX3 : String := "BackLogic$Parser"
def TX3 : u_T := fun k => match k with
  | 0 => ("BackLogic$Parser", "t", "LBackLogic$Tokens;", true)
  | 1 => ("BackLogic$Parser", "fault", "LBackLogic$Fault;", true)
  | 2 => ("BackLogic$Parser", "cascade", "LBackLogic$Cascade;", true)
  | 3 => ("BackLogic$Parser", "table", "LBackLogic$Table;", true)
  | 4 => ("BackLogic$Parser", "price", "[I", true)
  | 5 => ("BackLogic$Parser", "wires", "I", false)
  | 6 => ("BackLogic$Parser", "names", "[I", true)
  | 7 => ("BackLogic$Parser", "lines", "Ljava/util/ArrayList;", true)
  | 8 => ("BackLogic$Parser", "at", "I", false)
  | 9 => ("BackLogic$Parser", "gates", "I", false)
  | 10 => ("BackLogic$Parser", "worst", "I", false)
  | _ => ("BackLogic$Parser", "worstToken", "I", false)
def tyX3 : Nat → FieldType := fun k => match k with
  | 0 => .object "BackLogic$Tokens"
  | 1 => .object "BackLogic$Fault"
  | 2 => .object "BackLogic$Cascade"
  | 3 => .object "BackLogic$Table"
  | 4 => .array .int
  | 5 => .int
  | 6 => .array .int
  | 7 => .object "java/util/ArrayList"
  | 8 => .int
  | 9 => .int
  | 10 => .int
  | _ => .int
abbrev wsX30 : List Cond := u_ws RX3 TX3 12
theorem nmX3 : ∀ a, a < 12 → ∀ b, b < 12 → a ≠ b → (TX3 a).2.1 ≠ (TX3 b).2.1 := by decide +kernel
theorem tyX3_ok : ∀ k, k < 12 → parseFieldDescriptor (TX3 k).2.2.1 = some (tyX3 k) := by decide +kernel
abbrev cX3_init : ByteArray := prog_7_method_1_code
def yX3_init : MethodName := ⟨RX3, "<init>", "(LBackLogic$Tokens;LBackLogic$Fault;)V"⟩
def dkwX3_init_2 : List UInt8 := [183, 0, 34, 181, 0, 35, 42, 43, 181, 0, 39, 42, 44, 181, 0, 43, 177]
abbrev dktX3_init_2 : List UInt8 := dkwX3_init_2 ++ []
def dkwX3_init_1 : List UInt8 := [181, 0, 21, 42, 7, 188, 10, 181, 0, 25, 42, 7, 188, 10, 181, 0, 29, 42, 187, 0, 32, 89]
abbrev dktX3_init_1 : List UInt8 := dkwX3_init_1 ++ dktX3_init_2
def dkwX3_init_0 : List UInt8 := [42, 183, 0, 3, 42, 187, 0, 9, 89, 183, 0, 11, 181, 0, 12, 42, 187, 0, 18, 89, 183, 0, 20]
abbrev dktX3_init_0 : List UInt8 := dkwX3_init_0 ++ dktX3_init_1
theorem dksX3_init_0 : cX3_init.data.toList.drop 0 = dktX3_init_0 := by decide +kernel
theorem dksX3_init_1 : cX3_init.data.toList.drop 23 = dktX3_init_1 := dk_seg dksX3_init_0 23 rfl rfl
theorem dksX3_init_2 : cX3_init.data.toList.drop 45 = dktX3_init_2 := dk_seg dksX3_init_1 22 rfl rfl
theorem dX3_init_0 : decode cX3_init 0 = .ok (.aload_n 0, 1) := dk_42 (dk_at dksX3_init_0 0 rfl rfl)
theorem dX3_init_1 : decode cX3_init 1 = .ok (.invokespecial 3, 3) := dk_183 0 3 (dk_at dksX3_init_0 1 rfl rfl)
theorem dX3_init_4 : decode cX3_init 4 = .ok (.aload_n 0, 1) := dk_42 (dk_at dksX3_init_0 4 rfl rfl)
theorem dX3_init_5 : decode cX3_init 5 = .ok (.new 9, 3) := dk_187 0 9 (dk_at dksX3_init_0 5 rfl rfl)
theorem dX3_init_8 : decode cX3_init 8 = .ok (.dup, 1) := dk_89 (dk_at dksX3_init_0 8 rfl rfl)
theorem dX3_init_9 : decode cX3_init 9 = .ok (.invokespecial 11, 3) := dk_183 0 11 (dk_at dksX3_init_0 9 rfl rfl)
theorem dX3_init_12 : decode cX3_init 12 = .ok (.putfield 12, 3) := dk_181 0 12 (dk_at dksX3_init_0 12 rfl rfl)
theorem dX3_init_15 : decode cX3_init 15 = .ok (.aload_n 0, 1) := dk_42 (dk_at dksX3_init_0 15 rfl rfl)
theorem dX3_init_16 : decode cX3_init 16 = .ok (.new 18, 3) := dk_187 0 18 (dk_at dksX3_init_0 16 rfl rfl)
theorem dX3_init_19 : decode cX3_init 19 = .ok (.dup, 1) := dk_89 (dk_at dksX3_init_0 19 rfl rfl)
theorem dX3_init_20 : decode cX3_init 20 = .ok (.invokespecial 20, 3) := dk_183 0 20 (dk_at dksX3_init_0 20 rfl rfl)
theorem dX3_init_23 : decode cX3_init 23 = .ok (.putfield 21, 3) := dk_181 0 21 (dk_at dksX3_init_1 0 rfl rfl)
theorem dX3_init_26 : decode cX3_init 26 = .ok (.aload_n 0, 1) := dk_42 (dk_at dksX3_init_1 3 rfl rfl)
theorem dX3_init_27 : decode cX3_init 27 = .ok (.iconst 4, 1) := dk_7 (dk_at dksX3_init_1 4 rfl rfl)
theorem dX3_init_28 : decode cX3_init 28 = .ok (.newarray .int, 2) := dk_188_10 (dk_at dksX3_init_1 5 rfl rfl)
theorem dX3_init_30 : decode cX3_init 30 = .ok (.putfield 25, 3) := dk_181 0 25 (dk_at dksX3_init_1 7 rfl rfl)
theorem dX3_init_33 : decode cX3_init 33 = .ok (.aload_n 0, 1) := dk_42 (dk_at dksX3_init_1 10 rfl rfl)
theorem dX3_init_34 : decode cX3_init 34 = .ok (.iconst 4, 1) := dk_7 (dk_at dksX3_init_1 11 rfl rfl)
theorem dX3_init_35 : decode cX3_init 35 = .ok (.newarray .int, 2) := dk_188_10 (dk_at dksX3_init_1 12 rfl rfl)
theorem dX3_init_37 : decode cX3_init 37 = .ok (.putfield 29, 3) := dk_181 0 29 (dk_at dksX3_init_1 14 rfl rfl)
theorem dX3_init_40 : decode cX3_init 40 = .ok (.aload_n 0, 1) := dk_42 (dk_at dksX3_init_1 17 rfl rfl)
theorem dX3_init_41 : decode cX3_init 41 = .ok (.new 32, 3) := dk_187 0 32 (dk_at dksX3_init_1 18 rfl rfl)
theorem dX3_init_44 : decode cX3_init 44 = .ok (.dup, 1) := dk_89 (dk_at dksX3_init_1 21 rfl rfl)
theorem dX3_init_45 : decode cX3_init 45 = .ok (.invokespecial 34, 3) := dk_183 0 34 (dk_at dksX3_init_2 0 rfl rfl)
theorem dX3_init_48 : decode cX3_init 48 = .ok (.putfield 35, 3) := dk_181 0 35 (dk_at dksX3_init_2 3 rfl rfl)
theorem dX3_init_51 : decode cX3_init 51 = .ok (.aload_n 0, 1) := dk_42 (dk_at dksX3_init_2 6 rfl rfl)
theorem dX3_init_52 : decode cX3_init 52 = .ok (.aload_n 1, 1) := dk_43 (dk_at dksX3_init_2 7 rfl rfl)
theorem dX3_init_53 : decode cX3_init 53 = .ok (.putfield 39, 3) := dk_181 0 39 (dk_at dksX3_init_2 8 rfl rfl)
theorem dX3_init_56 : decode cX3_init 56 = .ok (.aload_n 0, 1) := dk_42 (dk_at dksX3_init_2 11 rfl rfl)
theorem dX3_init_57 : decode cX3_init 57 = .ok (.aload_n 2, 1) := dk_44 (dk_at dksX3_init_2 12 rfl rfl)
theorem dX3_init_58 : decode cX3_init 58 = .ok (.putfield 43, 3) := dk_181 0 43 (dk_at dksX3_init_2 13 rfl rfl)
theorem dX3_init_61 : decode cX3_init 61 = .ok (.return_, 1) := dk_177 (dk_at dksX3_init_2 16 rfl rfl)
abbrev cX3_read : ByteArray := prog_7_method_9_code
def yX3_read : MethodName := ⟨RX3, "read", "()V"⟩
def dkwX3_read_8 : List UInt8 := [182, 0, 63, 191, 177]
abbrev dktX3_read_8 : List UInt8 := dkwX3_read_8 ++ []
def dkwX3_read_7 : List UInt8 := [132, 1, 1, 167, 255, 191, 42, 180, 0, 66, 153, 0, 16, 42, 42, 180, 0, 66, 42, 180, 0, 69]
abbrev dktX3_read_7 : List UInt8 := dkwX3_read_7 ++ dktX3_read_8
def dkwX3_read_6 : List UInt8 := [192, 0, 121, 182, 0, 126, 167, 0, 18, 42, 42, 180, 0, 35, 27, 182, 0, 117, 192, 0, 121, 182, 0, 130]
abbrev dktX3_read_6 : List UInt8 := dkwX3_read_6 ++ dktX3_read_7
def dkwX3_read_5 : List UInt8 := [182, 0, 117, 192, 0, 121, 180, 0, 123, 4, 160, 0, 21, 42, 42, 180, 0, 35, 27, 182, 0, 117]
abbrev dktX3_read_5 : List UInt8 := dkwX3_read_5 ++ dktX3_read_6
def dkwX3_read_4 : List UInt8 := [182, 0, 111, 167, 255, 244, 3, 60, 27, 42, 180, 0, 35, 182, 0, 114, 162, 0, 60, 42, 180, 0, 35, 27]
abbrev dktX3_read_4 : List UInt8 := dkwX3_read_4 ++ dktX3_read_5
def dkwX3_read_3 : List UInt8 := [182, 0, 110, 42, 3, 181, 0, 59, 42, 3, 181, 0, 66, 42, 182, 0, 80, 7, 159, 0, 10, 42]
abbrev dktX3_read_3 : List UInt8 := dkwX3_read_3 ++ dktX3_read_4
def dkwX3_read_2 : List UInt8 := [4, 4, 79, 42, 180, 0, 25, 5, 8, 79, 42, 180, 0, 25, 6, 16, 13, 79, 42, 180, 0, 35]
abbrev dktX3_read_2 : List UInt8 := dkwX3_read_2 ++ dktX3_read_3
def dkwX3_read_1 : List UInt8 := [181, 0, 102, 42, 3, 181, 0, 105, 42, 3, 181, 0, 108, 42, 180, 0, 25, 3, 4, 79, 42, 180, 0, 25]
abbrev dktX3_read_1 : List UInt8 := dkwX3_read_1 ++ dktX3_read_2
def dkwX3_read_0 : List UInt8 := [42, 180, 0, 39, 182, 0, 90, 42, 180, 0, 12, 180, 0, 93, 182, 0, 97, 42, 180, 0, 21, 3]
abbrev dktX3_read_0 : List UInt8 := dkwX3_read_0 ++ dktX3_read_1
theorem dksX3_read_0 : cX3_read.data.toList.drop 0 = dktX3_read_0 := by decide +kernel
theorem dksX3_read_1 : cX3_read.data.toList.drop 22 = dktX3_read_1 := dk_seg dksX3_read_0 22 rfl rfl
theorem dksX3_read_2 : cX3_read.data.toList.drop 46 = dktX3_read_2 := dk_seg dksX3_read_1 24 rfl rfl
theorem dksX3_read_3 : cX3_read.data.toList.drop 68 = dktX3_read_3 := dk_seg dksX3_read_2 22 rfl rfl
theorem dksX3_read_4 : cX3_read.data.toList.drop 90 = dktX3_read_4 := dk_seg dksX3_read_3 22 rfl rfl
theorem dksX3_read_5 : cX3_read.data.toList.drop 114 = dktX3_read_5 := dk_seg dksX3_read_4 24 rfl rfl
theorem dksX3_read_6 : cX3_read.data.toList.drop 136 = dktX3_read_6 := dk_seg dksX3_read_5 22 rfl rfl
theorem dksX3_read_7 : cX3_read.data.toList.drop 160 = dktX3_read_7 := dk_seg dksX3_read_6 24 rfl rfl
theorem dksX3_read_8 : cX3_read.data.toList.drop 182 = dktX3_read_8 := dk_seg dksX3_read_7 22 rfl rfl
theorem dX3_read_0 : decode cX3_read 0 = .ok (.aload_n 0, 1) := dk_42 (dk_at dksX3_read_0 0 rfl rfl)
theorem dX3_read_1 : decode cX3_read 1 = .ok (.getfield 39, 3) := dk_180 0 39 (dk_at dksX3_read_0 1 rfl rfl)
theorem dX3_read_4 : decode cX3_read 4 = .ok (.invokevirtual 90, 3) := dk_182 0 90 (dk_at dksX3_read_0 4 rfl rfl)
theorem dX3_read_7 : decode cX3_read 7 = .ok (.aload_n 0, 1) := dk_42 (dk_at dksX3_read_0 7 rfl rfl)
theorem dX3_read_8 : decode cX3_read 8 = .ok (.getfield 12, 3) := dk_180 0 12 (dk_at dksX3_read_0 8 rfl rfl)
theorem dX3_read_11 : decode cX3_read 11 = .ok (.getfield 93, 3) := dk_180 0 93 (dk_at dksX3_read_0 11 rfl rfl)
theorem dX3_read_14 : decode cX3_read 14 = .ok (.invokevirtual 97, 3) := dk_182 0 97 (dk_at dksX3_read_0 14 rfl rfl)
theorem dX3_read_17 : decode cX3_read 17 = .ok (.aload_n 0, 1) := dk_42 (dk_at dksX3_read_0 17 rfl rfl)
theorem dX3_read_18 : decode cX3_read 18 = .ok (.getfield 21, 3) := dk_180 0 21 (dk_at dksX3_read_0 18 rfl rfl)
theorem dX3_read_21 : decode cX3_read 21 = .ok (.iconst 0, 1) := dk_3 (dk_at dksX3_read_0 21 rfl rfl)
theorem dX3_read_22 : decode cX3_read 22 = .ok (.putfield 102, 3) := dk_181 0 102 (dk_at dksX3_read_1 0 rfl rfl)
theorem dX3_read_25 : decode cX3_read 25 = .ok (.aload_n 0, 1) := dk_42 (dk_at dksX3_read_1 3 rfl rfl)
theorem dX3_read_26 : decode cX3_read 26 = .ok (.iconst 0, 1) := dk_3 (dk_at dksX3_read_1 4 rfl rfl)
theorem dX3_read_27 : decode cX3_read 27 = .ok (.putfield 105, 3) := dk_181 0 105 (dk_at dksX3_read_1 5 rfl rfl)
theorem dX3_read_30 : decode cX3_read 30 = .ok (.aload_n 0, 1) := dk_42 (dk_at dksX3_read_1 8 rfl rfl)
theorem dX3_read_31 : decode cX3_read 31 = .ok (.iconst 0, 1) := dk_3 (dk_at dksX3_read_1 9 rfl rfl)
theorem dX3_read_32 : decode cX3_read 32 = .ok (.putfield 108, 3) := dk_181 0 108 (dk_at dksX3_read_1 10 rfl rfl)
theorem dX3_read_35 : decode cX3_read 35 = .ok (.aload_n 0, 1) := dk_42 (dk_at dksX3_read_1 13 rfl rfl)
theorem dX3_read_36 : decode cX3_read 36 = .ok (.getfield 25, 3) := dk_180 0 25 (dk_at dksX3_read_1 14 rfl rfl)
theorem dX3_read_39 : decode cX3_read 39 = .ok (.iconst 0, 1) := dk_3 (dk_at dksX3_read_1 17 rfl rfl)
theorem dX3_read_40 : decode cX3_read 40 = .ok (.iconst 1, 1) := dk_4 (dk_at dksX3_read_1 18 rfl rfl)
theorem dX3_read_41 : decode cX3_read 41 = .ok (.iastore, 1) := dk_79 (dk_at dksX3_read_1 19 rfl rfl)
theorem dX3_read_42 : decode cX3_read 42 = .ok (.aload_n 0, 1) := dk_42 (dk_at dksX3_read_1 20 rfl rfl)
theorem dX3_read_43 : decode cX3_read 43 = .ok (.getfield 25, 3) := dk_180 0 25 (dk_at dksX3_read_1 21 rfl rfl)
theorem dX3_read_46 : decode cX3_read 46 = .ok (.iconst 1, 1) := dk_4 (dk_at dksX3_read_2 0 rfl rfl)
theorem dX3_read_47 : decode cX3_read 47 = .ok (.iconst 1, 1) := dk_4 (dk_at dksX3_read_2 1 rfl rfl)
theorem dX3_read_48 : decode cX3_read 48 = .ok (.iastore, 1) := dk_79 (dk_at dksX3_read_2 2 rfl rfl)
theorem dX3_read_49 : decode cX3_read 49 = .ok (.aload_n 0, 1) := dk_42 (dk_at dksX3_read_2 3 rfl rfl)
theorem dX3_read_50 : decode cX3_read 50 = .ok (.getfield 25, 3) := dk_180 0 25 (dk_at dksX3_read_2 4 rfl rfl)
theorem dX3_read_53 : decode cX3_read 53 = .ok (.iconst 2, 1) := dk_5 (dk_at dksX3_read_2 7 rfl rfl)
theorem dX3_read_54 : decode cX3_read 54 = .ok (.iconst 5, 1) := dk_8 (dk_at dksX3_read_2 8 rfl rfl)
theorem dX3_read_55 : decode cX3_read 55 = .ok (.iastore, 1) := dk_79 (dk_at dksX3_read_2 9 rfl rfl)
theorem dX3_read_56 : decode cX3_read 56 = .ok (.aload_n 0, 1) := dk_42 (dk_at dksX3_read_2 10 rfl rfl)
theorem dX3_read_57 : decode cX3_read 57 = .ok (.getfield 25, 3) := dk_180 0 25 (dk_at dksX3_read_2 11 rfl rfl)
theorem dX3_read_60 : decode cX3_read 60 = .ok (.iconst 3, 1) := dk_6 (dk_at dksX3_read_2 14 rfl rfl)
theorem dX3_read_61 : decode cX3_read 61 = .ok (.bipush 13, 2) := dk_16 13 (dk_at dksX3_read_2 15 rfl rfl)
theorem dX3_read_63 : decode cX3_read 63 = .ok (.iastore, 1) := dk_79 (dk_at dksX3_read_2 17 rfl rfl)
theorem dX3_read_64 : decode cX3_read 64 = .ok (.aload_n 0, 1) := dk_42 (dk_at dksX3_read_2 18 rfl rfl)
theorem dX3_read_65 : decode cX3_read 65 = .ok (.getfield 35, 3) := dk_180 0 35 (dk_at dksX3_read_2 19 rfl rfl)
theorem dX3_read_68 : decode cX3_read 68 = .ok (.invokevirtual 110, 3) := dk_182 0 110 (dk_at dksX3_read_3 0 rfl rfl)
theorem dX3_read_71 : decode cX3_read 71 = .ok (.aload_n 0, 1) := dk_42 (dk_at dksX3_read_3 3 rfl rfl)
theorem dX3_read_72 : decode cX3_read 72 = .ok (.iconst 0, 1) := dk_3 (dk_at dksX3_read_3 4 rfl rfl)
theorem dX3_read_73 : decode cX3_read 73 = .ok (.putfield 59, 3) := dk_181 0 59 (dk_at dksX3_read_3 5 rfl rfl)
theorem dX3_read_76 : decode cX3_read 76 = .ok (.aload_n 0, 1) := dk_42 (dk_at dksX3_read_3 8 rfl rfl)
theorem dX3_read_77 : decode cX3_read 77 = .ok (.iconst 0, 1) := dk_3 (dk_at dksX3_read_3 9 rfl rfl)
theorem dX3_read_78 : decode cX3_read 78 = .ok (.putfield 66, 3) := dk_181 0 66 (dk_at dksX3_read_3 10 rfl rfl)
theorem dX3_read_81 : decode cX3_read 81 = .ok (.aload_n 0, 1) := dk_42 (dk_at dksX3_read_3 13 rfl rfl)
theorem dX3_read_82 : decode cX3_read 82 = .ok (.invokevirtual 80, 3) := dk_182 0 80 (dk_at dksX3_read_3 14 rfl rfl)
theorem dX3_read_85 : decode cX3_read 85 = .ok (.iconst 4, 1) := dk_7 (dk_at dksX3_read_3 17 rfl rfl)
theorem dX3_read_86 : decode cX3_read 86 = .ok (.if_icmp .eq 10, 3) := dk_159 0 10 (dk_at dksX3_read_3 18 rfl rfl)
theorem dX3_read_89 : decode cX3_read 89 = .ok (.aload_n 0, 1) := dk_42 (dk_at dksX3_read_3 21 rfl rfl)
theorem dX3_read_90 : decode cX3_read 90 = .ok (.invokevirtual 111, 3) := dk_182 0 111 (dk_at dksX3_read_4 0 rfl rfl)
theorem dX3_read_93 : decode cX3_read 93 = .ok (.goto (-12), 3) := dk_167 255 244 (dk_at dksX3_read_4 3 rfl rfl)
theorem dX3_read_96 : decode cX3_read 96 = .ok (.iconst 0, 1) := dk_3 (dk_at dksX3_read_4 6 rfl rfl)
theorem dX3_read_97 : decode cX3_read 97 = .ok (.istore_n 1, 1) := dk_60 (dk_at dksX3_read_4 7 rfl rfl)
theorem dX3_read_98 : decode cX3_read 98 = .ok (.iload_n 1, 1) := dk_27 (dk_at dksX3_read_4 8 rfl rfl)
theorem dX3_read_99 : decode cX3_read 99 = .ok (.aload_n 0, 1) := dk_42 (dk_at dksX3_read_4 9 rfl rfl)
theorem dX3_read_100 : decode cX3_read 100 = .ok (.getfield 35, 3) := dk_180 0 35 (dk_at dksX3_read_4 10 rfl rfl)
theorem dX3_read_103 : decode cX3_read 103 = .ok (.invokevirtual 114, 3) := dk_182 0 114 (dk_at dksX3_read_4 13 rfl rfl)
theorem dX3_read_106 : decode cX3_read 106 = .ok (.if_icmp .ge 60, 3) := dk_162 0 60 (dk_at dksX3_read_4 16 rfl rfl)
theorem dX3_read_109 : decode cX3_read 109 = .ok (.aload_n 0, 1) := dk_42 (dk_at dksX3_read_4 19 rfl rfl)
theorem dX3_read_110 : decode cX3_read 110 = .ok (.getfield 35, 3) := dk_180 0 35 (dk_at dksX3_read_4 20 rfl rfl)
theorem dX3_read_113 : decode cX3_read 113 = .ok (.iload_n 1, 1) := dk_27 (dk_at dksX3_read_4 23 rfl rfl)
theorem dX3_read_114 : decode cX3_read 114 = .ok (.invokevirtual 117, 3) := dk_182 0 117 (dk_at dksX3_read_5 0 rfl rfl)
theorem dX3_read_117 : decode cX3_read 117 = .ok (.checkcast 121, 3) := dk_192 0 121 (dk_at dksX3_read_5 3 rfl rfl)
theorem dX3_read_120 : decode cX3_read 120 = .ok (.getfield 123, 3) := dk_180 0 123 (dk_at dksX3_read_5 6 rfl rfl)
theorem dX3_read_123 : decode cX3_read 123 = .ok (.iconst 1, 1) := dk_4 (dk_at dksX3_read_5 9 rfl rfl)
theorem dX3_read_124 : decode cX3_read 124 = .ok (.if_icmp .ne 21, 3) := dk_160 0 21 (dk_at dksX3_read_5 10 rfl rfl)
theorem dX3_read_127 : decode cX3_read 127 = .ok (.aload_n 0, 1) := dk_42 (dk_at dksX3_read_5 13 rfl rfl)
theorem dX3_read_128 : decode cX3_read 128 = .ok (.aload_n 0, 1) := dk_42 (dk_at dksX3_read_5 14 rfl rfl)
theorem dX3_read_129 : decode cX3_read 129 = .ok (.getfield 35, 3) := dk_180 0 35 (dk_at dksX3_read_5 15 rfl rfl)
theorem dX3_read_132 : decode cX3_read 132 = .ok (.iload_n 1, 1) := dk_27 (dk_at dksX3_read_5 18 rfl rfl)
theorem dX3_read_133 : decode cX3_read 133 = .ok (.invokevirtual 117, 3) := dk_182 0 117 (dk_at dksX3_read_5 19 rfl rfl)
theorem dX3_read_136 : decode cX3_read 136 = .ok (.checkcast 121, 3) := dk_192 0 121 (dk_at dksX3_read_6 0 rfl rfl)
theorem dX3_read_139 : decode cX3_read 139 = .ok (.invokevirtual 126, 3) := dk_182 0 126 (dk_at dksX3_read_6 3 rfl rfl)
theorem dX3_read_142 : decode cX3_read 142 = .ok (.goto 18, 3) := dk_167 0 18 (dk_at dksX3_read_6 6 rfl rfl)
theorem dX3_read_145 : decode cX3_read 145 = .ok (.aload_n 0, 1) := dk_42 (dk_at dksX3_read_6 9 rfl rfl)
theorem dX3_read_146 : decode cX3_read 146 = .ok (.aload_n 0, 1) := dk_42 (dk_at dksX3_read_6 10 rfl rfl)
theorem dX3_read_147 : decode cX3_read 147 = .ok (.getfield 35, 3) := dk_180 0 35 (dk_at dksX3_read_6 11 rfl rfl)
theorem dX3_read_150 : decode cX3_read 150 = .ok (.iload_n 1, 1) := dk_27 (dk_at dksX3_read_6 14 rfl rfl)
theorem dX3_read_151 : decode cX3_read 151 = .ok (.invokevirtual 117, 3) := dk_182 0 117 (dk_at dksX3_read_6 15 rfl rfl)
theorem dX3_read_154 : decode cX3_read 154 = .ok (.checkcast 121, 3) := dk_192 0 121 (dk_at dksX3_read_6 18 rfl rfl)
theorem dX3_read_157 : decode cX3_read 157 = .ok (.invokevirtual 130, 3) := dk_182 0 130 (dk_at dksX3_read_6 21 rfl rfl)
theorem dX3_read_160 : decode cX3_read 160 = .ok (.iinc 1 1, 3) := dk_132 1 1 (dk_at dksX3_read_7 0 rfl rfl)
theorem dX3_read_163 : decode cX3_read 163 = .ok (.goto (-65), 3) := dk_167 255 191 (dk_at dksX3_read_7 3 rfl rfl)
theorem dX3_read_166 : decode cX3_read 166 = .ok (.aload_n 0, 1) := dk_42 (dk_at dksX3_read_7 6 rfl rfl)
theorem dX3_read_167 : decode cX3_read 167 = .ok (.getfield 66, 3) := dk_180 0 66 (dk_at dksX3_read_7 7 rfl rfl)
theorem dX3_read_170 : decode cX3_read 170 = .ok (.ifCond .eq 16, 3) := dk_153 0 16 (dk_at dksX3_read_7 10 rfl rfl)
theorem dX3_read_173 : decode cX3_read 173 = .ok (.aload_n 0, 1) := dk_42 (dk_at dksX3_read_7 13 rfl rfl)
theorem dX3_read_174 : decode cX3_read 174 = .ok (.aload_n 0, 1) := dk_42 (dk_at dksX3_read_7 14 rfl rfl)
theorem dX3_read_175 : decode cX3_read 175 = .ok (.getfield 66, 3) := dk_180 0 66 (dk_at dksX3_read_7 15 rfl rfl)
theorem dX3_read_178 : decode cX3_read 178 = .ok (.aload_n 0, 1) := dk_42 (dk_at dksX3_read_7 18 rfl rfl)
theorem dX3_read_179 : decode cX3_read 179 = .ok (.getfield 69, 3) := dk_180 0 69 (dk_at dksX3_read_7 19 rfl rfl)
theorem dX3_read_182 : decode cX3_read 182 = .ok (.invokevirtual 63, 3) := dk_182 0 63 (dk_at dksX3_read_8 0 rfl rfl)
theorem dX3_read_185 : decode cX3_read 185 = .ok (.athrow, 1) := dk_191 (dk_at dksX3_read_8 3 rfl rfl)
theorem dX3_read_186 : decode cX3_read 186 = .ok (.return_, 1) := dk_177 (dk_at dksX3_read_8 4 rfl rfl)
abbrev cX3_sort : ByteArray := prog_7_method_5_code
def yX3_sort : MethodName := ⟨RX3, "sort", "()I"⟩
def dkwX3_sort_1 : List UInt8 := [180, 0, 39, 180, 0, 72, 42, 180, 0, 59, 51, 172]
abbrev dktX3_sort_1 : List UInt8 := dkwX3_sort_1 ++ []
def dkwX3_sort_0 : List UInt8 := [42, 180, 0, 39, 180, 0, 72, 42, 180, 0, 59, 51, 8, 160, 0, 9, 42, 4, 182, 0, 76, 191, 42]
abbrev dktX3_sort_0 : List UInt8 := dkwX3_sort_0 ++ dktX3_sort_1
theorem dksX3_sort_0 : cX3_sort.data.toList.drop 0 = dktX3_sort_0 := by decide +kernel
theorem dksX3_sort_1 : cX3_sort.data.toList.drop 23 = dktX3_sort_1 := dk_seg dksX3_sort_0 23 rfl rfl
theorem dX3_sort_0 : decode cX3_sort 0 = .ok (.aload_n 0, 1) := dk_42 (dk_at dksX3_sort_0 0 rfl rfl)
theorem dX3_sort_1 : decode cX3_sort 1 = .ok (.getfield 39, 3) := dk_180 0 39 (dk_at dksX3_sort_0 1 rfl rfl)
theorem dX3_sort_4 : decode cX3_sort 4 = .ok (.getfield 72, 3) := dk_180 0 72 (dk_at dksX3_sort_0 4 rfl rfl)
theorem dX3_sort_7 : decode cX3_sort 7 = .ok (.aload_n 0, 1) := dk_42 (dk_at dksX3_sort_0 7 rfl rfl)
theorem dX3_sort_8 : decode cX3_sort 8 = .ok (.getfield 59, 3) := dk_180 0 59 (dk_at dksX3_sort_0 8 rfl rfl)
theorem dX3_sort_11 : decode cX3_sort 11 = .ok (.baload, 1) := dk_51 (dk_at dksX3_sort_0 11 rfl rfl)
theorem dX3_sort_12 : decode cX3_sort 12 = .ok (.iconst 5, 1) := dk_8 (dk_at dksX3_sort_0 12 rfl rfl)
theorem dX3_sort_13 : decode cX3_sort 13 = .ok (.if_icmp .ne 9, 3) := dk_160 0 9 (dk_at dksX3_sort_0 13 rfl rfl)
theorem dX3_sort_16 : decode cX3_sort 16 = .ok (.aload_n 0, 1) := dk_42 (dk_at dksX3_sort_0 16 rfl rfl)
theorem dX3_sort_17 : decode cX3_sort 17 = .ok (.iconst 1, 1) := dk_4 (dk_at dksX3_sort_0 17 rfl rfl)
theorem dX3_sort_18 : decode cX3_sort 18 = .ok (.invokevirtual 76, 3) := dk_182 0 76 (dk_at dksX3_sort_0 18 rfl rfl)
theorem dX3_sort_21 : decode cX3_sort 21 = .ok (.athrow, 1) := dk_191 (dk_at dksX3_sort_0 21 rfl rfl)
theorem dX3_sort_22 : decode cX3_sort 22 = .ok (.aload_n 0, 1) := dk_42 (dk_at dksX3_sort_0 22 rfl rfl)
theorem dX3_sort_23 : decode cX3_sort 23 = .ok (.getfield 39, 3) := dk_180 0 39 (dk_at dksX3_sort_1 0 rfl rfl)
theorem dX3_sort_26 : decode cX3_sort 26 = .ok (.getfield 72, 3) := dk_180 0 72 (dk_at dksX3_sort_1 3 rfl rfl)
theorem dX3_sort_29 : decode cX3_sort 29 = .ok (.aload_n 0, 1) := dk_42 (dk_at dksX3_sort_1 6 rfl rfl)
theorem dX3_sort_30 : decode cX3_sort 30 = .ok (.getfield 59, 3) := dk_180 0 59 (dk_at dksX3_sort_1 7 rfl rfl)
theorem dX3_sort_33 : decode cX3_sort 33 = .ok (.baload, 1) := dk_51 (dk_at dksX3_sort_1 10 rfl rfl)
theorem dX3_sort_34 : decode cX3_sort 34 = .ok (.ireturn, 1) := dk_172 (dk_at dksX3_sort_1 11 rfl rfl)
abbrev cX3_wrong : ByteArray := prog_7_method_3_code
def yX3_wrong : MethodName := ⟨RX3, "wrong", "(I)LBackLogic$Fault;"⟩
def dkwX3_wrong_0 : List UInt8 := [42, 27, 42, 180, 0, 59, 182, 0, 63, 176]
abbrev dktX3_wrong_0 : List UInt8 := dkwX3_wrong_0 ++ []
theorem dksX3_wrong_0 : cX3_wrong.data.toList.drop 0 = dktX3_wrong_0 := by decide +kernel
theorem dX3_wrong_0 : decode cX3_wrong 0 = .ok (.aload_n 0, 1) := dk_42 (dk_at dksX3_wrong_0 0 rfl rfl)
theorem dX3_wrong_1 : decode cX3_wrong 1 = .ok (.iload_n 1, 1) := dk_27 (dk_at dksX3_wrong_0 1 rfl rfl)
theorem dX3_wrong_2 : decode cX3_wrong 2 = .ok (.aload_n 0, 1) := dk_42 (dk_at dksX3_wrong_0 2 rfl rfl)
theorem dX3_wrong_3 : decode cX3_wrong 3 = .ok (.getfield 59, 3) := dk_180 0 59 (dk_at dksX3_wrong_0 3 rfl rfl)
theorem dX3_wrong_6 : decode cX3_wrong 6 = .ok (.invokevirtual 63, 3) := dk_182 0 63 (dk_at dksX3_wrong_0 6 rfl rfl)
theorem dX3_wrong_9 : decode cX3_wrong 9 = .ok (.areturn, 1) := dk_176 (dk_at dksX3_wrong_0 9 rfl rfl)
abbrev cX3_wrongAt : ByteArray := prog_7_method_2_code
def yX3_wrongAt : MethodName := ⟨RX3, "wrongAt", "(II)LBackLogic$Fault;"⟩
def dkwX3_wrongAt_0 : List UInt8 := [42, 180, 0, 43, 27, 42, 180, 0, 39, 180, 0, 47, 28, 53, 182, 0, 53, 176]
abbrev dktX3_wrongAt_0 : List UInt8 := dkwX3_wrongAt_0 ++ []
theorem dksX3_wrongAt_0 : cX3_wrongAt.data.toList.drop 0 = dktX3_wrongAt_0 := by decide +kernel
theorem dX3_wrongAt_0 : decode cX3_wrongAt 0 = .ok (.aload_n 0, 1) := dk_42 (dk_at dksX3_wrongAt_0 0 rfl rfl)
theorem dX3_wrongAt_1 : decode cX3_wrongAt 1 = .ok (.getfield 43, 3) := dk_180 0 43 (dk_at dksX3_wrongAt_0 1 rfl rfl)
theorem dX3_wrongAt_4 : decode cX3_wrongAt 4 = .ok (.iload_n 1, 1) := dk_27 (dk_at dksX3_wrongAt_0 4 rfl rfl)
theorem dX3_wrongAt_5 : decode cX3_wrongAt 5 = .ok (.aload_n 0, 1) := dk_42 (dk_at dksX3_wrongAt_0 5 rfl rfl)
theorem dX3_wrongAt_6 : decode cX3_wrongAt 6 = .ok (.getfield 39, 3) := dk_180 0 39 (dk_at dksX3_wrongAt_0 6 rfl rfl)
theorem dX3_wrongAt_9 : decode cX3_wrongAt 9 = .ok (.getfield 47, 3) := dk_180 0 47 (dk_at dksX3_wrongAt_0 9 rfl rfl)
theorem dX3_wrongAt_12 : decode cX3_wrongAt 12 = .ok (.iload_n 2, 1) := dk_28 (dk_at dksX3_wrongAt_0 12 rfl rfl)
theorem dX3_wrongAt_13 : decode cX3_wrongAt 13 = .ok (.saload, 1) := dk_53 (dk_at dksX3_wrongAt_0 13 rfl rfl)
theorem dX3_wrongAt_14 : decode cX3_wrongAt 14 = .ok (.invokevirtual 53, 3) := dk_182 0 53 (dk_at dksX3_wrongAt_0 14 rfl rfl)
theorem dX3_wrongAt_17 : decode cX3_wrongAt 17 = .ok (.areturn, 1) := dk_176 (dk_at dksX3_wrongAt_0 17 rfl rfl)
abbrev cX3_line : ByteArray := prog_7_method_10_code
def yX3_line : MethodName := ⟨RX3, "line", "()V"⟩
def dkwX3_line_14 : List UInt8 := [42, 182, 0, 147, 183, 0, 153, 182, 0, 156, 87, 167, 0, 9, 42, 4, 182, 0, 76, 191, 177]
abbrev dktX3_line_14 : List UInt8 := dkwX3_line_14 ++ []
def dkwX3_line_13 : List UInt8 := [182, 0, 76, 191, 42, 182, 0, 83, 132, 3, 1, 167, 255, 229, 42, 180, 0, 35, 187, 0, 121, 89, 6, 28]
abbrev dktX3_line_13 : List UInt8 := dkwX3_line_13 ++ dktX3_line_14
def dkwX3_line_12 : List UInt8 := [4, 182, 0, 136, 87, 4, 62, 42, 182, 0, 80, 4, 160, 0, 25, 29, 16, 8, 160, 0, 9, 42, 5]
abbrev dktX3_line_12 : List UInt8 := dkwX3_line_12 ++ dktX3_line_13
def dkwX3_line_11 : List UInt8 := [182, 0, 147, 87, 167, 0, 87, 42, 182, 0, 83, 42, 4, 182, 0, 136, 61, 42, 4, 182, 0, 136, 87, 42]
abbrev dktX3_line_11 : List UInt8 := dkwX3_line_11 ++ dktX3_line_12
def dkwX3_line_10 : List UInt8 := [4, 16, 99, 184, 0, 163, 154, 0, 9, 42, 8, 29, 182, 0, 143, 132, 2, 1, 167, 255, 207, 42]
abbrev dktX3_line_10 : List UInt8 := dkwX3_line_10 ++ dktX3_line_11
def dkwX3_line_9 : List UInt8 := [182, 0, 136, 62, 42, 180, 0, 25, 28, 42, 180, 0, 39, 29, 182, 0, 160, 79, 42, 180, 0, 25, 28, 46]
abbrev dktX3_line_9 : List UInt8 := dkwX3_line_9 ++ dktX3_line_10
def dkwX3_line_8 : List UInt8 := [180, 0, 108, 4, 96, 181, 0, 108, 167, 0, 153, 42, 182, 0, 83, 3, 61, 28, 7, 162, 0, 50, 42, 4]
abbrev dktX3_line_8 : List UInt8 := dkwX3_line_8 ++ dktX3_line_9
def dkwX3_line_7 : List UInt8 := [180, 0, 35, 187, 0, 121, 89, 4, 28, 42, 182, 0, 147, 183, 0, 153, 182, 0, 156, 87, 42, 89]
abbrev dktX3_line_7 : List UInt8 := dkwX3_line_7 ++ dktX3_line_8
def dkwX3_line_6 : List UInt8 := [160, 0, 9, 42, 5, 182, 0, 76, 191, 42, 182, 0, 83, 42, 3, 182, 0, 136, 61, 42, 182, 0, 150, 42]
abbrev dktX3_line_6 : List UInt8 := dkwX3_line_6 ++ dktX3_line_7
def dkwX3_line_5 : List UInt8 := [180, 0, 105, 28, 79, 42, 89, 180, 0, 105, 4, 96, 181, 0, 105, 167, 0, 216, 42, 180, 0, 108, 16, 16]
abbrev dktX3_line_5 : List UInt8 := dkwX3_line_5 ++ dktX3_line_6
def dkwX3_line_4 : List UInt8 := [42, 28, 182, 0, 140, 155, 0, 9, 42, 6, 28, 182, 0, 143, 42, 182, 0, 147, 87, 42, 180, 0, 29, 42]
abbrev dktX3_line_4 : List UInt8 := dkwX3_line_4 ++ dktX3_line_5
def dkwX3_line_3 : List UInt8 := [42, 180, 0, 105, 7, 160, 0, 9, 42, 5, 182, 0, 76, 191, 42, 182, 0, 83, 42, 3, 182, 0, 136, 61]
abbrev dktX3_line_3 : List UInt8 := dkwX3_line_3 ++ dktX3_line_4
def dkwX3_line_2 : List UInt8 := [170, 0, 0, 0, 1, 47, 0, 0, 0, 0, 0, 0, 0, 3, 0, 0, 0, 30, 0, 0, 0, 96, 0, 0, 0, 159, 0, 0, 0, 225]
abbrev dktX3_line_2 : List UInt8 := dkwX3_line_2 ++ dktX3_line_3
def dkwX3_line_1 : List UInt8 := [60, 27]
abbrev dktX3_line_1 : List UInt8 := dkwX3_line_1 ++ dktX3_line_2
def dkwX3_line_0 : List UInt8 := [42, 182, 0, 80, 6, 160, 0, 18, 42, 180, 0, 39, 180, 0, 133, 42, 180, 0, 59, 53, 167, 0, 4, 2]
abbrev dktX3_line_0 : List UInt8 := dkwX3_line_0 ++ dktX3_line_1
theorem dksX3_line_0 : cX3_line.data.toList.drop 0 = dktX3_line_0 := by decide +kernel
theorem dksX3_line_1 : cX3_line.data.toList.drop 24 = dktX3_line_1 := dk_seg dksX3_line_0 24 rfl rfl
theorem dksX3_line_2 : cX3_line.data.toList.drop 26 = dktX3_line_2 := dk_seg dksX3_line_1 2 rfl rfl
theorem dksX3_line_3 : cX3_line.data.toList.drop 56 = dktX3_line_3 := dk_seg dksX3_line_2 30 rfl rfl
theorem dksX3_line_4 : cX3_line.data.toList.drop 80 = dktX3_line_4 := dk_seg dksX3_line_3 24 rfl rfl
theorem dksX3_line_5 : cX3_line.data.toList.drop 104 = dktX3_line_5 := dk_seg dksX3_line_4 24 rfl rfl
theorem dksX3_line_6 : cX3_line.data.toList.drop 128 = dktX3_line_6 := dk_seg dksX3_line_5 24 rfl rfl
theorem dksX3_line_7 : cX3_line.data.toList.drop 152 = dktX3_line_7 := dk_seg dksX3_line_6 24 rfl rfl
theorem dksX3_line_8 : cX3_line.data.toList.drop 174 = dktX3_line_8 := dk_seg dksX3_line_7 22 rfl rfl
theorem dksX3_line_9 : cX3_line.data.toList.drop 198 = dktX3_line_9 := dk_seg dksX3_line_8 24 rfl rfl
theorem dksX3_line_10 : cX3_line.data.toList.drop 222 = dktX3_line_10 := dk_seg dksX3_line_9 24 rfl rfl
theorem dksX3_line_11 : cX3_line.data.toList.drop 244 = dktX3_line_11 := dk_seg dksX3_line_10 22 rfl rfl
theorem dksX3_line_12 : cX3_line.data.toList.drop 268 = dktX3_line_12 := dk_seg dksX3_line_11 24 rfl rfl
theorem dksX3_line_13 : cX3_line.data.toList.drop 291 = dktX3_line_13 := dk_seg dksX3_line_12 23 rfl rfl
theorem dksX3_line_14 : cX3_line.data.toList.drop 315 = dktX3_line_14 := dk_seg dksX3_line_13 24 rfl rfl
theorem dX3_line_0 : decode cX3_line 0 = .ok (.aload_n 0, 1) := dk_42 (dk_at dksX3_line_0 0 rfl rfl)
theorem dX3_line_1 : decode cX3_line 1 = .ok (.invokevirtual 80, 3) := dk_182 0 80 (dk_at dksX3_line_0 1 rfl rfl)
theorem dX3_line_4 : decode cX3_line 4 = .ok (.iconst 3, 1) := dk_6 (dk_at dksX3_line_0 4 rfl rfl)
theorem dX3_line_5 : decode cX3_line 5 = .ok (.if_icmp .ne 18, 3) := dk_160 0 18 (dk_at dksX3_line_0 5 rfl rfl)
theorem dX3_line_8 : decode cX3_line 8 = .ok (.aload_n 0, 1) := dk_42 (dk_at dksX3_line_0 8 rfl rfl)
theorem dX3_line_9 : decode cX3_line 9 = .ok (.getfield 39, 3) := dk_180 0 39 (dk_at dksX3_line_0 9 rfl rfl)
theorem dX3_line_12 : decode cX3_line 12 = .ok (.getfield 133, 3) := dk_180 0 133 (dk_at dksX3_line_0 12 rfl rfl)
theorem dX3_line_15 : decode cX3_line 15 = .ok (.aload_n 0, 1) := dk_42 (dk_at dksX3_line_0 15 rfl rfl)
theorem dX3_line_16 : decode cX3_line 16 = .ok (.getfield 59, 3) := dk_180 0 59 (dk_at dksX3_line_0 16 rfl rfl)
theorem dX3_line_19 : decode cX3_line 19 = .ok (.saload, 1) := dk_53 (dk_at dksX3_line_0 19 rfl rfl)
theorem dX3_line_20 : decode cX3_line 20 = .ok (.goto 4, 3) := dk_167 0 4 (dk_at dksX3_line_0 20 rfl rfl)
theorem dX3_line_23 : decode cX3_line 23 = .ok (.iconst (-1), 1) := dk_2 (dk_at dksX3_line_0 23 rfl rfl)
theorem dX3_line_24 : decode cX3_line 24 = .ok (.istore_n 1, 1) := dk_60 (dk_at dksX3_line_1 0 rfl rfl)
theorem dX3_line_25 : decode cX3_line 25 = .ok (.iload_n 1, 1) := dk_27 (dk_at dksX3_line_1 1 rfl rfl)
theorem dX3_line_26 : decode cX3_line 26 = .ok (.tableswitch 303 0 3 #[30, 96, 159, 225], 30) := by decide +kernel
theorem dX3_line_56 : decode cX3_line 56 = .ok (.aload_n 0, 1) := dk_42 (dk_at dksX3_line_3 0 rfl rfl)
theorem dX3_line_57 : decode cX3_line 57 = .ok (.getfield 105, 3) := dk_180 0 105 (dk_at dksX3_line_3 1 rfl rfl)
theorem dX3_line_60 : decode cX3_line 60 = .ok (.iconst 4, 1) := dk_7 (dk_at dksX3_line_3 4 rfl rfl)
theorem dX3_line_61 : decode cX3_line 61 = .ok (.if_icmp .ne 9, 3) := dk_160 0 9 (dk_at dksX3_line_3 5 rfl rfl)
theorem dX3_line_64 : decode cX3_line 64 = .ok (.aload_n 0, 1) := dk_42 (dk_at dksX3_line_3 8 rfl rfl)
theorem dX3_line_65 : decode cX3_line 65 = .ok (.iconst 2, 1) := dk_5 (dk_at dksX3_line_3 9 rfl rfl)
theorem dX3_line_66 : decode cX3_line 66 = .ok (.invokevirtual 76, 3) := dk_182 0 76 (dk_at dksX3_line_3 10 rfl rfl)
theorem dX3_line_69 : decode cX3_line 69 = .ok (.athrow, 1) := dk_191 (dk_at dksX3_line_3 13 rfl rfl)
theorem dX3_line_70 : decode cX3_line 70 = .ok (.aload_n 0, 1) := dk_42 (dk_at dksX3_line_3 14 rfl rfl)
theorem dX3_line_71 : decode cX3_line 71 = .ok (.invokevirtual 83, 3) := dk_182 0 83 (dk_at dksX3_line_3 15 rfl rfl)
theorem dX3_line_74 : decode cX3_line 74 = .ok (.aload_n 0, 1) := dk_42 (dk_at dksX3_line_3 18 rfl rfl)
theorem dX3_line_75 : decode cX3_line 75 = .ok (.iconst 0, 1) := dk_3 (dk_at dksX3_line_3 19 rfl rfl)
theorem dX3_line_76 : decode cX3_line 76 = .ok (.invokevirtual 136, 3) := dk_182 0 136 (dk_at dksX3_line_3 20 rfl rfl)
theorem dX3_line_79 : decode cX3_line 79 = .ok (.istore_n 2, 1) := dk_61 (dk_at dksX3_line_3 23 rfl rfl)
theorem dX3_line_80 : decode cX3_line 80 = .ok (.aload_n 0, 1) := dk_42 (dk_at dksX3_line_4 0 rfl rfl)
theorem dX3_line_81 : decode cX3_line 81 = .ok (.iload_n 2, 1) := dk_28 (dk_at dksX3_line_4 1 rfl rfl)
theorem dX3_line_82 : decode cX3_line 82 = .ok (.invokevirtual 140, 3) := dk_182 0 140 (dk_at dksX3_line_4 2 rfl rfl)
theorem dX3_line_85 : decode cX3_line 85 = .ok (.ifCond .lt 9, 3) := dk_155 0 9 (dk_at dksX3_line_4 5 rfl rfl)
theorem dX3_line_88 : decode cX3_line 88 = .ok (.aload_n 0, 1) := dk_42 (dk_at dksX3_line_4 8 rfl rfl)
theorem dX3_line_89 : decode cX3_line 89 = .ok (.iconst 3, 1) := dk_6 (dk_at dksX3_line_4 9 rfl rfl)
theorem dX3_line_90 : decode cX3_line 90 = .ok (.iload_n 2, 1) := dk_28 (dk_at dksX3_line_4 10 rfl rfl)
theorem dX3_line_91 : decode cX3_line 91 = .ok (.invokevirtual 143, 3) := dk_182 0 143 (dk_at dksX3_line_4 11 rfl rfl)
theorem dX3_line_94 : decode cX3_line 94 = .ok (.aload_n 0, 1) := dk_42 (dk_at dksX3_line_4 14 rfl rfl)
theorem dX3_line_95 : decode cX3_line 95 = .ok (.invokevirtual 147, 3) := dk_182 0 147 (dk_at dksX3_line_4 15 rfl rfl)
theorem dX3_line_98 : decode cX3_line 98 = .ok (.pop, 1) := dk_87 (dk_at dksX3_line_4 18 rfl rfl)
theorem dX3_line_99 : decode cX3_line 99 = .ok (.aload_n 0, 1) := dk_42 (dk_at dksX3_line_4 19 rfl rfl)
theorem dX3_line_100 : decode cX3_line 100 = .ok (.getfield 29, 3) := dk_180 0 29 (dk_at dksX3_line_4 20 rfl rfl)
theorem dX3_line_103 : decode cX3_line 103 = .ok (.aload_n 0, 1) := dk_42 (dk_at dksX3_line_4 23 rfl rfl)
theorem dX3_line_104 : decode cX3_line 104 = .ok (.getfield 105, 3) := dk_180 0 105 (dk_at dksX3_line_5 0 rfl rfl)
theorem dX3_line_107 : decode cX3_line 107 = .ok (.iload_n 2, 1) := dk_28 (dk_at dksX3_line_5 3 rfl rfl)
theorem dX3_line_108 : decode cX3_line 108 = .ok (.iastore, 1) := dk_79 (dk_at dksX3_line_5 4 rfl rfl)
theorem dX3_line_109 : decode cX3_line 109 = .ok (.aload_n 0, 1) := dk_42 (dk_at dksX3_line_5 5 rfl rfl)
theorem dX3_line_110 : decode cX3_line 110 = .ok (.dup, 1) := dk_89 (dk_at dksX3_line_5 6 rfl rfl)
theorem dX3_line_111 : decode cX3_line 111 = .ok (.getfield 105, 3) := dk_180 0 105 (dk_at dksX3_line_5 7 rfl rfl)
theorem dX3_line_114 : decode cX3_line 114 = .ok (.iconst 1, 1) := dk_4 (dk_at dksX3_line_5 10 rfl rfl)
theorem dX3_line_115 : decode cX3_line 115 = .ok (.iadd, 1) := dk_96 (dk_at dksX3_line_5 11 rfl rfl)
theorem dX3_line_116 : decode cX3_line 116 = .ok (.putfield 105, 3) := dk_181 0 105 (dk_at dksX3_line_5 12 rfl rfl)
theorem dX3_line_119 : decode cX3_line 119 = .ok (.goto 216, 3) := dk_167 0 216 (dk_at dksX3_line_5 15 rfl rfl)
theorem dX3_line_122 : decode cX3_line 122 = .ok (.aload_n 0, 1) := dk_42 (dk_at dksX3_line_5 18 rfl rfl)
theorem dX3_line_123 : decode cX3_line 123 = .ok (.getfield 108, 3) := dk_180 0 108 (dk_at dksX3_line_5 19 rfl rfl)
theorem dX3_line_126 : decode cX3_line 126 = .ok (.bipush 16, 2) := dk_16 16 (dk_at dksX3_line_5 22 rfl rfl)
theorem dX3_line_128 : decode cX3_line 128 = .ok (.if_icmp .ne 9, 3) := dk_160 0 9 (dk_at dksX3_line_6 0 rfl rfl)
theorem dX3_line_131 : decode cX3_line 131 = .ok (.aload_n 0, 1) := dk_42 (dk_at dksX3_line_6 3 rfl rfl)
theorem dX3_line_132 : decode cX3_line 132 = .ok (.iconst 2, 1) := dk_5 (dk_at dksX3_line_6 4 rfl rfl)
theorem dX3_line_133 : decode cX3_line 133 = .ok (.invokevirtual 76, 3) := dk_182 0 76 (dk_at dksX3_line_6 5 rfl rfl)
theorem dX3_line_136 : decode cX3_line 136 = .ok (.athrow, 1) := dk_191 (dk_at dksX3_line_6 8 rfl rfl)
theorem dX3_line_137 : decode cX3_line 137 = .ok (.aload_n 0, 1) := dk_42 (dk_at dksX3_line_6 9 rfl rfl)
theorem dX3_line_138 : decode cX3_line 138 = .ok (.invokevirtual 83, 3) := dk_182 0 83 (dk_at dksX3_line_6 10 rfl rfl)
theorem dX3_line_141 : decode cX3_line 141 = .ok (.aload_n 0, 1) := dk_42 (dk_at dksX3_line_6 13 rfl rfl)
theorem dX3_line_142 : decode cX3_line 142 = .ok (.iconst 0, 1) := dk_3 (dk_at dksX3_line_6 14 rfl rfl)
theorem dX3_line_143 : decode cX3_line 143 = .ok (.invokevirtual 136, 3) := dk_182 0 136 (dk_at dksX3_line_6 15 rfl rfl)
theorem dX3_line_146 : decode cX3_line 146 = .ok (.istore_n 2, 1) := dk_61 (dk_at dksX3_line_6 18 rfl rfl)
theorem dX3_line_147 : decode cX3_line 147 = .ok (.aload_n 0, 1) := dk_42 (dk_at dksX3_line_6 19 rfl rfl)
theorem dX3_line_148 : decode cX3_line 148 = .ok (.invokevirtual 150, 3) := dk_182 0 150 (dk_at dksX3_line_6 20 rfl rfl)
theorem dX3_line_151 : decode cX3_line 151 = .ok (.aload_n 0, 1) := dk_42 (dk_at dksX3_line_6 23 rfl rfl)
theorem dX3_line_152 : decode cX3_line 152 = .ok (.getfield 35, 3) := dk_180 0 35 (dk_at dksX3_line_7 0 rfl rfl)
theorem dX3_line_155 : decode cX3_line 155 = .ok (.new 121, 3) := dk_187 0 121 (dk_at dksX3_line_7 3 rfl rfl)
theorem dX3_line_158 : decode cX3_line 158 = .ok (.dup, 1) := dk_89 (dk_at dksX3_line_7 6 rfl rfl)
theorem dX3_line_159 : decode cX3_line 159 = .ok (.iconst 1, 1) := dk_4 (dk_at dksX3_line_7 7 rfl rfl)
theorem dX3_line_160 : decode cX3_line 160 = .ok (.iload_n 2, 1) := dk_28 (dk_at dksX3_line_7 8 rfl rfl)
theorem dX3_line_161 : decode cX3_line 161 = .ok (.aload_n 0, 1) := dk_42 (dk_at dksX3_line_7 9 rfl rfl)
theorem dX3_line_162 : decode cX3_line 162 = .ok (.invokevirtual 147, 3) := dk_182 0 147 (dk_at dksX3_line_7 10 rfl rfl)
theorem dX3_line_165 : decode cX3_line 165 = .ok (.invokespecial 153, 3) := dk_183 0 153 (dk_at dksX3_line_7 13 rfl rfl)
theorem dX3_line_168 : decode cX3_line 168 = .ok (.invokevirtual 156, 3) := dk_182 0 156 (dk_at dksX3_line_7 16 rfl rfl)
theorem dX3_line_171 : decode cX3_line 171 = .ok (.pop, 1) := dk_87 (dk_at dksX3_line_7 19 rfl rfl)
theorem dX3_line_172 : decode cX3_line 172 = .ok (.aload_n 0, 1) := dk_42 (dk_at dksX3_line_7 20 rfl rfl)
theorem dX3_line_173 : decode cX3_line 173 = .ok (.dup, 1) := dk_89 (dk_at dksX3_line_7 21 rfl rfl)
theorem dX3_line_174 : decode cX3_line 174 = .ok (.getfield 108, 3) := dk_180 0 108 (dk_at dksX3_line_8 0 rfl rfl)
theorem dX3_line_177 : decode cX3_line 177 = .ok (.iconst 1, 1) := dk_4 (dk_at dksX3_line_8 3 rfl rfl)
theorem dX3_line_178 : decode cX3_line 178 = .ok (.iadd, 1) := dk_96 (dk_at dksX3_line_8 4 rfl rfl)
theorem dX3_line_179 : decode cX3_line 179 = .ok (.putfield 108, 3) := dk_181 0 108 (dk_at dksX3_line_8 5 rfl rfl)
theorem dX3_line_182 : decode cX3_line 182 = .ok (.goto 153, 3) := dk_167 0 153 (dk_at dksX3_line_8 8 rfl rfl)
theorem dX3_line_185 : decode cX3_line 185 = .ok (.aload_n 0, 1) := dk_42 (dk_at dksX3_line_8 11 rfl rfl)
theorem dX3_line_186 : decode cX3_line 186 = .ok (.invokevirtual 83, 3) := dk_182 0 83 (dk_at dksX3_line_8 12 rfl rfl)
theorem dX3_line_189 : decode cX3_line 189 = .ok (.iconst 0, 1) := dk_3 (dk_at dksX3_line_8 15 rfl rfl)
theorem dX3_line_190 : decode cX3_line 190 = .ok (.istore_n 2, 1) := dk_61 (dk_at dksX3_line_8 16 rfl rfl)
theorem dX3_line_191 : decode cX3_line 191 = .ok (.iload_n 2, 1) := dk_28 (dk_at dksX3_line_8 17 rfl rfl)
theorem dX3_line_192 : decode cX3_line 192 = .ok (.iconst 4, 1) := dk_7 (dk_at dksX3_line_8 18 rfl rfl)
theorem dX3_line_193 : decode cX3_line 193 = .ok (.if_icmp .ge 50, 3) := dk_162 0 50 (dk_at dksX3_line_8 19 rfl rfl)
theorem dX3_line_196 : decode cX3_line 196 = .ok (.aload_n 0, 1) := dk_42 (dk_at dksX3_line_8 22 rfl rfl)
theorem dX3_line_197 : decode cX3_line 197 = .ok (.iconst 1, 1) := dk_4 (dk_at dksX3_line_8 23 rfl rfl)
theorem dX3_line_198 : decode cX3_line 198 = .ok (.invokevirtual 136, 3) := dk_182 0 136 (dk_at dksX3_line_9 0 rfl rfl)
theorem dX3_line_201 : decode cX3_line 201 = .ok (.istore_n 3, 1) := dk_62 (dk_at dksX3_line_9 3 rfl rfl)
theorem dX3_line_202 : decode cX3_line 202 = .ok (.aload_n 0, 1) := dk_42 (dk_at dksX3_line_9 4 rfl rfl)
theorem dX3_line_203 : decode cX3_line 203 = .ok (.getfield 25, 3) := dk_180 0 25 (dk_at dksX3_line_9 5 rfl rfl)
theorem dX3_line_206 : decode cX3_line 206 = .ok (.iload_n 2, 1) := dk_28 (dk_at dksX3_line_9 8 rfl rfl)
theorem dX3_line_207 : decode cX3_line 207 = .ok (.aload_n 0, 1) := dk_42 (dk_at dksX3_line_9 9 rfl rfl)
theorem dX3_line_208 : decode cX3_line 208 = .ok (.getfield 39, 3) := dk_180 0 39 (dk_at dksX3_line_9 10 rfl rfl)
theorem dX3_line_211 : decode cX3_line 211 = .ok (.iload_n 3, 1) := dk_29 (dk_at dksX3_line_9 13 rfl rfl)
theorem dX3_line_212 : decode cX3_line 212 = .ok (.invokevirtual 160, 3) := dk_182 0 160 (dk_at dksX3_line_9 14 rfl rfl)
theorem dX3_line_215 : decode cX3_line 215 = .ok (.iastore, 1) := dk_79 (dk_at dksX3_line_9 17 rfl rfl)
theorem dX3_line_216 : decode cX3_line 216 = .ok (.aload_n 0, 1) := dk_42 (dk_at dksX3_line_9 18 rfl rfl)
theorem dX3_line_217 : decode cX3_line 217 = .ok (.getfield 25, 3) := dk_180 0 25 (dk_at dksX3_line_9 19 rfl rfl)
theorem dX3_line_220 : decode cX3_line 220 = .ok (.iload_n 2, 1) := dk_28 (dk_at dksX3_line_9 22 rfl rfl)
theorem dX3_line_221 : decode cX3_line 221 = .ok (.iaload, 1) := dk_46 (dk_at dksX3_line_9 23 rfl rfl)
theorem dX3_line_222 : decode cX3_line 222 = .ok (.iconst 1, 1) := dk_4 (dk_at dksX3_line_10 0 rfl rfl)
theorem dX3_line_223 : decode cX3_line 223 = .ok (.bipush 99, 2) := dk_16 99 (dk_at dksX3_line_10 1 rfl rfl)
theorem dX3_line_225 : decode cX3_line 225 = .ok (.invokestatic 163, 3) := dk_184 0 163 (dk_at dksX3_line_10 3 rfl rfl)
theorem dX3_line_228 : decode cX3_line 228 = .ok (.ifCond .ne 9, 3) := dk_154 0 9 (dk_at dksX3_line_10 6 rfl rfl)
theorem dX3_line_231 : decode cX3_line 231 = .ok (.aload_n 0, 1) := dk_42 (dk_at dksX3_line_10 9 rfl rfl)
theorem dX3_line_232 : decode cX3_line 232 = .ok (.iconst 5, 1) := dk_8 (dk_at dksX3_line_10 10 rfl rfl)
theorem dX3_line_233 : decode cX3_line 233 = .ok (.iload_n 3, 1) := dk_29 (dk_at dksX3_line_10 11 rfl rfl)
theorem dX3_line_234 : decode cX3_line 234 = .ok (.invokevirtual 143, 3) := dk_182 0 143 (dk_at dksX3_line_10 12 rfl rfl)
theorem dX3_line_237 : decode cX3_line 237 = .ok (.iinc 2 1, 3) := dk_132 2 1 (dk_at dksX3_line_10 15 rfl rfl)
theorem dX3_line_240 : decode cX3_line 240 = .ok (.goto (-49), 3) := dk_167 255 207 (dk_at dksX3_line_10 18 rfl rfl)
theorem dX3_line_243 : decode cX3_line 243 = .ok (.aload_n 0, 1) := dk_42 (dk_at dksX3_line_10 21 rfl rfl)
theorem dX3_line_244 : decode cX3_line 244 = .ok (.invokevirtual 147, 3) := dk_182 0 147 (dk_at dksX3_line_11 0 rfl rfl)
theorem dX3_line_247 : decode cX3_line 247 = .ok (.pop, 1) := dk_87 (dk_at dksX3_line_11 3 rfl rfl)
theorem dX3_line_248 : decode cX3_line 248 = .ok (.goto 87, 3) := dk_167 0 87 (dk_at dksX3_line_11 4 rfl rfl)
theorem dX3_line_251 : decode cX3_line 251 = .ok (.aload_n 0, 1) := dk_42 (dk_at dksX3_line_11 7 rfl rfl)
theorem dX3_line_252 : decode cX3_line 252 = .ok (.invokevirtual 83, 3) := dk_182 0 83 (dk_at dksX3_line_11 8 rfl rfl)
theorem dX3_line_255 : decode cX3_line 255 = .ok (.aload_n 0, 1) := dk_42 (dk_at dksX3_line_11 11 rfl rfl)
theorem dX3_line_256 : decode cX3_line 256 = .ok (.iconst 1, 1) := dk_4 (dk_at dksX3_line_11 12 rfl rfl)
theorem dX3_line_257 : decode cX3_line 257 = .ok (.invokevirtual 136, 3) := dk_182 0 136 (dk_at dksX3_line_11 13 rfl rfl)
theorem dX3_line_260 : decode cX3_line 260 = .ok (.istore_n 2, 1) := dk_61 (dk_at dksX3_line_11 16 rfl rfl)
theorem dX3_line_261 : decode cX3_line 261 = .ok (.aload_n 0, 1) := dk_42 (dk_at dksX3_line_11 17 rfl rfl)
theorem dX3_line_262 : decode cX3_line 262 = .ok (.iconst 1, 1) := dk_4 (dk_at dksX3_line_11 18 rfl rfl)
theorem dX3_line_263 : decode cX3_line 263 = .ok (.invokevirtual 136, 3) := dk_182 0 136 (dk_at dksX3_line_11 19 rfl rfl)
theorem dX3_line_266 : decode cX3_line 266 = .ok (.pop, 1) := dk_87 (dk_at dksX3_line_11 22 rfl rfl)
theorem dX3_line_267 : decode cX3_line 267 = .ok (.aload_n 0, 1) := dk_42 (dk_at dksX3_line_11 23 rfl rfl)
theorem dX3_line_268 : decode cX3_line 268 = .ok (.iconst 1, 1) := dk_4 (dk_at dksX3_line_12 0 rfl rfl)
theorem dX3_line_269 : decode cX3_line 269 = .ok (.invokevirtual 136, 3) := dk_182 0 136 (dk_at dksX3_line_12 1 rfl rfl)
theorem dX3_line_272 : decode cX3_line 272 = .ok (.pop, 1) := dk_87 (dk_at dksX3_line_12 4 rfl rfl)
theorem dX3_line_273 : decode cX3_line 273 = .ok (.iconst 1, 1) := dk_4 (dk_at dksX3_line_12 5 rfl rfl)
theorem dX3_line_274 : decode cX3_line 274 = .ok (.istore_n 3, 1) := dk_62 (dk_at dksX3_line_12 6 rfl rfl)
theorem dX3_line_275 : decode cX3_line 275 = .ok (.aload_n 0, 1) := dk_42 (dk_at dksX3_line_12 7 rfl rfl)
theorem dX3_line_276 : decode cX3_line 276 = .ok (.invokevirtual 80, 3) := dk_182 0 80 (dk_at dksX3_line_12 8 rfl rfl)
theorem dX3_line_279 : decode cX3_line 279 = .ok (.iconst 1, 1) := dk_4 (dk_at dksX3_line_12 11 rfl rfl)
theorem dX3_line_280 : decode cX3_line 280 = .ok (.if_icmp .ne 25, 3) := dk_160 0 25 (dk_at dksX3_line_12 12 rfl rfl)
theorem dX3_line_283 : decode cX3_line 283 = .ok (.iload_n 3, 1) := dk_29 (dk_at dksX3_line_12 15 rfl rfl)
theorem dX3_line_284 : decode cX3_line 284 = .ok (.bipush 8, 2) := dk_16 8 (dk_at dksX3_line_12 16 rfl rfl)
theorem dX3_line_286 : decode cX3_line 286 = .ok (.if_icmp .ne 9, 3) := dk_160 0 9 (dk_at dksX3_line_12 18 rfl rfl)
theorem dX3_line_289 : decode cX3_line 289 = .ok (.aload_n 0, 1) := dk_42 (dk_at dksX3_line_12 21 rfl rfl)
theorem dX3_line_290 : decode cX3_line 290 = .ok (.iconst 2, 1) := dk_5 (dk_at dksX3_line_12 22 rfl rfl)
theorem dX3_line_291 : decode cX3_line 291 = .ok (.invokevirtual 76, 3) := dk_182 0 76 (dk_at dksX3_line_13 0 rfl rfl)
theorem dX3_line_294 : decode cX3_line 294 = .ok (.athrow, 1) := dk_191 (dk_at dksX3_line_13 3 rfl rfl)
theorem dX3_line_295 : decode cX3_line 295 = .ok (.aload_n 0, 1) := dk_42 (dk_at dksX3_line_13 4 rfl rfl)
theorem dX3_line_296 : decode cX3_line 296 = .ok (.invokevirtual 83, 3) := dk_182 0 83 (dk_at dksX3_line_13 5 rfl rfl)
theorem dX3_line_299 : decode cX3_line 299 = .ok (.iinc 3 1, 3) := dk_132 3 1 (dk_at dksX3_line_13 8 rfl rfl)
theorem dX3_line_302 : decode cX3_line 302 = .ok (.goto (-27), 3) := dk_167 255 229 (dk_at dksX3_line_13 11 rfl rfl)
theorem dX3_line_305 : decode cX3_line 305 = .ok (.aload_n 0, 1) := dk_42 (dk_at dksX3_line_13 14 rfl rfl)
theorem dX3_line_306 : decode cX3_line 306 = .ok (.getfield 35, 3) := dk_180 0 35 (dk_at dksX3_line_13 15 rfl rfl)
theorem dX3_line_309 : decode cX3_line 309 = .ok (.new 121, 3) := dk_187 0 121 (dk_at dksX3_line_13 18 rfl rfl)
theorem dX3_line_312 : decode cX3_line 312 = .ok (.dup, 1) := dk_89 (dk_at dksX3_line_13 21 rfl rfl)
theorem dX3_line_313 : decode cX3_line 313 = .ok (.iconst 3, 1) := dk_6 (dk_at dksX3_line_13 22 rfl rfl)
theorem dX3_line_314 : decode cX3_line 314 = .ok (.iload_n 2, 1) := dk_28 (dk_at dksX3_line_13 23 rfl rfl)
theorem dX3_line_315 : decode cX3_line 315 = .ok (.aload_n 0, 1) := dk_42 (dk_at dksX3_line_14 0 rfl rfl)
theorem dX3_line_316 : decode cX3_line 316 = .ok (.invokevirtual 147, 3) := dk_182 0 147 (dk_at dksX3_line_14 1 rfl rfl)
theorem dX3_line_319 : decode cX3_line 319 = .ok (.invokespecial 153, 3) := dk_183 0 153 (dk_at dksX3_line_14 4 rfl rfl)
theorem dX3_line_322 : decode cX3_line 322 = .ok (.invokevirtual 156, 3) := dk_182 0 156 (dk_at dksX3_line_14 7 rfl rfl)
theorem dX3_line_325 : decode cX3_line 325 = .ok (.pop, 1) := dk_87 (dk_at dksX3_line_14 10 rfl rfl)
theorem dX3_line_326 : decode cX3_line 326 = .ok (.goto 9, 3) := dk_167 0 9 (dk_at dksX3_line_14 11 rfl rfl)
theorem dX3_line_329 : decode cX3_line 329 = .ok (.aload_n 0, 1) := dk_42 (dk_at dksX3_line_14 14 rfl rfl)
theorem dX3_line_330 : decode cX3_line 330 = .ok (.iconst 1, 1) := dk_4 (dk_at dksX3_line_14 15 rfl rfl)
theorem dX3_line_331 : decode cX3_line 331 = .ok (.invokevirtual 76, 3) := dk_182 0 76 (dk_at dksX3_line_14 16 rfl rfl)
theorem dX3_line_334 : decode cX3_line 334 = .ok (.athrow, 1) := dk_191 (dk_at dksX3_line_14 19 rfl rfl)
theorem dX3_line_335 : decode cX3_line 335 = .ok (.return_, 1) := dk_177 (dk_at dksX3_line_14 20 rfl rfl)
abbrev cX3_pass : ByteArray := prog_7_method_6_code
def yX3_pass : MethodName := ⟨RX3, "pass", "()V"⟩
def dkwX3_pass_1 : List UInt8 := [181, 0, 59, 177]
abbrev dktX3_pass_1 : List UInt8 := dkwX3_pass_1 ++ []
def dkwX3_pass_0 : List UInt8 := [42, 180, 0, 59, 17, 1, 144, 161, 0, 9, 42, 5, 182, 0, 76, 191, 42, 89, 180, 0, 59, 4, 96]
abbrev dktX3_pass_0 : List UInt8 := dkwX3_pass_0 ++ dktX3_pass_1
theorem dksX3_pass_0 : cX3_pass.data.toList.drop 0 = dktX3_pass_0 := by decide +kernel
theorem dksX3_pass_1 : cX3_pass.data.toList.drop 23 = dktX3_pass_1 := dk_seg dksX3_pass_0 23 rfl rfl
theorem dX3_pass_0 : decode cX3_pass 0 = .ok (.aload_n 0, 1) := dk_42 (dk_at dksX3_pass_0 0 rfl rfl)
theorem dX3_pass_1 : decode cX3_pass 1 = .ok (.getfield 59, 3) := dk_180 0 59 (dk_at dksX3_pass_0 1 rfl rfl)
theorem dX3_pass_4 : decode cX3_pass 4 = .ok (.sipush 400, 3) := dk_17 1 144 (dk_at dksX3_pass_0 4 rfl rfl)
theorem dX3_pass_7 : decode cX3_pass 7 = .ok (.if_icmp .lt 9, 3) := dk_161 0 9 (dk_at dksX3_pass_0 7 rfl rfl)
theorem dX3_pass_10 : decode cX3_pass 10 = .ok (.aload_n 0, 1) := dk_42 (dk_at dksX3_pass_0 10 rfl rfl)
theorem dX3_pass_11 : decode cX3_pass 11 = .ok (.iconst 2, 1) := dk_5 (dk_at dksX3_pass_0 11 rfl rfl)
theorem dX3_pass_12 : decode cX3_pass 12 = .ok (.invokevirtual 76, 3) := dk_182 0 76 (dk_at dksX3_pass_0 12 rfl rfl)
theorem dX3_pass_15 : decode cX3_pass 15 = .ok (.athrow, 1) := dk_191 (dk_at dksX3_pass_0 15 rfl rfl)
theorem dX3_pass_16 : decode cX3_pass 16 = .ok (.aload_n 0, 1) := dk_42 (dk_at dksX3_pass_0 16 rfl rfl)
theorem dX3_pass_17 : decode cX3_pass 17 = .ok (.dup, 1) := dk_89 (dk_at dksX3_pass_0 17 rfl rfl)
theorem dX3_pass_18 : decode cX3_pass 18 = .ok (.getfield 59, 3) := dk_180 0 59 (dk_at dksX3_pass_0 18 rfl rfl)
theorem dX3_pass_21 : decode cX3_pass 21 = .ok (.iconst 1, 1) := dk_4 (dk_at dksX3_pass_0 21 rfl rfl)
theorem dX3_pass_22 : decode cX3_pass 22 = .ok (.iadd, 1) := dk_96 (dk_at dksX3_pass_0 22 rfl rfl)
theorem dX3_pass_23 : decode cX3_pass 23 = .ok (.putfield 59, 3) := dk_181 0 59 (dk_at dksX3_pass_1 0 rfl rfl)
theorem dX3_pass_26 : decode cX3_pass 26 = .ok (.return_, 1) := dk_177 (dk_at dksX3_pass_1 3 rfl rfl)
abbrev cX3_take : ByteArray := prog_7_method_7_code
def yX3_take : MethodName := ⟨RX3, "take", "(I)I"⟩
def dkwX3_take_1 : List UInt8 := [172]
abbrev dktX3_take_1 : List UInt8 := dkwX3_take_1 ++ []
def dkwX3_take_0 : List UInt8 := [42, 182, 0, 80, 27, 159, 0, 9, 42, 4, 182, 0, 76, 191, 42, 182, 0, 83, 42, 180, 0, 59, 4, 100]
abbrev dktX3_take_0 : List UInt8 := dkwX3_take_0 ++ dktX3_take_1
theorem dksX3_take_0 : cX3_take.data.toList.drop 0 = dktX3_take_0 := by decide +kernel
theorem dksX3_take_1 : cX3_take.data.toList.drop 24 = dktX3_take_1 := dk_seg dksX3_take_0 24 rfl rfl
theorem dX3_take_0 : decode cX3_take 0 = .ok (.aload_n 0, 1) := dk_42 (dk_at dksX3_take_0 0 rfl rfl)
theorem dX3_take_1 : decode cX3_take 1 = .ok (.invokevirtual 80, 3) := dk_182 0 80 (dk_at dksX3_take_0 1 rfl rfl)
theorem dX3_take_4 : decode cX3_take 4 = .ok (.iload_n 1, 1) := dk_27 (dk_at dksX3_take_0 4 rfl rfl)
theorem dX3_take_5 : decode cX3_take 5 = .ok (.if_icmp .eq 9, 3) := dk_159 0 9 (dk_at dksX3_take_0 5 rfl rfl)
theorem dX3_take_8 : decode cX3_take 8 = .ok (.aload_n 0, 1) := dk_42 (dk_at dksX3_take_0 8 rfl rfl)
theorem dX3_take_9 : decode cX3_take 9 = .ok (.iconst 1, 1) := dk_4 (dk_at dksX3_take_0 9 rfl rfl)
theorem dX3_take_10 : decode cX3_take 10 = .ok (.invokevirtual 76, 3) := dk_182 0 76 (dk_at dksX3_take_0 10 rfl rfl)
theorem dX3_take_13 : decode cX3_take 13 = .ok (.athrow, 1) := dk_191 (dk_at dksX3_take_0 13 rfl rfl)
theorem dX3_take_14 : decode cX3_take 14 = .ok (.aload_n 0, 1) := dk_42 (dk_at dksX3_take_0 14 rfl rfl)
theorem dX3_take_15 : decode cX3_take 15 = .ok (.invokevirtual 83, 3) := dk_182 0 83 (dk_at dksX3_take_0 15 rfl rfl)
theorem dX3_take_18 : decode cX3_take 18 = .ok (.aload_n 0, 1) := dk_42 (dk_at dksX3_take_0 18 rfl rfl)
theorem dX3_take_19 : decode cX3_take 19 = .ok (.getfield 59, 3) := dk_180 0 59 (dk_at dksX3_take_0 19 rfl rfl)
theorem dX3_take_22 : decode cX3_take 22 = .ok (.iconst 1, 1) := dk_4 (dk_at dksX3_take_0 22 rfl rfl)
theorem dX3_take_23 : decode cX3_take 23 = .ok (.isub, 1) := dk_100 (dk_at dksX3_take_0 23 rfl rfl)
theorem dX3_take_24 : decode cX3_take 24 = .ok (.ireturn, 1) := dk_172 (dk_at dksX3_take_1 0 rfl rfl)
abbrev cX3_find : ByteArray := prog_7_method_12_code
def yX3_find : MethodName := ⟨RX3, "find", "(I)I"⟩
def dkwX3_find_1 : List UInt8 := [153, 0, 5, 28, 172, 132, 2, 1, 167, 255, 226, 2, 172]
abbrev dktX3_find_1 : List UInt8 := dkwX3_find_1 ++ []
def dkwX3_find_0 : List UInt8 := [3, 61, 28, 42, 180, 0, 105, 162, 0, 28, 42, 180, 0, 39, 42, 180, 0, 29, 28, 46, 27, 182, 0, 167]
abbrev dktX3_find_0 : List UInt8 := dkwX3_find_0 ++ dktX3_find_1
theorem dksX3_find_0 : cX3_find.data.toList.drop 0 = dktX3_find_0 := by decide +kernel
theorem dksX3_find_1 : cX3_find.data.toList.drop 24 = dktX3_find_1 := dk_seg dksX3_find_0 24 rfl rfl
theorem dX3_find_0 : decode cX3_find 0 = .ok (.iconst 0, 1) := dk_3 (dk_at dksX3_find_0 0 rfl rfl)
theorem dX3_find_1 : decode cX3_find 1 = .ok (.istore_n 2, 1) := dk_61 (dk_at dksX3_find_0 1 rfl rfl)
theorem dX3_find_2 : decode cX3_find 2 = .ok (.iload_n 2, 1) := dk_28 (dk_at dksX3_find_0 2 rfl rfl)
theorem dX3_find_3 : decode cX3_find 3 = .ok (.aload_n 0, 1) := dk_42 (dk_at dksX3_find_0 3 rfl rfl)
theorem dX3_find_4 : decode cX3_find 4 = .ok (.getfield 105, 3) := dk_180 0 105 (dk_at dksX3_find_0 4 rfl rfl)
theorem dX3_find_7 : decode cX3_find 7 = .ok (.if_icmp .ge 28, 3) := dk_162 0 28 (dk_at dksX3_find_0 7 rfl rfl)
theorem dX3_find_10 : decode cX3_find 10 = .ok (.aload_n 0, 1) := dk_42 (dk_at dksX3_find_0 10 rfl rfl)
theorem dX3_find_11 : decode cX3_find 11 = .ok (.getfield 39, 3) := dk_180 0 39 (dk_at dksX3_find_0 11 rfl rfl)
theorem dX3_find_14 : decode cX3_find 14 = .ok (.aload_n 0, 1) := dk_42 (dk_at dksX3_find_0 14 rfl rfl)
theorem dX3_find_15 : decode cX3_find 15 = .ok (.getfield 29, 3) := dk_180 0 29 (dk_at dksX3_find_0 15 rfl rfl)
theorem dX3_find_18 : decode cX3_find 18 = .ok (.iload_n 2, 1) := dk_28 (dk_at dksX3_find_0 18 rfl rfl)
theorem dX3_find_19 : decode cX3_find 19 = .ok (.iaload, 1) := dk_46 (dk_at dksX3_find_0 19 rfl rfl)
theorem dX3_find_20 : decode cX3_find 20 = .ok (.iload_n 1, 1) := dk_27 (dk_at dksX3_find_0 20 rfl rfl)
theorem dX3_find_21 : decode cX3_find 21 = .ok (.invokevirtual 167, 3) := dk_182 0 167 (dk_at dksX3_find_0 21 rfl rfl)
theorem dX3_find_24 : decode cX3_find 24 = .ok (.ifCond .eq 5, 3) := dk_153 0 5 (dk_at dksX3_find_1 0 rfl rfl)
theorem dX3_find_27 : decode cX3_find 27 = .ok (.iload_n 2, 1) := dk_28 (dk_at dksX3_find_1 3 rfl rfl)
theorem dX3_find_28 : decode cX3_find 28 = .ok (.ireturn, 1) := dk_172 (dk_at dksX3_find_1 4 rfl rfl)
theorem dX3_find_29 : decode cX3_find 29 = .ok (.iinc 2 1, 3) := dk_132 2 1 (dk_at dksX3_find_1 5 rfl rfl)
theorem dX3_find_32 : decode cX3_find 32 = .ok (.goto (-30), 3) := dk_167 255 226 (dk_at dksX3_find_1 8 rfl rfl)
theorem dX3_find_35 : decode cX3_find 35 = .ok (.iconst (-1), 1) := dk_2 (dk_at dksX3_find_1 11 rfl rfl)
theorem dX3_find_36 : decode cX3_find 36 = .ok (.ireturn, 1) := dk_172 (dk_at dksX3_find_1 12 rfl rfl)
abbrev cX3_tell : ByteArray := prog_7_method_4_code
def yX3_tell : MethodName := ⟨RX3, "tell", "(II)V"⟩
def dkwX3_tell_1 : List UInt8 := [42, 180, 0, 66, 161, 0, 4, 177, 42, 27, 181, 0, 66, 42, 28, 181, 0, 69, 177]
abbrev dktX3_tell_1 : List UInt8 := dkwX3_tell_1 ++ []
def dkwX3_tell_0 : List UInt8 := [42, 180, 0, 66, 153, 0, 28, 28, 42, 180, 0, 69, 163, 0, 19, 28, 42, 180, 0, 69, 160, 0, 12, 27]
abbrev dktX3_tell_0 : List UInt8 := dkwX3_tell_0 ++ dktX3_tell_1
theorem dksX3_tell_0 : cX3_tell.data.toList.drop 0 = dktX3_tell_0 := by decide +kernel
theorem dksX3_tell_1 : cX3_tell.data.toList.drop 24 = dktX3_tell_1 := dk_seg dksX3_tell_0 24 rfl rfl
theorem dX3_tell_0 : decode cX3_tell 0 = .ok (.aload_n 0, 1) := dk_42 (dk_at dksX3_tell_0 0 rfl rfl)
theorem dX3_tell_1 : decode cX3_tell 1 = .ok (.getfield 66, 3) := dk_180 0 66 (dk_at dksX3_tell_0 1 rfl rfl)
theorem dX3_tell_4 : decode cX3_tell 4 = .ok (.ifCond .eq 28, 3) := dk_153 0 28 (dk_at dksX3_tell_0 4 rfl rfl)
theorem dX3_tell_7 : decode cX3_tell 7 = .ok (.iload_n 2, 1) := dk_28 (dk_at dksX3_tell_0 7 rfl rfl)
theorem dX3_tell_8 : decode cX3_tell 8 = .ok (.aload_n 0, 1) := dk_42 (dk_at dksX3_tell_0 8 rfl rfl)
theorem dX3_tell_9 : decode cX3_tell 9 = .ok (.getfield 69, 3) := dk_180 0 69 (dk_at dksX3_tell_0 9 rfl rfl)
theorem dX3_tell_12 : decode cX3_tell 12 = .ok (.if_icmp .gt 19, 3) := dk_163 0 19 (dk_at dksX3_tell_0 12 rfl rfl)
theorem dX3_tell_15 : decode cX3_tell 15 = .ok (.iload_n 2, 1) := dk_28 (dk_at dksX3_tell_0 15 rfl rfl)
theorem dX3_tell_16 : decode cX3_tell 16 = .ok (.aload_n 0, 1) := dk_42 (dk_at dksX3_tell_0 16 rfl rfl)
theorem dX3_tell_17 : decode cX3_tell 17 = .ok (.getfield 69, 3) := dk_180 0 69 (dk_at dksX3_tell_0 17 rfl rfl)
theorem dX3_tell_20 : decode cX3_tell 20 = .ok (.if_icmp .ne 12, 3) := dk_160 0 12 (dk_at dksX3_tell_0 20 rfl rfl)
theorem dX3_tell_23 : decode cX3_tell 23 = .ok (.iload_n 1, 1) := dk_27 (dk_at dksX3_tell_0 23 rfl rfl)
theorem dX3_tell_24 : decode cX3_tell 24 = .ok (.aload_n 0, 1) := dk_42 (dk_at dksX3_tell_1 0 rfl rfl)
theorem dX3_tell_25 : decode cX3_tell 25 = .ok (.getfield 66, 3) := dk_180 0 66 (dk_at dksX3_tell_1 1 rfl rfl)
theorem dX3_tell_28 : decode cX3_tell 28 = .ok (.if_icmp .lt 4, 3) := dk_161 0 4 (dk_at dksX3_tell_1 4 rfl rfl)
theorem dX3_tell_31 : decode cX3_tell 31 = .ok (.return_, 1) := dk_177 (dk_at dksX3_tell_1 7 rfl rfl)
theorem dX3_tell_32 : decode cX3_tell 32 = .ok (.aload_n 0, 1) := dk_42 (dk_at dksX3_tell_1 8 rfl rfl)
theorem dX3_tell_33 : decode cX3_tell 33 = .ok (.iload_n 1, 1) := dk_27 (dk_at dksX3_tell_1 9 rfl rfl)
theorem dX3_tell_34 : decode cX3_tell 34 = .ok (.putfield 66, 3) := dk_181 0 66 (dk_at dksX3_tell_1 10 rfl rfl)
theorem dX3_tell_37 : decode cX3_tell 37 = .ok (.aload_n 0, 1) := dk_42 (dk_at dksX3_tell_1 13 rfl rfl)
theorem dX3_tell_38 : decode cX3_tell 38 = .ok (.iload_n 2, 1) := dk_28 (dk_at dksX3_tell_1 14 rfl rfl)
theorem dX3_tell_39 : decode cX3_tell 39 = .ok (.putfield 69, 3) := dk_181 0 69 (dk_at dksX3_tell_1 15 rfl rfl)
theorem dX3_tell_42 : decode cX3_tell 42 = .ok (.return_, 1) := dk_177 (dk_at dksX3_tell_1 18 rfl rfl)
abbrev cX3_stop : ByteArray := prog_7_method_8_code
def yX3_stop : MethodName := ⟨RX3, "stop", "()I"⟩
def dkwX3_stop_1 : List UInt8 := [182, 0, 76, 191, 42, 182, 0, 83, 42, 180, 0, 59, 4, 100, 172]
abbrev dktX3_stop_1 : List UInt8 := dkwX3_stop_1 ++ []
def dkwX3_stop_0 : List UInt8 := [42, 182, 0, 80, 87, 42, 180, 0, 39, 42, 180, 0, 59, 16, 59, 182, 0, 86, 154, 0, 9, 42, 4]
abbrev dktX3_stop_0 : List UInt8 := dkwX3_stop_0 ++ dktX3_stop_1
theorem dksX3_stop_0 : cX3_stop.data.toList.drop 0 = dktX3_stop_0 := by decide +kernel
theorem dksX3_stop_1 : cX3_stop.data.toList.drop 23 = dktX3_stop_1 := dk_seg dksX3_stop_0 23 rfl rfl
theorem dX3_stop_0 : decode cX3_stop 0 = .ok (.aload_n 0, 1) := dk_42 (dk_at dksX3_stop_0 0 rfl rfl)
theorem dX3_stop_1 : decode cX3_stop 1 = .ok (.invokevirtual 80, 3) := dk_182 0 80 (dk_at dksX3_stop_0 1 rfl rfl)
theorem dX3_stop_4 : decode cX3_stop 4 = .ok (.pop, 1) := dk_87 (dk_at dksX3_stop_0 4 rfl rfl)
theorem dX3_stop_5 : decode cX3_stop 5 = .ok (.aload_n 0, 1) := dk_42 (dk_at dksX3_stop_0 5 rfl rfl)
theorem dX3_stop_6 : decode cX3_stop 6 = .ok (.getfield 39, 3) := dk_180 0 39 (dk_at dksX3_stop_0 6 rfl rfl)
theorem dX3_stop_9 : decode cX3_stop 9 = .ok (.aload_n 0, 1) := dk_42 (dk_at dksX3_stop_0 9 rfl rfl)
theorem dX3_stop_10 : decode cX3_stop 10 = .ok (.getfield 59, 3) := dk_180 0 59 (dk_at dksX3_stop_0 10 rfl rfl)
theorem dX3_stop_13 : decode cX3_stop 13 = .ok (.bipush 59, 2) := dk_16 59 (dk_at dksX3_stop_0 13 rfl rfl)
theorem dX3_stop_15 : decode cX3_stop 15 = .ok (.invokevirtual 86, 3) := dk_182 0 86 (dk_at dksX3_stop_0 15 rfl rfl)
theorem dX3_stop_18 : decode cX3_stop 18 = .ok (.ifCond .ne 9, 3) := dk_154 0 9 (dk_at dksX3_stop_0 18 rfl rfl)
theorem dX3_stop_21 : decode cX3_stop 21 = .ok (.aload_n 0, 1) := dk_42 (dk_at dksX3_stop_0 21 rfl rfl)
theorem dX3_stop_22 : decode cX3_stop 22 = .ok (.iconst 1, 1) := dk_4 (dk_at dksX3_stop_0 22 rfl rfl)
theorem dX3_stop_23 : decode cX3_stop 23 = .ok (.invokevirtual 76, 3) := dk_182 0 76 (dk_at dksX3_stop_1 0 rfl rfl)
theorem dX3_stop_26 : decode cX3_stop 26 = .ok (.athrow, 1) := dk_191 (dk_at dksX3_stop_1 3 rfl rfl)
theorem dX3_stop_27 : decode cX3_stop 27 = .ok (.aload_n 0, 1) := dk_42 (dk_at dksX3_stop_1 4 rfl rfl)
theorem dX3_stop_28 : decode cX3_stop 28 = .ok (.invokevirtual 83, 3) := dk_182 0 83 (dk_at dksX3_stop_1 5 rfl rfl)
theorem dX3_stop_31 : decode cX3_stop 31 = .ok (.aload_n 0, 1) := dk_42 (dk_at dksX3_stop_1 8 rfl rfl)
theorem dX3_stop_32 : decode cX3_stop 32 = .ok (.getfield 59, 3) := dk_180 0 59 (dk_at dksX3_stop_1 9 rfl rfl)
theorem dX3_stop_35 : decode cX3_stop 35 = .ok (.iconst 1, 1) := dk_4 (dk_at dksX3_stop_1 12 rfl rfl)
theorem dX3_stop_36 : decode cX3_stop 36 = .ok (.isub, 1) := dk_100 (dk_at dksX3_stop_1 13 rfl rfl)
theorem dX3_stop_37 : decode cX3_stop 37 = .ok (.ireturn, 1) := dk_172 (dk_at dksX3_stop_1 14 rfl rfl)
abbrev cX3_controls : ByteArray := prog_7_method_11_code
def yX3_controls : MethodName := ⟨RX3, "controls", "()V"⟩
def dkwX3_controls_2 : List UInt8 := [182, 0, 86, 153, 0, 7, 42, 182, 0, 83, 42, 3, 182, 0, 136, 87, 132, 1, 1, 167, 255, 193, 177]
abbrev dktX3_controls_2 : List UInt8 := dkwX3_controls_2 ++ []
def dkwX3_controls_1 : List UInt8 := [153, 0, 46, 27, 6, 160, 0, 9, 42, 5, 182, 0, 76, 191, 42, 180, 0, 39, 42, 180, 0, 59, 16, 45]
abbrev dktX3_controls_1 : List UInt8 := dkwX3_controls_1 ++ dktX3_controls_2
def dkwX3_controls_0 : List UInt8 := [3, 60, 42, 182, 0, 80, 153, 0, 19, 42, 180, 0, 39, 42, 180, 0, 59, 16, 45, 182, 0, 86]
abbrev dktX3_controls_0 : List UInt8 := dkwX3_controls_0 ++ dktX3_controls_1
theorem dksX3_controls_0 : cX3_controls.data.toList.drop 0 = dktX3_controls_0 := by decide +kernel
theorem dksX3_controls_1 : cX3_controls.data.toList.drop 22 = dktX3_controls_1 := dk_seg dksX3_controls_0 22 rfl rfl
theorem dksX3_controls_2 : cX3_controls.data.toList.drop 46 = dktX3_controls_2 := dk_seg dksX3_controls_1 24 rfl rfl
theorem dX3_controls_0 : decode cX3_controls 0 = .ok (.iconst 0, 1) := dk_3 (dk_at dksX3_controls_0 0 rfl rfl)
theorem dX3_controls_1 : decode cX3_controls 1 = .ok (.istore_n 1, 1) := dk_60 (dk_at dksX3_controls_0 1 rfl rfl)
theorem dX3_controls_2 : decode cX3_controls 2 = .ok (.aload_n 0, 1) := dk_42 (dk_at dksX3_controls_0 2 rfl rfl)
theorem dX3_controls_3 : decode cX3_controls 3 = .ok (.invokevirtual 80, 3) := dk_182 0 80 (dk_at dksX3_controls_0 3 rfl rfl)
theorem dX3_controls_6 : decode cX3_controls 6 = .ok (.ifCond .eq 19, 3) := dk_153 0 19 (dk_at dksX3_controls_0 6 rfl rfl)
theorem dX3_controls_9 : decode cX3_controls 9 = .ok (.aload_n 0, 1) := dk_42 (dk_at dksX3_controls_0 9 rfl rfl)
theorem dX3_controls_10 : decode cX3_controls 10 = .ok (.getfield 39, 3) := dk_180 0 39 (dk_at dksX3_controls_0 10 rfl rfl)
theorem dX3_controls_13 : decode cX3_controls 13 = .ok (.aload_n 0, 1) := dk_42 (dk_at dksX3_controls_0 13 rfl rfl)
theorem dX3_controls_14 : decode cX3_controls 14 = .ok (.getfield 59, 3) := dk_180 0 59 (dk_at dksX3_controls_0 14 rfl rfl)
theorem dX3_controls_17 : decode cX3_controls 17 = .ok (.bipush 45, 2) := dk_16 45 (dk_at dksX3_controls_0 17 rfl rfl)
theorem dX3_controls_19 : decode cX3_controls 19 = .ok (.invokevirtual 86, 3) := dk_182 0 86 (dk_at dksX3_controls_0 19 rfl rfl)
theorem dX3_controls_22 : decode cX3_controls 22 = .ok (.ifCond .eq 46, 3) := dk_153 0 46 (dk_at dksX3_controls_1 0 rfl rfl)
theorem dX3_controls_25 : decode cX3_controls 25 = .ok (.iload_n 1, 1) := dk_27 (dk_at dksX3_controls_1 3 rfl rfl)
theorem dX3_controls_26 : decode cX3_controls 26 = .ok (.iconst 3, 1) := dk_6 (dk_at dksX3_controls_1 4 rfl rfl)
theorem dX3_controls_27 : decode cX3_controls 27 = .ok (.if_icmp .ne 9, 3) := dk_160 0 9 (dk_at dksX3_controls_1 5 rfl rfl)
theorem dX3_controls_30 : decode cX3_controls 30 = .ok (.aload_n 0, 1) := dk_42 (dk_at dksX3_controls_1 8 rfl rfl)
theorem dX3_controls_31 : decode cX3_controls 31 = .ok (.iconst 2, 1) := dk_5 (dk_at dksX3_controls_1 9 rfl rfl)
theorem dX3_controls_32 : decode cX3_controls 32 = .ok (.invokevirtual 76, 3) := dk_182 0 76 (dk_at dksX3_controls_1 10 rfl rfl)
theorem dX3_controls_35 : decode cX3_controls 35 = .ok (.athrow, 1) := dk_191 (dk_at dksX3_controls_1 13 rfl rfl)
theorem dX3_controls_36 : decode cX3_controls 36 = .ok (.aload_n 0, 1) := dk_42 (dk_at dksX3_controls_1 14 rfl rfl)
theorem dX3_controls_37 : decode cX3_controls 37 = .ok (.getfield 39, 3) := dk_180 0 39 (dk_at dksX3_controls_1 15 rfl rfl)
theorem dX3_controls_40 : decode cX3_controls 40 = .ok (.aload_n 0, 1) := dk_42 (dk_at dksX3_controls_1 18 rfl rfl)
theorem dX3_controls_41 : decode cX3_controls 41 = .ok (.getfield 59, 3) := dk_180 0 59 (dk_at dksX3_controls_1 19 rfl rfl)
theorem dX3_controls_44 : decode cX3_controls 44 = .ok (.bipush 45, 2) := dk_16 45 (dk_at dksX3_controls_1 22 rfl rfl)
theorem dX3_controls_46 : decode cX3_controls 46 = .ok (.invokevirtual 86, 3) := dk_182 0 86 (dk_at dksX3_controls_2 0 rfl rfl)
theorem dX3_controls_49 : decode cX3_controls 49 = .ok (.ifCond .eq 7, 3) := dk_153 0 7 (dk_at dksX3_controls_2 3 rfl rfl)
theorem dX3_controls_52 : decode cX3_controls 52 = .ok (.aload_n 0, 1) := dk_42 (dk_at dksX3_controls_2 6 rfl rfl)
theorem dX3_controls_53 : decode cX3_controls 53 = .ok (.invokevirtual 83, 3) := dk_182 0 83 (dk_at dksX3_controls_2 7 rfl rfl)
theorem dX3_controls_56 : decode cX3_controls 56 = .ok (.aload_n 0, 1) := dk_42 (dk_at dksX3_controls_2 10 rfl rfl)
theorem dX3_controls_57 : decode cX3_controls 57 = .ok (.iconst 0, 1) := dk_3 (dk_at dksX3_controls_2 11 rfl rfl)
theorem dX3_controls_58 : decode cX3_controls 58 = .ok (.invokevirtual 136, 3) := dk_182 0 136 (dk_at dksX3_controls_2 12 rfl rfl)
theorem dX3_controls_61 : decode cX3_controls 61 = .ok (.pop, 1) := dk_87 (dk_at dksX3_controls_2 15 rfl rfl)
theorem dX3_controls_62 : decode cX3_controls 62 = .ok (.iinc 1 1, 3) := dk_132 1 1 (dk_at dksX3_controls_2 16 rfl rfl)
theorem dX3_controls_65 : decode cX3_controls 65 = .ok (.goto (-63), 3) := dk_167 255 193 (dk_at dksX3_controls_2 19 rfl rfl)
theorem dX3_controls_68 : decode cX3_controls 68 = .ok (.return_, 1) := dk_177 (dk_at dksX3_controls_2 22 rfl rfl)
abbrev cX3_gate : ByteArray := prog_7_method_13_code
def yX3_gate : MethodName := ⟨RX3, "gate", "(LBackLogic$Line;)V"⟩
def dkwX3_gate_8 : List UInt8 := [21, 4, 183, 0, 184, 182, 0, 185, 177]
abbrev dktX3_gate_8 : List UInt8 := dkwX3_gate_8 ++ []
def dkwX3_gate_7 : List UInt8 := [62, 132, 5, 1, 167, 255, 102, 42, 180, 0, 12, 180, 0, 93, 187, 0, 176, 89, 3, 28, 184, 0, 178, 29]
abbrev dktX3_gate_7 : List UInt8 := dkwX3_gate_7 ++ dktX3_gate_8
def dkwX3_gate_6 : List UInt8 := [182, 0, 86, 153, 0, 15, 21, 4, 4, 21, 6, 120, 128, 54, 4, 167, 0, 10, 29, 4, 21, 6, 120, 128]
abbrev dktX3_gate_6 : List UInt8 := dkwX3_gate_6 ++ dktX3_gate_7
def dkwX3_gate_5 : List UInt8 := [180, 0, 170, 160, 0, 9, 21, 6, 61, 167, 0, 38, 42, 180, 0, 39, 21, 5, 4, 100, 16, 45]
abbrev dktX3_gate_5 : List UInt8 := dkwX3_gate_5 ++ dktX3_gate_6
def dkwX3_gate_4 : List UInt8 := [182, 0, 140, 54, 6, 21, 6, 156, 0, 13, 42, 7, 21, 5, 182, 0, 143, 167, 0, 53, 21, 5, 43]
abbrev dktX3_gate_4 : List UInt8 := dkwX3_gate_4 ++ dktX3_gate_5
def dkwX3_gate_3 : List UInt8 := [21, 5, 182, 0, 167, 153, 0, 10, 42, 6, 21, 5, 182, 0, 143, 132, 6, 1, 167, 255, 212, 42, 21, 5]
abbrev dktX3_gate_3 : List UInt8 := dkwX3_gate_3 ++ dktX3_gate_4
def dkwX3_gate_2 : List UInt8 := [21, 5, 162, 0, 43, 42, 180, 0, 39, 180, 0, 72, 21, 6, 51, 154, 0, 24, 42, 180, 0, 39, 21, 6]
abbrev dktX3_gate_2 : List UInt8 := dkwX3_gate_2 ++ dktX3_gate_3
def dkwX3_gate_1 : List UInt8 := [180, 0, 39, 180, 0, 72, 21, 5, 51, 153, 0, 6, 167, 0, 129, 43, 180, 0, 170, 54, 6, 21, 6]
abbrev dktX3_gate_1 : List UInt8 := dkwX3_gate_1 ++ dktX3_gate_2
def dkwX3_gate_0 : List UInt8 := [2, 61, 3, 62, 3, 54, 4, 43, 180, 0, 170, 54, 5, 21, 5, 43, 180, 0, 173, 162, 0, 151, 42]
abbrev dktX3_gate_0 : List UInt8 := dkwX3_gate_0 ++ dktX3_gate_1
theorem dksX3_gate_0 : cX3_gate.data.toList.drop 0 = dktX3_gate_0 := by decide +kernel
theorem dksX3_gate_1 : cX3_gate.data.toList.drop 23 = dktX3_gate_1 := dk_seg dksX3_gate_0 23 rfl rfl
theorem dksX3_gate_2 : cX3_gate.data.toList.drop 46 = dktX3_gate_2 := dk_seg dksX3_gate_1 23 rfl rfl
theorem dksX3_gate_3 : cX3_gate.data.toList.drop 70 = dktX3_gate_3 := dk_seg dksX3_gate_2 24 rfl rfl
theorem dksX3_gate_4 : cX3_gate.data.toList.drop 94 = dktX3_gate_4 := dk_seg dksX3_gate_3 24 rfl rfl
theorem dksX3_gate_5 : cX3_gate.data.toList.drop 117 = dktX3_gate_5 := dk_seg dksX3_gate_4 23 rfl rfl
theorem dksX3_gate_6 : cX3_gate.data.toList.drop 139 = dktX3_gate_6 := dk_seg dksX3_gate_5 22 rfl rfl
theorem dksX3_gate_7 : cX3_gate.data.toList.drop 163 = dktX3_gate_7 := dk_seg dksX3_gate_6 24 rfl rfl
theorem dksX3_gate_8 : cX3_gate.data.toList.drop 187 = dktX3_gate_8 := dk_seg dksX3_gate_7 24 rfl rfl
theorem dX3_gate_0 : decode cX3_gate 0 = .ok (.iconst (-1), 1) := dk_2 (dk_at dksX3_gate_0 0 rfl rfl)
theorem dX3_gate_1 : decode cX3_gate 1 = .ok (.istore_n 2, 1) := dk_61 (dk_at dksX3_gate_0 1 rfl rfl)
theorem dX3_gate_2 : decode cX3_gate 2 = .ok (.iconst 0, 1) := dk_3 (dk_at dksX3_gate_0 2 rfl rfl)
theorem dX3_gate_3 : decode cX3_gate 3 = .ok (.istore_n 3, 1) := dk_62 (dk_at dksX3_gate_0 3 rfl rfl)
theorem dX3_gate_4 : decode cX3_gate 4 = .ok (.iconst 0, 1) := dk_3 (dk_at dksX3_gate_0 4 rfl rfl)
theorem dX3_gate_5 : decode cX3_gate 5 = .ok (.istore 4, 2) := dk_54 4 (dk_at dksX3_gate_0 5 rfl rfl)
theorem dX3_gate_7 : decode cX3_gate 7 = .ok (.aload_n 1, 1) := dk_43 (dk_at dksX3_gate_0 7 rfl rfl)
theorem dX3_gate_8 : decode cX3_gate 8 = .ok (.getfield 170, 3) := dk_180 0 170 (dk_at dksX3_gate_0 8 rfl rfl)
theorem dX3_gate_11 : decode cX3_gate 11 = .ok (.istore 5, 2) := dk_54 5 (dk_at dksX3_gate_0 11 rfl rfl)
theorem dX3_gate_13 : decode cX3_gate 13 = .ok (.iload 5, 2) := dk_21 5 (dk_at dksX3_gate_0 13 rfl rfl)
theorem dX3_gate_15 : decode cX3_gate 15 = .ok (.aload_n 1, 1) := dk_43 (dk_at dksX3_gate_0 15 rfl rfl)
theorem dX3_gate_16 : decode cX3_gate 16 = .ok (.getfield 173, 3) := dk_180 0 173 (dk_at dksX3_gate_0 16 rfl rfl)
theorem dX3_gate_19 : decode cX3_gate 19 = .ok (.if_icmp .ge 151, 3) := dk_162 0 151 (dk_at dksX3_gate_0 19 rfl rfl)
theorem dX3_gate_22 : decode cX3_gate 22 = .ok (.aload_n 0, 1) := dk_42 (dk_at dksX3_gate_0 22 rfl rfl)
theorem dX3_gate_23 : decode cX3_gate 23 = .ok (.getfield 39, 3) := dk_180 0 39 (dk_at dksX3_gate_1 0 rfl rfl)
theorem dX3_gate_26 : decode cX3_gate 26 = .ok (.getfield 72, 3) := dk_180 0 72 (dk_at dksX3_gate_1 3 rfl rfl)
theorem dX3_gate_29 : decode cX3_gate 29 = .ok (.iload 5, 2) := dk_21 5 (dk_at dksX3_gate_1 6 rfl rfl)
theorem dX3_gate_31 : decode cX3_gate 31 = .ok (.baload, 1) := dk_51 (dk_at dksX3_gate_1 8 rfl rfl)
theorem dX3_gate_32 : decode cX3_gate 32 = .ok (.ifCond .eq 6, 3) := dk_153 0 6 (dk_at dksX3_gate_1 9 rfl rfl)
theorem dX3_gate_35 : decode cX3_gate 35 = .ok (.goto 129, 3) := dk_167 0 129 (dk_at dksX3_gate_1 12 rfl rfl)
theorem dX3_gate_38 : decode cX3_gate 38 = .ok (.aload_n 1, 1) := dk_43 (dk_at dksX3_gate_1 15 rfl rfl)
theorem dX3_gate_39 : decode cX3_gate 39 = .ok (.getfield 170, 3) := dk_180 0 170 (dk_at dksX3_gate_1 16 rfl rfl)
theorem dX3_gate_42 : decode cX3_gate 42 = .ok (.istore 6, 2) := dk_54 6 (dk_at dksX3_gate_1 19 rfl rfl)
theorem dX3_gate_44 : decode cX3_gate 44 = .ok (.iload 6, 2) := dk_21 6 (dk_at dksX3_gate_1 21 rfl rfl)
theorem dX3_gate_46 : decode cX3_gate 46 = .ok (.iload 5, 2) := dk_21 5 (dk_at dksX3_gate_2 0 rfl rfl)
theorem dX3_gate_48 : decode cX3_gate 48 = .ok (.if_icmp .ge 43, 3) := dk_162 0 43 (dk_at dksX3_gate_2 2 rfl rfl)
theorem dX3_gate_51 : decode cX3_gate 51 = .ok (.aload_n 0, 1) := dk_42 (dk_at dksX3_gate_2 5 rfl rfl)
theorem dX3_gate_52 : decode cX3_gate 52 = .ok (.getfield 39, 3) := dk_180 0 39 (dk_at dksX3_gate_2 6 rfl rfl)
theorem dX3_gate_55 : decode cX3_gate 55 = .ok (.getfield 72, 3) := dk_180 0 72 (dk_at dksX3_gate_2 9 rfl rfl)
theorem dX3_gate_58 : decode cX3_gate 58 = .ok (.iload 6, 2) := dk_21 6 (dk_at dksX3_gate_2 12 rfl rfl)
theorem dX3_gate_60 : decode cX3_gate 60 = .ok (.baload, 1) := dk_51 (dk_at dksX3_gate_2 14 rfl rfl)
theorem dX3_gate_61 : decode cX3_gate 61 = .ok (.ifCond .ne 24, 3) := dk_154 0 24 (dk_at dksX3_gate_2 15 rfl rfl)
theorem dX3_gate_64 : decode cX3_gate 64 = .ok (.aload_n 0, 1) := dk_42 (dk_at dksX3_gate_2 18 rfl rfl)
theorem dX3_gate_65 : decode cX3_gate 65 = .ok (.getfield 39, 3) := dk_180 0 39 (dk_at dksX3_gate_2 19 rfl rfl)
theorem dX3_gate_68 : decode cX3_gate 68 = .ok (.iload 6, 2) := dk_21 6 (dk_at dksX3_gate_2 22 rfl rfl)
theorem dX3_gate_70 : decode cX3_gate 70 = .ok (.iload 5, 2) := dk_21 5 (dk_at dksX3_gate_3 0 rfl rfl)
theorem dX3_gate_72 : decode cX3_gate 72 = .ok (.invokevirtual 167, 3) := dk_182 0 167 (dk_at dksX3_gate_3 2 rfl rfl)
theorem dX3_gate_75 : decode cX3_gate 75 = .ok (.ifCond .eq 10, 3) := dk_153 0 10 (dk_at dksX3_gate_3 5 rfl rfl)
theorem dX3_gate_78 : decode cX3_gate 78 = .ok (.aload_n 0, 1) := dk_42 (dk_at dksX3_gate_3 8 rfl rfl)
theorem dX3_gate_79 : decode cX3_gate 79 = .ok (.iconst 3, 1) := dk_6 (dk_at dksX3_gate_3 9 rfl rfl)
theorem dX3_gate_80 : decode cX3_gate 80 = .ok (.iload 5, 2) := dk_21 5 (dk_at dksX3_gate_3 10 rfl rfl)
theorem dX3_gate_82 : decode cX3_gate 82 = .ok (.invokevirtual 143, 3) := dk_182 0 143 (dk_at dksX3_gate_3 12 rfl rfl)
theorem dX3_gate_85 : decode cX3_gate 85 = .ok (.iinc 6 1, 3) := dk_132 6 1 (dk_at dksX3_gate_3 15 rfl rfl)
theorem dX3_gate_88 : decode cX3_gate 88 = .ok (.goto (-44), 3) := dk_167 255 212 (dk_at dksX3_gate_3 18 rfl rfl)
theorem dX3_gate_91 : decode cX3_gate 91 = .ok (.aload_n 0, 1) := dk_42 (dk_at dksX3_gate_3 21 rfl rfl)
theorem dX3_gate_92 : decode cX3_gate 92 = .ok (.iload 5, 2) := dk_21 5 (dk_at dksX3_gate_3 22 rfl rfl)
theorem dX3_gate_94 : decode cX3_gate 94 = .ok (.invokevirtual 140, 3) := dk_182 0 140 (dk_at dksX3_gate_4 0 rfl rfl)
theorem dX3_gate_97 : decode cX3_gate 97 = .ok (.istore 6, 2) := dk_54 6 (dk_at dksX3_gate_4 3 rfl rfl)
theorem dX3_gate_99 : decode cX3_gate 99 = .ok (.iload 6, 2) := dk_21 6 (dk_at dksX3_gate_4 5 rfl rfl)
theorem dX3_gate_101 : decode cX3_gate 101 = .ok (.ifCond .ge 13, 3) := dk_156 0 13 (dk_at dksX3_gate_4 7 rfl rfl)
theorem dX3_gate_104 : decode cX3_gate 104 = .ok (.aload_n 0, 1) := dk_42 (dk_at dksX3_gate_4 10 rfl rfl)
theorem dX3_gate_105 : decode cX3_gate 105 = .ok (.iconst 4, 1) := dk_7 (dk_at dksX3_gate_4 11 rfl rfl)
theorem dX3_gate_106 : decode cX3_gate 106 = .ok (.iload 5, 2) := dk_21 5 (dk_at dksX3_gate_4 12 rfl rfl)
theorem dX3_gate_108 : decode cX3_gate 108 = .ok (.invokevirtual 143, 3) := dk_182 0 143 (dk_at dksX3_gate_4 14 rfl rfl)
theorem dX3_gate_111 : decode cX3_gate 111 = .ok (.goto 53, 3) := dk_167 0 53 (dk_at dksX3_gate_4 17 rfl rfl)
theorem dX3_gate_114 : decode cX3_gate 114 = .ok (.iload 5, 2) := dk_21 5 (dk_at dksX3_gate_4 20 rfl rfl)
theorem dX3_gate_116 : decode cX3_gate 116 = .ok (.aload_n 1, 1) := dk_43 (dk_at dksX3_gate_4 22 rfl rfl)
theorem dX3_gate_117 : decode cX3_gate 117 = .ok (.getfield 170, 3) := dk_180 0 170 (dk_at dksX3_gate_5 0 rfl rfl)
theorem dX3_gate_120 : decode cX3_gate 120 = .ok (.if_icmp .ne 9, 3) := dk_160 0 9 (dk_at dksX3_gate_5 3 rfl rfl)
theorem dX3_gate_123 : decode cX3_gate 123 = .ok (.iload 6, 2) := dk_21 6 (dk_at dksX3_gate_5 6 rfl rfl)
theorem dX3_gate_125 : decode cX3_gate 125 = .ok (.istore_n 2, 1) := dk_61 (dk_at dksX3_gate_5 8 rfl rfl)
theorem dX3_gate_126 : decode cX3_gate 126 = .ok (.goto 38, 3) := dk_167 0 38 (dk_at dksX3_gate_5 9 rfl rfl)
theorem dX3_gate_129 : decode cX3_gate 129 = .ok (.aload_n 0, 1) := dk_42 (dk_at dksX3_gate_5 12 rfl rfl)
theorem dX3_gate_130 : decode cX3_gate 130 = .ok (.getfield 39, 3) := dk_180 0 39 (dk_at dksX3_gate_5 13 rfl rfl)
theorem dX3_gate_133 : decode cX3_gate 133 = .ok (.iload 5, 2) := dk_21 5 (dk_at dksX3_gate_5 16 rfl rfl)
theorem dX3_gate_135 : decode cX3_gate 135 = .ok (.iconst 1, 1) := dk_4 (dk_at dksX3_gate_5 18 rfl rfl)
theorem dX3_gate_136 : decode cX3_gate 136 = .ok (.isub, 1) := dk_100 (dk_at dksX3_gate_5 19 rfl rfl)
theorem dX3_gate_137 : decode cX3_gate 137 = .ok (.bipush 45, 2) := dk_16 45 (dk_at dksX3_gate_5 20 rfl rfl)
theorem dX3_gate_139 : decode cX3_gate 139 = .ok (.invokevirtual 86, 3) := dk_182 0 86 (dk_at dksX3_gate_6 0 rfl rfl)
theorem dX3_gate_142 : decode cX3_gate 142 = .ok (.ifCond .eq 15, 3) := dk_153 0 15 (dk_at dksX3_gate_6 3 rfl rfl)
theorem dX3_gate_145 : decode cX3_gate 145 = .ok (.iload 4, 2) := dk_21 4 (dk_at dksX3_gate_6 6 rfl rfl)
theorem dX3_gate_147 : decode cX3_gate 147 = .ok (.iconst 1, 1) := dk_4 (dk_at dksX3_gate_6 8 rfl rfl)
theorem dX3_gate_148 : decode cX3_gate 148 = .ok (.iload 6, 2) := dk_21 6 (dk_at dksX3_gate_6 9 rfl rfl)
theorem dX3_gate_150 : decode cX3_gate 150 = .ok (.ishl, 1) := dk_120 (dk_at dksX3_gate_6 11 rfl rfl)
theorem dX3_gate_151 : decode cX3_gate 151 = .ok (.ior, 1) := dk_128 (dk_at dksX3_gate_6 12 rfl rfl)
theorem dX3_gate_152 : decode cX3_gate 152 = .ok (.istore 4, 2) := dk_54 4 (dk_at dksX3_gate_6 13 rfl rfl)
theorem dX3_gate_154 : decode cX3_gate 154 = .ok (.goto 10, 3) := dk_167 0 10 (dk_at dksX3_gate_6 15 rfl rfl)
theorem dX3_gate_157 : decode cX3_gate 157 = .ok (.iload_n 3, 1) := dk_29 (dk_at dksX3_gate_6 18 rfl rfl)
theorem dX3_gate_158 : decode cX3_gate 158 = .ok (.iconst 1, 1) := dk_4 (dk_at dksX3_gate_6 19 rfl rfl)
theorem dX3_gate_159 : decode cX3_gate 159 = .ok (.iload 6, 2) := dk_21 6 (dk_at dksX3_gate_6 20 rfl rfl)
theorem dX3_gate_161 : decode cX3_gate 161 = .ok (.ishl, 1) := dk_120 (dk_at dksX3_gate_6 22 rfl rfl)
theorem dX3_gate_162 : decode cX3_gate 162 = .ok (.ior, 1) := dk_128 (dk_at dksX3_gate_6 23 rfl rfl)
theorem dX3_gate_163 : decode cX3_gate 163 = .ok (.istore_n 3, 1) := dk_62 (dk_at dksX3_gate_7 0 rfl rfl)
theorem dX3_gate_164 : decode cX3_gate 164 = .ok (.iinc 5 1, 3) := dk_132 5 1 (dk_at dksX3_gate_7 1 rfl rfl)
theorem dX3_gate_167 : decode cX3_gate 167 = .ok (.goto (-154), 3) := dk_167 255 102 (dk_at dksX3_gate_7 4 rfl rfl)
theorem dX3_gate_170 : decode cX3_gate 170 = .ok (.aload_n 0, 1) := dk_42 (dk_at dksX3_gate_7 7 rfl rfl)
theorem dX3_gate_171 : decode cX3_gate 171 = .ok (.getfield 12, 3) := dk_180 0 12 (dk_at dksX3_gate_7 8 rfl rfl)
theorem dX3_gate_174 : decode cX3_gate 174 = .ok (.getfield 93, 3) := dk_180 0 93 (dk_at dksX3_gate_7 11 rfl rfl)
theorem dX3_gate_177 : decode cX3_gate 177 = .ok (.new 176, 3) := dk_187 0 176 (dk_at dksX3_gate_7 14 rfl rfl)
theorem dX3_gate_180 : decode cX3_gate 180 = .ok (.dup, 1) := dk_89 (dk_at dksX3_gate_7 17 rfl rfl)
theorem dX3_gate_181 : decode cX3_gate 181 = .ok (.iconst 0, 1) := dk_3 (dk_at dksX3_gate_7 18 rfl rfl)
theorem dX3_gate_182 : decode cX3_gate 182 = .ok (.iload_n 2, 1) := dk_28 (dk_at dksX3_gate_7 19 rfl rfl)
theorem dX3_gate_183 : decode cX3_gate 183 = .ok (.invokestatic 178, 3) := dk_184 0 178 (dk_at dksX3_gate_7 20 rfl rfl)
theorem dX3_gate_186 : decode cX3_gate 186 = .ok (.iload_n 3, 1) := dk_29 (dk_at dksX3_gate_7 23 rfl rfl)
theorem dX3_gate_187 : decode cX3_gate 187 = .ok (.iload 4, 2) := dk_21 4 (dk_at dksX3_gate_8 0 rfl rfl)
theorem dX3_gate_189 : decode cX3_gate 189 = .ok (.invokespecial 184, 3) := dk_183 0 184 (dk_at dksX3_gate_8 2 rfl rfl)
theorem dX3_gate_192 : decode cX3_gate 192 = .ok (.invokevirtual 185, 3) := dk_182 0 185 (dk_at dksX3_gate_8 5 rfl rfl)
theorem dX3_gate_195 : decode cX3_gate 195 = .ok (.return_, 1) := dk_177 (dk_at dksX3_gate_8 8 rfl rfl)
abbrev cX3_tells : ByteArray := prog_7_method_14_code
def yX3_tells : MethodName := ⟨RX3, "tells", "(LBackLogic$Line;)V"⟩
def dkwX3_tells_8 : List UInt8 := [181, 0, 102, 42, 180, 0, 21, 29, 181, 0, 192, 177]
abbrev dktX3_tells_8 : List UInt8 := dkwX3_tells_8 ++ []
def dkwX3_tells_7 : List UInt8 := [180, 0, 170, 5, 96, 21, 5, 96, 182, 0, 143, 132, 5, 1, 167, 255, 181, 42, 180, 0, 21, 28]
abbrev dktX3_tells_7 : List UInt8 := dkwX3_tells_7 ++ dktX3_tells_8
def dkwX3_tells_6 : List UInt8 := [153, 0, 33, 42, 180, 0, 21, 180, 0, 189, 21, 5, 46, 4, 29, 120, 161, 0, 17, 42, 8, 43]
abbrev dktX3_tells_6 : List UInt8 := dkwX3_tells_6 ++ dktX3_tells_7
def dkwX3_tells_5 : List UInt8 := [42, 180, 0, 39, 43, 180, 0, 170, 5, 96, 21, 5, 96, 182, 0, 160, 79, 29, 4, 6, 184, 0, 163]
abbrev dktX3_tells_5 : List UInt8 := dkwX3_tells_5 ++ dktX3_tells_6
def dkwX3_tells_4 : List UInt8 := [4, 96, 182, 0, 143, 3, 54, 5, 21, 5, 21, 4, 162, 0, 74, 42, 180, 0, 21, 180, 0, 189, 21, 5]
abbrev dktX3_tells_4 : List UInt8 := dkwX3_tells_4 ++ dktX3_tells_5
def dkwX3_tells_3 : List UInt8 := [16, 6, 43, 180, 0, 173, 182, 0, 143, 29, 4, 6, 184, 0, 163, 154, 0, 14, 42, 8, 43, 180, 0, 170]
abbrev dktX3_tells_3 : List UInt8 := dkwX3_tells_3 ++ dktX3_tells_4
def dkwX3_tells_2 : List UInt8 := [154, 0, 15, 42, 8, 43, 180, 0, 170, 182, 0, 143, 167, 0, 21, 21, 4, 4, 28, 120, 159, 0, 13, 42]
abbrev dktX3_tells_2 : List UInt8 := dkwX3_tells_2 ++ dktX3_tells_3
def dkwX3_tells_1 : List UInt8 := [182, 0, 160, 62, 43, 180, 0, 173, 43, 180, 0, 170, 100, 5, 100, 54, 4, 28, 4, 6, 184, 0, 163]
abbrev dktX3_tells_1 : List UInt8 := dkwX3_tells_1 ++ dktX3_tells_2
def dkwX3_tells_0 : List UInt8 := [42, 180, 0, 39, 43, 180, 0, 170, 182, 0, 160, 61, 42, 180, 0, 39, 43, 180, 0, 170, 4, 96]
abbrev dktX3_tells_0 : List UInt8 := dkwX3_tells_0 ++ dktX3_tells_1
theorem dksX3_tells_0 : cX3_tells.data.toList.drop 0 = dktX3_tells_0 := by decide +kernel
theorem dksX3_tells_1 : cX3_tells.data.toList.drop 22 = dktX3_tells_1 := dk_seg dksX3_tells_0 22 rfl rfl
theorem dksX3_tells_2 : cX3_tells.data.toList.drop 45 = dktX3_tells_2 := dk_seg dksX3_tells_1 23 rfl rfl
theorem dksX3_tells_3 : cX3_tells.data.toList.drop 69 = dktX3_tells_3 := dk_seg dksX3_tells_2 24 rfl rfl
theorem dksX3_tells_4 : cX3_tells.data.toList.drop 93 = dktX3_tells_4 := dk_seg dksX3_tells_3 24 rfl rfl
theorem dksX3_tells_5 : cX3_tells.data.toList.drop 117 = dktX3_tells_5 := dk_seg dksX3_tells_4 24 rfl rfl
theorem dksX3_tells_6 : cX3_tells.data.toList.drop 140 = dktX3_tells_6 := dk_seg dksX3_tells_5 23 rfl rfl
theorem dksX3_tells_7 : cX3_tells.data.toList.drop 162 = dktX3_tells_7 := dk_seg dksX3_tells_6 22 rfl rfl
theorem dksX3_tells_8 : cX3_tells.data.toList.drop 184 = dktX3_tells_8 := dk_seg dksX3_tells_7 22 rfl rfl
theorem dX3_tells_0 : decode cX3_tells 0 = .ok (.aload_n 0, 1) := dk_42 (dk_at dksX3_tells_0 0 rfl rfl)
theorem dX3_tells_1 : decode cX3_tells 1 = .ok (.getfield 39, 3) := dk_180 0 39 (dk_at dksX3_tells_0 1 rfl rfl)
theorem dX3_tells_4 : decode cX3_tells 4 = .ok (.aload_n 1, 1) := dk_43 (dk_at dksX3_tells_0 4 rfl rfl)
theorem dX3_tells_5 : decode cX3_tells 5 = .ok (.getfield 170, 3) := dk_180 0 170 (dk_at dksX3_tells_0 5 rfl rfl)
theorem dX3_tells_8 : decode cX3_tells 8 = .ok (.invokevirtual 160, 3) := dk_182 0 160 (dk_at dksX3_tells_0 8 rfl rfl)
theorem dX3_tells_11 : decode cX3_tells 11 = .ok (.istore_n 2, 1) := dk_61 (dk_at dksX3_tells_0 11 rfl rfl)
theorem dX3_tells_12 : decode cX3_tells 12 = .ok (.aload_n 0, 1) := dk_42 (dk_at dksX3_tells_0 12 rfl rfl)
theorem dX3_tells_13 : decode cX3_tells 13 = .ok (.getfield 39, 3) := dk_180 0 39 (dk_at dksX3_tells_0 13 rfl rfl)
theorem dX3_tells_16 : decode cX3_tells 16 = .ok (.aload_n 1, 1) := dk_43 (dk_at dksX3_tells_0 16 rfl rfl)
theorem dX3_tells_17 : decode cX3_tells 17 = .ok (.getfield 170, 3) := dk_180 0 170 (dk_at dksX3_tells_0 17 rfl rfl)
theorem dX3_tells_20 : decode cX3_tells 20 = .ok (.iconst 1, 1) := dk_4 (dk_at dksX3_tells_0 20 rfl rfl)
theorem dX3_tells_21 : decode cX3_tells 21 = .ok (.iadd, 1) := dk_96 (dk_at dksX3_tells_0 21 rfl rfl)
theorem dX3_tells_22 : decode cX3_tells 22 = .ok (.invokevirtual 160, 3) := dk_182 0 160 (dk_at dksX3_tells_1 0 rfl rfl)
theorem dX3_tells_25 : decode cX3_tells 25 = .ok (.istore_n 3, 1) := dk_62 (dk_at dksX3_tells_1 3 rfl rfl)
theorem dX3_tells_26 : decode cX3_tells 26 = .ok (.aload_n 1, 1) := dk_43 (dk_at dksX3_tells_1 4 rfl rfl)
theorem dX3_tells_27 : decode cX3_tells 27 = .ok (.getfield 173, 3) := dk_180 0 173 (dk_at dksX3_tells_1 5 rfl rfl)
theorem dX3_tells_30 : decode cX3_tells 30 = .ok (.aload_n 1, 1) := dk_43 (dk_at dksX3_tells_1 8 rfl rfl)
theorem dX3_tells_31 : decode cX3_tells 31 = .ok (.getfield 170, 3) := dk_180 0 170 (dk_at dksX3_tells_1 9 rfl rfl)
theorem dX3_tells_34 : decode cX3_tells 34 = .ok (.isub, 1) := dk_100 (dk_at dksX3_tells_1 12 rfl rfl)
theorem dX3_tells_35 : decode cX3_tells 35 = .ok (.iconst 2, 1) := dk_5 (dk_at dksX3_tells_1 13 rfl rfl)
theorem dX3_tells_36 : decode cX3_tells 36 = .ok (.isub, 1) := dk_100 (dk_at dksX3_tells_1 14 rfl rfl)
theorem dX3_tells_37 : decode cX3_tells 37 = .ok (.istore 4, 2) := dk_54 4 (dk_at dksX3_tells_1 15 rfl rfl)
theorem dX3_tells_39 : decode cX3_tells 39 = .ok (.iload_n 2, 1) := dk_28 (dk_at dksX3_tells_1 17 rfl rfl)
theorem dX3_tells_40 : decode cX3_tells 40 = .ok (.iconst 1, 1) := dk_4 (dk_at dksX3_tells_1 18 rfl rfl)
theorem dX3_tells_41 : decode cX3_tells 41 = .ok (.iconst 3, 1) := dk_6 (dk_at dksX3_tells_1 19 rfl rfl)
theorem dX3_tells_42 : decode cX3_tells 42 = .ok (.invokestatic 163, 3) := dk_184 0 163 (dk_at dksX3_tells_1 20 rfl rfl)
theorem dX3_tells_45 : decode cX3_tells 45 = .ok (.ifCond .ne 15, 3) := dk_154 0 15 (dk_at dksX3_tells_2 0 rfl rfl)
theorem dX3_tells_48 : decode cX3_tells 48 = .ok (.aload_n 0, 1) := dk_42 (dk_at dksX3_tells_2 3 rfl rfl)
theorem dX3_tells_49 : decode cX3_tells 49 = .ok (.iconst 5, 1) := dk_8 (dk_at dksX3_tells_2 4 rfl rfl)
theorem dX3_tells_50 : decode cX3_tells 50 = .ok (.aload_n 1, 1) := dk_43 (dk_at dksX3_tells_2 5 rfl rfl)
theorem dX3_tells_51 : decode cX3_tells 51 = .ok (.getfield 170, 3) := dk_180 0 170 (dk_at dksX3_tells_2 6 rfl rfl)
theorem dX3_tells_54 : decode cX3_tells 54 = .ok (.invokevirtual 143, 3) := dk_182 0 143 (dk_at dksX3_tells_2 9 rfl rfl)
theorem dX3_tells_57 : decode cX3_tells 57 = .ok (.goto 21, 3) := dk_167 0 21 (dk_at dksX3_tells_2 12 rfl rfl)
theorem dX3_tells_60 : decode cX3_tells 60 = .ok (.iload 4, 2) := dk_21 4 (dk_at dksX3_tells_2 15 rfl rfl)
theorem dX3_tells_62 : decode cX3_tells 62 = .ok (.iconst 1, 1) := dk_4 (dk_at dksX3_tells_2 17 rfl rfl)
theorem dX3_tells_63 : decode cX3_tells 63 = .ok (.iload_n 2, 1) := dk_28 (dk_at dksX3_tells_2 18 rfl rfl)
theorem dX3_tells_64 : decode cX3_tells 64 = .ok (.ishl, 1) := dk_120 (dk_at dksX3_tells_2 19 rfl rfl)
theorem dX3_tells_65 : decode cX3_tells 65 = .ok (.if_icmp .eq 13, 3) := dk_159 0 13 (dk_at dksX3_tells_2 20 rfl rfl)
theorem dX3_tells_68 : decode cX3_tells 68 = .ok (.aload_n 0, 1) := dk_42 (dk_at dksX3_tells_2 23 rfl rfl)
theorem dX3_tells_69 : decode cX3_tells 69 = .ok (.bipush 6, 2) := dk_16 6 (dk_at dksX3_tells_3 0 rfl rfl)
theorem dX3_tells_71 : decode cX3_tells 71 = .ok (.aload_n 1, 1) := dk_43 (dk_at dksX3_tells_3 2 rfl rfl)
theorem dX3_tells_72 : decode cX3_tells 72 = .ok (.getfield 173, 3) := dk_180 0 173 (dk_at dksX3_tells_3 3 rfl rfl)
theorem dX3_tells_75 : decode cX3_tells 75 = .ok (.invokevirtual 143, 3) := dk_182 0 143 (dk_at dksX3_tells_3 6 rfl rfl)
theorem dX3_tells_78 : decode cX3_tells 78 = .ok (.iload_n 3, 1) := dk_29 (dk_at dksX3_tells_3 9 rfl rfl)
theorem dX3_tells_79 : decode cX3_tells 79 = .ok (.iconst 1, 1) := dk_4 (dk_at dksX3_tells_3 10 rfl rfl)
theorem dX3_tells_80 : decode cX3_tells 80 = .ok (.iconst 3, 1) := dk_6 (dk_at dksX3_tells_3 11 rfl rfl)
theorem dX3_tells_81 : decode cX3_tells 81 = .ok (.invokestatic 163, 3) := dk_184 0 163 (dk_at dksX3_tells_3 12 rfl rfl)
theorem dX3_tells_84 : decode cX3_tells 84 = .ok (.ifCond .ne 14, 3) := dk_154 0 14 (dk_at dksX3_tells_3 15 rfl rfl)
theorem dX3_tells_87 : decode cX3_tells 87 = .ok (.aload_n 0, 1) := dk_42 (dk_at dksX3_tells_3 18 rfl rfl)
theorem dX3_tells_88 : decode cX3_tells 88 = .ok (.iconst 5, 1) := dk_8 (dk_at dksX3_tells_3 19 rfl rfl)
theorem dX3_tells_89 : decode cX3_tells 89 = .ok (.aload_n 1, 1) := dk_43 (dk_at dksX3_tells_3 20 rfl rfl)
theorem dX3_tells_90 : decode cX3_tells 90 = .ok (.getfield 170, 3) := dk_180 0 170 (dk_at dksX3_tells_3 21 rfl rfl)
theorem dX3_tells_93 : decode cX3_tells 93 = .ok (.iconst 1, 1) := dk_4 (dk_at dksX3_tells_4 0 rfl rfl)
theorem dX3_tells_94 : decode cX3_tells 94 = .ok (.iadd, 1) := dk_96 (dk_at dksX3_tells_4 1 rfl rfl)
theorem dX3_tells_95 : decode cX3_tells 95 = .ok (.invokevirtual 143, 3) := dk_182 0 143 (dk_at dksX3_tells_4 2 rfl rfl)
theorem dX3_tells_98 : decode cX3_tells 98 = .ok (.iconst 0, 1) := dk_3 (dk_at dksX3_tells_4 5 rfl rfl)
theorem dX3_tells_99 : decode cX3_tells 99 = .ok (.istore 5, 2) := dk_54 5 (dk_at dksX3_tells_4 6 rfl rfl)
theorem dX3_tells_101 : decode cX3_tells 101 = .ok (.iload 5, 2) := dk_21 5 (dk_at dksX3_tells_4 8 rfl rfl)
theorem dX3_tells_103 : decode cX3_tells 103 = .ok (.iload 4, 2) := dk_21 4 (dk_at dksX3_tells_4 10 rfl rfl)
theorem dX3_tells_105 : decode cX3_tells 105 = .ok (.if_icmp .ge 74, 3) := dk_162 0 74 (dk_at dksX3_tells_4 12 rfl rfl)
theorem dX3_tells_108 : decode cX3_tells 108 = .ok (.aload_n 0, 1) := dk_42 (dk_at dksX3_tells_4 15 rfl rfl)
theorem dX3_tells_109 : decode cX3_tells 109 = .ok (.getfield 21, 3) := dk_180 0 21 (dk_at dksX3_tells_4 16 rfl rfl)
theorem dX3_tells_112 : decode cX3_tells 112 = .ok (.getfield 189, 3) := dk_180 0 189 (dk_at dksX3_tells_4 19 rfl rfl)
theorem dX3_tells_115 : decode cX3_tells 115 = .ok (.iload 5, 2) := dk_21 5 (dk_at dksX3_tells_4 22 rfl rfl)
theorem dX3_tells_117 : decode cX3_tells 117 = .ok (.aload_n 0, 1) := dk_42 (dk_at dksX3_tells_5 0 rfl rfl)
theorem dX3_tells_118 : decode cX3_tells 118 = .ok (.getfield 39, 3) := dk_180 0 39 (dk_at dksX3_tells_5 1 rfl rfl)
theorem dX3_tells_121 : decode cX3_tells 121 = .ok (.aload_n 1, 1) := dk_43 (dk_at dksX3_tells_5 4 rfl rfl)
theorem dX3_tells_122 : decode cX3_tells 122 = .ok (.getfield 170, 3) := dk_180 0 170 (dk_at dksX3_tells_5 5 rfl rfl)
theorem dX3_tells_125 : decode cX3_tells 125 = .ok (.iconst 2, 1) := dk_5 (dk_at dksX3_tells_5 8 rfl rfl)
theorem dX3_tells_126 : decode cX3_tells 126 = .ok (.iadd, 1) := dk_96 (dk_at dksX3_tells_5 9 rfl rfl)
theorem dX3_tells_127 : decode cX3_tells 127 = .ok (.iload 5, 2) := dk_21 5 (dk_at dksX3_tells_5 10 rfl rfl)
theorem dX3_tells_129 : decode cX3_tells 129 = .ok (.iadd, 1) := dk_96 (dk_at dksX3_tells_5 12 rfl rfl)
theorem dX3_tells_130 : decode cX3_tells 130 = .ok (.invokevirtual 160, 3) := dk_182 0 160 (dk_at dksX3_tells_5 13 rfl rfl)
theorem dX3_tells_133 : decode cX3_tells 133 = .ok (.iastore, 1) := dk_79 (dk_at dksX3_tells_5 16 rfl rfl)
theorem dX3_tells_134 : decode cX3_tells 134 = .ok (.iload_n 3, 1) := dk_29 (dk_at dksX3_tells_5 17 rfl rfl)
theorem dX3_tells_135 : decode cX3_tells 135 = .ok (.iconst 1, 1) := dk_4 (dk_at dksX3_tells_5 18 rfl rfl)
theorem dX3_tells_136 : decode cX3_tells 136 = .ok (.iconst 3, 1) := dk_6 (dk_at dksX3_tells_5 19 rfl rfl)
theorem dX3_tells_137 : decode cX3_tells 137 = .ok (.invokestatic 163, 3) := dk_184 0 163 (dk_at dksX3_tells_5 20 rfl rfl)
theorem dX3_tells_140 : decode cX3_tells 140 = .ok (.ifCond .eq 33, 3) := dk_153 0 33 (dk_at dksX3_tells_6 0 rfl rfl)
theorem dX3_tells_143 : decode cX3_tells 143 = .ok (.aload_n 0, 1) := dk_42 (dk_at dksX3_tells_6 3 rfl rfl)
theorem dX3_tells_144 : decode cX3_tells 144 = .ok (.getfield 21, 3) := dk_180 0 21 (dk_at dksX3_tells_6 4 rfl rfl)
theorem dX3_tells_147 : decode cX3_tells 147 = .ok (.getfield 189, 3) := dk_180 0 189 (dk_at dksX3_tells_6 7 rfl rfl)
theorem dX3_tells_150 : decode cX3_tells 150 = .ok (.iload 5, 2) := dk_21 5 (dk_at dksX3_tells_6 10 rfl rfl)
theorem dX3_tells_152 : decode cX3_tells 152 = .ok (.iaload, 1) := dk_46 (dk_at dksX3_tells_6 12 rfl rfl)
theorem dX3_tells_153 : decode cX3_tells 153 = .ok (.iconst 1, 1) := dk_4 (dk_at dksX3_tells_6 13 rfl rfl)
theorem dX3_tells_154 : decode cX3_tells 154 = .ok (.iload_n 3, 1) := dk_29 (dk_at dksX3_tells_6 14 rfl rfl)
theorem dX3_tells_155 : decode cX3_tells 155 = .ok (.ishl, 1) := dk_120 (dk_at dksX3_tells_6 15 rfl rfl)
theorem dX3_tells_156 : decode cX3_tells 156 = .ok (.if_icmp .lt 17, 3) := dk_161 0 17 (dk_at dksX3_tells_6 16 rfl rfl)
theorem dX3_tells_159 : decode cX3_tells 159 = .ok (.aload_n 0, 1) := dk_42 (dk_at dksX3_tells_6 19 rfl rfl)
theorem dX3_tells_160 : decode cX3_tells 160 = .ok (.iconst 5, 1) := dk_8 (dk_at dksX3_tells_6 20 rfl rfl)
theorem dX3_tells_161 : decode cX3_tells 161 = .ok (.aload_n 1, 1) := dk_43 (dk_at dksX3_tells_6 21 rfl rfl)
theorem dX3_tells_162 : decode cX3_tells 162 = .ok (.getfield 170, 3) := dk_180 0 170 (dk_at dksX3_tells_7 0 rfl rfl)
theorem dX3_tells_165 : decode cX3_tells 165 = .ok (.iconst 2, 1) := dk_5 (dk_at dksX3_tells_7 3 rfl rfl)
theorem dX3_tells_166 : decode cX3_tells 166 = .ok (.iadd, 1) := dk_96 (dk_at dksX3_tells_7 4 rfl rfl)
theorem dX3_tells_167 : decode cX3_tells 167 = .ok (.iload 5, 2) := dk_21 5 (dk_at dksX3_tells_7 5 rfl rfl)
theorem dX3_tells_169 : decode cX3_tells 169 = .ok (.iadd, 1) := dk_96 (dk_at dksX3_tells_7 7 rfl rfl)
theorem dX3_tells_170 : decode cX3_tells 170 = .ok (.invokevirtual 143, 3) := dk_182 0 143 (dk_at dksX3_tells_7 8 rfl rfl)
theorem dX3_tells_173 : decode cX3_tells 173 = .ok (.iinc 5 1, 3) := dk_132 5 1 (dk_at dksX3_tells_7 11 rfl rfl)
theorem dX3_tells_176 : decode cX3_tells 176 = .ok (.goto (-75), 3) := dk_167 255 181 (dk_at dksX3_tells_7 14 rfl rfl)
theorem dX3_tells_179 : decode cX3_tells 179 = .ok (.aload_n 0, 1) := dk_42 (dk_at dksX3_tells_7 17 rfl rfl)
theorem dX3_tells_180 : decode cX3_tells 180 = .ok (.getfield 21, 3) := dk_180 0 21 (dk_at dksX3_tells_7 18 rfl rfl)
theorem dX3_tells_183 : decode cX3_tells 183 = .ok (.iload_n 2, 1) := dk_28 (dk_at dksX3_tells_7 21 rfl rfl)
theorem dX3_tells_184 : decode cX3_tells 184 = .ok (.putfield 102, 3) := dk_181 0 102 (dk_at dksX3_tells_8 0 rfl rfl)
theorem dX3_tells_187 : decode cX3_tells 187 = .ok (.aload_n 0, 1) := dk_42 (dk_at dksX3_tells_8 3 rfl rfl)
theorem dX3_tells_188 : decode cX3_tells 188 = .ok (.getfield 21, 3) := dk_180 0 21 (dk_at dksX3_tells_8 4 rfl rfl)
theorem dX3_tells_191 : decode cX3_tells 191 = .ok (.iload_n 3, 1) := dk_29 (dk_at dksX3_tells_8 7 rfl rfl)
theorem dX3_tells_192 : decode cX3_tells 192 = .ok (.putfield 192, 3) := dk_181 0 192 (dk_at dksX3_tells_8 8 rfl rfl)
theorem dX3_tells_195 : decode cX3_tells 195 = .ok (.return_, 1) := dk_177 (dk_at dksX3_tells_8 11 rfl rfl)
theorem q144 : (Jvm.Cond.initialized "BackLogic$Parser") ∈ lw_all := lw_g (lw_at lw_m1 15 rfl) rfl
theorem q292 : (Jvm.Cond.selects "BackLogic$Parser" ({ cls := "java/lang/Object", name := "getClass", desc := "()Ljava/lang/Class;" } : Jvm.MethodName) ({ cls := "java/lang/Object", name := "getClass", desc := "()Ljava/lang/Class;" } : Jvm.MethodName)) ∈ lw_all := lw_g (lw_at lw_m1 163 rfl) rfl
theorem q366 : (Jvm.Cond.fieldLink "BackLogic$Parser" (72 : Nat) "BackLogic$Tokens" "sort" "[B") ∈ lw_all := lw_g (lw_at lw_m1 237 rfl) rfl
theorem q368 : (Jvm.Cond.fieldLink "BackLogic$Parser" (47 : Nat) "BackLogic$Tokens" "from" "[S") ∈ lw_all := lw_g (lw_at lw_m1 239 rfl) rfl
theorem q371 : (Jvm.Cond.fieldLink "BackLogic$Parser" (133 : Nat) "BackLogic$Tokens" "what" "[S") ∈ lw_all := lw_g (lw_at lw_m2 2 rfl) rfl
theorem q392 : (Jvm.Cond.instantiable "BackLogic$Parser" (12 : Nat)) ∈ lw_all := lw_g (lw_at lw_m2 23 rfl) rfl
theorem q394 : (Jvm.Cond.instanceMethod ({ cls := "BackLogic$Parser", name := "<init>", desc := "(LBackLogic$Tokens;LBackLogic$Fault;)V" } : Jvm.MethodName)) ∈ lw_all := lw_g (lw_at lw_m2 25 rfl) rfl
theorem q395 : (Jvm.Cond.code ({ cls := "BackLogic$Parser", name := "<init>", desc := "(LBackLogic$Tokens;LBackLogic$Fault;)V" } : Jvm.MethodName) prog_7_method_1_code (3 : Nat) (Option.none : Option Jvm.ClassFile.FieldType)) ∈ lw_all := lw_g (lw_at lw_m2 26 rfl) rfl
theorem q396 : (Jvm.Cond.methodLink "BackLogic$Parser" (3 : Nat) ({ cls := "java/lang/Object", name := "<init>", desc := "()V" } : Jvm.MethodName)) ∈ lw_all := lw_g (lw_at lw_m2 27 rfl) rfl
theorem q397 : (Jvm.Cond.classLink "BackLogic$Parser" (9 : Nat) "BackLogic$Cascade") ∈ lw_all := lw_g (lw_at lw_m2 28 rfl) rfl
theorem q399 : (Jvm.Cond.methodLinkNest "BackLogic$Parser" (11 : Nat) ({ cls := "BackLogic$Cascade", name := "<init>", desc := "()V" } : Jvm.MethodName) "BackLogic") ∈ lw_tbl := lw_at lw_m2 30 rfl
theorem q437 : (Jvm.Cond.fieldLink "BackLogic$Parser" (93 : Nat) "BackLogic$Cascade" "gates" "Ljava/util/LinkedList;") ∈ lw_all := lw_g (lw_at lw_m2 68 rfl) rfl
theorem q442 : (Jvm.Cond.classLink "BackLogic$Parser" (18 : Nat) "BackLogic$Table") ∈ lw_all := lw_g (lw_at lw_m2 73 rfl) rfl
theorem q444 : (Jvm.Cond.methodLinkNest "BackLogic$Parser" (20 : Nat) ({ cls := "BackLogic$Table", name := "<init>", desc := "()V" } : Jvm.MethodName) "BackLogic") ∈ lw_tbl := lw_at lw_m2 75 rfl
theorem q449 : (Jvm.Cond.fieldLink "BackLogic$Parser" (102 : Nat) "BackLogic$Table" "inputs" "I") ∈ lw_all := lw_g (lw_at lw_m2 80 rfl) rfl
theorem q452 : (Jvm.Cond.fieldLink "BackLogic$Parser" (192 : Nat) "BackLogic$Table" "outputs" "I") ∈ lw_all := lw_g (lw_at lw_m2 83 rfl) rfl
theorem q455 : (Jvm.Cond.fieldLink "BackLogic$Parser" (189 : Nat) "BackLogic$Table" "value" "[I") ∈ lw_all := lw_g (lw_at lw_m2 86 rfl) rfl
theorem q464 : (Jvm.Cond.classLink "BackLogic$Parser" (32 : Nat) "java/util/ArrayList") ∈ lw_all := lw_g (lw_at lw_m2 95 rfl) rfl
theorem q466 : (Jvm.Cond.methodLink "BackLogic$Parser" (34 : Nat) ({ cls := "java/util/ArrayList", name := "<init>", desc := "()V" } : Jvm.MethodName)) ∈ lw_all := lw_g (lw_at lw_m2 97 rfl) rfl
theorem q482 : (Jvm.Cond.fieldLink "BackLogic$Parser" (39 : Nat) "BackLogic$Parser" "t" "LBackLogic$Tokens;") ∈ lw_all := lw_g (lw_at lw_m2 113 rfl) rfl
theorem q483 : (Jvm.Cond.fieldLink "BackLogic$Parser" (43 : Nat) "BackLogic$Parser" "fault" "LBackLogic$Fault;") ∈ lw_all := lw_g (lw_at lw_m2 114 rfl) rfl
theorem q484 : (Jvm.Cond.fieldLink "BackLogic$Parser" (12 : Nat) "BackLogic$Parser" "cascade" "LBackLogic$Cascade;") ∈ lw_all := lw_g (lw_at lw_m2 115 rfl) rfl
theorem q486 : (Jvm.Cond.fieldLink "BackLogic$Parser" (21 : Nat) "BackLogic$Parser" "table" "LBackLogic$Table;") ∈ lw_all := lw_g (lw_at lw_m2 117 rfl) rfl
theorem q488 : (Jvm.Cond.fieldLink "BackLogic$Parser" (25 : Nat) "BackLogic$Parser" "price" "[I") ∈ lw_all := lw_g (lw_at lw_m2 119 rfl) rfl
theorem q491 : (Jvm.Cond.fieldLink "BackLogic$Parser" (105 : Nat) "BackLogic$Parser" "wires" "I") ∈ lw_all := lw_g (lw_at lw_m2 122 rfl) rfl
theorem q492 : (Jvm.Cond.fieldLink "BackLogic$Parser" (29 : Nat) "BackLogic$Parser" "names" "[I") ∈ lw_all := lw_g (lw_at lw_m2 123 rfl) rfl
theorem q493 : (Jvm.Cond.fieldLink "BackLogic$Parser" (35 : Nat) "BackLogic$Parser" "lines" "Ljava/util/ArrayList;") ∈ lw_all := lw_g (lw_at lw_m2 124 rfl) rfl
theorem q494 : (Jvm.Cond.fieldLink "BackLogic$Parser" (59 : Nat) "BackLogic$Parser" "at" "I") ∈ lw_all := lw_g (lw_at lw_m2 125 rfl) rfl
theorem q495 : (Jvm.Cond.fieldLink "BackLogic$Parser" (108 : Nat) "BackLogic$Parser" "gates" "I") ∈ lw_all := lw_g (lw_at lw_m2 126 rfl) rfl
theorem q496 : (Jvm.Cond.fieldLink "BackLogic$Parser" (66 : Nat) "BackLogic$Parser" "worst" "I") ∈ lw_all := lw_g (lw_at lw_m2 127 rfl) rfl
theorem q497 : (Jvm.Cond.fieldLink "BackLogic$Parser" (69 : Nat) "BackLogic$Parser" "worstToken" "I") ∈ lw_all := lw_g (lw_at lw_m2 128 rfl) rfl
theorem q498 : (Jvm.Cond.laysFinal "BackLogic$Parser" "BackLogic$Parser" "t" "LBackLogic$Tokens;") ∈ lw_all := lw_g (lw_at lw_m2 129 rfl) rfl
theorem q499 : (Jvm.Cond.soleField "BackLogic$Parser" "t") ∈ lw_all := lw_g (lw_at lw_m2 130 rfl) rfl
theorem q500 : (Jvm.Cond.laysFinal "BackLogic$Parser" "BackLogic$Parser" "fault" "LBackLogic$Fault;") ∈ lw_all := lw_g (lw_at lw_m2 131 rfl) rfl
theorem q501 : (Jvm.Cond.soleField "BackLogic$Parser" "fault") ∈ lw_all := lw_g (lw_at lw_m2 132 rfl) rfl
theorem q502 : (Jvm.Cond.laysFinal "BackLogic$Parser" "BackLogic$Parser" "cascade" "LBackLogic$Cascade;") ∈ lw_all := lw_g (lw_at lw_m2 133 rfl) rfl
theorem q503 : (Jvm.Cond.soleField "BackLogic$Parser" "cascade") ∈ lw_all := lw_g (lw_at lw_m2 134 rfl) rfl
theorem q504 : (Jvm.Cond.laysFinal "BackLogic$Parser" "BackLogic$Parser" "table" "LBackLogic$Table;") ∈ lw_all := lw_g (lw_at lw_m2 135 rfl) rfl
theorem q505 : (Jvm.Cond.soleField "BackLogic$Parser" "table") ∈ lw_all := lw_g (lw_at lw_m2 136 rfl) rfl
theorem q506 : (Jvm.Cond.laysFinal "BackLogic$Parser" "BackLogic$Parser" "price" "[I") ∈ lw_all := lw_g (lw_at lw_m2 137 rfl) rfl
theorem q507 : (Jvm.Cond.soleField "BackLogic$Parser" "price") ∈ lw_all := lw_g (lw_at lw_m2 138 rfl) rfl
theorem q508 : (Jvm.Cond.lays "BackLogic$Parser" "BackLogic$Parser" "wires" "I") ∈ lw_all := lw_g (lw_at lw_m2 139 rfl) rfl
theorem q509 : (Jvm.Cond.soleField "BackLogic$Parser" "wires") ∈ lw_all := lw_g (lw_at lw_m2 140 rfl) rfl
theorem q510 : (Jvm.Cond.laysFinal "BackLogic$Parser" "BackLogic$Parser" "names" "[I") ∈ lw_all := lw_g (lw_at lw_m2 141 rfl) rfl
theorem q511 : (Jvm.Cond.soleField "BackLogic$Parser" "names") ∈ lw_all := lw_g (lw_at lw_m2 142 rfl) rfl
theorem q512 : (Jvm.Cond.laysFinal "BackLogic$Parser" "BackLogic$Parser" "lines" "Ljava/util/ArrayList;") ∈ lw_all := lw_g (lw_at lw_m2 143 rfl) rfl
theorem q513 : (Jvm.Cond.soleField "BackLogic$Parser" "lines") ∈ lw_all := lw_g (lw_at lw_m2 144 rfl) rfl
theorem q514 : (Jvm.Cond.lays "BackLogic$Parser" "BackLogic$Parser" "at" "I") ∈ lw_all := lw_g (lw_at lw_m2 145 rfl) rfl
theorem q515 : (Jvm.Cond.soleField "BackLogic$Parser" "at") ∈ lw_all := lw_g (lw_at lw_m2 146 rfl) rfl
theorem q516 : (Jvm.Cond.lays "BackLogic$Parser" "BackLogic$Parser" "gates" "I") ∈ lw_all := lw_g (lw_at lw_m2 147 rfl) rfl
theorem q517 : (Jvm.Cond.soleField "BackLogic$Parser" "gates") ∈ lw_all := lw_g (lw_at lw_m2 148 rfl) rfl
theorem q518 : (Jvm.Cond.lays "BackLogic$Parser" "BackLogic$Parser" "worst" "I") ∈ lw_all := lw_g (lw_at lw_m2 149 rfl) rfl
theorem q519 : (Jvm.Cond.soleField "BackLogic$Parser" "worst") ∈ lw_all := lw_g (lw_at lw_m2 150 rfl) rfl
theorem q520 : (Jvm.Cond.lays "BackLogic$Parser" "BackLogic$Parser" "worstToken" "I") ∈ lw_all := lw_g (lw_at lw_m2 151 rfl) rfl
theorem q521 : (Jvm.Cond.soleField "BackLogic$Parser" "worstToken") ∈ lw_all := lw_g (lw_at lw_m2 152 rfl) rfl
theorem q522 : (Jvm.Cond.superclass "BackLogic$Parser" "java/lang/Object") ∈ lw_all := lw_g (lw_at lw_m2 153 rfl) rfl
theorem q731 : (Jvm.Cond.instanceMethod ({ cls := "BackLogic$Parser", name := "read", desc := "()V" } : Jvm.MethodName)) ∈ lw_all := lw_g (lw_at lw_m3 122 rfl) rfl
theorem q732 : (Jvm.Cond.selects "BackLogic$Parser" ({ cls := "BackLogic$Parser", name := "read", desc := "()V" } : Jvm.MethodName) ({ cls := "BackLogic$Parser", name := "read", desc := "()V" } : Jvm.MethodName)) ∈ lw_all := lw_g (lw_at lw_m3 123 rfl) rfl
theorem q733 : (Jvm.Cond.code ({ cls := "BackLogic$Parser", name := "read", desc := "()V" } : Jvm.MethodName) prog_7_method_9_code (2 : Nat) (Option.none : Option Jvm.ClassFile.FieldType)) ∈ lw_all := lw_g (lw_at lw_m3 124 rfl) rfl
theorem q734 : (Jvm.Cond.methodLink "BackLogic$Parser" (90 : Nat) ({ cls := "BackLogic$Tokens", name := "read", desc := "()V" } : Jvm.MethodName)) ∈ lw_all := lw_g (lw_at lw_m3 125 rfl) rfl
theorem q879 : (Jvm.Cond.methodLink "BackLogic$Parser" (97 : Nat) ({ cls := "java/util/LinkedList", name := "clear", desc := "()V" } : Jvm.MethodName)) ∈ lw_all := lw_g (lw_at lw_m4 30 rfl) rfl
theorem q883 : (Jvm.Cond.methodLink "BackLogic$Parser" (110 : Nat) ({ cls := "java/util/ArrayList", name := "clear", desc := "()V" } : Jvm.MethodName)) ∈ lw_all := lw_g (lw_at lw_m4 34 rfl) rfl
theorem q887 : (Jvm.Cond.methodLink "BackLogic$Parser" (80 : Nat) ({ cls := "BackLogic$Parser", name := "sort", desc := "()I" } : Jvm.MethodName)) ∈ lw_all := lw_g (lw_at lw_m4 38 rfl) rfl
theorem q888 : (Jvm.Cond.privateMethod ({ cls := "BackLogic$Parser", name := "sort", desc := "()I" } : Jvm.MethodName)) ∈ lw_tbl := lw_at lw_m4 39 rfl
theorem q889 : (Jvm.Cond.instanceMethod ({ cls := "BackLogic$Parser", name := "sort", desc := "()I" } : Jvm.MethodName)) ∈ lw_all := lw_g (lw_at lw_m4 40 rfl) rfl
theorem q890 : (Jvm.Cond.code ({ cls := "BackLogic$Parser", name := "sort", desc := "()I" } : Jvm.MethodName) prog_7_method_5_code (1 : Nat) (Option.some Jvm.ClassFile.FieldType.int)) ∈ lw_all := lw_g (lw_at lw_m4 41 rfl) rfl
theorem q891 : (Jvm.Cond.methodLink "BackLogic$Parser" (76 : Nat) ({ cls := "BackLogic$Parser", name := "wrong", desc := "(I)LBackLogic$Fault;" } : Jvm.MethodName)) ∈ lw_all := lw_g (lw_at lw_m4 42 rfl) rfl
theorem q892 : (Jvm.Cond.privateMethod ({ cls := "BackLogic$Parser", name := "wrong", desc := "(I)LBackLogic$Fault;" } : Jvm.MethodName)) ∈ lw_tbl := lw_at lw_m4 43 rfl
theorem q893 : (Jvm.Cond.instanceMethod ({ cls := "BackLogic$Parser", name := "wrong", desc := "(I)LBackLogic$Fault;" } : Jvm.MethodName)) ∈ lw_all := lw_g (lw_at lw_m4 44 rfl) rfl
theorem q894 : (Jvm.Cond.code ({ cls := "BackLogic$Parser", name := "wrong", desc := "(I)LBackLogic$Fault;" } : Jvm.MethodName) prog_7_method_3_code (2 : Nat) (Option.some (Jvm.ClassFile.FieldType.object "BackLogic$Fault"))) ∈ lw_all := lw_g (lw_at lw_m4 45 rfl) rfl
theorem q895 : (Jvm.Cond.methodLink "BackLogic$Parser" (63 : Nat) ({ cls := "BackLogic$Parser", name := "wrongAt", desc := "(II)LBackLogic$Fault;" } : Jvm.MethodName)) ∈ lw_all := lw_g (lw_at lw_m4 46 rfl) rfl
theorem q896 : (Jvm.Cond.privateMethod ({ cls := "BackLogic$Parser", name := "wrongAt", desc := "(II)LBackLogic$Fault;" } : Jvm.MethodName)) ∈ lw_tbl := lw_at lw_m4 47 rfl
theorem q897 : (Jvm.Cond.instanceMethod ({ cls := "BackLogic$Parser", name := "wrongAt", desc := "(II)LBackLogic$Fault;" } : Jvm.MethodName)) ∈ lw_all := lw_g (lw_at lw_m4 48 rfl) rfl
theorem q898 : (Jvm.Cond.code ({ cls := "BackLogic$Parser", name := "wrongAt", desc := "(II)LBackLogic$Fault;" } : Jvm.MethodName) prog_7_method_2_code (3 : Nat) (Option.some (Jvm.ClassFile.FieldType.object "BackLogic$Fault"))) ∈ lw_all := lw_g (lw_at lw_m4 49 rfl) rfl
theorem q899 : (Jvm.Cond.methodLink "BackLogic$Parser" (53 : Nat) ({ cls := "BackLogic$Fault", name := "of", desc := "(II)LBackLogic$Fault;" } : Jvm.MethodName)) ∈ lw_all := lw_g (lw_at lw_m4 50 rfl) rfl
theorem q903 : (Jvm.Cond.methodLink "BackLogic$Parser" (111 : Nat) ({ cls := "BackLogic$Parser", name := "line", desc := "()V" } : Jvm.MethodName)) ∈ lw_all := lw_g (lw_at lw_m4 54 rfl) rfl
theorem q904 : (Jvm.Cond.privateMethod ({ cls := "BackLogic$Parser", name := "line", desc := "()V" } : Jvm.MethodName)) ∈ lw_tbl := lw_at lw_m4 55 rfl
theorem q905 : (Jvm.Cond.instanceMethod ({ cls := "BackLogic$Parser", name := "line", desc := "()V" } : Jvm.MethodName)) ∈ lw_all := lw_g (lw_at lw_m4 56 rfl) rfl
theorem q906 : (Jvm.Cond.code ({ cls := "BackLogic$Parser", name := "line", desc := "()V" } : Jvm.MethodName) prog_7_method_10_code (4 : Nat) (Option.none : Option Jvm.ClassFile.FieldType)) ∈ lw_all := lw_g (lw_at lw_m4 57 rfl) rfl
theorem q907 : (Jvm.Cond.methodLink "BackLogic$Parser" (83 : Nat) ({ cls := "BackLogic$Parser", name := "pass", desc := "()V" } : Jvm.MethodName)) ∈ lw_all := lw_g (lw_at lw_m4 58 rfl) rfl
theorem q908 : (Jvm.Cond.privateMethod ({ cls := "BackLogic$Parser", name := "pass", desc := "()V" } : Jvm.MethodName)) ∈ lw_tbl := lw_at lw_m4 59 rfl
theorem q909 : (Jvm.Cond.instanceMethod ({ cls := "BackLogic$Parser", name := "pass", desc := "()V" } : Jvm.MethodName)) ∈ lw_all := lw_g (lw_at lw_m4 60 rfl) rfl
theorem q910 : (Jvm.Cond.code ({ cls := "BackLogic$Parser", name := "pass", desc := "()V" } : Jvm.MethodName) prog_7_method_6_code (1 : Nat) (Option.none : Option Jvm.ClassFile.FieldType)) ∈ lw_all := lw_g (lw_at lw_m4 61 rfl) rfl
theorem q911 : (Jvm.Cond.methodLink "BackLogic$Parser" (136 : Nat) ({ cls := "BackLogic$Parser", name := "take", desc := "(I)I" } : Jvm.MethodName)) ∈ lw_all := lw_g (lw_at lw_m4 62 rfl) rfl
theorem q912 : (Jvm.Cond.privateMethod ({ cls := "BackLogic$Parser", name := "take", desc := "(I)I" } : Jvm.MethodName)) ∈ lw_tbl := lw_at lw_m4 63 rfl
theorem q913 : (Jvm.Cond.instanceMethod ({ cls := "BackLogic$Parser", name := "take", desc := "(I)I" } : Jvm.MethodName)) ∈ lw_all := lw_g (lw_at lw_m4 64 rfl) rfl
theorem q914 : (Jvm.Cond.code ({ cls := "BackLogic$Parser", name := "take", desc := "(I)I" } : Jvm.MethodName) prog_7_method_7_code (2 : Nat) (Option.some Jvm.ClassFile.FieldType.int)) ∈ lw_all := lw_g (lw_at lw_m4 65 rfl) rfl
theorem q915 : (Jvm.Cond.methodLink "BackLogic$Parser" (140 : Nat) ({ cls := "BackLogic$Parser", name := "find", desc := "(I)I" } : Jvm.MethodName)) ∈ lw_all := lw_g (lw_at lw_m4 66 rfl) rfl
theorem q916 : (Jvm.Cond.privateMethod ({ cls := "BackLogic$Parser", name := "find", desc := "(I)I" } : Jvm.MethodName)) ∈ lw_tbl := lw_at lw_m4 67 rfl
theorem q917 : (Jvm.Cond.instanceMethod ({ cls := "BackLogic$Parser", name := "find", desc := "(I)I" } : Jvm.MethodName)) ∈ lw_all := lw_g (lw_at lw_m4 68 rfl) rfl
theorem q918 : (Jvm.Cond.code ({ cls := "BackLogic$Parser", name := "find", desc := "(I)I" } : Jvm.MethodName) prog_7_method_12_code (3 : Nat) (Option.some Jvm.ClassFile.FieldType.int)) ∈ lw_all := lw_g (lw_at lw_m4 69 rfl) rfl
theorem q919 : (Jvm.Cond.methodLink "BackLogic$Parser" (167 : Nat) ({ cls := "BackLogic$Tokens", name := "isAlike", desc := "(II)Z" } : Jvm.MethodName)) ∈ lw_all := lw_g (lw_at lw_m4 70 rfl) rfl
theorem q923 : (Jvm.Cond.methodLink "BackLogic$Parser" (143 : Nat) ({ cls := "BackLogic$Parser", name := "tell", desc := "(II)V" } : Jvm.MethodName)) ∈ lw_all := lw_g (lw_at lw_m4 74 rfl) rfl
theorem q924 : (Jvm.Cond.privateMethod ({ cls := "BackLogic$Parser", name := "tell", desc := "(II)V" } : Jvm.MethodName)) ∈ lw_tbl := lw_at lw_m4 75 rfl
theorem q925 : (Jvm.Cond.instanceMethod ({ cls := "BackLogic$Parser", name := "tell", desc := "(II)V" } : Jvm.MethodName)) ∈ lw_all := lw_g (lw_at lw_m4 76 rfl) rfl
theorem q926 : (Jvm.Cond.code ({ cls := "BackLogic$Parser", name := "tell", desc := "(II)V" } : Jvm.MethodName) prog_7_method_4_code (3 : Nat) (Option.none : Option Jvm.ClassFile.FieldType)) ∈ lw_all := lw_g (lw_at lw_m4 77 rfl) rfl
theorem q927 : (Jvm.Cond.methodLink "BackLogic$Parser" (147 : Nat) ({ cls := "BackLogic$Parser", name := "stop", desc := "()I" } : Jvm.MethodName)) ∈ lw_all := lw_g (lw_at lw_m4 78 rfl) rfl
theorem q928 : (Jvm.Cond.privateMethod ({ cls := "BackLogic$Parser", name := "stop", desc := "()I" } : Jvm.MethodName)) ∈ lw_tbl := lw_at lw_m4 79 rfl
theorem q929 : (Jvm.Cond.instanceMethod ({ cls := "BackLogic$Parser", name := "stop", desc := "()I" } : Jvm.MethodName)) ∈ lw_all := lw_g (lw_at lw_m4 80 rfl) rfl
theorem q930 : (Jvm.Cond.code ({ cls := "BackLogic$Parser", name := "stop", desc := "()I" } : Jvm.MethodName) prog_7_method_8_code (1 : Nat) (Option.some Jvm.ClassFile.FieldType.int)) ∈ lw_all := lw_g (lw_at lw_m4 81 rfl) rfl
theorem q931 : (Jvm.Cond.methodLink "BackLogic$Parser" (86 : Nat) ({ cls := "BackLogic$Tokens", name := "isSign", desc := "(II)Z" } : Jvm.MethodName)) ∈ lw_all := lw_g (lw_at lw_m4 82 rfl) rfl
theorem q935 : (Jvm.Cond.methodLink "BackLogic$Parser" (150 : Nat) ({ cls := "BackLogic$Parser", name := "controls", desc := "()V" } : Jvm.MethodName)) ∈ lw_all := lw_g (lw_at lw_m4 86 rfl) rfl
theorem q936 : (Jvm.Cond.privateMethod ({ cls := "BackLogic$Parser", name := "controls", desc := "()V" } : Jvm.MethodName)) ∈ lw_tbl := lw_at lw_m4 87 rfl
theorem q937 : (Jvm.Cond.instanceMethod ({ cls := "BackLogic$Parser", name := "controls", desc := "()V" } : Jvm.MethodName)) ∈ lw_all := lw_g (lw_at lw_m4 88 rfl) rfl
theorem q938 : (Jvm.Cond.code ({ cls := "BackLogic$Parser", name := "controls", desc := "()V" } : Jvm.MethodName) prog_7_method_11_code (2 : Nat) (Option.none : Option Jvm.ClassFile.FieldType)) ∈ lw_all := lw_g (lw_at lw_m4 89 rfl) rfl
theorem q939 : (Jvm.Cond.classLink "BackLogic$Parser" (121 : Nat) "BackLogic$Line") ∈ lw_all := lw_g (lw_at lw_m4 90 rfl) rfl
theorem q941 : (Jvm.Cond.methodLink "BackLogic$Parser" (153 : Nat) ({ cls := "BackLogic$Line", name := "<init>", desc := "(III)V" } : Jvm.MethodName)) ∈ lw_all := lw_g (lw_at lw_m4 92 rfl) rfl
theorem q946 : (Jvm.Cond.fieldLink "BackLogic$Parser" (123 : Nat) "BackLogic$Line" "kind" "I") ∈ lw_all := lw_g (lw_at lw_m4 97 rfl) rfl
theorem q948 : (Jvm.Cond.fieldLink "BackLogic$Parser" (170 : Nat) "BackLogic$Line" "first" "I") ∈ lw_all := lw_g (lw_at lw_m4 99 rfl) rfl
theorem q950 : (Jvm.Cond.fieldLink "BackLogic$Parser" (173 : Nat) "BackLogic$Line" "end" "I") ∈ lw_all := lw_g (lw_at lw_m4 101 rfl) rfl
theorem q958 : (Jvm.Cond.methodLink "BackLogic$Parser" (156 : Nat) ({ cls := "java/util/ArrayList", name := "add", desc := "(Ljava/lang/Object;)Z" } : Jvm.MethodName)) ∈ lw_all := lw_g (lw_at lw_m4 109 rfl) rfl
theorem q1001 : (Jvm.Cond.methodLink "BackLogic$Parser" (160 : Nat) ({ cls := "BackLogic$Tokens", name := "number", desc := "(I)I" } : Jvm.MethodName)) ∈ lw_all := lw_g (lw_at lw_m4 152 rfl) rfl
theorem q1005 : (Jvm.Cond.methodLinkNest "BackLogic$Parser" (163 : Nat) ({ cls := "BackLogic", name := "isIn", desc := "(III)Z" } : Jvm.MethodName) "BackLogic") ∈ lw_tbl := lw_at lw_m4 156 rfl
theorem q1008 : (Jvm.Cond.methodLink "BackLogic$Parser" (114 : Nat) ({ cls := "java/util/ArrayList", name := "size", desc := "()I" } : Jvm.MethodName)) ∈ lw_all := lw_g (lw_at lw_m4 159 rfl) rfl
theorem q1009 : (Jvm.Cond.methodLink "BackLogic$Parser" (117 : Nat) ({ cls := "java/util/ArrayList", name := "get", desc := "(I)Ljava/lang/Object;" } : Jvm.MethodName)) ∈ lw_all := lw_g (lw_at lw_m4 160 rfl) rfl
theorem q1010 : (Jvm.Cond.methodLink "BackLogic$Parser" (126 : Nat) ({ cls := "BackLogic$Parser", name := "gate", desc := "(LBackLogic$Line;)V" } : Jvm.MethodName)) ∈ lw_all := lw_g (lw_at lw_m4 161 rfl) rfl
theorem q1011 : (Jvm.Cond.privateMethod ({ cls := "BackLogic$Parser", name := "gate", desc := "(LBackLogic$Line;)V" } : Jvm.MethodName)) ∈ lw_tbl := lw_at lw_m4 162 rfl
theorem q1012 : (Jvm.Cond.instanceMethod ({ cls := "BackLogic$Parser", name := "gate", desc := "(LBackLogic$Line;)V" } : Jvm.MethodName)) ∈ lw_all := lw_g (lw_at lw_m4 163 rfl) rfl
theorem q1013 : (Jvm.Cond.code ({ cls := "BackLogic$Parser", name := "gate", desc := "(LBackLogic$Line;)V" } : Jvm.MethodName) prog_7_method_13_code (7 : Nat) (Option.none : Option Jvm.ClassFile.FieldType)) ∈ lw_all := lw_g (lw_at lw_m4 164 rfl) rfl
theorem q1014 : (Jvm.Cond.classLink "BackLogic$Parser" (176 : Nat) "BackLogic$Gate") ∈ lw_all := lw_g (lw_at lw_m4 165 rfl) rfl
theorem q1016 : (Jvm.Cond.methodLink "BackLogic$Parser" (178 : Nat) ({ cls := "java/lang/Math", name := "max", desc := "(II)I" } : Jvm.MethodName)) ∈ lw_all := lw_g (lw_at lw_m4 167 rfl) rfl
theorem q1017 : (Jvm.Cond.methodLink "BackLogic$Parser" (184 : Nat) ({ cls := "BackLogic$Gate", name := "<init>", desc := "(III)V" } : Jvm.MethodName)) ∈ lw_all := lw_g (lw_at lw_m4 168 rfl) rfl
theorem q1031 : (Jvm.Cond.methodLink "BackLogic$Parser" (185 : Nat) ({ cls := "java/util/LinkedList", name := "addLast", desc := "(Ljava/lang/Object;)V" } : Jvm.MethodName)) ∈ lw_all := lw_g (lw_at lw_m4 182 rfl) rfl
theorem q1060 : (Jvm.Cond.methodLink "BackLogic$Parser" (130 : Nat) ({ cls := "BackLogic$Parser", name := "tells", desc := "(LBackLogic$Line;)V" } : Jvm.MethodName)) ∈ lw_all := lw_g (lw_at lw_m4 211 rfl) rfl
theorem q1061 : (Jvm.Cond.privateMethod ({ cls := "BackLogic$Parser", name := "tells", desc := "(LBackLogic$Line;)V" } : Jvm.MethodName)) ∈ lw_tbl := lw_at lw_m4 212 rfl
theorem q1062 : (Jvm.Cond.instanceMethod ({ cls := "BackLogic$Parser", name := "tells", desc := "(LBackLogic$Line;)V" } : Jvm.MethodName)) ∈ lw_all := lw_g (lw_at lw_m4 213 rfl) rfl
theorem q1063 : (Jvm.Cond.code ({ cls := "BackLogic$Parser", name := "tells", desc := "(LBackLogic$Line;)V" } : Jvm.MethodName) prog_7_method_14_code (6 : Nat) (Option.none : Option Jvm.ClassFile.FieldType)) ∈ lw_all := lw_g (lw_at lw_m4 214 rfl) rfl
theorem q2688 : (Jvm.Cond.castable "BackLogic$Parser" "java/lang/Object") ∈ lw_tbl := lw_at lw_m11 159 rfl
theorem in_X3 : ∀ w ∈ wsX30, w ∈ lw_all := lw_in wsX30 [498, 500, 502, 504, 506, 508, 510, 512, 514, 516, 518, 520] (by decide +kernel) (by decide +kernel)
/-! BackLogic$Cascade -/
set_option maxRecDepth 100000
def RX4 : String := "BackLogic$Cascade"
def TX4 : u_T := fun k => match k with
  | _ => ("BackLogic$Cascade", "gates", "Ljava/util/LinkedList;", true)
def tyX4 : Nat → FieldType := fun k => match k with
  | _ => .object "java/util/LinkedList"
abbrev wsX40 : List Cond := u_ws RX4 TX4 1
theorem nmX4 : ∀ a, a < 1 → ∀ b, b < 1 → a ≠ b → (TX4 a).2.1 ≠ (TX4 b).2.1 := by decide +kernel
theorem tyX4_ok : ∀ k, k < 1 → parseFieldDescriptor (TX4 k).2.2.1 = some (tyX4 k) := by decide +kernel
abbrev cX4_init : ByteArray := prog_2_method_1_code
def yX4_init : MethodName := ⟨RX4, "<init>", "()V"⟩
def dkwX4_init_0 : List UInt8 := [42, 183, 0, 1, 42, 187, 0, 7, 89, 183, 0, 9, 181, 0, 10, 177]
abbrev dktX4_init_0 : List UInt8 := dkwX4_init_0 ++ []
theorem dksX4_init_0 : cX4_init.data.toList.drop 0 = dktX4_init_0 := by decide +kernel
theorem dX4_init_0 : decode cX4_init 0 = .ok (.aload_n 0, 1) := dk_42 (dk_at dksX4_init_0 0 rfl rfl)
theorem dX4_init_1 : decode cX4_init 1 = .ok (.invokespecial 1, 3) := dk_183 0 1 (dk_at dksX4_init_0 1 rfl rfl)
theorem dX4_init_4 : decode cX4_init 4 = .ok (.aload_n 0, 1) := dk_42 (dk_at dksX4_init_0 4 rfl rfl)
theorem dX4_init_5 : decode cX4_init 5 = .ok (.new 7, 3) := dk_187 0 7 (dk_at dksX4_init_0 5 rfl rfl)
theorem dX4_init_8 : decode cX4_init 8 = .ok (.dup, 1) := dk_89 (dk_at dksX4_init_0 8 rfl rfl)
theorem dX4_init_9 : decode cX4_init 9 = .ok (.invokespecial 9, 3) := dk_183 0 9 (dk_at dksX4_init_0 9 rfl rfl)
theorem dX4_init_12 : decode cX4_init 12 = .ok (.putfield 10, 3) := dk_181 0 10 (dk_at dksX4_init_0 12 rfl rfl)
theorem dX4_init_15 : decode cX4_init 15 = .ok (.return_, 1) := dk_177 (dk_at dksX4_init_0 15 rfl rfl)
abbrev cX4_becomes : ByteArray := prog_2_method_3_code
def yX4_becomes : MethodName := ⟨RX4, "becomes", "(LBackLogic$Cascade;)V"⟩
def dkwX4_becomes_1 : List UInt8 := [42, 180, 0, 10, 44, 185, 0, 34, 1, 0, 192, 0, 38, 182, 0, 40, 167, 255, 231, 177]
abbrev dktX4_becomes_1 : List UInt8 := dkwX4_becomes_1 ++ []
def dkwX4_becomes_0 : List UInt8 := [42, 180, 0, 10, 182, 0, 21, 43, 180, 0, 10, 182, 0, 24, 77, 44, 185, 0, 28, 1, 0, 153, 0, 22]
abbrev dktX4_becomes_0 : List UInt8 := dkwX4_becomes_0 ++ dktX4_becomes_1
theorem dksX4_becomes_0 : cX4_becomes.data.toList.drop 0 = dktX4_becomes_0 := by decide +kernel
theorem dksX4_becomes_1 : cX4_becomes.data.toList.drop 24 = dktX4_becomes_1 := dk_seg dksX4_becomes_0 24 rfl rfl
theorem dX4_becomes_0 : decode cX4_becomes 0 = .ok (.aload_n 0, 1) := dk_42 (dk_at dksX4_becomes_0 0 rfl rfl)
theorem dX4_becomes_1 : decode cX4_becomes 1 = .ok (.getfield 10, 3) := dk_180 0 10 (dk_at dksX4_becomes_0 1 rfl rfl)
theorem dX4_becomes_4 : decode cX4_becomes 4 = .ok (.invokevirtual 21, 3) := dk_182 0 21 (dk_at dksX4_becomes_0 4 rfl rfl)
theorem dX4_becomes_7 : decode cX4_becomes 7 = .ok (.aload_n 1, 1) := dk_43 (dk_at dksX4_becomes_0 7 rfl rfl)
theorem dX4_becomes_8 : decode cX4_becomes 8 = .ok (.getfield 10, 3) := dk_180 0 10 (dk_at dksX4_becomes_0 8 rfl rfl)
theorem dX4_becomes_11 : decode cX4_becomes 11 = .ok (.invokevirtual 24, 3) := dk_182 0 24 (dk_at dksX4_becomes_0 11 rfl rfl)
theorem dX4_becomes_14 : decode cX4_becomes 14 = .ok (.astore_n 2, 1) := dk_77 (dk_at dksX4_becomes_0 14 rfl rfl)
theorem dX4_becomes_15 : decode cX4_becomes 15 = .ok (.aload_n 2, 1) := dk_44 (dk_at dksX4_becomes_0 15 rfl rfl)
theorem dX4_becomes_16 : decode cX4_becomes 16 = .ok (.invokeinterface 28 1, 5) := by decide +kernel
theorem dX4_becomes_21 : decode cX4_becomes 21 = .ok (.ifCond .eq 22, 3) := dk_153 0 22 (dk_at dksX4_becomes_0 21 rfl rfl)
theorem dX4_becomes_24 : decode cX4_becomes 24 = .ok (.aload_n 0, 1) := dk_42 (dk_at dksX4_becomes_1 0 rfl rfl)
theorem dX4_becomes_25 : decode cX4_becomes 25 = .ok (.getfield 10, 3) := dk_180 0 10 (dk_at dksX4_becomes_1 1 rfl rfl)
theorem dX4_becomes_28 : decode cX4_becomes 28 = .ok (.aload_n 2, 1) := dk_44 (dk_at dksX4_becomes_1 4 rfl rfl)
theorem dX4_becomes_29 : decode cX4_becomes 29 = .ok (.invokeinterface 34 1, 5) := by decide +kernel
theorem dX4_becomes_34 : decode cX4_becomes 34 = .ok (.checkcast 38, 3) := dk_192 0 38 (dk_at dksX4_becomes_1 10 rfl rfl)
theorem dX4_becomes_37 : decode cX4_becomes 37 = .ok (.invokevirtual 40, 3) := dk_182 0 40 (dk_at dksX4_becomes_1 13 rfl rfl)
theorem dX4_becomes_40 : decode cX4_becomes 40 = .ok (.goto (-25), 3) := dk_167 255 231 (dk_at dksX4_becomes_1 16 rfl rfl)
theorem dX4_becomes_43 : decode cX4_becomes 43 = .ok (.return_, 1) := dk_177 (dk_at dksX4_becomes_1 19 rfl rfl)
abbrev cX4_size : ByteArray := prog_2_method_4_code
def yX4_size : MethodName := ⟨RX4, "size", "()I"⟩
def dkwX4_size_0 : List UInt8 := [42, 180, 0, 10, 182, 0, 44, 172]
abbrev dktX4_size_0 : List UInt8 := dkwX4_size_0 ++ []
theorem dksX4_size_0 : cX4_size.data.toList.drop 0 = dktX4_size_0 := by decide +kernel
theorem dX4_size_0 : decode cX4_size 0 = .ok (.aload_n 0, 1) := dk_42 (dk_at dksX4_size_0 0 rfl rfl)
theorem dX4_size_1 : decode cX4_size 1 = .ok (.getfield 10, 3) := dk_180 0 10 (dk_at dksX4_size_0 1 rfl rfl)
theorem dX4_size_4 : decode cX4_size 4 = .ok (.invokevirtual 44, 3) := dk_182 0 44 (dk_at dksX4_size_0 4 rfl rfl)
theorem dX4_size_7 : decode cX4_size 7 = .ok (.ireturn, 1) := dk_172 (dk_at dksX4_size_0 7 rfl rfl)
abbrev cX4_copy : ByteArray := prog_2_method_2_code
def yX4_copy : MethodName := ⟨RX4, "copy", "()LBackLogic$Cascade;"⟩
def dkwX4_copy_0 : List UInt8 := [187, 0, 11, 89, 183, 0, 16, 76, 43, 42, 182, 0, 17, 43, 176]
abbrev dktX4_copy_0 : List UInt8 := dkwX4_copy_0 ++ []
theorem dksX4_copy_0 : cX4_copy.data.toList.drop 0 = dktX4_copy_0 := by decide +kernel
theorem dX4_copy_0 : decode cX4_copy 0 = .ok (.new 11, 3) := dk_187 0 11 (dk_at dksX4_copy_0 0 rfl rfl)
theorem dX4_copy_3 : decode cX4_copy 3 = .ok (.dup, 1) := dk_89 (dk_at dksX4_copy_0 3 rfl rfl)
theorem dX4_copy_4 : decode cX4_copy 4 = .ok (.invokespecial 16, 3) := dk_183 0 16 (dk_at dksX4_copy_0 4 rfl rfl)
theorem dX4_copy_7 : decode cX4_copy 7 = .ok (.astore_n 1, 1) := dk_76 (dk_at dksX4_copy_0 7 rfl rfl)
theorem dX4_copy_8 : decode cX4_copy 8 = .ok (.aload_n 1, 1) := dk_43 (dk_at dksX4_copy_0 8 rfl rfl)
theorem dX4_copy_9 : decode cX4_copy 9 = .ok (.aload_n 0, 1) := dk_42 (dk_at dksX4_copy_0 9 rfl rfl)
theorem dX4_copy_10 : decode cX4_copy 10 = .ok (.invokevirtual 17, 3) := dk_182 0 17 (dk_at dksX4_copy_0 10 rfl rfl)
theorem dX4_copy_13 : decode cX4_copy 13 = .ok (.aload_n 1, 1) := dk_43 (dk_at dksX4_copy_0 13 rfl rfl)
theorem dX4_copy_14 : decode cX4_copy 14 = .ok (.areturn, 1) := dk_176 (dk_at dksX4_copy_0 14 rfl rfl)
abbrev cX4_isGate : ByteArray := prog_2_method_6_code
def yX4_isGate : MethodName := ⟨RX4, "isGate", "(I)Z"⟩
def dkwX4_isGate_0 : List UInt8 := [27, 3, 42, 180, 0, 10, 182, 0, 44, 4, 100, 184, 0, 52, 172]
abbrev dktX4_isGate_0 : List UInt8 := dkwX4_isGate_0 ++ []
theorem dksX4_isGate_0 : cX4_isGate.data.toList.drop 0 = dktX4_isGate_0 := by decide +kernel
theorem dX4_isGate_0 : decode cX4_isGate 0 = .ok (.iload_n 1, 1) := dk_27 (dk_at dksX4_isGate_0 0 rfl rfl)
theorem dX4_isGate_1 : decode cX4_isGate 1 = .ok (.iconst 0, 1) := dk_3 (dk_at dksX4_isGate_0 1 rfl rfl)
theorem dX4_isGate_2 : decode cX4_isGate 2 = .ok (.aload_n 0, 1) := dk_42 (dk_at dksX4_isGate_0 2 rfl rfl)
theorem dX4_isGate_3 : decode cX4_isGate 3 = .ok (.getfield 10, 3) := dk_180 0 10 (dk_at dksX4_isGate_0 3 rfl rfl)
theorem dX4_isGate_6 : decode cX4_isGate 6 = .ok (.invokevirtual 44, 3) := dk_182 0 44 (dk_at dksX4_isGate_0 6 rfl rfl)
theorem dX4_isGate_9 : decode cX4_isGate 9 = .ok (.iconst 1, 1) := dk_4 (dk_at dksX4_isGate_0 9 rfl rfl)
theorem dX4_isGate_10 : decode cX4_isGate 10 = .ok (.isub, 1) := dk_100 (dk_at dksX4_isGate_0 10 rfl rfl)
theorem dX4_isGate_11 : decode cX4_isGate 11 = .ok (.invokestatic 52, 3) := dk_184 0 52 (dk_at dksX4_isGate_0 11 rfl rfl)
theorem dX4_isGate_14 : decode cX4_isGate 14 = .ok (.ireturn, 1) := dk_172 (dk_at dksX4_isGate_0 14 rfl rfl)
abbrev cX4_swaps : ByteArray := prog_2_method_11_code
def yX4_swaps : MethodName := ⟨RX4, "swaps", "(I)V"⟩
def dkwX4_swaps_0 : List UInt8 := [42, 180, 0, 10, 27, 182, 0, 75, 192, 0, 38, 77, 42, 180, 0, 10, 27, 4, 96, 44, 182, 0, 78, 177]
abbrev dktX4_swaps_0 : List UInt8 := dkwX4_swaps_0 ++ []
theorem dksX4_swaps_0 : cX4_swaps.data.toList.drop 0 = dktX4_swaps_0 := by decide +kernel
theorem dX4_swaps_0 : decode cX4_swaps 0 = .ok (.aload_n 0, 1) := dk_42 (dk_at dksX4_swaps_0 0 rfl rfl)
theorem dX4_swaps_1 : decode cX4_swaps 1 = .ok (.getfield 10, 3) := dk_180 0 10 (dk_at dksX4_swaps_0 1 rfl rfl)
theorem dX4_swaps_4 : decode cX4_swaps 4 = .ok (.iload_n 1, 1) := dk_27 (dk_at dksX4_swaps_0 4 rfl rfl)
theorem dX4_swaps_5 : decode cX4_swaps 5 = .ok (.invokevirtual 75, 3) := dk_182 0 75 (dk_at dksX4_swaps_0 5 rfl rfl)
theorem dX4_swaps_8 : decode cX4_swaps 8 = .ok (.checkcast 38, 3) := dk_192 0 38 (dk_at dksX4_swaps_0 8 rfl rfl)
theorem dX4_swaps_11 : decode cX4_swaps 11 = .ok (.astore_n 2, 1) := dk_77 (dk_at dksX4_swaps_0 11 rfl rfl)
theorem dX4_swaps_12 : decode cX4_swaps 12 = .ok (.aload_n 0, 1) := dk_42 (dk_at dksX4_swaps_0 12 rfl rfl)
theorem dX4_swaps_13 : decode cX4_swaps 13 = .ok (.getfield 10, 3) := dk_180 0 10 (dk_at dksX4_swaps_0 13 rfl rfl)
theorem dX4_swaps_16 : decode cX4_swaps 16 = .ok (.iload_n 1, 1) := dk_27 (dk_at dksX4_swaps_0 16 rfl rfl)
theorem dX4_swaps_17 : decode cX4_swaps 17 = .ok (.iconst 1, 1) := dk_4 (dk_at dksX4_swaps_0 17 rfl rfl)
theorem dX4_swaps_18 : decode cX4_swaps 18 = .ok (.iadd, 1) := dk_96 (dk_at dksX4_swaps_0 18 rfl rfl)
theorem dX4_swaps_19 : decode cX4_swaps 19 = .ok (.aload_n 2, 1) := dk_44 (dk_at dksX4_swaps_0 19 rfl rfl)
theorem dX4_swaps_20 : decode cX4_swaps 20 = .ok (.invokevirtual 78, 3) := dk_182 0 78 (dk_at dksX4_swaps_0 20 rfl rfl)
theorem dX4_swaps_23 : decode cX4_swaps 23 = .ok (.return_, 1) := dk_177 (dk_at dksX4_swaps_0 23 rfl rfl)
abbrev cX4_shrinks : ByteArray := prog_2_method_17_code
def yX4_shrinks : MethodName := ⟨RX4, "shrinks", "(I)V"⟩
def dkwX4_shrinks_1 : List UInt8 := [182, 0, 102, 61, 132, 3, 1, 167, 255, 237, 167, 255, 226, 177]
abbrev dktX4_shrinks_1 : List UInt8 := dkwX4_shrinks_1 ++ []
def dkwX4_shrinks_0 : List UInt8 := [4, 61, 28, 153, 0, 32, 3, 61, 4, 62, 29, 6, 163, 0, 20, 28, 154, 0, 16, 42, 29, 27]
abbrev dktX4_shrinks_0 : List UInt8 := dkwX4_shrinks_0 ++ dktX4_shrinks_1
theorem dksX4_shrinks_0 : cX4_shrinks.data.toList.drop 0 = dktX4_shrinks_0 := by decide +kernel
theorem dksX4_shrinks_1 : cX4_shrinks.data.toList.drop 22 = dktX4_shrinks_1 := dk_seg dksX4_shrinks_0 22 rfl rfl
theorem dX4_shrinks_0 : decode cX4_shrinks 0 = .ok (.iconst 1, 1) := dk_4 (dk_at dksX4_shrinks_0 0 rfl rfl)
theorem dX4_shrinks_1 : decode cX4_shrinks 1 = .ok (.istore_n 2, 1) := dk_61 (dk_at dksX4_shrinks_0 1 rfl rfl)
theorem dX4_shrinks_2 : decode cX4_shrinks 2 = .ok (.iload_n 2, 1) := dk_28 (dk_at dksX4_shrinks_0 2 rfl rfl)
theorem dX4_shrinks_3 : decode cX4_shrinks 3 = .ok (.ifCond .eq 32, 3) := dk_153 0 32 (dk_at dksX4_shrinks_0 3 rfl rfl)
theorem dX4_shrinks_6 : decode cX4_shrinks 6 = .ok (.iconst 0, 1) := dk_3 (dk_at dksX4_shrinks_0 6 rfl rfl)
theorem dX4_shrinks_7 : decode cX4_shrinks 7 = .ok (.istore_n 2, 1) := dk_61 (dk_at dksX4_shrinks_0 7 rfl rfl)
theorem dX4_shrinks_8 : decode cX4_shrinks 8 = .ok (.iconst 1, 1) := dk_4 (dk_at dksX4_shrinks_0 8 rfl rfl)
theorem dX4_shrinks_9 : decode cX4_shrinks 9 = .ok (.istore_n 3, 1) := dk_62 (dk_at dksX4_shrinks_0 9 rfl rfl)
theorem dX4_shrinks_10 : decode cX4_shrinks 10 = .ok (.iload_n 3, 1) := dk_29 (dk_at dksX4_shrinks_0 10 rfl rfl)
theorem dX4_shrinks_11 : decode cX4_shrinks 11 = .ok (.iconst 3, 1) := dk_6 (dk_at dksX4_shrinks_0 11 rfl rfl)
theorem dX4_shrinks_12 : decode cX4_shrinks 12 = .ok (.if_icmp .gt 20, 3) := dk_163 0 20 (dk_at dksX4_shrinks_0 12 rfl rfl)
theorem dX4_shrinks_15 : decode cX4_shrinks 15 = .ok (.iload_n 2, 1) := dk_28 (dk_at dksX4_shrinks_0 15 rfl rfl)
theorem dX4_shrinks_16 : decode cX4_shrinks 16 = .ok (.ifCond .ne 16, 3) := dk_154 0 16 (dk_at dksX4_shrinks_0 16 rfl rfl)
theorem dX4_shrinks_19 : decode cX4_shrinks 19 = .ok (.aload_n 0, 1) := dk_42 (dk_at dksX4_shrinks_0 19 rfl rfl)
theorem dX4_shrinks_20 : decode cX4_shrinks 20 = .ok (.iload_n 3, 1) := dk_29 (dk_at dksX4_shrinks_0 20 rfl rfl)
theorem dX4_shrinks_21 : decode cX4_shrinks 21 = .ok (.iload_n 1, 1) := dk_27 (dk_at dksX4_shrinks_0 21 rfl rfl)
theorem dX4_shrinks_22 : decode cX4_shrinks 22 = .ok (.invokevirtual 102, 3) := dk_182 0 102 (dk_at dksX4_shrinks_1 0 rfl rfl)
theorem dX4_shrinks_25 : decode cX4_shrinks 25 = .ok (.istore_n 2, 1) := dk_61 (dk_at dksX4_shrinks_1 3 rfl rfl)
theorem dX4_shrinks_26 : decode cX4_shrinks 26 = .ok (.iinc 3 1, 3) := dk_132 3 1 (dk_at dksX4_shrinks_1 4 rfl rfl)
theorem dX4_shrinks_29 : decode cX4_shrinks 29 = .ok (.goto (-19), 3) := dk_167 255 237 (dk_at dksX4_shrinks_1 7 rfl rfl)
theorem dX4_shrinks_32 : decode cX4_shrinks 32 = .ok (.goto (-30), 3) := dk_167 255 226 (dk_at dksX4_shrinks_1 10 rfl rfl)
theorem dX4_shrinks_35 : decode cX4_shrinks 35 = .ok (.return_, 1) := dk_177 (dk_at dksX4_shrinks_1 13 rfl rfl)
abbrev cX4_shrinksBy : ByteArray := prog_2_method_18_code
def yX4_shrinksBy : MethodName := ⟨RX4, "shrinksBy", "(II)Z"⟩
def dkwX4_shrinksBy_2 : List UInt8 := [167, 255, 227, 132, 3, 1, 167, 255, 205, 3, 172]
abbrev dktX4_shrinksBy_2 : List UInt8 := dkwX4_shrinksBy_2 ++ []
def dkwX4_shrinksBy_1 : List UInt8 := [182, 0, 44, 162, 0, 23, 42, 27, 29, 21, 4, 28, 182, 0, 106, 153, 0, 5, 4, 172, 132, 4, 1]
abbrev dktX4_shrinksBy_1 : List UInt8 := dkwX4_shrinksBy_1 ++ dktX4_shrinksBy_2
def dkwX4_shrinksBy_0 : List UInt8 := [3, 62, 29, 42, 180, 0, 10, 182, 0, 44, 162, 0, 46, 29, 4, 96, 54, 4, 21, 4, 42, 180, 0, 10]
abbrev dktX4_shrinksBy_0 : List UInt8 := dkwX4_shrinksBy_0 ++ dktX4_shrinksBy_1
theorem dksX4_shrinksBy_0 : cX4_shrinksBy.data.toList.drop 0 = dktX4_shrinksBy_0 := by decide +kernel
theorem dksX4_shrinksBy_1 : cX4_shrinksBy.data.toList.drop 24 = dktX4_shrinksBy_1 := dk_seg dksX4_shrinksBy_0 24 rfl rfl
theorem dksX4_shrinksBy_2 : cX4_shrinksBy.data.toList.drop 47 = dktX4_shrinksBy_2 := dk_seg dksX4_shrinksBy_1 23 rfl rfl
theorem dX4_shrinksBy_0 : decode cX4_shrinksBy 0 = .ok (.iconst 0, 1) := dk_3 (dk_at dksX4_shrinksBy_0 0 rfl rfl)
theorem dX4_shrinksBy_1 : decode cX4_shrinksBy 1 = .ok (.istore_n 3, 1) := dk_62 (dk_at dksX4_shrinksBy_0 1 rfl rfl)
theorem dX4_shrinksBy_2 : decode cX4_shrinksBy 2 = .ok (.iload_n 3, 1) := dk_29 (dk_at dksX4_shrinksBy_0 2 rfl rfl)
theorem dX4_shrinksBy_3 : decode cX4_shrinksBy 3 = .ok (.aload_n 0, 1) := dk_42 (dk_at dksX4_shrinksBy_0 3 rfl rfl)
theorem dX4_shrinksBy_4 : decode cX4_shrinksBy 4 = .ok (.getfield 10, 3) := dk_180 0 10 (dk_at dksX4_shrinksBy_0 4 rfl rfl)
theorem dX4_shrinksBy_7 : decode cX4_shrinksBy 7 = .ok (.invokevirtual 44, 3) := dk_182 0 44 (dk_at dksX4_shrinksBy_0 7 rfl rfl)
theorem dX4_shrinksBy_10 : decode cX4_shrinksBy 10 = .ok (.if_icmp .ge 46, 3) := dk_162 0 46 (dk_at dksX4_shrinksBy_0 10 rfl rfl)
theorem dX4_shrinksBy_13 : decode cX4_shrinksBy 13 = .ok (.iload_n 3, 1) := dk_29 (dk_at dksX4_shrinksBy_0 13 rfl rfl)
theorem dX4_shrinksBy_14 : decode cX4_shrinksBy 14 = .ok (.iconst 1, 1) := dk_4 (dk_at dksX4_shrinksBy_0 14 rfl rfl)
theorem dX4_shrinksBy_15 : decode cX4_shrinksBy 15 = .ok (.iadd, 1) := dk_96 (dk_at dksX4_shrinksBy_0 15 rfl rfl)
theorem dX4_shrinksBy_16 : decode cX4_shrinksBy 16 = .ok (.istore 4, 2) := dk_54 4 (dk_at dksX4_shrinksBy_0 16 rfl rfl)
theorem dX4_shrinksBy_18 : decode cX4_shrinksBy 18 = .ok (.iload 4, 2) := dk_21 4 (dk_at dksX4_shrinksBy_0 18 rfl rfl)
theorem dX4_shrinksBy_20 : decode cX4_shrinksBy 20 = .ok (.aload_n 0, 1) := dk_42 (dk_at dksX4_shrinksBy_0 20 rfl rfl)
theorem dX4_shrinksBy_21 : decode cX4_shrinksBy 21 = .ok (.getfield 10, 3) := dk_180 0 10 (dk_at dksX4_shrinksBy_0 21 rfl rfl)
theorem dX4_shrinksBy_24 : decode cX4_shrinksBy 24 = .ok (.invokevirtual 44, 3) := dk_182 0 44 (dk_at dksX4_shrinksBy_1 0 rfl rfl)
theorem dX4_shrinksBy_27 : decode cX4_shrinksBy 27 = .ok (.if_icmp .ge 23, 3) := dk_162 0 23 (dk_at dksX4_shrinksBy_1 3 rfl rfl)
theorem dX4_shrinksBy_30 : decode cX4_shrinksBy 30 = .ok (.aload_n 0, 1) := dk_42 (dk_at dksX4_shrinksBy_1 6 rfl rfl)
theorem dX4_shrinksBy_31 : decode cX4_shrinksBy 31 = .ok (.iload_n 1, 1) := dk_27 (dk_at dksX4_shrinksBy_1 7 rfl rfl)
theorem dX4_shrinksBy_32 : decode cX4_shrinksBy 32 = .ok (.iload_n 3, 1) := dk_29 (dk_at dksX4_shrinksBy_1 8 rfl rfl)
theorem dX4_shrinksBy_33 : decode cX4_shrinksBy 33 = .ok (.iload 4, 2) := dk_21 4 (dk_at dksX4_shrinksBy_1 9 rfl rfl)
theorem dX4_shrinksBy_35 : decode cX4_shrinksBy 35 = .ok (.iload_n 2, 1) := dk_28 (dk_at dksX4_shrinksBy_1 11 rfl rfl)
theorem dX4_shrinksBy_36 : decode cX4_shrinksBy 36 = .ok (.invokevirtual 106, 3) := dk_182 0 106 (dk_at dksX4_shrinksBy_1 12 rfl rfl)
theorem dX4_shrinksBy_39 : decode cX4_shrinksBy 39 = .ok (.ifCond .eq 5, 3) := dk_153 0 5 (dk_at dksX4_shrinksBy_1 15 rfl rfl)
theorem dX4_shrinksBy_42 : decode cX4_shrinksBy 42 = .ok (.iconst 1, 1) := dk_4 (dk_at dksX4_shrinksBy_1 18 rfl rfl)
theorem dX4_shrinksBy_43 : decode cX4_shrinksBy 43 = .ok (.ireturn, 1) := dk_172 (dk_at dksX4_shrinksBy_1 19 rfl rfl)
theorem dX4_shrinksBy_44 : decode cX4_shrinksBy 44 = .ok (.iinc 4 1, 3) := dk_132 4 1 (dk_at dksX4_shrinksBy_1 20 rfl rfl)
theorem dX4_shrinksBy_47 : decode cX4_shrinksBy 47 = .ok (.goto (-29), 3) := dk_167 255 227 (dk_at dksX4_shrinksBy_2 0 rfl rfl)
theorem dX4_shrinksBy_50 : decode cX4_shrinksBy 50 = .ok (.iinc 3 1, 3) := dk_132 3 1 (dk_at dksX4_shrinksBy_2 3 rfl rfl)
theorem dX4_shrinksBy_53 : decode cX4_shrinksBy 53 = .ok (.goto (-51), 3) := dk_167 255 205 (dk_at dksX4_shrinksBy_2 6 rfl rfl)
theorem dX4_shrinksBy_56 : decode cX4_shrinksBy 56 = .ok (.iconst 0, 1) := dk_3 (dk_at dksX4_shrinksBy_2 9 rfl rfl)
theorem dX4_shrinksBy_57 : decode cX4_shrinksBy 57 = .ok (.ireturn, 1) := dk_172 (dk_at dksX4_shrinksBy_2 10 rfl rfl)
abbrev cX4_isDone : ByteArray := prog_2_method_19_code
def yX4_isDone : MethodName := ⟨RX4, "isDone", "(IIII)Z"⟩
def dkwX4_isDone_5 : List UInt8 := [198, 0, 13, 42, 180, 0, 10, 29, 25, 7, 182, 0, 78, 42, 180, 0, 10, 28, 182, 0, 75, 87, 4, 172]
abbrev dktX4_isDone_5 : List UInt8 := dkwX4_isDone_5 ++ []
def dkwX4_isDone_4 : List UInt8 := [29, 21, 4, 182, 0, 117, 154, 0, 5, 3, 172, 42, 180, 0, 10, 29, 182, 0, 75, 87, 25, 7]
abbrev dktX4_isDone_4 : List UInt8 := dkwX4_isDone_4 ++ dktX4_isDone_5
def dkwX4_isDone_3 : List UInt8 := [167, 0, 10, 25, 6, 25, 5, 182, 0, 114, 58, 7, 27, 4, 164, 0, 8, 25, 7, 198, 0, 14, 42, 28]
abbrev dktX4_isDone_3 : List UInt8 := dkwX4_isDone_3 ++ dktX4_isDone_4
def dkwX4_isDone_2 : List UInt8 := [27, 6, 160, 0, 32, 25, 5, 25, 6, 182, 0, 114, 198, 0, 13, 25, 5, 25, 6, 182, 0, 114]
abbrev dktX4_isDone_2 : List UInt8 := dkwX4_isDone_2 ++ dktX4_isDone_3
def dkwX4_isDone_1 : List UInt8 := [25, 6, 182, 0, 98, 154, 0, 5, 3, 172, 27, 5, 160, 0, 12, 25, 5, 25, 6, 182, 0, 110, 58, 7]
abbrev dktX4_isDone_1 : List UInt8 := dkwX4_isDone_1 ++ dktX4_isDone_2
def dkwX4_isDone_0 : List UInt8 := [42, 28, 182, 0, 82, 58, 5, 42, 29, 182, 0, 82, 58, 6, 1, 58, 7, 27, 4, 160, 0, 15, 25, 5]
abbrev dktX4_isDone_0 : List UInt8 := dkwX4_isDone_0 ++ dktX4_isDone_1
theorem dksX4_isDone_0 : cX4_isDone.data.toList.drop 0 = dktX4_isDone_0 := by decide +kernel
theorem dksX4_isDone_1 : cX4_isDone.data.toList.drop 24 = dktX4_isDone_1 := dk_seg dksX4_isDone_0 24 rfl rfl
theorem dksX4_isDone_2 : cX4_isDone.data.toList.drop 48 = dktX4_isDone_2 := dk_seg dksX4_isDone_1 24 rfl rfl
theorem dksX4_isDone_3 : cX4_isDone.data.toList.drop 70 = dktX4_isDone_3 := dk_seg dksX4_isDone_2 22 rfl rfl
theorem dksX4_isDone_4 : cX4_isDone.data.toList.drop 94 = dktX4_isDone_4 := dk_seg dksX4_isDone_3 24 rfl rfl
theorem dksX4_isDone_5 : cX4_isDone.data.toList.drop 116 = dktX4_isDone_5 := dk_seg dksX4_isDone_4 22 rfl rfl
theorem dX4_isDone_0 : decode cX4_isDone 0 = .ok (.aload_n 0, 1) := dk_42 (dk_at dksX4_isDone_0 0 rfl rfl)
theorem dX4_isDone_1 : decode cX4_isDone 1 = .ok (.iload_n 2, 1) := dk_28 (dk_at dksX4_isDone_0 1 rfl rfl)
theorem dX4_isDone_2 : decode cX4_isDone 2 = .ok (.invokevirtual 82, 3) := dk_182 0 82 (dk_at dksX4_isDone_0 2 rfl rfl)
theorem dX4_isDone_5 : decode cX4_isDone 5 = .ok (.astore 5, 2) := dk_58 5 (dk_at dksX4_isDone_0 5 rfl rfl)
theorem dX4_isDone_7 : decode cX4_isDone 7 = .ok (.aload_n 0, 1) := dk_42 (dk_at dksX4_isDone_0 7 rfl rfl)
theorem dX4_isDone_8 : decode cX4_isDone 8 = .ok (.iload_n 3, 1) := dk_29 (dk_at dksX4_isDone_0 8 rfl rfl)
theorem dX4_isDone_9 : decode cX4_isDone 9 = .ok (.invokevirtual 82, 3) := dk_182 0 82 (dk_at dksX4_isDone_0 9 rfl rfl)
theorem dX4_isDone_12 : decode cX4_isDone 12 = .ok (.astore 6, 2) := dk_58 6 (dk_at dksX4_isDone_0 12 rfl rfl)
theorem dX4_isDone_14 : decode cX4_isDone 14 = .ok (.aconst_null, 1) := dk_1 (dk_at dksX4_isDone_0 14 rfl rfl)
theorem dX4_isDone_15 : decode cX4_isDone 15 = .ok (.astore 7, 2) := dk_58 7 (dk_at dksX4_isDone_0 15 rfl rfl)
theorem dX4_isDone_17 : decode cX4_isDone 17 = .ok (.iload_n 1, 1) := dk_27 (dk_at dksX4_isDone_0 17 rfl rfl)
theorem dX4_isDone_18 : decode cX4_isDone 18 = .ok (.iconst 1, 1) := dk_4 (dk_at dksX4_isDone_0 18 rfl rfl)
theorem dX4_isDone_19 : decode cX4_isDone 19 = .ok (.if_icmp .ne 15, 3) := dk_160 0 15 (dk_at dksX4_isDone_0 19 rfl rfl)
theorem dX4_isDone_22 : decode cX4_isDone 22 = .ok (.aload 5, 2) := dk_25 5 (dk_at dksX4_isDone_0 22 rfl rfl)
theorem dX4_isDone_24 : decode cX4_isDone 24 = .ok (.aload 6, 2) := dk_25 6 (dk_at dksX4_isDone_1 0 rfl rfl)
theorem dX4_isDone_26 : decode cX4_isDone 26 = .ok (.invokevirtual 98, 3) := dk_182 0 98 (dk_at dksX4_isDone_1 2 rfl rfl)
theorem dX4_isDone_29 : decode cX4_isDone 29 = .ok (.ifCond .ne 5, 3) := dk_154 0 5 (dk_at dksX4_isDone_1 5 rfl rfl)
theorem dX4_isDone_32 : decode cX4_isDone 32 = .ok (.iconst 0, 1) := dk_3 (dk_at dksX4_isDone_1 8 rfl rfl)
theorem dX4_isDone_33 : decode cX4_isDone 33 = .ok (.ireturn, 1) := dk_172 (dk_at dksX4_isDone_1 9 rfl rfl)
theorem dX4_isDone_34 : decode cX4_isDone 34 = .ok (.iload_n 1, 1) := dk_27 (dk_at dksX4_isDone_1 10 rfl rfl)
theorem dX4_isDone_35 : decode cX4_isDone 35 = .ok (.iconst 2, 1) := dk_5 (dk_at dksX4_isDone_1 11 rfl rfl)
theorem dX4_isDone_36 : decode cX4_isDone 36 = .ok (.if_icmp .ne 12, 3) := dk_160 0 12 (dk_at dksX4_isDone_1 12 rfl rfl)
theorem dX4_isDone_39 : decode cX4_isDone 39 = .ok (.aload 5, 2) := dk_25 5 (dk_at dksX4_isDone_1 15 rfl rfl)
theorem dX4_isDone_41 : decode cX4_isDone 41 = .ok (.aload 6, 2) := dk_25 6 (dk_at dksX4_isDone_1 17 rfl rfl)
theorem dX4_isDone_43 : decode cX4_isDone 43 = .ok (.invokevirtual 110, 3) := dk_182 0 110 (dk_at dksX4_isDone_1 19 rfl rfl)
theorem dX4_isDone_46 : decode cX4_isDone 46 = .ok (.astore 7, 2) := dk_58 7 (dk_at dksX4_isDone_1 22 rfl rfl)
theorem dX4_isDone_48 : decode cX4_isDone 48 = .ok (.iload_n 1, 1) := dk_27 (dk_at dksX4_isDone_2 0 rfl rfl)
theorem dX4_isDone_49 : decode cX4_isDone 49 = .ok (.iconst 3, 1) := dk_6 (dk_at dksX4_isDone_2 1 rfl rfl)
theorem dX4_isDone_50 : decode cX4_isDone 50 = .ok (.if_icmp .ne 32, 3) := dk_160 0 32 (dk_at dksX4_isDone_2 2 rfl rfl)
theorem dX4_isDone_53 : decode cX4_isDone 53 = .ok (.aload 5, 2) := dk_25 5 (dk_at dksX4_isDone_2 5 rfl rfl)
theorem dX4_isDone_55 : decode cX4_isDone 55 = .ok (.aload 6, 2) := dk_25 6 (dk_at dksX4_isDone_2 7 rfl rfl)
theorem dX4_isDone_57 : decode cX4_isDone 57 = .ok (.invokevirtual 114, 3) := dk_182 0 114 (dk_at dksX4_isDone_2 9 rfl rfl)
theorem dX4_isDone_60 : decode cX4_isDone 60 = .ok (.ifnull 13, 3) := dk_198 0 13 (dk_at dksX4_isDone_2 12 rfl rfl)
theorem dX4_isDone_63 : decode cX4_isDone 63 = .ok (.aload 5, 2) := dk_25 5 (dk_at dksX4_isDone_2 15 rfl rfl)
theorem dX4_isDone_65 : decode cX4_isDone 65 = .ok (.aload 6, 2) := dk_25 6 (dk_at dksX4_isDone_2 17 rfl rfl)
theorem dX4_isDone_67 : decode cX4_isDone 67 = .ok (.invokevirtual 114, 3) := dk_182 0 114 (dk_at dksX4_isDone_2 19 rfl rfl)
theorem dX4_isDone_70 : decode cX4_isDone 70 = .ok (.goto 10, 3) := dk_167 0 10 (dk_at dksX4_isDone_3 0 rfl rfl)
theorem dX4_isDone_73 : decode cX4_isDone 73 = .ok (.aload 6, 2) := dk_25 6 (dk_at dksX4_isDone_3 3 rfl rfl)
theorem dX4_isDone_75 : decode cX4_isDone 75 = .ok (.aload 5, 2) := dk_25 5 (dk_at dksX4_isDone_3 5 rfl rfl)
theorem dX4_isDone_77 : decode cX4_isDone 77 = .ok (.invokevirtual 114, 3) := dk_182 0 114 (dk_at dksX4_isDone_3 7 rfl rfl)
theorem dX4_isDone_80 : decode cX4_isDone 80 = .ok (.astore 7, 2) := dk_58 7 (dk_at dksX4_isDone_3 10 rfl rfl)
theorem dX4_isDone_82 : decode cX4_isDone 82 = .ok (.iload_n 1, 1) := dk_27 (dk_at dksX4_isDone_3 12 rfl rfl)
theorem dX4_isDone_83 : decode cX4_isDone 83 = .ok (.iconst 1, 1) := dk_4 (dk_at dksX4_isDone_3 13 rfl rfl)
theorem dX4_isDone_84 : decode cX4_isDone 84 = .ok (.if_icmp .le 8, 3) := dk_164 0 8 (dk_at dksX4_isDone_3 14 rfl rfl)
theorem dX4_isDone_87 : decode cX4_isDone 87 = .ok (.aload 7, 2) := dk_25 7 (dk_at dksX4_isDone_3 17 rfl rfl)
theorem dX4_isDone_89 : decode cX4_isDone 89 = .ok (.ifnull 14, 3) := dk_198 0 14 (dk_at dksX4_isDone_3 19 rfl rfl)
theorem dX4_isDone_92 : decode cX4_isDone 92 = .ok (.aload_n 0, 1) := dk_42 (dk_at dksX4_isDone_3 22 rfl rfl)
theorem dX4_isDone_93 : decode cX4_isDone 93 = .ok (.iload_n 2, 1) := dk_28 (dk_at dksX4_isDone_3 23 rfl rfl)
theorem dX4_isDone_94 : decode cX4_isDone 94 = .ok (.iload_n 3, 1) := dk_29 (dk_at dksX4_isDone_4 0 rfl rfl)
theorem dX4_isDone_95 : decode cX4_isDone 95 = .ok (.iload 4, 2) := dk_21 4 (dk_at dksX4_isDone_4 1 rfl rfl)
theorem dX4_isDone_97 : decode cX4_isDone 97 = .ok (.invokevirtual 117, 3) := dk_182 0 117 (dk_at dksX4_isDone_4 3 rfl rfl)
theorem dX4_isDone_100 : decode cX4_isDone 100 = .ok (.ifCond .ne 5, 3) := dk_154 0 5 (dk_at dksX4_isDone_4 6 rfl rfl)
theorem dX4_isDone_103 : decode cX4_isDone 103 = .ok (.iconst 0, 1) := dk_3 (dk_at dksX4_isDone_4 9 rfl rfl)
theorem dX4_isDone_104 : decode cX4_isDone 104 = .ok (.ireturn, 1) := dk_172 (dk_at dksX4_isDone_4 10 rfl rfl)
theorem dX4_isDone_105 : decode cX4_isDone 105 = .ok (.aload_n 0, 1) := dk_42 (dk_at dksX4_isDone_4 11 rfl rfl)
theorem dX4_isDone_106 : decode cX4_isDone 106 = .ok (.getfield 10, 3) := dk_180 0 10 (dk_at dksX4_isDone_4 12 rfl rfl)
theorem dX4_isDone_109 : decode cX4_isDone 109 = .ok (.iload_n 3, 1) := dk_29 (dk_at dksX4_isDone_4 15 rfl rfl)
theorem dX4_isDone_110 : decode cX4_isDone 110 = .ok (.invokevirtual 75, 3) := dk_182 0 75 (dk_at dksX4_isDone_4 16 rfl rfl)
theorem dX4_isDone_113 : decode cX4_isDone 113 = .ok (.pop, 1) := dk_87 (dk_at dksX4_isDone_4 19 rfl rfl)
theorem dX4_isDone_114 : decode cX4_isDone 114 = .ok (.aload 7, 2) := dk_25 7 (dk_at dksX4_isDone_4 20 rfl rfl)
theorem dX4_isDone_116 : decode cX4_isDone 116 = .ok (.ifnull 13, 3) := dk_198 0 13 (dk_at dksX4_isDone_5 0 rfl rfl)
theorem dX4_isDone_119 : decode cX4_isDone 119 = .ok (.aload_n 0, 1) := dk_42 (dk_at dksX4_isDone_5 3 rfl rfl)
theorem dX4_isDone_120 : decode cX4_isDone 120 = .ok (.getfield 10, 3) := dk_180 0 10 (dk_at dksX4_isDone_5 4 rfl rfl)
theorem dX4_isDone_123 : decode cX4_isDone 123 = .ok (.iload_n 3, 1) := dk_29 (dk_at dksX4_isDone_5 7 rfl rfl)
theorem dX4_isDone_124 : decode cX4_isDone 124 = .ok (.aload 7, 2) := dk_25 7 (dk_at dksX4_isDone_5 8 rfl rfl)
theorem dX4_isDone_126 : decode cX4_isDone 126 = .ok (.invokevirtual 78, 3) := dk_182 0 78 (dk_at dksX4_isDone_5 10 rfl rfl)
theorem dX4_isDone_129 : decode cX4_isDone 129 = .ok (.aload_n 0, 1) := dk_42 (dk_at dksX4_isDone_5 13 rfl rfl)
theorem dX4_isDone_130 : decode cX4_isDone 130 = .ok (.getfield 10, 3) := dk_180 0 10 (dk_at dksX4_isDone_5 14 rfl rfl)
theorem dX4_isDone_133 : decode cX4_isDone 133 = .ok (.iload_n 2, 1) := dk_28 (dk_at dksX4_isDone_5 17 rfl rfl)
theorem dX4_isDone_134 : decode cX4_isDone 134 = .ok (.invokevirtual 75, 3) := dk_182 0 75 (dk_at dksX4_isDone_5 18 rfl rfl)
theorem dX4_isDone_137 : decode cX4_isDone 137 = .ok (.pop, 1) := dk_87 (dk_at dksX4_isDone_5 21 rfl rfl)
theorem dX4_isDone_138 : decode cX4_isDone 138 = .ok (.iconst 1, 1) := dk_4 (dk_at dksX4_isDone_5 22 rfl rfl)
theorem dX4_isDone_139 : decode cX4_isDone 139 = .ok (.ireturn, 1) := dk_172 (dk_at dksX4_isDone_5 23 rfl rfl)
abbrev cX4_at : ByteArray := prog_2_method_5_code
def yX4_at : MethodName := ⟨RX4, "at", "(I)LBackLogic$Gate;"⟩
def dkwX4_at_0 : List UInt8 := [42, 180, 0, 10, 27, 182, 0, 48, 192, 0, 38, 176]
abbrev dktX4_at_0 : List UInt8 := dkwX4_at_0 ++ []
theorem dksX4_at_0 : cX4_at.data.toList.drop 0 = dktX4_at_0 := by decide +kernel
theorem dX4_at_0 : decode cX4_at 0 = .ok (.aload_n 0, 1) := dk_42 (dk_at dksX4_at_0 0 rfl rfl)
theorem dX4_at_1 : decode cX4_at 1 = .ok (.getfield 10, 3) := dk_180 0 10 (dk_at dksX4_at_0 1 rfl rfl)
theorem dX4_at_4 : decode cX4_at 4 = .ok (.iload_n 1, 1) := dk_27 (dk_at dksX4_at_0 4 rfl rfl)
theorem dX4_at_5 : decode cX4_at 5 = .ok (.invokevirtual 48, 3) := dk_182 0 48 (dk_at dksX4_at_0 5 rfl rfl)
theorem dX4_at_8 : decode cX4_at 8 = .ok (.checkcast 38, 3) := dk_192 0 38 (dk_at dksX4_at_0 8 rfl rfl)
theorem dX4_at_11 : decode cX4_at 11 = .ok (.areturn, 1) := dk_176 (dk_at dksX4_at_0 11 rfl rfl)
abbrev cX4_canCome : ByteArray := prog_2_method_16_code
def yX4_canCome : MethodName := ⟨RX4, "canCome", "(III)Z"⟩
def dkwX4_canCome_1 : List UInt8 := [182, 0, 94, 154, 0, 5, 3, 172, 132, 4, 1, 167, 255, 227, 4, 172]
abbrev dktX4_canCome_1 : List UInt8 := dkwX4_canCome_1 ++ []
def dkwX4_canCome_0 : List UInt8 := [27, 4, 96, 54, 4, 21, 4, 28, 162, 0, 29, 42, 27, 182, 0, 82, 42, 21, 4, 182, 0, 82, 29]
abbrev dktX4_canCome_0 : List UInt8 := dkwX4_canCome_0 ++ dktX4_canCome_1
theorem dksX4_canCome_0 : cX4_canCome.data.toList.drop 0 = dktX4_canCome_0 := by decide +kernel
theorem dksX4_canCome_1 : cX4_canCome.data.toList.drop 23 = dktX4_canCome_1 := dk_seg dksX4_canCome_0 23 rfl rfl
theorem dX4_canCome_0 : decode cX4_canCome 0 = .ok (.iload_n 1, 1) := dk_27 (dk_at dksX4_canCome_0 0 rfl rfl)
theorem dX4_canCome_1 : decode cX4_canCome 1 = .ok (.iconst 1, 1) := dk_4 (dk_at dksX4_canCome_0 1 rfl rfl)
theorem dX4_canCome_2 : decode cX4_canCome 2 = .ok (.iadd, 1) := dk_96 (dk_at dksX4_canCome_0 2 rfl rfl)
theorem dX4_canCome_3 : decode cX4_canCome 3 = .ok (.istore 4, 2) := dk_54 4 (dk_at dksX4_canCome_0 3 rfl rfl)
theorem dX4_canCome_5 : decode cX4_canCome 5 = .ok (.iload 4, 2) := dk_21 4 (dk_at dksX4_canCome_0 5 rfl rfl)
theorem dX4_canCome_7 : decode cX4_canCome 7 = .ok (.iload_n 2, 1) := dk_28 (dk_at dksX4_canCome_0 7 rfl rfl)
theorem dX4_canCome_8 : decode cX4_canCome 8 = .ok (.if_icmp .ge 29, 3) := dk_162 0 29 (dk_at dksX4_canCome_0 8 rfl rfl)
theorem dX4_canCome_11 : decode cX4_canCome 11 = .ok (.aload_n 0, 1) := dk_42 (dk_at dksX4_canCome_0 11 rfl rfl)
theorem dX4_canCome_12 : decode cX4_canCome 12 = .ok (.iload_n 1, 1) := dk_27 (dk_at dksX4_canCome_0 12 rfl rfl)
theorem dX4_canCome_13 : decode cX4_canCome 13 = .ok (.invokevirtual 82, 3) := dk_182 0 82 (dk_at dksX4_canCome_0 13 rfl rfl)
theorem dX4_canCome_16 : decode cX4_canCome 16 = .ok (.aload_n 0, 1) := dk_42 (dk_at dksX4_canCome_0 16 rfl rfl)
theorem dX4_canCome_17 : decode cX4_canCome 17 = .ok (.iload 4, 2) := dk_21 4 (dk_at dksX4_canCome_0 17 rfl rfl)
theorem dX4_canCome_19 : decode cX4_canCome 19 = .ok (.invokevirtual 82, 3) := dk_182 0 82 (dk_at dksX4_canCome_0 19 rfl rfl)
theorem dX4_canCome_22 : decode cX4_canCome 22 = .ok (.iload_n 3, 1) := dk_29 (dk_at dksX4_canCome_0 22 rfl rfl)
theorem dX4_canCome_23 : decode cX4_canCome 23 = .ok (.invokevirtual 94, 3) := dk_182 0 94 (dk_at dksX4_canCome_1 0 rfl rfl)
theorem dX4_canCome_26 : decode cX4_canCome 26 = .ok (.ifCond .ne 5, 3) := dk_154 0 5 (dk_at dksX4_canCome_1 3 rfl rfl)
theorem dX4_canCome_29 : decode cX4_canCome 29 = .ok (.iconst 0, 1) := dk_3 (dk_at dksX4_canCome_1 6 rfl rfl)
theorem dX4_canCome_30 : decode cX4_canCome 30 = .ok (.ireturn, 1) := dk_172 (dk_at dksX4_canCome_1 7 rfl rfl)
theorem dX4_canCome_31 : decode cX4_canCome 31 = .ok (.iinc 4 1, 3) := dk_132 4 1 (dk_at dksX4_canCome_1 8 rfl rfl)
theorem dX4_canCome_34 : decode cX4_canCome 34 = .ok (.goto (-29), 3) := dk_167 255 227 (dk_at dksX4_canCome_1 11 rfl rfl)
theorem dX4_canCome_37 : decode cX4_canCome 37 = .ok (.iconst 1, 1) := dk_4 (dk_at dksX4_canCome_1 14 rfl rfl)
theorem dX4_canCome_38 : decode cX4_canCome 38 = .ok (.ireturn, 1) := dk_172 (dk_at dksX4_canCome_1 15 rfl rfl)
abbrev cX4_orders : ByteArray := prog_2_method_9_code
def yX4_orders : MethodName := ⟨RX4, "orders", "([II)V"⟩
def dkwX4_orders_0 : List UInt8 := [3, 62, 29, 28, 162, 0, 17, 43, 29, 42, 29, 182, 0, 65, 79, 132, 3, 1, 167, 255, 240, 177]
abbrev dktX4_orders_0 : List UInt8 := dkwX4_orders_0 ++ []
theorem dksX4_orders_0 : cX4_orders.data.toList.drop 0 = dktX4_orders_0 := by decide +kernel
theorem dX4_orders_0 : decode cX4_orders 0 = .ok (.iconst 0, 1) := dk_3 (dk_at dksX4_orders_0 0 rfl rfl)
theorem dX4_orders_1 : decode cX4_orders 1 = .ok (.istore_n 3, 1) := dk_62 (dk_at dksX4_orders_0 1 rfl rfl)
theorem dX4_orders_2 : decode cX4_orders 2 = .ok (.iload_n 3, 1) := dk_29 (dk_at dksX4_orders_0 2 rfl rfl)
theorem dX4_orders_3 : decode cX4_orders 3 = .ok (.iload_n 2, 1) := dk_28 (dk_at dksX4_orders_0 3 rfl rfl)
theorem dX4_orders_4 : decode cX4_orders 4 = .ok (.if_icmp .ge 17, 3) := dk_162 0 17 (dk_at dksX4_orders_0 4 rfl rfl)
theorem dX4_orders_7 : decode cX4_orders 7 = .ok (.aload_n 1, 1) := dk_43 (dk_at dksX4_orders_0 7 rfl rfl)
theorem dX4_orders_8 : decode cX4_orders 8 = .ok (.iload_n 3, 1) := dk_29 (dk_at dksX4_orders_0 8 rfl rfl)
theorem dX4_orders_9 : decode cX4_orders 9 = .ok (.aload_n 0, 1) := dk_42 (dk_at dksX4_orders_0 9 rfl rfl)
theorem dX4_orders_10 : decode cX4_orders 10 = .ok (.iload_n 3, 1) := dk_29 (dk_at dksX4_orders_0 10 rfl rfl)
theorem dX4_orders_11 : decode cX4_orders 11 = .ok (.invokevirtual 65, 3) := dk_182 0 65 (dk_at dksX4_orders_0 11 rfl rfl)
theorem dX4_orders_14 : decode cX4_orders 14 = .ok (.iastore, 1) := dk_79 (dk_at dksX4_orders_0 14 rfl rfl)
theorem dX4_orders_15 : decode cX4_orders 15 = .ok (.iinc 3 1, 3) := dk_132 3 1 (dk_at dksX4_orders_0 15 rfl rfl)
theorem dX4_orders_18 : decode cX4_orders 18 = .ok (.goto (-16), 3) := dk_167 255 240 (dk_at dksX4_orders_0 18 rfl rfl)
theorem dX4_orders_21 : decode cX4_orders 21 = .ok (.return_, 1) := dk_177 (dk_at dksX4_orders_0 21 rfl rfl)
abbrev cX4_made : ByteArray := prog_2_method_8_code
def yX4_made : MethodName := ⟨RX4, "made", "(I)I"⟩
def dkwX4_made_0 : List UInt8 := [42, 27, 42, 180, 0, 10, 182, 0, 44, 182, 0, 62, 172]
abbrev dktX4_made_0 : List UInt8 := dkwX4_made_0 ++ []
theorem dksX4_made_0 : cX4_made.data.toList.drop 0 = dktX4_made_0 := by decide +kernel
theorem dX4_made_0 : decode cX4_made 0 = .ok (.aload_n 0, 1) := dk_42 (dk_at dksX4_made_0 0 rfl rfl)
theorem dX4_made_1 : decode cX4_made 1 = .ok (.iload_n 1, 1) := dk_27 (dk_at dksX4_made_0 1 rfl rfl)
theorem dX4_made_2 : decode cX4_made 2 = .ok (.aload_n 0, 1) := dk_42 (dk_at dksX4_made_0 2 rfl rfl)
theorem dX4_made_3 : decode cX4_made 3 = .ok (.getfield 10, 3) := dk_180 0 10 (dk_at dksX4_made_0 3 rfl rfl)
theorem dX4_made_6 : decode cX4_made 6 = .ok (.invokevirtual 44, 3) := dk_182 0 44 (dk_at dksX4_made_0 6 rfl rfl)
theorem dX4_made_9 : decode cX4_made 9 = .ok (.invokevirtual 62, 3) := dk_182 0 62 (dk_at dksX4_made_0 9 rfl rfl)
theorem dX4_made_12 : decode cX4_made 12 = .ok (.ireturn, 1) := dk_172 (dk_at dksX4_made_0 12 rfl rfl)
abbrev cX4_made_2 : ByteArray := prog_2_method_7_code
def yX4_made_2 : MethodName := ⟨RX4, "made", "(II)I"⟩
def dkwX4_made_2_1 : List UInt8 := [185, 0, 34, 1, 0, 192, 0, 38, 29, 182, 0, 58, 62, 132, 4, 1, 167, 255, 232, 29, 172]
abbrev dktX4_made_2_1 : List UInt8 := dkwX4_made_2_1 ++ []
def dkwX4_made_2_0 : List UInt8 := [27, 62, 3, 54, 4, 42, 180, 0, 10, 182, 0, 24, 58, 5, 21, 4, 28, 162, 0, 24, 25, 5]
abbrev dktX4_made_2_0 : List UInt8 := dkwX4_made_2_0 ++ dktX4_made_2_1
theorem dksX4_made_2_0 : cX4_made_2.data.toList.drop 0 = dktX4_made_2_0 := by decide +kernel
theorem dksX4_made_2_1 : cX4_made_2.data.toList.drop 22 = dktX4_made_2_1 := dk_seg dksX4_made_2_0 22 rfl rfl
theorem dX4_made_2_0 : decode cX4_made_2 0 = .ok (.iload_n 1, 1) := dk_27 (dk_at dksX4_made_2_0 0 rfl rfl)
theorem dX4_made_2_1 : decode cX4_made_2 1 = .ok (.istore_n 3, 1) := dk_62 (dk_at dksX4_made_2_0 1 rfl rfl)
theorem dX4_made_2_2 : decode cX4_made_2 2 = .ok (.iconst 0, 1) := dk_3 (dk_at dksX4_made_2_0 2 rfl rfl)
theorem dX4_made_2_3 : decode cX4_made_2 3 = .ok (.istore 4, 2) := dk_54 4 (dk_at dksX4_made_2_0 3 rfl rfl)
theorem dX4_made_2_5 : decode cX4_made_2 5 = .ok (.aload_n 0, 1) := dk_42 (dk_at dksX4_made_2_0 5 rfl rfl)
theorem dX4_made_2_6 : decode cX4_made_2 6 = .ok (.getfield 10, 3) := dk_180 0 10 (dk_at dksX4_made_2_0 6 rfl rfl)
theorem dX4_made_2_9 : decode cX4_made_2 9 = .ok (.invokevirtual 24, 3) := dk_182 0 24 (dk_at dksX4_made_2_0 9 rfl rfl)
theorem dX4_made_2_12 : decode cX4_made_2 12 = .ok (.astore 5, 2) := dk_58 5 (dk_at dksX4_made_2_0 12 rfl rfl)
theorem dX4_made_2_14 : decode cX4_made_2 14 = .ok (.iload 4, 2) := dk_21 4 (dk_at dksX4_made_2_0 14 rfl rfl)
theorem dX4_made_2_16 : decode cX4_made_2 16 = .ok (.iload_n 2, 1) := dk_28 (dk_at dksX4_made_2_0 16 rfl rfl)
theorem dX4_made_2_17 : decode cX4_made_2 17 = .ok (.if_icmp .ge 24, 3) := dk_162 0 24 (dk_at dksX4_made_2_0 17 rfl rfl)
theorem dX4_made_2_20 : decode cX4_made_2 20 = .ok (.aload 5, 2) := dk_25 5 (dk_at dksX4_made_2_0 20 rfl rfl)
theorem dX4_made_2_22 : decode cX4_made_2 22 = .ok (.invokeinterface 34 1, 5) := by decide +kernel
theorem dX4_made_2_27 : decode cX4_made_2 27 = .ok (.checkcast 38, 3) := dk_192 0 38 (dk_at dksX4_made_2_1 5 rfl rfl)
theorem dX4_made_2_30 : decode cX4_made_2 30 = .ok (.iload_n 3, 1) := dk_29 (dk_at dksX4_made_2_1 8 rfl rfl)
theorem dX4_made_2_31 : decode cX4_made_2 31 = .ok (.invokevirtual 58, 3) := dk_182 0 58 (dk_at dksX4_made_2_1 9 rfl rfl)
theorem dX4_made_2_34 : decode cX4_made_2 34 = .ok (.istore_n 3, 1) := dk_62 (dk_at dksX4_made_2_1 12 rfl rfl)
theorem dX4_made_2_35 : decode cX4_made_2 35 = .ok (.iinc 4 1, 3) := dk_132 4 1 (dk_at dksX4_made_2_1 13 rfl rfl)
theorem dX4_made_2_38 : decode cX4_made_2 38 = .ok (.goto (-24), 3) := dk_167 255 232 (dk_at dksX4_made_2_1 16 rfl rfl)
theorem dX4_made_2_41 : decode cX4_made_2 41 = .ok (.iload_n 3, 1) := dk_29 (dk_at dksX4_made_2_1 19 rfl rfl)
theorem dX4_made_2_42 : decode cX4_made_2 42 = .ok (.ireturn, 1) := dk_172 (dk_at dksX4_made_2_1 20 rfl rfl)
abbrev cX4_turns : ByteArray := prog_2_method_10_code
def yX4_turns : MethodName := ⟨RX4, "turns", "()V"⟩
def dkwX4_turns_2 : List UInt8 := [182, 0, 69, 192, 0, 38, 182, 0, 40, 167, 255, 235, 177]
abbrev dktX4_turns_2 : List UInt8 := dkwX4_turns_2 ++ []
def dkwX4_turns_1 : List UInt8 := [182, 0, 69, 192, 0, 38, 182, 0, 72, 167, 255, 232, 43, 182, 0, 66, 154, 0, 20, 42, 180, 0, 10, 43]
abbrev dktX4_turns_1 : List UInt8 := dkwX4_turns_1 ++ dktX4_turns_2
def dkwX4_turns_0 : List UInt8 := [187, 0, 7, 89, 183, 0, 9, 76, 42, 180, 0, 10, 182, 0, 66, 154, 0, 20, 43, 42, 180, 0, 10]
abbrev dktX4_turns_0 : List UInt8 := dkwX4_turns_0 ++ dktX4_turns_1
theorem dksX4_turns_0 : cX4_turns.data.toList.drop 0 = dktX4_turns_0 := by decide +kernel
theorem dksX4_turns_1 : cX4_turns.data.toList.drop 23 = dktX4_turns_1 := dk_seg dksX4_turns_0 23 rfl rfl
theorem dksX4_turns_2 : cX4_turns.data.toList.drop 47 = dktX4_turns_2 := dk_seg dksX4_turns_1 24 rfl rfl
theorem dX4_turns_0 : decode cX4_turns 0 = .ok (.new 7, 3) := dk_187 0 7 (dk_at dksX4_turns_0 0 rfl rfl)
theorem dX4_turns_3 : decode cX4_turns 3 = .ok (.dup, 1) := dk_89 (dk_at dksX4_turns_0 3 rfl rfl)
theorem dX4_turns_4 : decode cX4_turns 4 = .ok (.invokespecial 9, 3) := dk_183 0 9 (dk_at dksX4_turns_0 4 rfl rfl)
theorem dX4_turns_7 : decode cX4_turns 7 = .ok (.astore_n 1, 1) := dk_76 (dk_at dksX4_turns_0 7 rfl rfl)
theorem dX4_turns_8 : decode cX4_turns 8 = .ok (.aload_n 0, 1) := dk_42 (dk_at dksX4_turns_0 8 rfl rfl)
theorem dX4_turns_9 : decode cX4_turns 9 = .ok (.getfield 10, 3) := dk_180 0 10 (dk_at dksX4_turns_0 9 rfl rfl)
theorem dX4_turns_12 : decode cX4_turns 12 = .ok (.invokevirtual 66, 3) := dk_182 0 66 (dk_at dksX4_turns_0 12 rfl rfl)
theorem dX4_turns_15 : decode cX4_turns 15 = .ok (.ifCond .ne 20, 3) := dk_154 0 20 (dk_at dksX4_turns_0 15 rfl rfl)
theorem dX4_turns_18 : decode cX4_turns 18 = .ok (.aload_n 1, 1) := dk_43 (dk_at dksX4_turns_0 18 rfl rfl)
theorem dX4_turns_19 : decode cX4_turns 19 = .ok (.aload_n 0, 1) := dk_42 (dk_at dksX4_turns_0 19 rfl rfl)
theorem dX4_turns_20 : decode cX4_turns 20 = .ok (.getfield 10, 3) := dk_180 0 10 (dk_at dksX4_turns_0 20 rfl rfl)
theorem dX4_turns_23 : decode cX4_turns 23 = .ok (.invokevirtual 69, 3) := dk_182 0 69 (dk_at dksX4_turns_1 0 rfl rfl)
theorem dX4_turns_26 : decode cX4_turns 26 = .ok (.checkcast 38, 3) := dk_192 0 38 (dk_at dksX4_turns_1 3 rfl rfl)
theorem dX4_turns_29 : decode cX4_turns 29 = .ok (.invokevirtual 72, 3) := dk_182 0 72 (dk_at dksX4_turns_1 6 rfl rfl)
theorem dX4_turns_32 : decode cX4_turns 32 = .ok (.goto (-24), 3) := dk_167 255 232 (dk_at dksX4_turns_1 9 rfl rfl)
theorem dX4_turns_35 : decode cX4_turns 35 = .ok (.aload_n 1, 1) := dk_43 (dk_at dksX4_turns_1 12 rfl rfl)
theorem dX4_turns_36 : decode cX4_turns 36 = .ok (.invokevirtual 66, 3) := dk_182 0 66 (dk_at dksX4_turns_1 13 rfl rfl)
theorem dX4_turns_39 : decode cX4_turns 39 = .ok (.ifCond .ne 20, 3) := dk_154 0 20 (dk_at dksX4_turns_1 16 rfl rfl)
theorem dX4_turns_42 : decode cX4_turns 42 = .ok (.aload_n 0, 1) := dk_42 (dk_at dksX4_turns_1 19 rfl rfl)
theorem dX4_turns_43 : decode cX4_turns 43 = .ok (.getfield 10, 3) := dk_180 0 10 (dk_at dksX4_turns_1 20 rfl rfl)
theorem dX4_turns_46 : decode cX4_turns 46 = .ok (.aload_n 1, 1) := dk_43 (dk_at dksX4_turns_1 23 rfl rfl)
theorem dX4_turns_47 : decode cX4_turns 47 = .ok (.invokevirtual 69, 3) := dk_182 0 69 (dk_at dksX4_turns_2 0 rfl rfl)
theorem dX4_turns_50 : decode cX4_turns 50 = .ok (.checkcast 38, 3) := dk_192 0 38 (dk_at dksX4_turns_2 3 rfl rfl)
theorem dX4_turns_53 : decode cX4_turns 53 = .ok (.invokevirtual 40, 3) := dk_182 0 40 (dk_at dksX4_turns_2 6 rfl rfl)
theorem dX4_turns_56 : decode cX4_turns 56 = .ok (.goto (-21), 3) := dk_167 255 235 (dk_at dksX4_turns_2 9 rfl rfl)
theorem dX4_turns_59 : decode cX4_turns 59 = .ok (.return_, 1) := dk_177 (dk_at dksX4_turns_2 12 rfl rfl)
abbrev cX4_levels : ByteArray := prog_2_method_12_code
def yX4_levels : MethodName := ⟨RX4, "levels", "([I)I"⟩
def dkwX4_levels_3 : List UInt8 := [28, 43, 29, 46, 4, 96, 184, 0, 89, 61, 132, 3, 1, 167, 255, 177, 28, 172]
abbrev dktX4_levels_3 : List UInt8 := dkwX4_levels_3 ++ []
def dkwX4_levels_2 : List UInt8 := [153, 0, 18, 43, 29, 43, 29, 46, 43, 21, 4, 46, 4, 96, 184, 0, 89, 79, 132, 4, 1, 167, 255, 211]
abbrev dktX4_levels_2 : List UInt8 := dkwX4_levels_2 ++ dktX4_levels_3
def dkwX4_levels_1 : List UInt8 := [29, 162, 0, 45, 42, 21, 4, 182, 0, 82, 182, 0, 86, 42, 29, 182, 0, 82, 182, 0, 86, 126]
abbrev dktX4_levels_1 : List UInt8 := dkwX4_levels_1 ++ dktX4_levels_2
def dkwX4_levels_0 : List UInt8 := [3, 61, 3, 62, 29, 42, 180, 0, 10, 182, 0, 44, 162, 0, 74, 43, 29, 3, 79, 3, 54, 4, 21, 4]
abbrev dktX4_levels_0 : List UInt8 := dkwX4_levels_0 ++ dktX4_levels_1
theorem dksX4_levels_0 : cX4_levels.data.toList.drop 0 = dktX4_levels_0 := by decide +kernel
theorem dksX4_levels_1 : cX4_levels.data.toList.drop 24 = dktX4_levels_1 := dk_seg dksX4_levels_0 24 rfl rfl
theorem dksX4_levels_2 : cX4_levels.data.toList.drop 46 = dktX4_levels_2 := dk_seg dksX4_levels_1 22 rfl rfl
theorem dksX4_levels_3 : cX4_levels.data.toList.drop 70 = dktX4_levels_3 := dk_seg dksX4_levels_2 24 rfl rfl
theorem dX4_levels_0 : decode cX4_levels 0 = .ok (.iconst 0, 1) := dk_3 (dk_at dksX4_levels_0 0 rfl rfl)
theorem dX4_levels_1 : decode cX4_levels 1 = .ok (.istore_n 2, 1) := dk_61 (dk_at dksX4_levels_0 1 rfl rfl)
theorem dX4_levels_2 : decode cX4_levels 2 = .ok (.iconst 0, 1) := dk_3 (dk_at dksX4_levels_0 2 rfl rfl)
theorem dX4_levels_3 : decode cX4_levels 3 = .ok (.istore_n 3, 1) := dk_62 (dk_at dksX4_levels_0 3 rfl rfl)
theorem dX4_levels_4 : decode cX4_levels 4 = .ok (.iload_n 3, 1) := dk_29 (dk_at dksX4_levels_0 4 rfl rfl)
theorem dX4_levels_5 : decode cX4_levels 5 = .ok (.aload_n 0, 1) := dk_42 (dk_at dksX4_levels_0 5 rfl rfl)
theorem dX4_levels_6 : decode cX4_levels 6 = .ok (.getfield 10, 3) := dk_180 0 10 (dk_at dksX4_levels_0 6 rfl rfl)
theorem dX4_levels_9 : decode cX4_levels 9 = .ok (.invokevirtual 44, 3) := dk_182 0 44 (dk_at dksX4_levels_0 9 rfl rfl)
theorem dX4_levels_12 : decode cX4_levels 12 = .ok (.if_icmp .ge 74, 3) := dk_162 0 74 (dk_at dksX4_levels_0 12 rfl rfl)
theorem dX4_levels_15 : decode cX4_levels 15 = .ok (.aload_n 1, 1) := dk_43 (dk_at dksX4_levels_0 15 rfl rfl)
theorem dX4_levels_16 : decode cX4_levels 16 = .ok (.iload_n 3, 1) := dk_29 (dk_at dksX4_levels_0 16 rfl rfl)
theorem dX4_levels_17 : decode cX4_levels 17 = .ok (.iconst 0, 1) := dk_3 (dk_at dksX4_levels_0 17 rfl rfl)
theorem dX4_levels_18 : decode cX4_levels 18 = .ok (.iastore, 1) := dk_79 (dk_at dksX4_levels_0 18 rfl rfl)
theorem dX4_levels_19 : decode cX4_levels 19 = .ok (.iconst 0, 1) := dk_3 (dk_at dksX4_levels_0 19 rfl rfl)
theorem dX4_levels_20 : decode cX4_levels 20 = .ok (.istore 4, 2) := dk_54 4 (dk_at dksX4_levels_0 20 rfl rfl)
theorem dX4_levels_22 : decode cX4_levels 22 = .ok (.iload 4, 2) := dk_21 4 (dk_at dksX4_levels_0 22 rfl rfl)
theorem dX4_levels_24 : decode cX4_levels 24 = .ok (.iload_n 3, 1) := dk_29 (dk_at dksX4_levels_1 0 rfl rfl)
theorem dX4_levels_25 : decode cX4_levels 25 = .ok (.if_icmp .ge 45, 3) := dk_162 0 45 (dk_at dksX4_levels_1 1 rfl rfl)
theorem dX4_levels_28 : decode cX4_levels 28 = .ok (.aload_n 0, 1) := dk_42 (dk_at dksX4_levels_1 4 rfl rfl)
theorem dX4_levels_29 : decode cX4_levels 29 = .ok (.iload 4, 2) := dk_21 4 (dk_at dksX4_levels_1 5 rfl rfl)
theorem dX4_levels_31 : decode cX4_levels 31 = .ok (.invokevirtual 82, 3) := dk_182 0 82 (dk_at dksX4_levels_1 7 rfl rfl)
theorem dX4_levels_34 : decode cX4_levels 34 = .ok (.invokevirtual 86, 3) := dk_182 0 86 (dk_at dksX4_levels_1 10 rfl rfl)
theorem dX4_levels_37 : decode cX4_levels 37 = .ok (.aload_n 0, 1) := dk_42 (dk_at dksX4_levels_1 13 rfl rfl)
theorem dX4_levels_38 : decode cX4_levels 38 = .ok (.iload_n 3, 1) := dk_29 (dk_at dksX4_levels_1 14 rfl rfl)
theorem dX4_levels_39 : decode cX4_levels 39 = .ok (.invokevirtual 82, 3) := dk_182 0 82 (dk_at dksX4_levels_1 15 rfl rfl)
theorem dX4_levels_42 : decode cX4_levels 42 = .ok (.invokevirtual 86, 3) := dk_182 0 86 (dk_at dksX4_levels_1 18 rfl rfl)
theorem dX4_levels_45 : decode cX4_levels 45 = .ok (.iand, 1) := dk_126 (dk_at dksX4_levels_1 21 rfl rfl)
theorem dX4_levels_46 : decode cX4_levels 46 = .ok (.ifCond .eq 18, 3) := dk_153 0 18 (dk_at dksX4_levels_2 0 rfl rfl)
theorem dX4_levels_49 : decode cX4_levels 49 = .ok (.aload_n 1, 1) := dk_43 (dk_at dksX4_levels_2 3 rfl rfl)
theorem dX4_levels_50 : decode cX4_levels 50 = .ok (.iload_n 3, 1) := dk_29 (dk_at dksX4_levels_2 4 rfl rfl)
theorem dX4_levels_51 : decode cX4_levels 51 = .ok (.aload_n 1, 1) := dk_43 (dk_at dksX4_levels_2 5 rfl rfl)
theorem dX4_levels_52 : decode cX4_levels 52 = .ok (.iload_n 3, 1) := dk_29 (dk_at dksX4_levels_2 6 rfl rfl)
theorem dX4_levels_53 : decode cX4_levels 53 = .ok (.iaload, 1) := dk_46 (dk_at dksX4_levels_2 7 rfl rfl)
theorem dX4_levels_54 : decode cX4_levels 54 = .ok (.aload_n 1, 1) := dk_43 (dk_at dksX4_levels_2 8 rfl rfl)
theorem dX4_levels_55 : decode cX4_levels 55 = .ok (.iload 4, 2) := dk_21 4 (dk_at dksX4_levels_2 9 rfl rfl)
theorem dX4_levels_57 : decode cX4_levels 57 = .ok (.iaload, 1) := dk_46 (dk_at dksX4_levels_2 11 rfl rfl)
theorem dX4_levels_58 : decode cX4_levels 58 = .ok (.iconst 1, 1) := dk_4 (dk_at dksX4_levels_2 12 rfl rfl)
theorem dX4_levels_59 : decode cX4_levels 59 = .ok (.iadd, 1) := dk_96 (dk_at dksX4_levels_2 13 rfl rfl)
theorem dX4_levels_60 : decode cX4_levels 60 = .ok (.invokestatic 89, 3) := dk_184 0 89 (dk_at dksX4_levels_2 14 rfl rfl)
theorem dX4_levels_63 : decode cX4_levels 63 = .ok (.iastore, 1) := dk_79 (dk_at dksX4_levels_2 17 rfl rfl)
theorem dX4_levels_64 : decode cX4_levels 64 = .ok (.iinc 4 1, 3) := dk_132 4 1 (dk_at dksX4_levels_2 18 rfl rfl)
theorem dX4_levels_67 : decode cX4_levels 67 = .ok (.goto (-45), 3) := dk_167 255 211 (dk_at dksX4_levels_2 21 rfl rfl)
theorem dX4_levels_70 : decode cX4_levels 70 = .ok (.iload_n 2, 1) := dk_28 (dk_at dksX4_levels_3 0 rfl rfl)
theorem dX4_levels_71 : decode cX4_levels 71 = .ok (.aload_n 1, 1) := dk_43 (dk_at dksX4_levels_3 1 rfl rfl)
theorem dX4_levels_72 : decode cX4_levels 72 = .ok (.iload_n 3, 1) := dk_29 (dk_at dksX4_levels_3 2 rfl rfl)
theorem dX4_levels_73 : decode cX4_levels 73 = .ok (.iaload, 1) := dk_46 (dk_at dksX4_levels_3 3 rfl rfl)
theorem dX4_levels_74 : decode cX4_levels 74 = .ok (.iconst 1, 1) := dk_4 (dk_at dksX4_levels_3 4 rfl rfl)
theorem dX4_levels_75 : decode cX4_levels 75 = .ok (.iadd, 1) := dk_96 (dk_at dksX4_levels_3 5 rfl rfl)
theorem dX4_levels_76 : decode cX4_levels 76 = .ok (.invokestatic 89, 3) := dk_184 0 89 (dk_at dksX4_levels_3 6 rfl rfl)
theorem dX4_levels_79 : decode cX4_levels 79 = .ok (.istore_n 2, 1) := dk_61 (dk_at dksX4_levels_3 9 rfl rfl)
theorem dX4_levels_80 : decode cX4_levels 80 = .ok (.iinc 3 1, 3) := dk_132 3 1 (dk_at dksX4_levels_3 10 rfl rfl)
theorem dX4_levels_83 : decode cX4_levels 83 = .ok (.goto (-79), 3) := dk_167 255 177 (dk_at dksX4_levels_3 13 rfl rfl)
theorem dX4_levels_86 : decode cX4_levels 86 = .ok (.iload_n 2, 1) := dk_28 (dk_at dksX4_levels_3 16 rfl rfl)
theorem dX4_levels_87 : decode cX4_levels 87 = .ok (.ireturn, 1) := dk_172 (dk_at dksX4_levels_3 17 rfl rfl)
abbrev cX4_free : ByteArray := prog_2_method_13_code
def yX4_free : MethodName := ⟨RX4, "free", "(II)I"⟩
def dkwX4_free_1 : List UInt8 := [182, 0, 94, 153, 0, 9, 132, 3, 1, 167, 255, 227, 29, 172]
abbrev dktX4_free_1 : List UInt8 := dkwX4_free_1 ++ []
def dkwX4_free_0 : List UInt8 := [3, 62, 29, 27, 162, 0, 30, 42, 27, 182, 0, 82, 42, 27, 4, 100, 29, 100, 182, 0, 82, 28]
abbrev dktX4_free_0 : List UInt8 := dkwX4_free_0 ++ dktX4_free_1
theorem dksX4_free_0 : cX4_free.data.toList.drop 0 = dktX4_free_0 := by decide +kernel
theorem dksX4_free_1 : cX4_free.data.toList.drop 22 = dktX4_free_1 := dk_seg dksX4_free_0 22 rfl rfl
theorem dX4_free_0 : decode cX4_free 0 = .ok (.iconst 0, 1) := dk_3 (dk_at dksX4_free_0 0 rfl rfl)
theorem dX4_free_1 : decode cX4_free 1 = .ok (.istore_n 3, 1) := dk_62 (dk_at dksX4_free_0 1 rfl rfl)
theorem dX4_free_2 : decode cX4_free 2 = .ok (.iload_n 3, 1) := dk_29 (dk_at dksX4_free_0 2 rfl rfl)
theorem dX4_free_3 : decode cX4_free 3 = .ok (.iload_n 1, 1) := dk_27 (dk_at dksX4_free_0 3 rfl rfl)
theorem dX4_free_4 : decode cX4_free 4 = .ok (.if_icmp .ge 30, 3) := dk_162 0 30 (dk_at dksX4_free_0 4 rfl rfl)
theorem dX4_free_7 : decode cX4_free 7 = .ok (.aload_n 0, 1) := dk_42 (dk_at dksX4_free_0 7 rfl rfl)
theorem dX4_free_8 : decode cX4_free 8 = .ok (.iload_n 1, 1) := dk_27 (dk_at dksX4_free_0 8 rfl rfl)
theorem dX4_free_9 : decode cX4_free 9 = .ok (.invokevirtual 82, 3) := dk_182 0 82 (dk_at dksX4_free_0 9 rfl rfl)
theorem dX4_free_12 : decode cX4_free 12 = .ok (.aload_n 0, 1) := dk_42 (dk_at dksX4_free_0 12 rfl rfl)
theorem dX4_free_13 : decode cX4_free 13 = .ok (.iload_n 1, 1) := dk_27 (dk_at dksX4_free_0 13 rfl rfl)
theorem dX4_free_14 : decode cX4_free 14 = .ok (.iconst 1, 1) := dk_4 (dk_at dksX4_free_0 14 rfl rfl)
theorem dX4_free_15 : decode cX4_free 15 = .ok (.isub, 1) := dk_100 (dk_at dksX4_free_0 15 rfl rfl)
theorem dX4_free_16 : decode cX4_free 16 = .ok (.iload_n 3, 1) := dk_29 (dk_at dksX4_free_0 16 rfl rfl)
theorem dX4_free_17 : decode cX4_free 17 = .ok (.isub, 1) := dk_100 (dk_at dksX4_free_0 17 rfl rfl)
theorem dX4_free_18 : decode cX4_free 18 = .ok (.invokevirtual 82, 3) := dk_182 0 82 (dk_at dksX4_free_0 18 rfl rfl)
theorem dX4_free_21 : decode cX4_free 21 = .ok (.iload_n 2, 1) := dk_28 (dk_at dksX4_free_0 21 rfl rfl)
theorem dX4_free_22 : decode cX4_free 22 = .ok (.invokevirtual 94, 3) := dk_182 0 94 (dk_at dksX4_free_1 0 rfl rfl)
theorem dX4_free_25 : decode cX4_free 25 = .ok (.ifCond .eq 9, 3) := dk_153 0 9 (dk_at dksX4_free_1 3 rfl rfl)
theorem dX4_free_28 : decode cX4_free 28 = .ok (.iinc 3 1, 3) := dk_132 3 1 (dk_at dksX4_free_1 6 rfl rfl)
theorem dX4_free_31 : decode cX4_free 31 = .ok (.goto (-29), 3) := dk_167 255 227 (dk_at dksX4_free_1 9 rfl rfl)
theorem dX4_free_34 : decode cX4_free 34 = .ok (.iload_n 3, 1) := dk_29 (dk_at dksX4_free_1 12 rfl rfl)
theorem dX4_free_35 : decode cX4_free 35 = .ok (.ireturn, 1) := dk_172 (dk_at dksX4_free_1 13 rfl rfl)
abbrev cX4_freeBehind : ByteArray := prog_2_method_14_code
def yX4_freeBehind : MethodName := ⟨RX4, "freeBehind", "(II)I"⟩
def dkwX4_freeBehind_1 : List UInt8 := [4, 96, 29, 96, 182, 0, 82, 28, 182, 0, 94, 153, 0, 9, 132, 3, 1, 167, 255, 217, 29, 172]
abbrev dktX4_freeBehind_1 : List UInt8 := dkwX4_freeBehind_1 ++ []
def dkwX4_freeBehind_0 : List UInt8 := [3, 62, 27, 4, 96, 29, 96, 42, 180, 0, 10, 182, 0, 44, 162, 0, 30, 42, 27, 182, 0, 82, 42, 27]
abbrev dktX4_freeBehind_0 : List UInt8 := dkwX4_freeBehind_0 ++ dktX4_freeBehind_1
theorem dksX4_freeBehind_0 : cX4_freeBehind.data.toList.drop 0 = dktX4_freeBehind_0 := by decide +kernel
theorem dksX4_freeBehind_1 : cX4_freeBehind.data.toList.drop 24 = dktX4_freeBehind_1 := dk_seg dksX4_freeBehind_0 24 rfl rfl
theorem dX4_freeBehind_0 : decode cX4_freeBehind 0 = .ok (.iconst 0, 1) := dk_3 (dk_at dksX4_freeBehind_0 0 rfl rfl)
theorem dX4_freeBehind_1 : decode cX4_freeBehind 1 = .ok (.istore_n 3, 1) := dk_62 (dk_at dksX4_freeBehind_0 1 rfl rfl)
theorem dX4_freeBehind_2 : decode cX4_freeBehind 2 = .ok (.iload_n 1, 1) := dk_27 (dk_at dksX4_freeBehind_0 2 rfl rfl)
theorem dX4_freeBehind_3 : decode cX4_freeBehind 3 = .ok (.iconst 1, 1) := dk_4 (dk_at dksX4_freeBehind_0 3 rfl rfl)
theorem dX4_freeBehind_4 : decode cX4_freeBehind 4 = .ok (.iadd, 1) := dk_96 (dk_at dksX4_freeBehind_0 4 rfl rfl)
theorem dX4_freeBehind_5 : decode cX4_freeBehind 5 = .ok (.iload_n 3, 1) := dk_29 (dk_at dksX4_freeBehind_0 5 rfl rfl)
theorem dX4_freeBehind_6 : decode cX4_freeBehind 6 = .ok (.iadd, 1) := dk_96 (dk_at dksX4_freeBehind_0 6 rfl rfl)
theorem dX4_freeBehind_7 : decode cX4_freeBehind 7 = .ok (.aload_n 0, 1) := dk_42 (dk_at dksX4_freeBehind_0 7 rfl rfl)
theorem dX4_freeBehind_8 : decode cX4_freeBehind 8 = .ok (.getfield 10, 3) := dk_180 0 10 (dk_at dksX4_freeBehind_0 8 rfl rfl)
theorem dX4_freeBehind_11 : decode cX4_freeBehind 11 = .ok (.invokevirtual 44, 3) := dk_182 0 44 (dk_at dksX4_freeBehind_0 11 rfl rfl)
theorem dX4_freeBehind_14 : decode cX4_freeBehind 14 = .ok (.if_icmp .ge 30, 3) := dk_162 0 30 (dk_at dksX4_freeBehind_0 14 rfl rfl)
theorem dX4_freeBehind_17 : decode cX4_freeBehind 17 = .ok (.aload_n 0, 1) := dk_42 (dk_at dksX4_freeBehind_0 17 rfl rfl)
theorem dX4_freeBehind_18 : decode cX4_freeBehind 18 = .ok (.iload_n 1, 1) := dk_27 (dk_at dksX4_freeBehind_0 18 rfl rfl)
theorem dX4_freeBehind_19 : decode cX4_freeBehind 19 = .ok (.invokevirtual 82, 3) := dk_182 0 82 (dk_at dksX4_freeBehind_0 19 rfl rfl)
theorem dX4_freeBehind_22 : decode cX4_freeBehind 22 = .ok (.aload_n 0, 1) := dk_42 (dk_at dksX4_freeBehind_0 22 rfl rfl)
theorem dX4_freeBehind_23 : decode cX4_freeBehind 23 = .ok (.iload_n 1, 1) := dk_27 (dk_at dksX4_freeBehind_0 23 rfl rfl)
theorem dX4_freeBehind_24 : decode cX4_freeBehind 24 = .ok (.iconst 1, 1) := dk_4 (dk_at dksX4_freeBehind_1 0 rfl rfl)
theorem dX4_freeBehind_25 : decode cX4_freeBehind 25 = .ok (.iadd, 1) := dk_96 (dk_at dksX4_freeBehind_1 1 rfl rfl)
theorem dX4_freeBehind_26 : decode cX4_freeBehind 26 = .ok (.iload_n 3, 1) := dk_29 (dk_at dksX4_freeBehind_1 2 rfl rfl)
theorem dX4_freeBehind_27 : decode cX4_freeBehind 27 = .ok (.iadd, 1) := dk_96 (dk_at dksX4_freeBehind_1 3 rfl rfl)
theorem dX4_freeBehind_28 : decode cX4_freeBehind 28 = .ok (.invokevirtual 82, 3) := dk_182 0 82 (dk_at dksX4_freeBehind_1 4 rfl rfl)
theorem dX4_freeBehind_31 : decode cX4_freeBehind 31 = .ok (.iload_n 2, 1) := dk_28 (dk_at dksX4_freeBehind_1 7 rfl rfl)
theorem dX4_freeBehind_32 : decode cX4_freeBehind 32 = .ok (.invokevirtual 94, 3) := dk_182 0 94 (dk_at dksX4_freeBehind_1 8 rfl rfl)
theorem dX4_freeBehind_35 : decode cX4_freeBehind 35 = .ok (.ifCond .eq 9, 3) := dk_153 0 9 (dk_at dksX4_freeBehind_1 11 rfl rfl)
theorem dX4_freeBehind_38 : decode cX4_freeBehind 38 = .ok (.iinc 3 1, 3) := dk_132 3 1 (dk_at dksX4_freeBehind_1 14 rfl rfl)
theorem dX4_freeBehind_41 : decode cX4_freeBehind 41 = .ok (.goto (-39), 3) := dk_167 255 217 (dk_at dksX4_freeBehind_1 17 rfl rfl)
theorem dX4_freeBehind_44 : decode cX4_freeBehind 44 = .ok (.iload_n 3, 1) := dk_29 (dk_at dksX4_freeBehind_1 20 rfl rfl)
theorem dX4_freeBehind_45 : decode cX4_freeBehind 45 = .ok (.ireturn, 1) := dk_172 (dk_at dksX4_freeBehind_1 21 rfl rfl)
abbrev cX4_unlike : ByteArray := prog_2_method_15_code
def yX4_unlike : MethodName := ⟨RX4, "unlike", "()I"⟩
def dkwX4_unlike_3 : List UInt8 := [132, 2, 1, 167, 255, 186, 27, 172]
abbrev dktX4_unlike_3 : List UInt8 := dkwX4_unlike_3 ++ []
def dkwX4_unlike_2 : List UInt8 := [4, 167, 0, 4, 3, 62, 132, 4, 1, 167, 255, 220, 27, 29, 153, 0, 7, 4, 167, 0, 4, 3, 96, 60]
abbrev dktX4_unlike_2 : List UInt8 := dkwX4_unlike_2 ++ dktX4_unlike_3
def dkwX4_unlike_1 : List UInt8 := [162, 0, 36, 29, 153, 0, 24, 42, 21, 4, 182, 0, 82, 42, 28, 182, 0, 82, 182, 0, 98, 154, 0, 7]
abbrev dktX4_unlike_1 : List UInt8 := dkwX4_unlike_1 ++ dktX4_unlike_2
def dkwX4_unlike_0 : List UInt8 := [3, 60, 3, 61, 28, 42, 180, 0, 10, 182, 0, 44, 162, 0, 65, 4, 62, 3, 54, 4, 21, 4, 28]
abbrev dktX4_unlike_0 : List UInt8 := dkwX4_unlike_0 ++ dktX4_unlike_1
theorem dksX4_unlike_0 : cX4_unlike.data.toList.drop 0 = dktX4_unlike_0 := by decide +kernel
theorem dksX4_unlike_1 : cX4_unlike.data.toList.drop 23 = dktX4_unlike_1 := dk_seg dksX4_unlike_0 23 rfl rfl
theorem dksX4_unlike_2 : cX4_unlike.data.toList.drop 47 = dktX4_unlike_2 := dk_seg dksX4_unlike_1 24 rfl rfl
theorem dksX4_unlike_3 : cX4_unlike.data.toList.drop 71 = dktX4_unlike_3 := dk_seg dksX4_unlike_2 24 rfl rfl
theorem dX4_unlike_0 : decode cX4_unlike 0 = .ok (.iconst 0, 1) := dk_3 (dk_at dksX4_unlike_0 0 rfl rfl)
theorem dX4_unlike_1 : decode cX4_unlike 1 = .ok (.istore_n 1, 1) := dk_60 (dk_at dksX4_unlike_0 1 rfl rfl)
theorem dX4_unlike_2 : decode cX4_unlike 2 = .ok (.iconst 0, 1) := dk_3 (dk_at dksX4_unlike_0 2 rfl rfl)
theorem dX4_unlike_3 : decode cX4_unlike 3 = .ok (.istore_n 2, 1) := dk_61 (dk_at dksX4_unlike_0 3 rfl rfl)
theorem dX4_unlike_4 : decode cX4_unlike 4 = .ok (.iload_n 2, 1) := dk_28 (dk_at dksX4_unlike_0 4 rfl rfl)
theorem dX4_unlike_5 : decode cX4_unlike 5 = .ok (.aload_n 0, 1) := dk_42 (dk_at dksX4_unlike_0 5 rfl rfl)
theorem dX4_unlike_6 : decode cX4_unlike 6 = .ok (.getfield 10, 3) := dk_180 0 10 (dk_at dksX4_unlike_0 6 rfl rfl)
theorem dX4_unlike_9 : decode cX4_unlike 9 = .ok (.invokevirtual 44, 3) := dk_182 0 44 (dk_at dksX4_unlike_0 9 rfl rfl)
theorem dX4_unlike_12 : decode cX4_unlike 12 = .ok (.if_icmp .ge 65, 3) := dk_162 0 65 (dk_at dksX4_unlike_0 12 rfl rfl)
theorem dX4_unlike_15 : decode cX4_unlike 15 = .ok (.iconst 1, 1) := dk_4 (dk_at dksX4_unlike_0 15 rfl rfl)
theorem dX4_unlike_16 : decode cX4_unlike 16 = .ok (.istore_n 3, 1) := dk_62 (dk_at dksX4_unlike_0 16 rfl rfl)
theorem dX4_unlike_17 : decode cX4_unlike 17 = .ok (.iconst 0, 1) := dk_3 (dk_at dksX4_unlike_0 17 rfl rfl)
theorem dX4_unlike_18 : decode cX4_unlike 18 = .ok (.istore 4, 2) := dk_54 4 (dk_at dksX4_unlike_0 18 rfl rfl)
theorem dX4_unlike_20 : decode cX4_unlike 20 = .ok (.iload 4, 2) := dk_21 4 (dk_at dksX4_unlike_0 20 rfl rfl)
theorem dX4_unlike_22 : decode cX4_unlike 22 = .ok (.iload_n 2, 1) := dk_28 (dk_at dksX4_unlike_0 22 rfl rfl)
theorem dX4_unlike_23 : decode cX4_unlike 23 = .ok (.if_icmp .ge 36, 3) := dk_162 0 36 (dk_at dksX4_unlike_1 0 rfl rfl)
theorem dX4_unlike_26 : decode cX4_unlike 26 = .ok (.iload_n 3, 1) := dk_29 (dk_at dksX4_unlike_1 3 rfl rfl)
theorem dX4_unlike_27 : decode cX4_unlike 27 = .ok (.ifCond .eq 24, 3) := dk_153 0 24 (dk_at dksX4_unlike_1 4 rfl rfl)
theorem dX4_unlike_30 : decode cX4_unlike 30 = .ok (.aload_n 0, 1) := dk_42 (dk_at dksX4_unlike_1 7 rfl rfl)
theorem dX4_unlike_31 : decode cX4_unlike 31 = .ok (.iload 4, 2) := dk_21 4 (dk_at dksX4_unlike_1 8 rfl rfl)
theorem dX4_unlike_33 : decode cX4_unlike 33 = .ok (.invokevirtual 82, 3) := dk_182 0 82 (dk_at dksX4_unlike_1 10 rfl rfl)
theorem dX4_unlike_36 : decode cX4_unlike 36 = .ok (.aload_n 0, 1) := dk_42 (dk_at dksX4_unlike_1 13 rfl rfl)
theorem dX4_unlike_37 : decode cX4_unlike 37 = .ok (.iload_n 2, 1) := dk_28 (dk_at dksX4_unlike_1 14 rfl rfl)
theorem dX4_unlike_38 : decode cX4_unlike 38 = .ok (.invokevirtual 82, 3) := dk_182 0 82 (dk_at dksX4_unlike_1 15 rfl rfl)
theorem dX4_unlike_41 : decode cX4_unlike 41 = .ok (.invokevirtual 98, 3) := dk_182 0 98 (dk_at dksX4_unlike_1 18 rfl rfl)
theorem dX4_unlike_44 : decode cX4_unlike 44 = .ok (.ifCond .ne 7, 3) := dk_154 0 7 (dk_at dksX4_unlike_1 21 rfl rfl)
theorem dX4_unlike_47 : decode cX4_unlike 47 = .ok (.iconst 1, 1) := dk_4 (dk_at dksX4_unlike_2 0 rfl rfl)
theorem dX4_unlike_48 : decode cX4_unlike 48 = .ok (.goto 4, 3) := dk_167 0 4 (dk_at dksX4_unlike_2 1 rfl rfl)
theorem dX4_unlike_51 : decode cX4_unlike 51 = .ok (.iconst 0, 1) := dk_3 (dk_at dksX4_unlike_2 4 rfl rfl)
theorem dX4_unlike_52 : decode cX4_unlike 52 = .ok (.istore_n 3, 1) := dk_62 (dk_at dksX4_unlike_2 5 rfl rfl)
theorem dX4_unlike_53 : decode cX4_unlike 53 = .ok (.iinc 4 1, 3) := dk_132 4 1 (dk_at dksX4_unlike_2 6 rfl rfl)
theorem dX4_unlike_56 : decode cX4_unlike 56 = .ok (.goto (-36), 3) := dk_167 255 220 (dk_at dksX4_unlike_2 9 rfl rfl)
theorem dX4_unlike_59 : decode cX4_unlike 59 = .ok (.iload_n 1, 1) := dk_27 (dk_at dksX4_unlike_2 12 rfl rfl)
theorem dX4_unlike_60 : decode cX4_unlike 60 = .ok (.iload_n 3, 1) := dk_29 (dk_at dksX4_unlike_2 13 rfl rfl)
theorem dX4_unlike_61 : decode cX4_unlike 61 = .ok (.ifCond .eq 7, 3) := dk_153 0 7 (dk_at dksX4_unlike_2 14 rfl rfl)
theorem dX4_unlike_64 : decode cX4_unlike 64 = .ok (.iconst 1, 1) := dk_4 (dk_at dksX4_unlike_2 17 rfl rfl)
theorem dX4_unlike_65 : decode cX4_unlike 65 = .ok (.goto 4, 3) := dk_167 0 4 (dk_at dksX4_unlike_2 18 rfl rfl)
theorem dX4_unlike_68 : decode cX4_unlike 68 = .ok (.iconst 0, 1) := dk_3 (dk_at dksX4_unlike_2 21 rfl rfl)
theorem dX4_unlike_69 : decode cX4_unlike 69 = .ok (.iadd, 1) := dk_96 (dk_at dksX4_unlike_2 22 rfl rfl)
theorem dX4_unlike_70 : decode cX4_unlike 70 = .ok (.istore_n 1, 1) := dk_60 (dk_at dksX4_unlike_2 23 rfl rfl)
theorem dX4_unlike_71 : decode cX4_unlike 71 = .ok (.iinc 2 1, 3) := dk_132 2 1 (dk_at dksX4_unlike_3 0 rfl rfl)
theorem dX4_unlike_74 : decode cX4_unlike 74 = .ok (.goto (-70), 3) := dk_167 255 186 (dk_at dksX4_unlike_3 3 rfl rfl)
theorem dX4_unlike_77 : decode cX4_unlike 77 = .ok (.iload_n 1, 1) := dk_27 (dk_at dksX4_unlike_3 6 rfl rfl)
theorem dX4_unlike_78 : decode cX4_unlike 78 = .ok (.ireturn, 1) := dk_172 (dk_at dksX4_unlike_3 7 rfl rfl)
theorem q145 : (Jvm.Cond.initialized "BackLogic$Cascade") ∈ lw_all := lw_g (lw_at lw_m1 16 rfl) rfl
theorem q287 : (Jvm.Cond.selects "BackLogic$Cascade" ({ cls := "java/lang/Object", name := "getClass", desc := "()Ljava/lang/Class;" } : Jvm.MethodName) ({ cls := "java/lang/Object", name := "getClass", desc := "()Ljava/lang/Class;" } : Jvm.MethodName)) ∈ lw_all := lw_g (lw_at lw_m1 158 rfl) rfl
theorem q398 : (Jvm.Cond.instantiable "BackLogic$Cascade" (1 : Nat)) ∈ lw_all := lw_g (lw_at lw_m2 29 rfl) rfl
theorem q400 : (Jvm.Cond.instanceMethod ({ cls := "BackLogic$Cascade", name := "<init>", desc := "()V" } : Jvm.MethodName)) ∈ lw_all := lw_g (lw_at lw_m2 31 rfl) rfl
theorem q401 : (Jvm.Cond.code ({ cls := "BackLogic$Cascade", name := "<init>", desc := "()V" } : Jvm.MethodName) prog_2_method_1_code (1 : Nat) (Option.none : Option Jvm.ClassFile.FieldType)) ∈ lw_all := lw_g (lw_at lw_m2 32 rfl) rfl
theorem q402 : (Jvm.Cond.methodLink "BackLogic$Cascade" (1 : Nat) ({ cls := "java/lang/Object", name := "<init>", desc := "()V" } : Jvm.MethodName)) ∈ lw_all := lw_g (lw_at lw_m2 33 rfl) rfl
theorem q403 : (Jvm.Cond.classLink "BackLogic$Cascade" (7 : Nat) "java/util/LinkedList") ∈ lw_all := lw_g (lw_at lw_m2 34 rfl) rfl
theorem q405 : (Jvm.Cond.methodLink "BackLogic$Cascade" (9 : Nat) ({ cls := "java/util/LinkedList", name := "<init>", desc := "()V" } : Jvm.MethodName)) ∈ lw_all := lw_g (lw_at lw_m2 36 rfl) rfl
theorem q436 : (Jvm.Cond.fieldLink "BackLogic$Cascade" (10 : Nat) "BackLogic$Cascade" "gates" "Ljava/util/LinkedList;") ∈ lw_all := lw_g (lw_at lw_m2 67 rfl) rfl
theorem q439 : (Jvm.Cond.laysFinal "BackLogic$Cascade" "BackLogic$Cascade" "gates" "Ljava/util/LinkedList;") ∈ lw_all := lw_g (lw_at lw_m2 70 rfl) rfl
theorem q440 : (Jvm.Cond.soleField "BackLogic$Cascade" "gates") ∈ lw_all := lw_g (lw_at lw_m2 71 rfl) rfl
theorem q441 : (Jvm.Cond.superclass "BackLogic$Cascade" "java/lang/Object") ∈ lw_all := lw_g (lw_at lw_m2 72 rfl) rfl
theorem q1069 : (Jvm.Cond.instanceMethod ({ cls := "BackLogic$Cascade", name := "becomes", desc := "(LBackLogic$Cascade;)V" } : Jvm.MethodName)) ∈ lw_all := lw_g (lw_at lw_m4 220 rfl) rfl
theorem q1070 : (Jvm.Cond.selects "BackLogic$Cascade" ({ cls := "BackLogic$Cascade", name := "becomes", desc := "(LBackLogic$Cascade;)V" } : Jvm.MethodName) ({ cls := "BackLogic$Cascade", name := "becomes", desc := "(LBackLogic$Cascade;)V" } : Jvm.MethodName)) ∈ lw_all := lw_g (lw_at lw_m4 221 rfl) rfl
theorem q1071 : (Jvm.Cond.code ({ cls := "BackLogic$Cascade", name := "becomes", desc := "(LBackLogic$Cascade;)V" } : Jvm.MethodName) prog_2_method_3_code (3 : Nat) (Option.none : Option Jvm.ClassFile.FieldType)) ∈ lw_all := lw_g (lw_at lw_m4 222 rfl) rfl
theorem q1072 : (Jvm.Cond.methodLink "BackLogic$Cascade" (21 : Nat) ({ cls := "java/util/LinkedList", name := "clear", desc := "()V" } : Jvm.MethodName)) ∈ lw_all := lw_g (lw_at lw_m4 223 rfl) rfl
theorem q1073 : (Jvm.Cond.methodLink "BackLogic$Cascade" (24 : Nat) ({ cls := "java/util/LinkedList", name := "iterator", desc := "()Ljava/util/Iterator;" } : Jvm.MethodName)) ∈ lw_all := lw_g (lw_at lw_m4 224 rfl) rfl
theorem q1157 : (Jvm.Cond.interfaceEntry "BackLogic$Cascade" (28 : Nat)) ∈ lw_tbl := lw_at lw_m5 68 rfl
theorem q1158 : (Jvm.Cond.methodLink "BackLogic$Cascade" (28 : Nat) ({ cls := "java/util/Iterator", name := "hasNext", desc := "()Z" } : Jvm.MethodName)) ∈ lw_all := lw_g (lw_at lw_m5 69 rfl) rfl
theorem q1184 : (Jvm.Cond.interfaceEntry "BackLogic$Cascade" (34 : Nat)) ∈ lw_tbl := lw_at lw_m5 95 rfl
theorem q1185 : (Jvm.Cond.methodLink "BackLogic$Cascade" (34 : Nat) ({ cls := "java/util/Iterator", name := "next", desc := "()Ljava/lang/Object;" } : Jvm.MethodName)) ∈ lw_all := lw_g (lw_at lw_m5 96 rfl) rfl
theorem q1439 : (Jvm.Cond.classLink "BackLogic$Cascade" (38 : Nat) "BackLogic$Gate") ∈ lw_all := lw_g (lw_at lw_m6 110 rfl) rfl
theorem q1440 : (Jvm.Cond.methodLink "BackLogic$Cascade" (40 : Nat) ({ cls := "java/util/LinkedList", name := "addLast", desc := "(Ljava/lang/Object;)V" } : Jvm.MethodName)) ∈ lw_all := lw_g (lw_at lw_m6 111 rfl) rfl
theorem q1463 : (Jvm.Cond.instanceMethod ({ cls := "BackLogic$Cascade", name := "size", desc := "()I" } : Jvm.MethodName)) ∈ lw_all := lw_g (lw_at lw_m6 134 rfl) rfl
theorem q1464 : (Jvm.Cond.selects "BackLogic$Cascade" ({ cls := "BackLogic$Cascade", name := "size", desc := "()I" } : Jvm.MethodName) ({ cls := "BackLogic$Cascade", name := "size", desc := "()I" } : Jvm.MethodName)) ∈ lw_all := lw_g (lw_at lw_m6 135 rfl) rfl
theorem q1465 : (Jvm.Cond.code ({ cls := "BackLogic$Cascade", name := "size", desc := "()I" } : Jvm.MethodName) prog_2_method_4_code (1 : Nat) (Option.some Jvm.ClassFile.FieldType.int)) ∈ lw_all := lw_g (lw_at lw_m6 136 rfl) rfl
theorem q1466 : (Jvm.Cond.methodLink "BackLogic$Cascade" (44 : Nat) ({ cls := "java/util/LinkedList", name := "size", desc := "()I" } : Jvm.MethodName)) ∈ lw_all := lw_g (lw_at lw_m6 137 rfl) rfl
theorem q1505 : (Jvm.Cond.instanceMethod ({ cls := "BackLogic$Cascade", name := "copy", desc := "()LBackLogic$Cascade;" } : Jvm.MethodName)) ∈ lw_all := lw_g (lw_at lw_m6 176 rfl) rfl
theorem q1506 : (Jvm.Cond.selects "BackLogic$Cascade" ({ cls := "BackLogic$Cascade", name := "copy", desc := "()LBackLogic$Cascade;" } : Jvm.MethodName) ({ cls := "BackLogic$Cascade", name := "copy", desc := "()LBackLogic$Cascade;" } : Jvm.MethodName)) ∈ lw_all := lw_g (lw_at lw_m6 177 rfl) rfl
theorem q1507 : (Jvm.Cond.code ({ cls := "BackLogic$Cascade", name := "copy", desc := "()LBackLogic$Cascade;" } : Jvm.MethodName) prog_2_method_2_code (2 : Nat) (Option.some (Jvm.ClassFile.FieldType.object "BackLogic$Cascade"))) ∈ lw_all := lw_g (lw_at lw_m6 178 rfl) rfl
theorem q1508 : (Jvm.Cond.classLink "BackLogic$Cascade" (11 : Nat) "BackLogic$Cascade") ∈ lw_all := lw_g (lw_at lw_m6 179 rfl) rfl
theorem q1509 : (Jvm.Cond.methodLink "BackLogic$Cascade" (16 : Nat) ({ cls := "BackLogic$Cascade", name := "<init>", desc := "()V" } : Jvm.MethodName)) ∈ lw_all := lw_g (lw_at lw_m6 180 rfl) rfl
theorem q1510 : (Jvm.Cond.methodLink "BackLogic$Cascade" (17 : Nat) ({ cls := "BackLogic$Cascade", name := "becomes", desc := "(LBackLogic$Cascade;)V" } : Jvm.MethodName)) ∈ lw_all := lw_g (lw_at lw_m6 181 rfl) rfl
theorem q1542 : (Jvm.Cond.instanceMethod ({ cls := "BackLogic$Cascade", name := "isGate", desc := "(I)Z" } : Jvm.MethodName)) ∈ lw_all := lw_g (lw_at lw_m6 213 rfl) rfl
theorem q1543 : (Jvm.Cond.selects "BackLogic$Cascade" ({ cls := "BackLogic$Cascade", name := "isGate", desc := "(I)Z" } : Jvm.MethodName) ({ cls := "BackLogic$Cascade", name := "isGate", desc := "(I)Z" } : Jvm.MethodName)) ∈ lw_all := lw_g (lw_at lw_m6 214 rfl) rfl
theorem q1544 : (Jvm.Cond.code ({ cls := "BackLogic$Cascade", name := "isGate", desc := "(I)Z" } : Jvm.MethodName) prog_2_method_6_code (2 : Nat) (Option.some Jvm.ClassFile.FieldType.boolean)) ∈ lw_all := lw_g (lw_at lw_m6 215 rfl) rfl
theorem q1545 : (Jvm.Cond.methodLinkNest "BackLogic$Cascade" (52 : Nat) ({ cls := "BackLogic", name := "isIn", desc := "(III)Z" } : Jvm.MethodName) "BackLogic") ∈ lw_tbl := lw_at lw_m6 216 rfl
theorem q1559 : (Jvm.Cond.instanceMethod ({ cls := "BackLogic$Cascade", name := "swaps", desc := "(I)V" } : Jvm.MethodName)) ∈ lw_all := lw_g (lw_at lw_m6 230 rfl) rfl
theorem q1560 : (Jvm.Cond.selects "BackLogic$Cascade" ({ cls := "BackLogic$Cascade", name := "swaps", desc := "(I)V" } : Jvm.MethodName) ({ cls := "BackLogic$Cascade", name := "swaps", desc := "(I)V" } : Jvm.MethodName)) ∈ lw_all := lw_g (lw_at lw_m6 231 rfl) rfl
theorem q1561 : (Jvm.Cond.code ({ cls := "BackLogic$Cascade", name := "swaps", desc := "(I)V" } : Jvm.MethodName) prog_2_method_11_code (3 : Nat) (Option.none : Option Jvm.ClassFile.FieldType)) ∈ lw_all := lw_g (lw_at lw_m6 232 rfl) rfl
theorem q1562 : (Jvm.Cond.methodLink "BackLogic$Cascade" (75 : Nat) ({ cls := "java/util/LinkedList", name := "remove", desc := "(I)Ljava/lang/Object;" } : Jvm.MethodName)) ∈ lw_all := lw_g (lw_at lw_m6 233 rfl) rfl
theorem q1563 : (Jvm.Cond.methodLink "BackLogic$Cascade" (78 : Nat) ({ cls := "java/util/LinkedList", name := "add", desc := "(ILjava/lang/Object;)V" } : Jvm.MethodName)) ∈ lw_all := lw_g (lw_at lw_m6 234 rfl) rfl
theorem q1573 : (Jvm.Cond.instanceMethod ({ cls := "BackLogic$Cascade", name := "shrinks", desc := "(I)V" } : Jvm.MethodName)) ∈ lw_all := lw_g (lw_at lw_m7 4 rfl) rfl
theorem q1574 : (Jvm.Cond.selects "BackLogic$Cascade" ({ cls := "BackLogic$Cascade", name := "shrinks", desc := "(I)V" } : Jvm.MethodName) ({ cls := "BackLogic$Cascade", name := "shrinks", desc := "(I)V" } : Jvm.MethodName)) ∈ lw_all := lw_g (lw_at lw_m7 5 rfl) rfl
theorem q1575 : (Jvm.Cond.code ({ cls := "BackLogic$Cascade", name := "shrinks", desc := "(I)V" } : Jvm.MethodName) prog_2_method_17_code (4 : Nat) (Option.none : Option Jvm.ClassFile.FieldType)) ∈ lw_all := lw_g (lw_at lw_m7 6 rfl) rfl
theorem q1576 : (Jvm.Cond.methodLink "BackLogic$Cascade" (102 : Nat) ({ cls := "BackLogic$Cascade", name := "shrinksBy", desc := "(II)Z" } : Jvm.MethodName)) ∈ lw_all := lw_g (lw_at lw_m7 7 rfl) rfl
theorem q1577 : (Jvm.Cond.privateMethod ({ cls := "BackLogic$Cascade", name := "shrinksBy", desc := "(II)Z" } : Jvm.MethodName)) ∈ lw_tbl := lw_at lw_m7 8 rfl
theorem q1578 : (Jvm.Cond.instanceMethod ({ cls := "BackLogic$Cascade", name := "shrinksBy", desc := "(II)Z" } : Jvm.MethodName)) ∈ lw_all := lw_g (lw_at lw_m7 9 rfl) rfl
theorem q1579 : (Jvm.Cond.code ({ cls := "BackLogic$Cascade", name := "shrinksBy", desc := "(II)Z" } : Jvm.MethodName) prog_2_method_18_code (5 : Nat) (Option.some Jvm.ClassFile.FieldType.boolean)) ∈ lw_all := lw_g (lw_at lw_m7 10 rfl) rfl
theorem q1580 : (Jvm.Cond.methodLink "BackLogic$Cascade" (106 : Nat) ({ cls := "BackLogic$Cascade", name := "isDone", desc := "(IIII)Z" } : Jvm.MethodName)) ∈ lw_all := lw_g (lw_at lw_m7 11 rfl) rfl
theorem q1581 : (Jvm.Cond.privateMethod ({ cls := "BackLogic$Cascade", name := "isDone", desc := "(IIII)Z" } : Jvm.MethodName)) ∈ lw_tbl := lw_at lw_m7 12 rfl
theorem q1582 : (Jvm.Cond.instanceMethod ({ cls := "BackLogic$Cascade", name := "isDone", desc := "(IIII)Z" } : Jvm.MethodName)) ∈ lw_all := lw_g (lw_at lw_m7 13 rfl) rfl
theorem q1583 : (Jvm.Cond.code ({ cls := "BackLogic$Cascade", name := "isDone", desc := "(IIII)Z" } : Jvm.MethodName) prog_2_method_19_code (8 : Nat) (Option.some Jvm.ClassFile.FieldType.boolean)) ∈ lw_all := lw_g (lw_at lw_m7 14 rfl) rfl
theorem q1584 : (Jvm.Cond.methodLink "BackLogic$Cascade" (82 : Nat) ({ cls := "BackLogic$Cascade", name := "at", desc := "(I)LBackLogic$Gate;" } : Jvm.MethodName)) ∈ lw_all := lw_g (lw_at lw_m7 15 rfl) rfl
theorem q1585 : (Jvm.Cond.instanceMethod ({ cls := "BackLogic$Cascade", name := "at", desc := "(I)LBackLogic$Gate;" } : Jvm.MethodName)) ∈ lw_all := lw_g (lw_at lw_m7 16 rfl) rfl
theorem q1586 : (Jvm.Cond.selects "BackLogic$Cascade" ({ cls := "BackLogic$Cascade", name := "at", desc := "(I)LBackLogic$Gate;" } : Jvm.MethodName) ({ cls := "BackLogic$Cascade", name := "at", desc := "(I)LBackLogic$Gate;" } : Jvm.MethodName)) ∈ lw_all := lw_g (lw_at lw_m7 17 rfl) rfl
theorem q1587 : (Jvm.Cond.code ({ cls := "BackLogic$Cascade", name := "at", desc := "(I)LBackLogic$Gate;" } : Jvm.MethodName) prog_2_method_5_code (2 : Nat) (Option.some (Jvm.ClassFile.FieldType.object "BackLogic$Gate"))) ∈ lw_all := lw_g (lw_at lw_m7 18 rfl) rfl
theorem q1588 : (Jvm.Cond.methodLink "BackLogic$Cascade" (48 : Nat) ({ cls := "java/util/LinkedList", name := "get", desc := "(I)Ljava/lang/Object;" } : Jvm.MethodName)) ∈ lw_all := lw_g (lw_at lw_m7 19 rfl) rfl
theorem q1589 : (Jvm.Cond.methodLink "BackLogic$Cascade" (98 : Nat) ({ cls := "BackLogic$Gate", name := "isAlike", desc := "(LBackLogic$Gate;)Z" } : Jvm.MethodName)) ∈ lw_all := lw_g (lw_at lw_m7 20 rfl) rfl
theorem q1593 : (Jvm.Cond.methodLink "BackLogic$Cascade" (110 : Nat) ({ cls := "BackLogic$Gate", name := "without", desc := "(LBackLogic$Gate;)LBackLogic$Gate;" } : Jvm.MethodName)) ∈ lw_all := lw_g (lw_at lw_m7 24 rfl) rfl
theorem q1612 : (Jvm.Cond.methodLink "BackLogic$Cascade" (114 : Nat) ({ cls := "BackLogic$Gate", name := "turned", desc := "(LBackLogic$Gate;)LBackLogic$Gate;" } : Jvm.MethodName)) ∈ lw_all := lw_g (lw_at lw_m7 43 rfl) rfl
theorem q1616 : (Jvm.Cond.methodLink "BackLogic$Cascade" (117 : Nat) ({ cls := "BackLogic$Cascade", name := "canCome", desc := "(III)Z" } : Jvm.MethodName)) ∈ lw_all := lw_g (lw_at lw_m7 47 rfl) rfl
theorem q1617 : (Jvm.Cond.privateMethod ({ cls := "BackLogic$Cascade", name := "canCome", desc := "(III)Z" } : Jvm.MethodName)) ∈ lw_tbl := lw_at lw_m7 48 rfl
theorem q1618 : (Jvm.Cond.instanceMethod ({ cls := "BackLogic$Cascade", name := "canCome", desc := "(III)Z" } : Jvm.MethodName)) ∈ lw_all := lw_g (lw_at lw_m7 49 rfl) rfl
theorem q1619 : (Jvm.Cond.code ({ cls := "BackLogic$Cascade", name := "canCome", desc := "(III)Z" } : Jvm.MethodName) prog_2_method_16_code (5 : Nat) (Option.some Jvm.ClassFile.FieldType.boolean)) ∈ lw_all := lw_g (lw_at lw_m7 50 rfl) rfl
theorem q1620 : (Jvm.Cond.methodLink "BackLogic$Cascade" (94 : Nat) ({ cls := "BackLogic$Gate", name := "agrees", desc := "(LBackLogic$Gate;I)Z" } : Jvm.MethodName)) ∈ lw_all := lw_g (lw_at lw_m7 51 rfl) rfl
theorem q1633 : (Jvm.Cond.instanceMethod ({ cls := "BackLogic$Cascade", name := "orders", desc := "([II)V" } : Jvm.MethodName)) ∈ lw_all := lw_g (lw_at lw_m7 64 rfl) rfl
theorem q1634 : (Jvm.Cond.selects "BackLogic$Cascade" ({ cls := "BackLogic$Cascade", name := "orders", desc := "([II)V" } : Jvm.MethodName) ({ cls := "BackLogic$Cascade", name := "orders", desc := "([II)V" } : Jvm.MethodName)) ∈ lw_all := lw_g (lw_at lw_m7 65 rfl) rfl
theorem q1635 : (Jvm.Cond.code ({ cls := "BackLogic$Cascade", name := "orders", desc := "([II)V" } : Jvm.MethodName) prog_2_method_9_code (4 : Nat) (Option.none : Option Jvm.ClassFile.FieldType)) ∈ lw_all := lw_g (lw_at lw_m7 66 rfl) rfl
theorem q1636 : (Jvm.Cond.methodLink "BackLogic$Cascade" (65 : Nat) ({ cls := "BackLogic$Cascade", name := "made", desc := "(I)I" } : Jvm.MethodName)) ∈ lw_all := lw_g (lw_at lw_m7 67 rfl) rfl
theorem q1637 : (Jvm.Cond.instanceMethod ({ cls := "BackLogic$Cascade", name := "made", desc := "(I)I" } : Jvm.MethodName)) ∈ lw_all := lw_g (lw_at lw_m7 68 rfl) rfl
theorem q1638 : (Jvm.Cond.selects "BackLogic$Cascade" ({ cls := "BackLogic$Cascade", name := "made", desc := "(I)I" } : Jvm.MethodName) ({ cls := "BackLogic$Cascade", name := "made", desc := "(I)I" } : Jvm.MethodName)) ∈ lw_all := lw_g (lw_at lw_m7 69 rfl) rfl
theorem q1639 : (Jvm.Cond.code ({ cls := "BackLogic$Cascade", name := "made", desc := "(I)I" } : Jvm.MethodName) prog_2_method_8_code (2 : Nat) (Option.some Jvm.ClassFile.FieldType.int)) ∈ lw_all := lw_g (lw_at lw_m7 70 rfl) rfl
theorem q1640 : (Jvm.Cond.methodLink "BackLogic$Cascade" (62 : Nat) ({ cls := "BackLogic$Cascade", name := "made", desc := "(II)I" } : Jvm.MethodName)) ∈ lw_all := lw_g (lw_at lw_m7 71 rfl) rfl
theorem q1641 : (Jvm.Cond.instanceMethod ({ cls := "BackLogic$Cascade", name := "made", desc := "(II)I" } : Jvm.MethodName)) ∈ lw_all := lw_g (lw_at lw_m7 72 rfl) rfl
theorem q1642 : (Jvm.Cond.selects "BackLogic$Cascade" ({ cls := "BackLogic$Cascade", name := "made", desc := "(II)I" } : Jvm.MethodName) ({ cls := "BackLogic$Cascade", name := "made", desc := "(II)I" } : Jvm.MethodName)) ∈ lw_all := lw_g (lw_at lw_m7 73 rfl) rfl
theorem q1643 : (Jvm.Cond.code ({ cls := "BackLogic$Cascade", name := "made", desc := "(II)I" } : Jvm.MethodName) prog_2_method_7_code (6 : Nat) (Option.some Jvm.ClassFile.FieldType.int)) ∈ lw_all := lw_g (lw_at lw_m7 74 rfl) rfl
theorem q1644 : (Jvm.Cond.methodLink "BackLogic$Cascade" (58 : Nat) ({ cls := "BackLogic$Gate", name := "made", desc := "(I)I" } : Jvm.MethodName)) ∈ lw_all := lw_g (lw_at lw_m7 75 rfl) rfl
theorem q1694 : (Jvm.Cond.instanceMethod ({ cls := "BackLogic$Cascade", name := "turns", desc := "()V" } : Jvm.MethodName)) ∈ lw_all := lw_g (lw_at lw_m7 125 rfl) rfl
theorem q1695 : (Jvm.Cond.selects "BackLogic$Cascade" ({ cls := "BackLogic$Cascade", name := "turns", desc := "()V" } : Jvm.MethodName) ({ cls := "BackLogic$Cascade", name := "turns", desc := "()V" } : Jvm.MethodName)) ∈ lw_all := lw_g (lw_at lw_m7 126 rfl) rfl
theorem q1696 : (Jvm.Cond.code ({ cls := "BackLogic$Cascade", name := "turns", desc := "()V" } : Jvm.MethodName) prog_2_method_10_code (2 : Nat) (Option.none : Option Jvm.ClassFile.FieldType)) ∈ lw_all := lw_g (lw_at lw_m7 127 rfl) rfl
theorem q1697 : (Jvm.Cond.methodLink "BackLogic$Cascade" (66 : Nat) ({ cls := "java/util/LinkedList", name := "isEmpty", desc := "()Z" } : Jvm.MethodName)) ∈ lw_all := lw_g (lw_at lw_m7 128 rfl) rfl
theorem q1704 : (Jvm.Cond.methodLink "BackLogic$Cascade" (69 : Nat) ({ cls := "java/util/LinkedList", name := "pollFirst", desc := "()Ljava/lang/Object;" } : Jvm.MethodName)) ∈ lw_all := lw_g (lw_at lw_m7 135 rfl) rfl
theorem q1712 : (Jvm.Cond.methodLink "BackLogic$Cascade" (72 : Nat) ({ cls := "java/util/LinkedList", name := "addFirst", desc := "(Ljava/lang/Object;)V" } : Jvm.MethodName)) ∈ lw_all := lw_g (lw_at lw_m7 143 rfl) rfl
theorem q1856 : (Jvm.Cond.instanceMethod ({ cls := "BackLogic$Cascade", name := "levels", desc := "([I)I" } : Jvm.MethodName)) ∈ lw_all := lw_g (lw_at lw_m8 47 rfl) rfl
theorem q1857 : (Jvm.Cond.selects "BackLogic$Cascade" ({ cls := "BackLogic$Cascade", name := "levels", desc := "([I)I" } : Jvm.MethodName) ({ cls := "BackLogic$Cascade", name := "levels", desc := "([I)I" } : Jvm.MethodName)) ∈ lw_all := lw_g (lw_at lw_m8 48 rfl) rfl
theorem q1858 : (Jvm.Cond.code ({ cls := "BackLogic$Cascade", name := "levels", desc := "([I)I" } : Jvm.MethodName) prog_2_method_12_code (5 : Nat) (Option.some Jvm.ClassFile.FieldType.int)) ∈ lw_all := lw_g (lw_at lw_m8 49 rfl) rfl
theorem q1859 : (Jvm.Cond.methodLink "BackLogic$Cascade" (86 : Nat) ({ cls := "BackLogic$Gate", name := "wires", desc := "()I" } : Jvm.MethodName)) ∈ lw_all := lw_g (lw_at lw_m8 50 rfl) rfl
theorem q1863 : (Jvm.Cond.methodLink "BackLogic$Cascade" (89 : Nat) ({ cls := "java/lang/Math", name := "max", desc := "(II)I" } : Jvm.MethodName)) ∈ lw_all := lw_g (lw_at lw_m8 54 rfl) rfl
theorem q1865 : (Jvm.Cond.instanceMethod ({ cls := "BackLogic$Cascade", name := "free", desc := "(II)I" } : Jvm.MethodName)) ∈ lw_all := lw_g (lw_at lw_m8 56 rfl) rfl
theorem q1866 : (Jvm.Cond.selects "BackLogic$Cascade" ({ cls := "BackLogic$Cascade", name := "free", desc := "(II)I" } : Jvm.MethodName) ({ cls := "BackLogic$Cascade", name := "free", desc := "(II)I" } : Jvm.MethodName)) ∈ lw_all := lw_g (lw_at lw_m8 57 rfl) rfl
theorem q1867 : (Jvm.Cond.code ({ cls := "BackLogic$Cascade", name := "free", desc := "(II)I" } : Jvm.MethodName) prog_2_method_13_code (4 : Nat) (Option.some Jvm.ClassFile.FieldType.int)) ∈ lw_all := lw_g (lw_at lw_m8 58 rfl) rfl
theorem q1869 : (Jvm.Cond.instanceMethod ({ cls := "BackLogic$Cascade", name := "freeBehind", desc := "(II)I" } : Jvm.MethodName)) ∈ lw_all := lw_g (lw_at lw_m8 60 rfl) rfl
theorem q1870 : (Jvm.Cond.selects "BackLogic$Cascade" ({ cls := "BackLogic$Cascade", name := "freeBehind", desc := "(II)I" } : Jvm.MethodName) ({ cls := "BackLogic$Cascade", name := "freeBehind", desc := "(II)I" } : Jvm.MethodName)) ∈ lw_all := lw_g (lw_at lw_m8 61 rfl) rfl
theorem q1871 : (Jvm.Cond.code ({ cls := "BackLogic$Cascade", name := "freeBehind", desc := "(II)I" } : Jvm.MethodName) prog_2_method_14_code (4 : Nat) (Option.some Jvm.ClassFile.FieldType.int)) ∈ lw_all := lw_g (lw_at lw_m8 62 rfl) rfl
theorem q2089 : (Jvm.Cond.instanceMethod ({ cls := "BackLogic$Cascade", name := "unlike", desc := "()I" } : Jvm.MethodName)) ∈ lw_all := lw_g (lw_at lw_m9 40 rfl) rfl
theorem q2090 : (Jvm.Cond.selects "BackLogic$Cascade" ({ cls := "BackLogic$Cascade", name := "unlike", desc := "()I" } : Jvm.MethodName) ({ cls := "BackLogic$Cascade", name := "unlike", desc := "()I" } : Jvm.MethodName)) ∈ lw_all := lw_g (lw_at lw_m9 41 rfl) rfl
theorem q2091 : (Jvm.Cond.code ({ cls := "BackLogic$Cascade", name := "unlike", desc := "()I" } : Jvm.MethodName) prog_2_method_15_code (5 : Nat) (Option.some Jvm.ClassFile.FieldType.int)) ∈ lw_all := lw_g (lw_at lw_m9 42 rfl) rfl
theorem q2682 : (Jvm.Cond.castable "BackLogic$Cascade" "java/lang/Object") ∈ lw_tbl := lw_at lw_m11 153 rfl
theorem in_X4 : ∀ w ∈ wsX40, w ∈ lw_all := lw_in wsX40 [439] (by decide +kernel) (by decide +kernel)
/-! BackLogic$Table -/
set_option maxRecDepth 100000
def RX5 : String := "BackLogic$Table"
def TX5 : u_T := fun k => match k with
  | 0 => ("BackLogic$Table", "inputs", "I", false)
  | 1 => ("BackLogic$Table", "outputs", "I", false)
  | _ => ("BackLogic$Table", "value", "[I", true)
def tyX5 : Nat → FieldType := fun k => match k with
  | 0 => .int
  | 1 => .int
  | _ => .array .int
abbrev wsX50 : List Cond := u_ws RX5 TX5 3
theorem nmX5 : ∀ a, a < 3 → ∀ b, b < 3 → a ≠ b → (TX5 a).2.1 ≠ (TX5 b).2.1 := by decide +kernel
theorem tyX5_ok : ∀ k, k < 3 → parseFieldDescriptor (TX5 k).2.2.1 = some (tyX5 k) := by decide +kernel
abbrev cX5_init : ByteArray := prog_9_method_1_code
def yX5_init : MethodName := ⟨RX5, "<init>", "()V"⟩
def dkwX5_init_0 : List UInt8 := [42, 183, 0, 3, 42, 16, 8, 188, 10, 181, 0, 9, 177]
abbrev dktX5_init_0 : List UInt8 := dkwX5_init_0 ++ []
theorem dksX5_init_0 : cX5_init.data.toList.drop 0 = dktX5_init_0 := by decide +kernel
theorem dX5_init_0 : decode cX5_init 0 = .ok (.aload_n 0, 1) := dk_42 (dk_at dksX5_init_0 0 rfl rfl)
theorem dX5_init_1 : decode cX5_init 1 = .ok (.invokespecial 3, 3) := dk_183 0 3 (dk_at dksX5_init_0 1 rfl rfl)
theorem dX5_init_4 : decode cX5_init 4 = .ok (.aload_n 0, 1) := dk_42 (dk_at dksX5_init_0 4 rfl rfl)
theorem dX5_init_5 : decode cX5_init 5 = .ok (.bipush 8, 2) := dk_16 8 (dk_at dksX5_init_0 5 rfl rfl)
theorem dX5_init_7 : decode cX5_init 7 = .ok (.newarray .int, 2) := dk_188_10 (dk_at dksX5_init_0 7 rfl rfl)
theorem dX5_init_9 : decode cX5_init 9 = .ok (.putfield 9, 3) := dk_181 0 9 (dk_at dksX5_init_0 9 rfl rfl)
theorem dX5_init_12 : decode cX5_init 12 = .ok (.return_, 1) := dk_177 (dk_at dksX5_init_0 12 rfl rfl)
abbrev cX5_becomes : ByteArray := prog_9_method_2_code
def yX5_becomes : MethodName := ⟨RX5, "becomes", "(LBackLogic$Table;)V"⟩
def dkwX5_becomes_1 : List UInt8 := [180, 0, 9, 3, 16, 8, 184, 0, 22, 177]
abbrev dktX5_becomes_1 : List UInt8 := dkwX5_becomes_1 ++ []
def dkwX5_becomes_0 : List UInt8 := [42, 43, 180, 0, 15, 181, 0, 15, 42, 43, 180, 0, 19, 181, 0, 19, 43, 180, 0, 9, 3, 42]
abbrev dktX5_becomes_0 : List UInt8 := dkwX5_becomes_0 ++ dktX5_becomes_1
theorem dksX5_becomes_0 : cX5_becomes.data.toList.drop 0 = dktX5_becomes_0 := by decide +kernel
theorem dksX5_becomes_1 : cX5_becomes.data.toList.drop 22 = dktX5_becomes_1 := dk_seg dksX5_becomes_0 22 rfl rfl
theorem dX5_becomes_0 : decode cX5_becomes 0 = .ok (.aload_n 0, 1) := dk_42 (dk_at dksX5_becomes_0 0 rfl rfl)
theorem dX5_becomes_1 : decode cX5_becomes 1 = .ok (.aload_n 1, 1) := dk_43 (dk_at dksX5_becomes_0 1 rfl rfl)
theorem dX5_becomes_2 : decode cX5_becomes 2 = .ok (.getfield 15, 3) := dk_180 0 15 (dk_at dksX5_becomes_0 2 rfl rfl)
theorem dX5_becomes_5 : decode cX5_becomes 5 = .ok (.putfield 15, 3) := dk_181 0 15 (dk_at dksX5_becomes_0 5 rfl rfl)
theorem dX5_becomes_8 : decode cX5_becomes 8 = .ok (.aload_n 0, 1) := dk_42 (dk_at dksX5_becomes_0 8 rfl rfl)
theorem dX5_becomes_9 : decode cX5_becomes 9 = .ok (.aload_n 1, 1) := dk_43 (dk_at dksX5_becomes_0 9 rfl rfl)
theorem dX5_becomes_10 : decode cX5_becomes 10 = .ok (.getfield 19, 3) := dk_180 0 19 (dk_at dksX5_becomes_0 10 rfl rfl)
theorem dX5_becomes_13 : decode cX5_becomes 13 = .ok (.putfield 19, 3) := dk_181 0 19 (dk_at dksX5_becomes_0 13 rfl rfl)
theorem dX5_becomes_16 : decode cX5_becomes 16 = .ok (.aload_n 1, 1) := dk_43 (dk_at dksX5_becomes_0 16 rfl rfl)
theorem dX5_becomes_17 : decode cX5_becomes 17 = .ok (.getfield 9, 3) := dk_180 0 9 (dk_at dksX5_becomes_0 17 rfl rfl)
theorem dX5_becomes_20 : decode cX5_becomes 20 = .ok (.iconst 0, 1) := dk_3 (dk_at dksX5_becomes_0 20 rfl rfl)
theorem dX5_becomes_21 : decode cX5_becomes 21 = .ok (.aload_n 0, 1) := dk_42 (dk_at dksX5_becomes_0 21 rfl rfl)
theorem dX5_becomes_22 : decode cX5_becomes 22 = .ok (.getfield 9, 3) := dk_180 0 9 (dk_at dksX5_becomes_1 0 rfl rfl)
theorem dX5_becomes_25 : decode cX5_becomes 25 = .ok (.iconst 0, 1) := dk_3 (dk_at dksX5_becomes_1 3 rfl rfl)
theorem dX5_becomes_26 : decode cX5_becomes 26 = .ok (.bipush 8, 2) := dk_16 8 (dk_at dksX5_becomes_1 4 rfl rfl)
theorem dX5_becomes_28 : decode cX5_becomes 28 = .ok (.invokestatic 22, 3) := dk_184 0 22 (dk_at dksX5_becomes_1 6 rfl rfl)
theorem dX5_becomes_31 : decode cX5_becomes 31 = .ok (.return_, 1) := dk_177 (dk_at dksX5_becomes_1 9 rfl rfl)
abbrev cX5_isThere : ByteArray := prog_9_method_3_code
def yX5_isThere : MethodName := ⟨RX5, "isThere", "()Z"⟩
def dkwX5_isThere_0 : List UInt8 := [42, 180, 0, 15, 158, 0, 7, 4, 167, 0, 4, 3, 172]
abbrev dktX5_isThere_0 : List UInt8 := dkwX5_isThere_0 ++ []
theorem dksX5_isThere_0 : cX5_isThere.data.toList.drop 0 = dktX5_isThere_0 := by decide +kernel
theorem dX5_isThere_0 : decode cX5_isThere 0 = .ok (.aload_n 0, 1) := dk_42 (dk_at dksX5_isThere_0 0 rfl rfl)
theorem dX5_isThere_1 : decode cX5_isThere 1 = .ok (.getfield 15, 3) := dk_180 0 15 (dk_at dksX5_isThere_0 1 rfl rfl)
theorem dX5_isThere_4 : decode cX5_isThere 4 = .ok (.ifCond .le 7, 3) := dk_158 0 7 (dk_at dksX5_isThere_0 4 rfl rfl)
theorem dX5_isThere_7 : decode cX5_isThere 7 = .ok (.iconst 1, 1) := dk_4 (dk_at dksX5_isThere_0 7 rfl rfl)
theorem dX5_isThere_8 : decode cX5_isThere 8 = .ok (.goto 4, 3) := dk_167 0 4 (dk_at dksX5_isThere_0 8 rfl rfl)
theorem dX5_isThere_11 : decode cX5_isThere 11 = .ok (.iconst 0, 1) := dk_3 (dk_at dksX5_isThere_0 11 rfl rfl)
theorem dX5_isThere_12 : decode cX5_isThere 12 = .ok (.ireturn, 1) := dk_172 (dk_at dksX5_isThere_0 12 rfl rfl)
abbrev cX5_copies : ByteArray := prog_9_method_6_code
def yX5_copies : MethodName := ⟨RX5, "copies", "()I"⟩
def dkwX5_copies_1 : List UInt8 := [184, 0, 36, 60, 132, 2, 1, 167, 255, 231, 27, 172]
abbrev dktX5_copies_1 : List UInt8 := dkwX5_copies_1 ++ []
def dkwX5_copies_0 : List UInt8 := [3, 60, 3, 61, 28, 42, 182, 0, 28, 162, 0, 23, 27, 42, 28, 42, 182, 0, 28, 182, 0, 32]
abbrev dktX5_copies_0 : List UInt8 := dkwX5_copies_0 ++ dktX5_copies_1
theorem dksX5_copies_0 : cX5_copies.data.toList.drop 0 = dktX5_copies_0 := by decide +kernel
theorem dksX5_copies_1 : cX5_copies.data.toList.drop 22 = dktX5_copies_1 := dk_seg dksX5_copies_0 22 rfl rfl
theorem dX5_copies_0 : decode cX5_copies 0 = .ok (.iconst 0, 1) := dk_3 (dk_at dksX5_copies_0 0 rfl rfl)
theorem dX5_copies_1 : decode cX5_copies 1 = .ok (.istore_n 1, 1) := dk_60 (dk_at dksX5_copies_0 1 rfl rfl)
theorem dX5_copies_2 : decode cX5_copies 2 = .ok (.iconst 0, 1) := dk_3 (dk_at dksX5_copies_0 2 rfl rfl)
theorem dX5_copies_3 : decode cX5_copies 3 = .ok (.istore_n 2, 1) := dk_61 (dk_at dksX5_copies_0 3 rfl rfl)
theorem dX5_copies_4 : decode cX5_copies 4 = .ok (.iload_n 2, 1) := dk_28 (dk_at dksX5_copies_0 4 rfl rfl)
theorem dX5_copies_5 : decode cX5_copies 5 = .ok (.aload_n 0, 1) := dk_42 (dk_at dksX5_copies_0 5 rfl rfl)
theorem dX5_copies_6 : decode cX5_copies 6 = .ok (.invokevirtual 28, 3) := dk_182 0 28 (dk_at dksX5_copies_0 6 rfl rfl)
theorem dX5_copies_9 : decode cX5_copies 9 = .ok (.if_icmp .ge 23, 3) := dk_162 0 23 (dk_at dksX5_copies_0 9 rfl rfl)
theorem dX5_copies_12 : decode cX5_copies 12 = .ok (.iload_n 1, 1) := dk_27 (dk_at dksX5_copies_0 12 rfl rfl)
theorem dX5_copies_13 : decode cX5_copies 13 = .ok (.aload_n 0, 1) := dk_42 (dk_at dksX5_copies_0 13 rfl rfl)
theorem dX5_copies_14 : decode cX5_copies 14 = .ok (.iload_n 2, 1) := dk_28 (dk_at dksX5_copies_0 14 rfl rfl)
theorem dX5_copies_15 : decode cX5_copies 15 = .ok (.aload_n 0, 1) := dk_42 (dk_at dksX5_copies_0 15 rfl rfl)
theorem dX5_copies_16 : decode cX5_copies 16 = .ok (.invokevirtual 28, 3) := dk_182 0 28 (dk_at dksX5_copies_0 16 rfl rfl)
theorem dX5_copies_19 : decode cX5_copies 19 = .ok (.invokevirtual 32, 3) := dk_182 0 32 (dk_at dksX5_copies_0 19 rfl rfl)
theorem dX5_copies_22 : decode cX5_copies 22 = .ok (.invokestatic 36, 3) := dk_184 0 36 (dk_at dksX5_copies_1 0 rfl rfl)
theorem dX5_copies_25 : decode cX5_copies 25 = .ok (.istore_n 1, 1) := dk_60 (dk_at dksX5_copies_1 3 rfl rfl)
theorem dX5_copies_26 : decode cX5_copies 26 = .ok (.iinc 2 1, 3) := dk_132 2 1 (dk_at dksX5_copies_1 4 rfl rfl)
theorem dX5_copies_29 : decode cX5_copies 29 = .ok (.goto (-25), 3) := dk_167 255 231 (dk_at dksX5_copies_1 7 rfl rfl)
theorem dX5_copies_32 : decode cX5_copies 32 = .ok (.iload_n 1, 1) := dk_27 (dk_at dksX5_copies_1 10 rfl rfl)
theorem dX5_copies_33 : decode cX5_copies 33 = .ok (.ireturn, 1) := dk_172 (dk_at dksX5_copies_1 11 rfl rfl)
abbrev cX5_rows : ByteArray := prog_9_method_4_code
def yX5_rows : MethodName := ⟨RX5, "rows", "()I"⟩
def dkwX5_rows_0 : List UInt8 := [4, 42, 180, 0, 15, 120, 172]
abbrev dktX5_rows_0 : List UInt8 := dkwX5_rows_0 ++ []
theorem dksX5_rows_0 : cX5_rows.data.toList.drop 0 = dktX5_rows_0 := by decide +kernel
theorem dX5_rows_0 : decode cX5_rows 0 = .ok (.iconst 1, 1) := dk_4 (dk_at dksX5_rows_0 0 rfl rfl)
theorem dX5_rows_1 : decode cX5_rows 1 = .ok (.aload_n 0, 1) := dk_42 (dk_at dksX5_rows_0 1 rfl rfl)
theorem dX5_rows_2 : decode cX5_rows 2 = .ok (.getfield 15, 3) := dk_180 0 15 (dk_at dksX5_rows_0 2 rfl rfl)
theorem dX5_rows_5 : decode cX5_rows 5 = .ok (.ishl, 1) := dk_120 (dk_at dksX5_rows_0 5 rfl rfl)
theorem dX5_rows_6 : decode cX5_rows 6 = .ok (.ireturn, 1) := dk_172 (dk_at dksX5_rows_0 6 rfl rfl)
abbrev cX5_alike : ByteArray := prog_9_method_5_code
def yX5_alike : MethodName := ⟨RX5, "alike", "(II)I"⟩
def dkwX5_alike_1 : List UInt8 := [46, 160, 0, 7, 4, 167, 0, 4, 3, 96, 62, 132, 4, 1, 167, 255, 223, 29, 172]
abbrev dktX5_alike_1 : List UInt8 := dkwX5_alike_1 ++ []
def dkwX5_alike_0 : List UInt8 := [3, 62, 3, 54, 4, 21, 4, 28, 162, 0, 33, 29, 42, 180, 0, 9, 21, 4, 46, 42, 180, 0, 9, 27]
abbrev dktX5_alike_0 : List UInt8 := dkwX5_alike_0 ++ dktX5_alike_1
theorem dksX5_alike_0 : cX5_alike.data.toList.drop 0 = dktX5_alike_0 := by decide +kernel
theorem dksX5_alike_1 : cX5_alike.data.toList.drop 24 = dktX5_alike_1 := dk_seg dksX5_alike_0 24 rfl rfl
theorem dX5_alike_0 : decode cX5_alike 0 = .ok (.iconst 0, 1) := dk_3 (dk_at dksX5_alike_0 0 rfl rfl)
theorem dX5_alike_1 : decode cX5_alike 1 = .ok (.istore_n 3, 1) := dk_62 (dk_at dksX5_alike_0 1 rfl rfl)
theorem dX5_alike_2 : decode cX5_alike 2 = .ok (.iconst 0, 1) := dk_3 (dk_at dksX5_alike_0 2 rfl rfl)
theorem dX5_alike_3 : decode cX5_alike 3 = .ok (.istore 4, 2) := dk_54 4 (dk_at dksX5_alike_0 3 rfl rfl)
theorem dX5_alike_5 : decode cX5_alike 5 = .ok (.iload 4, 2) := dk_21 4 (dk_at dksX5_alike_0 5 rfl rfl)
theorem dX5_alike_7 : decode cX5_alike 7 = .ok (.iload_n 2, 1) := dk_28 (dk_at dksX5_alike_0 7 rfl rfl)
theorem dX5_alike_8 : decode cX5_alike 8 = .ok (.if_icmp .ge 33, 3) := dk_162 0 33 (dk_at dksX5_alike_0 8 rfl rfl)
theorem dX5_alike_11 : decode cX5_alike 11 = .ok (.iload_n 3, 1) := dk_29 (dk_at dksX5_alike_0 11 rfl rfl)
theorem dX5_alike_12 : decode cX5_alike 12 = .ok (.aload_n 0, 1) := dk_42 (dk_at dksX5_alike_0 12 rfl rfl)
theorem dX5_alike_13 : decode cX5_alike 13 = .ok (.getfield 9, 3) := dk_180 0 9 (dk_at dksX5_alike_0 13 rfl rfl)
theorem dX5_alike_16 : decode cX5_alike 16 = .ok (.iload 4, 2) := dk_21 4 (dk_at dksX5_alike_0 16 rfl rfl)
theorem dX5_alike_18 : decode cX5_alike 18 = .ok (.iaload, 1) := dk_46 (dk_at dksX5_alike_0 18 rfl rfl)
theorem dX5_alike_19 : decode cX5_alike 19 = .ok (.aload_n 0, 1) := dk_42 (dk_at dksX5_alike_0 19 rfl rfl)
theorem dX5_alike_20 : decode cX5_alike 20 = .ok (.getfield 9, 3) := dk_180 0 9 (dk_at dksX5_alike_0 20 rfl rfl)
theorem dX5_alike_23 : decode cX5_alike 23 = .ok (.iload_n 1, 1) := dk_27 (dk_at dksX5_alike_0 23 rfl rfl)
theorem dX5_alike_24 : decode cX5_alike 24 = .ok (.iaload, 1) := dk_46 (dk_at dksX5_alike_1 0 rfl rfl)
theorem dX5_alike_25 : decode cX5_alike 25 = .ok (.if_icmp .ne 7, 3) := dk_160 0 7 (dk_at dksX5_alike_1 1 rfl rfl)
theorem dX5_alike_28 : decode cX5_alike 28 = .ok (.iconst 1, 1) := dk_4 (dk_at dksX5_alike_1 4 rfl rfl)
theorem dX5_alike_29 : decode cX5_alike 29 = .ok (.goto 4, 3) := dk_167 0 4 (dk_at dksX5_alike_1 5 rfl rfl)
theorem dX5_alike_32 : decode cX5_alike 32 = .ok (.iconst 0, 1) := dk_3 (dk_at dksX5_alike_1 8 rfl rfl)
theorem dX5_alike_33 : decode cX5_alike 33 = .ok (.iadd, 1) := dk_96 (dk_at dksX5_alike_1 9 rfl rfl)
theorem dX5_alike_34 : decode cX5_alike 34 = .ok (.istore_n 3, 1) := dk_62 (dk_at dksX5_alike_1 10 rfl rfl)
theorem dX5_alike_35 : decode cX5_alike 35 = .ok (.iinc 4 1, 3) := dk_132 4 1 (dk_at dksX5_alike_1 11 rfl rfl)
theorem dX5_alike_38 : decode cX5_alike 38 = .ok (.goto (-33), 3) := dk_167 255 223 (dk_at dksX5_alike_1 14 rfl rfl)
theorem dX5_alike_41 : decode cX5_alike 41 = .ok (.iload_n 3, 1) := dk_29 (dk_at dksX5_alike_1 17 rfl rfl)
theorem dX5_alike_42 : decode cX5_alike 42 = .ok (.ireturn, 1) := dk_172 (dk_at dksX5_alike_1 18 rfl rfl)
abbrev cX5_garbage : ByteArray := prog_9_method_7_code
def yX5_garbage : MethodName := ⟨RX5, "garbage", "()I"⟩
def dkwX5_garbage_0 : List UInt8 := [3, 60, 4, 27, 120, 42, 182, 0, 41, 162, 0, 9, 132, 1, 1, 167, 255, 243, 27, 172]
abbrev dktX5_garbage_0 : List UInt8 := dkwX5_garbage_0 ++ []
theorem dksX5_garbage_0 : cX5_garbage.data.toList.drop 0 = dktX5_garbage_0 := by decide +kernel
theorem dX5_garbage_0 : decode cX5_garbage 0 = .ok (.iconst 0, 1) := dk_3 (dk_at dksX5_garbage_0 0 rfl rfl)
theorem dX5_garbage_1 : decode cX5_garbage 1 = .ok (.istore_n 1, 1) := dk_60 (dk_at dksX5_garbage_0 1 rfl rfl)
theorem dX5_garbage_2 : decode cX5_garbage 2 = .ok (.iconst 1, 1) := dk_4 (dk_at dksX5_garbage_0 2 rfl rfl)
theorem dX5_garbage_3 : decode cX5_garbage 3 = .ok (.iload_n 1, 1) := dk_27 (dk_at dksX5_garbage_0 3 rfl rfl)
theorem dX5_garbage_4 : decode cX5_garbage 4 = .ok (.ishl, 1) := dk_120 (dk_at dksX5_garbage_0 4 rfl rfl)
theorem dX5_garbage_5 : decode cX5_garbage 5 = .ok (.aload_n 0, 1) := dk_42 (dk_at dksX5_garbage_0 5 rfl rfl)
theorem dX5_garbage_6 : decode cX5_garbage 6 = .ok (.invokevirtual 41, 3) := dk_182 0 41 (dk_at dksX5_garbage_0 6 rfl rfl)
theorem dX5_garbage_9 : decode cX5_garbage 9 = .ok (.if_icmp .ge 9, 3) := dk_162 0 9 (dk_at dksX5_garbage_0 9 rfl rfl)
theorem dX5_garbage_12 : decode cX5_garbage 12 = .ok (.iinc 1 1, 3) := dk_132 1 1 (dk_at dksX5_garbage_0 12 rfl rfl)
theorem dX5_garbage_15 : decode cX5_garbage 15 = .ok (.goto (-13), 3) := dk_167 255 243 (dk_at dksX5_garbage_0 15 rfl rfl)
theorem dX5_garbage_18 : decode cX5_garbage 18 = .ok (.iload_n 1, 1) := dk_27 (dk_at dksX5_garbage_0 18 rfl rfl)
theorem dX5_garbage_19 : decode cX5_garbage 19 = .ok (.ireturn, 1) := dk_172 (dk_at dksX5_garbage_0 19 rfl rfl)
abbrev cX5_lines : ByteArray := prog_9_method_8_code
def yX5_lines : MethodName := ⟨RX5, "lines", "()I"⟩
def dkwX5_lines_0 : List UInt8 := [42, 180, 0, 15, 42, 180, 0, 19, 42, 182, 0, 44, 96, 184, 0, 36, 172]
abbrev dktX5_lines_0 : List UInt8 := dkwX5_lines_0 ++ []
theorem dksX5_lines_0 : cX5_lines.data.toList.drop 0 = dktX5_lines_0 := by decide +kernel
theorem dX5_lines_0 : decode cX5_lines 0 = .ok (.aload_n 0, 1) := dk_42 (dk_at dksX5_lines_0 0 rfl rfl)
theorem dX5_lines_1 : decode cX5_lines 1 = .ok (.getfield 15, 3) := dk_180 0 15 (dk_at dksX5_lines_0 1 rfl rfl)
theorem dX5_lines_4 : decode cX5_lines 4 = .ok (.aload_n 0, 1) := dk_42 (dk_at dksX5_lines_0 4 rfl rfl)
theorem dX5_lines_5 : decode cX5_lines 5 = .ok (.getfield 19, 3) := dk_180 0 19 (dk_at dksX5_lines_0 5 rfl rfl)
theorem dX5_lines_8 : decode cX5_lines 8 = .ok (.aload_n 0, 1) := dk_42 (dk_at dksX5_lines_0 8 rfl rfl)
theorem dX5_lines_9 : decode cX5_lines 9 = .ok (.invokevirtual 44, 3) := dk_182 0 44 (dk_at dksX5_lines_0 9 rfl rfl)
theorem dX5_lines_12 : decode cX5_lines 12 = .ok (.iadd, 1) := dk_96 (dk_at dksX5_lines_0 12 rfl rfl)
theorem dX5_lines_13 : decode cX5_lines 13 = .ok (.invokestatic 36, 3) := dk_184 0 36 (dk_at dksX5_lines_0 13 rfl rfl)
theorem dX5_lines_16 : decode cX5_lines 16 = .ok (.ireturn, 1) := dk_172 (dk_at dksX5_lines_0 16 rfl rfl)
abbrev cX5_lays : ByteArray := prog_9_method_9_code
def yX5_lays : MethodName := ⟨RX5, "lays", "([I)V"⟩
def dkwX5_lays_3 : List UInt8 := [79, 44, 43, 29, 46, 182, 0, 63, 132, 3, 1, 167, 255, 196, 177]
abbrev dktX5_lays_3 : List UInt8 := dkwX5_lays_3 ++ []
def dkwX5_lays_2 : List UInt8 := [46, 42, 29, 29, 182, 0, 32, 42, 180, 0, 19, 120, 96, 79, 167, 0, 11, 43, 29, 44, 3, 182, 0, 59]
abbrev dktX5_lays_2 : List UInt8 := dkwX5_lays_2 ++ dktX5_lays_3
def dkwX5_lays_1 : List UInt8 := [4, 42, 182, 0, 52, 120, 162, 0, 56, 29, 42, 182, 0, 28, 162, 0, 27, 43, 29, 42, 180, 0, 9, 29]
abbrev dktX5_lays_1 : List UInt8 := dkwX5_lays_1 ++ dktX5_lays_2
def dkwX5_lays_0 : List UInt8 := [187, 0, 47, 89, 16, 64, 183, 0, 49, 77, 44, 3, 4, 42, 182, 0, 52, 120, 182, 0, 55, 3, 62, 29]
abbrev dktX5_lays_0 : List UInt8 := dkwX5_lays_0 ++ dktX5_lays_1
theorem dksX5_lays_0 : cX5_lays.data.toList.drop 0 = dktX5_lays_0 := by decide +kernel
theorem dksX5_lays_1 : cX5_lays.data.toList.drop 24 = dktX5_lays_1 := dk_seg dksX5_lays_0 24 rfl rfl
theorem dksX5_lays_2 : cX5_lays.data.toList.drop 48 = dktX5_lays_2 := dk_seg dksX5_lays_1 24 rfl rfl
theorem dksX5_lays_3 : cX5_lays.data.toList.drop 72 = dktX5_lays_3 := dk_seg dksX5_lays_2 24 rfl rfl
theorem dX5_lays_0 : decode cX5_lays 0 = .ok (.new 47, 3) := dk_187 0 47 (dk_at dksX5_lays_0 0 rfl rfl)
theorem dX5_lays_3 : decode cX5_lays 3 = .ok (.dup, 1) := dk_89 (dk_at dksX5_lays_0 3 rfl rfl)
theorem dX5_lays_4 : decode cX5_lays 4 = .ok (.bipush 64, 2) := dk_16 64 (dk_at dksX5_lays_0 4 rfl rfl)
theorem dX5_lays_6 : decode cX5_lays 6 = .ok (.invokespecial 49, 3) := dk_183 0 49 (dk_at dksX5_lays_0 6 rfl rfl)
theorem dX5_lays_9 : decode cX5_lays 9 = .ok (.astore_n 2, 1) := dk_77 (dk_at dksX5_lays_0 9 rfl rfl)
theorem dX5_lays_10 : decode cX5_lays 10 = .ok (.aload_n 2, 1) := dk_44 (dk_at dksX5_lays_0 10 rfl rfl)
theorem dX5_lays_11 : decode cX5_lays 11 = .ok (.iconst 0, 1) := dk_3 (dk_at dksX5_lays_0 11 rfl rfl)
theorem dX5_lays_12 : decode cX5_lays 12 = .ok (.iconst 1, 1) := dk_4 (dk_at dksX5_lays_0 12 rfl rfl)
theorem dX5_lays_13 : decode cX5_lays 13 = .ok (.aload_n 0, 1) := dk_42 (dk_at dksX5_lays_0 13 rfl rfl)
theorem dX5_lays_14 : decode cX5_lays 14 = .ok (.invokevirtual 52, 3) := dk_182 0 52 (dk_at dksX5_lays_0 14 rfl rfl)
theorem dX5_lays_17 : decode cX5_lays 17 = .ok (.ishl, 1) := dk_120 (dk_at dksX5_lays_0 17 rfl rfl)
theorem dX5_lays_18 : decode cX5_lays 18 = .ok (.invokevirtual 55, 3) := dk_182 0 55 (dk_at dksX5_lays_0 18 rfl rfl)
theorem dX5_lays_21 : decode cX5_lays 21 = .ok (.iconst 0, 1) := dk_3 (dk_at dksX5_lays_0 21 rfl rfl)
theorem dX5_lays_22 : decode cX5_lays 22 = .ok (.istore_n 3, 1) := dk_62 (dk_at dksX5_lays_0 22 rfl rfl)
theorem dX5_lays_23 : decode cX5_lays 23 = .ok (.iload_n 3, 1) := dk_29 (dk_at dksX5_lays_0 23 rfl rfl)
theorem dX5_lays_24 : decode cX5_lays 24 = .ok (.iconst 1, 1) := dk_4 (dk_at dksX5_lays_1 0 rfl rfl)
theorem dX5_lays_25 : decode cX5_lays 25 = .ok (.aload_n 0, 1) := dk_42 (dk_at dksX5_lays_1 1 rfl rfl)
theorem dX5_lays_26 : decode cX5_lays 26 = .ok (.invokevirtual 52, 3) := dk_182 0 52 (dk_at dksX5_lays_1 2 rfl rfl)
theorem dX5_lays_29 : decode cX5_lays 29 = .ok (.ishl, 1) := dk_120 (dk_at dksX5_lays_1 5 rfl rfl)
theorem dX5_lays_30 : decode cX5_lays 30 = .ok (.if_icmp .ge 56, 3) := dk_162 0 56 (dk_at dksX5_lays_1 6 rfl rfl)
theorem dX5_lays_33 : decode cX5_lays 33 = .ok (.iload_n 3, 1) := dk_29 (dk_at dksX5_lays_1 9 rfl rfl)
theorem dX5_lays_34 : decode cX5_lays 34 = .ok (.aload_n 0, 1) := dk_42 (dk_at dksX5_lays_1 10 rfl rfl)
theorem dX5_lays_35 : decode cX5_lays 35 = .ok (.invokevirtual 28, 3) := dk_182 0 28 (dk_at dksX5_lays_1 11 rfl rfl)
theorem dX5_lays_38 : decode cX5_lays 38 = .ok (.if_icmp .ge 27, 3) := dk_162 0 27 (dk_at dksX5_lays_1 14 rfl rfl)
theorem dX5_lays_41 : decode cX5_lays 41 = .ok (.aload_n 1, 1) := dk_43 (dk_at dksX5_lays_1 17 rfl rfl)
theorem dX5_lays_42 : decode cX5_lays 42 = .ok (.iload_n 3, 1) := dk_29 (dk_at dksX5_lays_1 18 rfl rfl)
theorem dX5_lays_43 : decode cX5_lays 43 = .ok (.aload_n 0, 1) := dk_42 (dk_at dksX5_lays_1 19 rfl rfl)
theorem dX5_lays_44 : decode cX5_lays 44 = .ok (.getfield 9, 3) := dk_180 0 9 (dk_at dksX5_lays_1 20 rfl rfl)
theorem dX5_lays_47 : decode cX5_lays 47 = .ok (.iload_n 3, 1) := dk_29 (dk_at dksX5_lays_1 23 rfl rfl)
theorem dX5_lays_48 : decode cX5_lays 48 = .ok (.iaload, 1) := dk_46 (dk_at dksX5_lays_2 0 rfl rfl)
theorem dX5_lays_49 : decode cX5_lays 49 = .ok (.aload_n 0, 1) := dk_42 (dk_at dksX5_lays_2 1 rfl rfl)
theorem dX5_lays_50 : decode cX5_lays 50 = .ok (.iload_n 3, 1) := dk_29 (dk_at dksX5_lays_2 2 rfl rfl)
theorem dX5_lays_51 : decode cX5_lays 51 = .ok (.iload_n 3, 1) := dk_29 (dk_at dksX5_lays_2 3 rfl rfl)
theorem dX5_lays_52 : decode cX5_lays 52 = .ok (.invokevirtual 32, 3) := dk_182 0 32 (dk_at dksX5_lays_2 4 rfl rfl)
theorem dX5_lays_55 : decode cX5_lays 55 = .ok (.aload_n 0, 1) := dk_42 (dk_at dksX5_lays_2 7 rfl rfl)
theorem dX5_lays_56 : decode cX5_lays 56 = .ok (.getfield 19, 3) := dk_180 0 19 (dk_at dksX5_lays_2 8 rfl rfl)
theorem dX5_lays_59 : decode cX5_lays 59 = .ok (.ishl, 1) := dk_120 (dk_at dksX5_lays_2 11 rfl rfl)
theorem dX5_lays_60 : decode cX5_lays 60 = .ok (.iadd, 1) := dk_96 (dk_at dksX5_lays_2 12 rfl rfl)
theorem dX5_lays_61 : decode cX5_lays 61 = .ok (.iastore, 1) := dk_79 (dk_at dksX5_lays_2 13 rfl rfl)
theorem dX5_lays_62 : decode cX5_lays 62 = .ok (.goto 11, 3) := dk_167 0 11 (dk_at dksX5_lays_2 14 rfl rfl)
theorem dX5_lays_65 : decode cX5_lays 65 = .ok (.aload_n 1, 1) := dk_43 (dk_at dksX5_lays_2 17 rfl rfl)
theorem dX5_lays_66 : decode cX5_lays 66 = .ok (.iload_n 3, 1) := dk_29 (dk_at dksX5_lays_2 18 rfl rfl)
theorem dX5_lays_67 : decode cX5_lays 67 = .ok (.aload_n 2, 1) := dk_44 (dk_at dksX5_lays_2 19 rfl rfl)
theorem dX5_lays_68 : decode cX5_lays 68 = .ok (.iconst 0, 1) := dk_3 (dk_at dksX5_lays_2 20 rfl rfl)
theorem dX5_lays_69 : decode cX5_lays 69 = .ok (.invokevirtual 59, 3) := dk_182 0 59 (dk_at dksX5_lays_2 21 rfl rfl)
theorem dX5_lays_72 : decode cX5_lays 72 = .ok (.iastore, 1) := dk_79 (dk_at dksX5_lays_3 0 rfl rfl)
theorem dX5_lays_73 : decode cX5_lays 73 = .ok (.aload_n 2, 1) := dk_44 (dk_at dksX5_lays_3 1 rfl rfl)
theorem dX5_lays_74 : decode cX5_lays 74 = .ok (.aload_n 1, 1) := dk_43 (dk_at dksX5_lays_3 2 rfl rfl)
theorem dX5_lays_75 : decode cX5_lays 75 = .ok (.iload_n 3, 1) := dk_29 (dk_at dksX5_lays_3 3 rfl rfl)
theorem dX5_lays_76 : decode cX5_lays 76 = .ok (.iaload, 1) := dk_46 (dk_at dksX5_lays_3 4 rfl rfl)
theorem dX5_lays_77 : decode cX5_lays 77 = .ok (.invokevirtual 63, 3) := dk_182 0 63 (dk_at dksX5_lays_3 5 rfl rfl)
theorem dX5_lays_80 : decode cX5_lays 80 = .ok (.iinc 3 1, 3) := dk_132 3 1 (dk_at dksX5_lays_3 8 rfl rfl)
theorem dX5_lays_83 : decode cX5_lays 83 = .ok (.goto (-60), 3) := dk_167 255 196 (dk_at dksX5_lays_3 11 rfl rfl)
theorem dX5_lays_86 : decode cX5_lays 86 = .ok (.return_, 1) := dk_177 (dk_at dksX5_lays_3 14 rfl rfl)
theorem q149 : (Jvm.Cond.initialized "BackLogic$Table") ∈ lw_all := lw_g (lw_at lw_m1 20 rfl) rfl
theorem q294 : (Jvm.Cond.selects "BackLogic$Table" ({ cls := "java/lang/Object", name := "getClass", desc := "()Ljava/lang/Class;" } : Jvm.MethodName) ({ cls := "java/lang/Object", name := "getClass", desc := "()Ljava/lang/Class;" } : Jvm.MethodName)) ∈ lw_all := lw_g (lw_at lw_m1 165 rfl) rfl
theorem q443 : (Jvm.Cond.instantiable "BackLogic$Table" (3 : Nat)) ∈ lw_all := lw_g (lw_at lw_m2 74 rfl) rfl
theorem q445 : (Jvm.Cond.instanceMethod ({ cls := "BackLogic$Table", name := "<init>", desc := "()V" } : Jvm.MethodName)) ∈ lw_all := lw_g (lw_at lw_m2 76 rfl) rfl
theorem q446 : (Jvm.Cond.code ({ cls := "BackLogic$Table", name := "<init>", desc := "()V" } : Jvm.MethodName) prog_9_method_1_code (1 : Nat) (Option.none : Option Jvm.ClassFile.FieldType)) ∈ lw_all := lw_g (lw_at lw_m2 77 rfl) rfl
theorem q447 : (Jvm.Cond.methodLink "BackLogic$Table" (3 : Nat) ({ cls := "java/lang/Object", name := "<init>", desc := "()V" } : Jvm.MethodName)) ∈ lw_all := lw_g (lw_at lw_m2 78 rfl) rfl
theorem q448 : (Jvm.Cond.fieldLink "BackLogic$Table" (15 : Nat) "BackLogic$Table" "inputs" "I") ∈ lw_all := lw_g (lw_at lw_m2 79 rfl) rfl
theorem q451 : (Jvm.Cond.fieldLink "BackLogic$Table" (19 : Nat) "BackLogic$Table" "outputs" "I") ∈ lw_all := lw_g (lw_at lw_m2 82 rfl) rfl
theorem q454 : (Jvm.Cond.fieldLink "BackLogic$Table" (9 : Nat) "BackLogic$Table" "value" "[I") ∈ lw_all := lw_g (lw_at lw_m2 85 rfl) rfl
theorem q456 : (Jvm.Cond.lays "BackLogic$Table" "BackLogic$Table" "inputs" "I") ∈ lw_all := lw_g (lw_at lw_m2 87 rfl) rfl
theorem q457 : (Jvm.Cond.soleField "BackLogic$Table" "inputs") ∈ lw_all := lw_g (lw_at lw_m2 88 rfl) rfl
theorem q458 : (Jvm.Cond.lays "BackLogic$Table" "BackLogic$Table" "outputs" "I") ∈ lw_all := lw_g (lw_at lw_m2 89 rfl) rfl
theorem q459 : (Jvm.Cond.soleField "BackLogic$Table" "outputs") ∈ lw_all := lw_g (lw_at lw_m2 90 rfl) rfl
theorem q460 : (Jvm.Cond.laysFinal "BackLogic$Table" "BackLogic$Table" "value" "[I") ∈ lw_all := lw_g (lw_at lw_m2 91 rfl) rfl
theorem q461 : (Jvm.Cond.soleField "BackLogic$Table" "value") ∈ lw_all := lw_g (lw_at lw_m2 92 rfl) rfl
theorem q462 : (Jvm.Cond.superclass "BackLogic$Table" "java/lang/Object") ∈ lw_all := lw_g (lw_at lw_m2 93 rfl) rfl
theorem q1442 : (Jvm.Cond.instanceMethod ({ cls := "BackLogic$Table", name := "becomes", desc := "(LBackLogic$Table;)V" } : Jvm.MethodName)) ∈ lw_all := lw_g (lw_at lw_m6 113 rfl) rfl
theorem q1443 : (Jvm.Cond.selects "BackLogic$Table" ({ cls := "BackLogic$Table", name := "becomes", desc := "(LBackLogic$Table;)V" } : Jvm.MethodName) ({ cls := "BackLogic$Table", name := "becomes", desc := "(LBackLogic$Table;)V" } : Jvm.MethodName)) ∈ lw_all := lw_g (lw_at lw_m6 114 rfl) rfl
theorem q1444 : (Jvm.Cond.code ({ cls := "BackLogic$Table", name := "becomes", desc := "(LBackLogic$Table;)V" } : Jvm.MethodName) prog_9_method_2_code (2 : Nat) (Option.none : Option Jvm.ClassFile.FieldType)) ∈ lw_all := lw_g (lw_at lw_m6 115 rfl) rfl
theorem q1445 : (Jvm.Cond.methodLink "BackLogic$Table" (22 : Nat) ({ cls := "java/lang/System", name := "arraycopy", desc := "(Ljava/lang/Object;ILjava/lang/Object;II)V" } : Jvm.MethodName)) ∈ lw_all := lw_g (lw_at lw_m6 116 rfl) rfl
theorem q1969 : (Jvm.Cond.instanceMethod ({ cls := "BackLogic$Table", name := "isThere", desc := "()Z" } : Jvm.MethodName)) ∈ lw_all := lw_g (lw_at lw_m8 160 rfl) rfl
theorem q1970 : (Jvm.Cond.selects "BackLogic$Table" ({ cls := "BackLogic$Table", name := "isThere", desc := "()Z" } : Jvm.MethodName) ({ cls := "BackLogic$Table", name := "isThere", desc := "()Z" } : Jvm.MethodName)) ∈ lw_all := lw_g (lw_at lw_m8 161 rfl) rfl
theorem q1971 : (Jvm.Cond.code ({ cls := "BackLogic$Table", name := "isThere", desc := "()Z" } : Jvm.MethodName) prog_9_method_3_code (1 : Nat) (Option.some Jvm.ClassFile.FieldType.boolean)) ∈ lw_all := lw_g (lw_at lw_m8 162 rfl) rfl
theorem q1973 : (Jvm.Cond.instanceMethod ({ cls := "BackLogic$Table", name := "copies", desc := "()I" } : Jvm.MethodName)) ∈ lw_all := lw_g (lw_at lw_m8 164 rfl) rfl
theorem q1974 : (Jvm.Cond.selects "BackLogic$Table" ({ cls := "BackLogic$Table", name := "copies", desc := "()I" } : Jvm.MethodName) ({ cls := "BackLogic$Table", name := "copies", desc := "()I" } : Jvm.MethodName)) ∈ lw_all := lw_g (lw_at lw_m8 165 rfl) rfl
theorem q1975 : (Jvm.Cond.code ({ cls := "BackLogic$Table", name := "copies", desc := "()I" } : Jvm.MethodName) prog_9_method_6_code (3 : Nat) (Option.some Jvm.ClassFile.FieldType.int)) ∈ lw_all := lw_g (lw_at lw_m8 166 rfl) rfl
theorem q1976 : (Jvm.Cond.methodLink "BackLogic$Table" (28 : Nat) ({ cls := "BackLogic$Table", name := "rows", desc := "()I" } : Jvm.MethodName)) ∈ lw_all := lw_g (lw_at lw_m8 167 rfl) rfl
theorem q1977 : (Jvm.Cond.instanceMethod ({ cls := "BackLogic$Table", name := "rows", desc := "()I" } : Jvm.MethodName)) ∈ lw_all := lw_g (lw_at lw_m8 168 rfl) rfl
theorem q1978 : (Jvm.Cond.selects "BackLogic$Table" ({ cls := "BackLogic$Table", name := "rows", desc := "()I" } : Jvm.MethodName) ({ cls := "BackLogic$Table", name := "rows", desc := "()I" } : Jvm.MethodName)) ∈ lw_all := lw_g (lw_at lw_m8 169 rfl) rfl
theorem q1979 : (Jvm.Cond.code ({ cls := "BackLogic$Table", name := "rows", desc := "()I" } : Jvm.MethodName) prog_9_method_4_code (1 : Nat) (Option.some Jvm.ClassFile.FieldType.int)) ∈ lw_all := lw_g (lw_at lw_m8 170 rfl) rfl
theorem q1980 : (Jvm.Cond.methodLink "BackLogic$Table" (32 : Nat) ({ cls := "BackLogic$Table", name := "alike", desc := "(II)I" } : Jvm.MethodName)) ∈ lw_all := lw_g (lw_at lw_m8 171 rfl) rfl
theorem q1981 : (Jvm.Cond.privateMethod ({ cls := "BackLogic$Table", name := "alike", desc := "(II)I" } : Jvm.MethodName)) ∈ lw_tbl := lw_at lw_m8 172 rfl
theorem q1982 : (Jvm.Cond.instanceMethod ({ cls := "BackLogic$Table", name := "alike", desc := "(II)I" } : Jvm.MethodName)) ∈ lw_all := lw_g (lw_at lw_m8 173 rfl) rfl
theorem q1983 : (Jvm.Cond.code ({ cls := "BackLogic$Table", name := "alike", desc := "(II)I" } : Jvm.MethodName) prog_9_method_5_code (5 : Nat) (Option.some Jvm.ClassFile.FieldType.int)) ∈ lw_all := lw_g (lw_at lw_m8 174 rfl) rfl
theorem q1984 : (Jvm.Cond.methodLink "BackLogic$Table" (36 : Nat) ({ cls := "java/lang/Math", name := "max", desc := "(II)I" } : Jvm.MethodName)) ∈ lw_all := lw_g (lw_at lw_m8 175 rfl) rfl
theorem q1986 : (Jvm.Cond.instanceMethod ({ cls := "BackLogic$Table", name := "garbage", desc := "()I" } : Jvm.MethodName)) ∈ lw_all := lw_g (lw_at lw_m8 177 rfl) rfl
theorem q1987 : (Jvm.Cond.selects "BackLogic$Table" ({ cls := "BackLogic$Table", name := "garbage", desc := "()I" } : Jvm.MethodName) ({ cls := "BackLogic$Table", name := "garbage", desc := "()I" } : Jvm.MethodName)) ∈ lw_all := lw_g (lw_at lw_m8 178 rfl) rfl
theorem q1988 : (Jvm.Cond.code ({ cls := "BackLogic$Table", name := "garbage", desc := "()I" } : Jvm.MethodName) prog_9_method_7_code (2 : Nat) (Option.some Jvm.ClassFile.FieldType.int)) ∈ lw_all := lw_g (lw_at lw_m8 179 rfl) rfl
theorem q1989 : (Jvm.Cond.methodLink "BackLogic$Table" (41 : Nat) ({ cls := "BackLogic$Table", name := "copies", desc := "()I" } : Jvm.MethodName)) ∈ lw_all := lw_g (lw_at lw_m8 180 rfl) rfl
theorem q1991 : (Jvm.Cond.instanceMethod ({ cls := "BackLogic$Table", name := "lines", desc := "()I" } : Jvm.MethodName)) ∈ lw_all := lw_g (lw_at lw_m8 182 rfl) rfl
theorem q1992 : (Jvm.Cond.selects "BackLogic$Table" ({ cls := "BackLogic$Table", name := "lines", desc := "()I" } : Jvm.MethodName) ({ cls := "BackLogic$Table", name := "lines", desc := "()I" } : Jvm.MethodName)) ∈ lw_all := lw_g (lw_at lw_m8 183 rfl) rfl
theorem q1993 : (Jvm.Cond.code ({ cls := "BackLogic$Table", name := "lines", desc := "()I" } : Jvm.MethodName) prog_9_method_8_code (1 : Nat) (Option.some Jvm.ClassFile.FieldType.int)) ∈ lw_all := lw_g (lw_at lw_m8 184 rfl) rfl
theorem q1994 : (Jvm.Cond.methodLink "BackLogic$Table" (44 : Nat) ({ cls := "BackLogic$Table", name := "garbage", desc := "()I" } : Jvm.MethodName)) ∈ lw_all := lw_g (lw_at lw_m8 185 rfl) rfl
theorem q1996 : (Jvm.Cond.instanceMethod ({ cls := "BackLogic$Table", name := "lays", desc := "([I)V" } : Jvm.MethodName)) ∈ lw_all := lw_g (lw_at lw_m8 187 rfl) rfl
theorem q1997 : (Jvm.Cond.selects "BackLogic$Table" ({ cls := "BackLogic$Table", name := "lays", desc := "([I)V" } : Jvm.MethodName) ({ cls := "BackLogic$Table", name := "lays", desc := "([I)V" } : Jvm.MethodName)) ∈ lw_all := lw_g (lw_at lw_m8 188 rfl) rfl
theorem q1998 : (Jvm.Cond.code ({ cls := "BackLogic$Table", name := "lays", desc := "([I)V" } : Jvm.MethodName) prog_9_method_9_code (4 : Nat) (Option.none : Option Jvm.ClassFile.FieldType)) ∈ lw_all := lw_g (lw_at lw_m8 189 rfl) rfl
theorem q1999 : (Jvm.Cond.classLink "BackLogic$Table" (47 : Nat) "java/util/BitSet") ∈ lw_all := lw_g (lw_at lw_m8 190 rfl) rfl
theorem q2000 : (Jvm.Cond.methodLink "BackLogic$Table" (49 : Nat) ({ cls := "java/util/BitSet", name := "<init>", desc := "(I)V" } : Jvm.MethodName)) ∈ lw_all := lw_g (lw_at lw_m8 191 rfl) rfl
theorem q2001 : (Jvm.Cond.methodLink "BackLogic$Table" (52 : Nat) ({ cls := "BackLogic$Table", name := "lines", desc := "()I" } : Jvm.MethodName)) ∈ lw_all := lw_g (lw_at lw_m8 192 rfl) rfl
theorem q2002 : (Jvm.Cond.methodLink "BackLogic$Table" (55 : Nat) ({ cls := "java/util/BitSet", name := "set", desc := "(II)V" } : Jvm.MethodName)) ∈ lw_all := lw_g (lw_at lw_m8 193 rfl) rfl
theorem q2010 : (Jvm.Cond.methodLink "BackLogic$Table" (59 : Nat) ({ cls := "java/util/BitSet", name := "nextSetBit", desc := "(I)I" } : Jvm.MethodName)) ∈ lw_all := lw_g (lw_at lw_m8 201 rfl) rfl
theorem q2018 : (Jvm.Cond.methodLink "BackLogic$Table" (63 : Nat) ({ cls := "java/util/BitSet", name := "clear", desc := "(I)V" } : Jvm.MethodName)) ∈ lw_all := lw_g (lw_at lw_m8 209 rfl) rfl
theorem q2690 : (Jvm.Cond.castable "BackLogic$Table" "java/lang/Object") ∈ lw_tbl := lw_at lw_m11 161 rfl
theorem in_X5 : ∀ w ∈ wsX50, w ∈ lw_all := lw_in wsX50 [456, 458, 460] (by decide +kernel) (by decide +kernel)
/-! BackLogic$Finder -/
set_option maxRecDepth 100000
def RX6 : String := "BackLogic$Finder"
def TX6 : u_T := fun k => match k with
  | 0 => ("BackLogic$Finder", "order", "[I", true)
  | 1 => ("BackLogic$Finder", "from", "[I", true)
  | 2 => ("BackLogic$Finder", "rows", "I", false)
  | 3 => ("BackLogic$Finder", "wires", "I", false)
  | 4 => ("BackLogic$Finder", "ahead", "Ljava/util/LinkedList;", true)
  | _ => ("BackLogic$Finder", "behind", "Ljava/util/LinkedList;", true)
def tyX6 : Nat → FieldType := fun k => match k with
  | 0 => .array .int
  | 1 => .array .int
  | 2 => .int
  | 3 => .int
  | 4 => .object "java/util/LinkedList"
  | _ => .object "java/util/LinkedList"
abbrev wsX60 : List Cond := u_ws RX6 TX6 6
theorem nmX6 : ∀ a, a < 6 → ∀ b, b < 6 → a ≠ b → (TX6 a).2.1 ≠ (TX6 b).2.1 := by decide +kernel
theorem tyX6_ok : ∀ k, k < 6 → parseFieldDescriptor (TX6 k).2.2.1 = some (tyX6 k) := by decide +kernel
abbrev cX6_init : ByteArray := prog_4_method_1_code
def yX6_init : MethodName := ⟨RX6, "<init>", "()V"⟩
def dkwX6_init_1 : List UInt8 := [89, 183, 0, 20, 181, 0, 21, 42, 187, 0, 18, 89, 183, 0, 20, 181, 0, 25, 177]
abbrev dktX6_init_1 : List UInt8 := dkwX6_init_1 ++ []
def dkwX6_init_0 : List UInt8 := [42, 183, 0, 3, 42, 16, 64, 188, 10, 181, 0, 9, 42, 16, 64, 188, 10, 181, 0, 15, 42, 187, 0, 18]
abbrev dktX6_init_0 : List UInt8 := dkwX6_init_0 ++ dktX6_init_1
theorem dksX6_init_0 : cX6_init.data.toList.drop 0 = dktX6_init_0 := by decide +kernel
theorem dksX6_init_1 : cX6_init.data.toList.drop 24 = dktX6_init_1 := dk_seg dksX6_init_0 24 rfl rfl
theorem dX6_init_0 : decode cX6_init 0 = .ok (.aload_n 0, 1) := dk_42 (dk_at dksX6_init_0 0 rfl rfl)
theorem dX6_init_1 : decode cX6_init 1 = .ok (.invokespecial 3, 3) := dk_183 0 3 (dk_at dksX6_init_0 1 rfl rfl)
theorem dX6_init_4 : decode cX6_init 4 = .ok (.aload_n 0, 1) := dk_42 (dk_at dksX6_init_0 4 rfl rfl)
theorem dX6_init_5 : decode cX6_init 5 = .ok (.bipush 64, 2) := dk_16 64 (dk_at dksX6_init_0 5 rfl rfl)
theorem dX6_init_7 : decode cX6_init 7 = .ok (.newarray .int, 2) := dk_188_10 (dk_at dksX6_init_0 7 rfl rfl)
theorem dX6_init_9 : decode cX6_init 9 = .ok (.putfield 9, 3) := dk_181 0 9 (dk_at dksX6_init_0 9 rfl rfl)
theorem dX6_init_12 : decode cX6_init 12 = .ok (.aload_n 0, 1) := dk_42 (dk_at dksX6_init_0 12 rfl rfl)
theorem dX6_init_13 : decode cX6_init 13 = .ok (.bipush 64, 2) := dk_16 64 (dk_at dksX6_init_0 13 rfl rfl)
theorem dX6_init_15 : decode cX6_init 15 = .ok (.newarray .int, 2) := dk_188_10 (dk_at dksX6_init_0 15 rfl rfl)
theorem dX6_init_17 : decode cX6_init 17 = .ok (.putfield 15, 3) := dk_181 0 15 (dk_at dksX6_init_0 17 rfl rfl)
theorem dX6_init_20 : decode cX6_init 20 = .ok (.aload_n 0, 1) := dk_42 (dk_at dksX6_init_0 20 rfl rfl)
theorem dX6_init_21 : decode cX6_init 21 = .ok (.new 18, 3) := dk_187 0 18 (dk_at dksX6_init_0 21 rfl rfl)
theorem dX6_init_24 : decode cX6_init 24 = .ok (.dup, 1) := dk_89 (dk_at dksX6_init_1 0 rfl rfl)
theorem dX6_init_25 : decode cX6_init 25 = .ok (.invokespecial 20, 3) := dk_183 0 20 (dk_at dksX6_init_1 1 rfl rfl)
theorem dX6_init_28 : decode cX6_init 28 = .ok (.putfield 21, 3) := dk_181 0 21 (dk_at dksX6_init_1 4 rfl rfl)
theorem dX6_init_31 : decode cX6_init 31 = .ok (.aload_n 0, 1) := dk_42 (dk_at dksX6_init_1 7 rfl rfl)
theorem dX6_init_32 : decode cX6_init 32 = .ok (.new 18, 3) := dk_187 0 18 (dk_at dksX6_init_1 8 rfl rfl)
theorem dX6_init_35 : decode cX6_init 35 = .ok (.dup, 1) := dk_89 (dk_at dksX6_init_1 11 rfl rfl)
theorem dX6_init_36 : decode cX6_init 36 = .ok (.invokespecial 20, 3) := dk_183 0 20 (dk_at dksX6_init_1 12 rfl rfl)
theorem dX6_init_39 : decode cX6_init 39 = .ok (.putfield 25, 3) := dk_181 0 25 (dk_at dksX6_init_1 15 rfl rfl)
theorem dX6_init_42 : decode cX6_init 42 = .ok (.return_, 1) := dk_177 (dk_at dksX6_init_1 18 rfl rfl)
abbrev cX6_finds : ByteArray := prog_4_method_4_code
def yX6_finds : MethodName := ⟨RX6, "finds", "([IIZ)V"⟩
def dkwX6_finds_4 : List UInt8 := [4, 182, 0, 65, 167, 0, 12, 42, 21, 5, 21, 4, 3, 182, 0, 65, 132, 4, 1, 167, 255, 183, 177]
abbrev dktX6_finds_4 : List UInt8 := dkwX6_finds_4 ++ []
def dkwX6_finds_3 : List UInt8 := [21, 4, 21, 6, 130, 184, 0, 62, 21, 4, 21, 5, 130, 184, 0, 62, 162, 0, 15, 42, 21, 6, 21, 4]
abbrev dktX6_finds_3 : List UInt8 := dkwX6_finds_3 ++ dktX6_finds_4
def dkwX6_finds_2 : List UInt8 := [162, 0, 70, 42, 180, 0, 9, 21, 4, 46, 54, 5, 42, 21, 4, 182, 0, 60, 54, 6, 29, 153, 0, 34]
abbrev dktX6_finds_2 : List UInt8 := dkwX6_finds_2 ++ dktX6_finds_3
def dkwX6_finds_1 : List UInt8 := [42, 180, 0, 21, 182, 0, 57, 42, 180, 0, 25, 182, 0, 57, 3, 54, 4, 21, 4, 42, 180, 0, 38]
abbrev dktX6_finds_1 : List UInt8 := dkwX6_finds_1 ++ dktX6_finds_2
def dkwX6_finds_0 : List UInt8 := [42, 28, 181, 0, 38, 42, 28, 184, 0, 42, 181, 0, 48, 43, 3, 42, 180, 0, 9, 3, 28, 184, 0, 51]
abbrev dktX6_finds_0 : List UInt8 := dkwX6_finds_0 ++ dktX6_finds_1
theorem dksX6_finds_0 : cX6_finds.data.toList.drop 0 = dktX6_finds_0 := by decide +kernel
theorem dksX6_finds_1 : cX6_finds.data.toList.drop 24 = dktX6_finds_1 := dk_seg dksX6_finds_0 24 rfl rfl
theorem dksX6_finds_2 : cX6_finds.data.toList.drop 47 = dktX6_finds_2 := dk_seg dksX6_finds_1 23 rfl rfl
theorem dksX6_finds_3 : cX6_finds.data.toList.drop 71 = dktX6_finds_3 := dk_seg dksX6_finds_2 24 rfl rfl
theorem dksX6_finds_4 : cX6_finds.data.toList.drop 95 = dktX6_finds_4 := dk_seg dksX6_finds_3 24 rfl rfl
theorem dX6_finds_0 : decode cX6_finds 0 = .ok (.aload_n 0, 1) := dk_42 (dk_at dksX6_finds_0 0 rfl rfl)
theorem dX6_finds_1 : decode cX6_finds 1 = .ok (.iload_n 2, 1) := dk_28 (dk_at dksX6_finds_0 1 rfl rfl)
theorem dX6_finds_2 : decode cX6_finds 2 = .ok (.putfield 38, 3) := dk_181 0 38 (dk_at dksX6_finds_0 2 rfl rfl)
theorem dX6_finds_5 : decode cX6_finds 5 = .ok (.aload_n 0, 1) := dk_42 (dk_at dksX6_finds_0 5 rfl rfl)
theorem dX6_finds_6 : decode cX6_finds 6 = .ok (.iload_n 2, 1) := dk_28 (dk_at dksX6_finds_0 6 rfl rfl)
theorem dX6_finds_7 : decode cX6_finds 7 = .ok (.invokestatic 42, 3) := dk_184 0 42 (dk_at dksX6_finds_0 7 rfl rfl)
theorem dX6_finds_10 : decode cX6_finds 10 = .ok (.putfield 48, 3) := dk_181 0 48 (dk_at dksX6_finds_0 10 rfl rfl)
theorem dX6_finds_13 : decode cX6_finds 13 = .ok (.aload_n 1, 1) := dk_43 (dk_at dksX6_finds_0 13 rfl rfl)
theorem dX6_finds_14 : decode cX6_finds 14 = .ok (.iconst 0, 1) := dk_3 (dk_at dksX6_finds_0 14 rfl rfl)
theorem dX6_finds_15 : decode cX6_finds 15 = .ok (.aload_n 0, 1) := dk_42 (dk_at dksX6_finds_0 15 rfl rfl)
theorem dX6_finds_16 : decode cX6_finds 16 = .ok (.getfield 9, 3) := dk_180 0 9 (dk_at dksX6_finds_0 16 rfl rfl)
theorem dX6_finds_19 : decode cX6_finds 19 = .ok (.iconst 0, 1) := dk_3 (dk_at dksX6_finds_0 19 rfl rfl)
theorem dX6_finds_20 : decode cX6_finds 20 = .ok (.iload_n 2, 1) := dk_28 (dk_at dksX6_finds_0 20 rfl rfl)
theorem dX6_finds_21 : decode cX6_finds 21 = .ok (.invokestatic 51, 3) := dk_184 0 51 (dk_at dksX6_finds_0 21 rfl rfl)
theorem dX6_finds_24 : decode cX6_finds 24 = .ok (.aload_n 0, 1) := dk_42 (dk_at dksX6_finds_1 0 rfl rfl)
theorem dX6_finds_25 : decode cX6_finds 25 = .ok (.getfield 21, 3) := dk_180 0 21 (dk_at dksX6_finds_1 1 rfl rfl)
theorem dX6_finds_28 : decode cX6_finds 28 = .ok (.invokevirtual 57, 3) := dk_182 0 57 (dk_at dksX6_finds_1 4 rfl rfl)
theorem dX6_finds_31 : decode cX6_finds 31 = .ok (.aload_n 0, 1) := dk_42 (dk_at dksX6_finds_1 7 rfl rfl)
theorem dX6_finds_32 : decode cX6_finds 32 = .ok (.getfield 25, 3) := dk_180 0 25 (dk_at dksX6_finds_1 8 rfl rfl)
theorem dX6_finds_35 : decode cX6_finds 35 = .ok (.invokevirtual 57, 3) := dk_182 0 57 (dk_at dksX6_finds_1 11 rfl rfl)
theorem dX6_finds_38 : decode cX6_finds 38 = .ok (.iconst 0, 1) := dk_3 (dk_at dksX6_finds_1 14 rfl rfl)
theorem dX6_finds_39 : decode cX6_finds 39 = .ok (.istore 4, 2) := dk_54 4 (dk_at dksX6_finds_1 15 rfl rfl)
theorem dX6_finds_41 : decode cX6_finds 41 = .ok (.iload 4, 2) := dk_21 4 (dk_at dksX6_finds_1 17 rfl rfl)
theorem dX6_finds_43 : decode cX6_finds 43 = .ok (.aload_n 0, 1) := dk_42 (dk_at dksX6_finds_1 19 rfl rfl)
theorem dX6_finds_44 : decode cX6_finds 44 = .ok (.getfield 38, 3) := dk_180 0 38 (dk_at dksX6_finds_1 20 rfl rfl)
theorem dX6_finds_47 : decode cX6_finds 47 = .ok (.if_icmp .ge 70, 3) := dk_162 0 70 (dk_at dksX6_finds_2 0 rfl rfl)
theorem dX6_finds_50 : decode cX6_finds 50 = .ok (.aload_n 0, 1) := dk_42 (dk_at dksX6_finds_2 3 rfl rfl)
theorem dX6_finds_51 : decode cX6_finds 51 = .ok (.getfield 9, 3) := dk_180 0 9 (dk_at dksX6_finds_2 4 rfl rfl)
theorem dX6_finds_54 : decode cX6_finds 54 = .ok (.iload 4, 2) := dk_21 4 (dk_at dksX6_finds_2 7 rfl rfl)
theorem dX6_finds_56 : decode cX6_finds 56 = .ok (.iaload, 1) := dk_46 (dk_at dksX6_finds_2 9 rfl rfl)
theorem dX6_finds_57 : decode cX6_finds 57 = .ok (.istore 5, 2) := dk_54 5 (dk_at dksX6_finds_2 10 rfl rfl)
theorem dX6_finds_59 : decode cX6_finds 59 = .ok (.aload_n 0, 1) := dk_42 (dk_at dksX6_finds_2 12 rfl rfl)
theorem dX6_finds_60 : decode cX6_finds 60 = .ok (.iload 4, 2) := dk_21 4 (dk_at dksX6_finds_2 13 rfl rfl)
theorem dX6_finds_62 : decode cX6_finds 62 = .ok (.invokevirtual 60, 3) := dk_182 0 60 (dk_at dksX6_finds_2 15 rfl rfl)
theorem dX6_finds_65 : decode cX6_finds 65 = .ok (.istore 6, 2) := dk_54 6 (dk_at dksX6_finds_2 18 rfl rfl)
theorem dX6_finds_67 : decode cX6_finds 67 = .ok (.iload_n 3, 1) := dk_29 (dk_at dksX6_finds_2 20 rfl rfl)
theorem dX6_finds_68 : decode cX6_finds 68 = .ok (.ifCond .eq 34, 3) := dk_153 0 34 (dk_at dksX6_finds_2 21 rfl rfl)
theorem dX6_finds_71 : decode cX6_finds 71 = .ok (.iload 4, 2) := dk_21 4 (dk_at dksX6_finds_3 0 rfl rfl)
theorem dX6_finds_73 : decode cX6_finds 73 = .ok (.iload 6, 2) := dk_21 6 (dk_at dksX6_finds_3 2 rfl rfl)
theorem dX6_finds_75 : decode cX6_finds 75 = .ok (.ixor, 1) := dk_130 (dk_at dksX6_finds_3 4 rfl rfl)
theorem dX6_finds_76 : decode cX6_finds 76 = .ok (.invokestatic 62, 3) := dk_184 0 62 (dk_at dksX6_finds_3 5 rfl rfl)
theorem dX6_finds_79 : decode cX6_finds 79 = .ok (.iload 4, 2) := dk_21 4 (dk_at dksX6_finds_3 8 rfl rfl)
theorem dX6_finds_81 : decode cX6_finds 81 = .ok (.iload 5, 2) := dk_21 5 (dk_at dksX6_finds_3 10 rfl rfl)
theorem dX6_finds_83 : decode cX6_finds 83 = .ok (.ixor, 1) := dk_130 (dk_at dksX6_finds_3 12 rfl rfl)
theorem dX6_finds_84 : decode cX6_finds 84 = .ok (.invokestatic 62, 3) := dk_184 0 62 (dk_at dksX6_finds_3 13 rfl rfl)
theorem dX6_finds_87 : decode cX6_finds 87 = .ok (.if_icmp .ge 15, 3) := dk_162 0 15 (dk_at dksX6_finds_3 16 rfl rfl)
theorem dX6_finds_90 : decode cX6_finds 90 = .ok (.aload_n 0, 1) := dk_42 (dk_at dksX6_finds_3 19 rfl rfl)
theorem dX6_finds_91 : decode cX6_finds 91 = .ok (.iload 6, 2) := dk_21 6 (dk_at dksX6_finds_3 20 rfl rfl)
theorem dX6_finds_93 : decode cX6_finds 93 = .ok (.iload 4, 2) := dk_21 4 (dk_at dksX6_finds_3 22 rfl rfl)
theorem dX6_finds_95 : decode cX6_finds 95 = .ok (.iconst 1, 1) := dk_4 (dk_at dksX6_finds_4 0 rfl rfl)
theorem dX6_finds_96 : decode cX6_finds 96 = .ok (.invokevirtual 65, 3) := dk_182 0 65 (dk_at dksX6_finds_4 1 rfl rfl)
theorem dX6_finds_99 : decode cX6_finds 99 = .ok (.goto 12, 3) := dk_167 0 12 (dk_at dksX6_finds_4 4 rfl rfl)
theorem dX6_finds_102 : decode cX6_finds 102 = .ok (.aload_n 0, 1) := dk_42 (dk_at dksX6_finds_4 7 rfl rfl)
theorem dX6_finds_103 : decode cX6_finds 103 = .ok (.iload 5, 2) := dk_21 5 (dk_at dksX6_finds_4 8 rfl rfl)
theorem dX6_finds_105 : decode cX6_finds 105 = .ok (.iload 4, 2) := dk_21 4 (dk_at dksX6_finds_4 10 rfl rfl)
theorem dX6_finds_107 : decode cX6_finds 107 = .ok (.iconst 0, 1) := dk_3 (dk_at dksX6_finds_4 12 rfl rfl)
theorem dX6_finds_108 : decode cX6_finds 108 = .ok (.invokevirtual 65, 3) := dk_182 0 65 (dk_at dksX6_finds_4 13 rfl rfl)
theorem dX6_finds_111 : decode cX6_finds 111 = .ok (.iinc 4 1, 3) := dk_132 4 1 (dk_at dksX6_finds_4 16 rfl rfl)
theorem dX6_finds_114 : decode cX6_finds 114 = .ok (.goto (-73), 3) := dk_167 255 183 (dk_at dksX6_finds_4 19 rfl rfl)
theorem dX6_finds_117 : decode cX6_finds 117 = .ok (.return_, 1) := dk_177 (dk_at dksX6_finds_4 22 rfl rfl)
abbrev cX6_from : ByteArray := prog_4_method_5_code
def yX6_from : MethodName := ⟨RX6, "from", "(I)I"⟩
def dkwX6_from_0 : List UInt8 := [3, 61, 42, 180, 0, 9, 28, 46, 27, 159, 0, 9, 132, 2, 1, 167, 255, 243, 28, 172]
abbrev dktX6_from_0 : List UInt8 := dkwX6_from_0 ++ []
theorem dksX6_from_0 : cX6_from.data.toList.drop 0 = dktX6_from_0 := by decide +kernel
theorem dX6_from_0 : decode cX6_from 0 = .ok (.iconst 0, 1) := dk_3 (dk_at dksX6_from_0 0 rfl rfl)
theorem dX6_from_1 : decode cX6_from 1 = .ok (.istore_n 2, 1) := dk_61 (dk_at dksX6_from_0 1 rfl rfl)
theorem dX6_from_2 : decode cX6_from 2 = .ok (.aload_n 0, 1) := dk_42 (dk_at dksX6_from_0 2 rfl rfl)
theorem dX6_from_3 : decode cX6_from 3 = .ok (.getfield 9, 3) := dk_180 0 9 (dk_at dksX6_from_0 3 rfl rfl)
theorem dX6_from_6 : decode cX6_from 6 = .ok (.iload_n 2, 1) := dk_28 (dk_at dksX6_from_0 6 rfl rfl)
theorem dX6_from_7 : decode cX6_from 7 = .ok (.iaload, 1) := dk_46 (dk_at dksX6_from_0 7 rfl rfl)
theorem dX6_from_8 : decode cX6_from 8 = .ok (.iload_n 1, 1) := dk_27 (dk_at dksX6_from_0 8 rfl rfl)
theorem dX6_from_9 : decode cX6_from 9 = .ok (.if_icmp .eq 9, 3) := dk_159 0 9 (dk_at dksX6_from_0 9 rfl rfl)
theorem dX6_from_12 : decode cX6_from 12 = .ok (.iinc 2 1, 3) := dk_132 2 1 (dk_at dksX6_from_0 12 rfl rfl)
theorem dX6_from_15 : decode cX6_from 15 = .ok (.goto (-13), 3) := dk_167 255 243 (dk_at dksX6_from_0 15 rfl rfl)
theorem dX6_from_18 : decode cX6_from 18 = .ok (.iload_n 2, 1) := dk_28 (dk_at dksX6_from_0 18 rfl rfl)
theorem dX6_from_19 : decode cX6_from 19 = .ok (.ireturn, 1) := dk_172 (dk_at dksX6_from_0 19 rfl rfl)
abbrev cX6_leads : ByteArray := prog_4_method_6_code
def yX6_leads : MethodName := ⟨RX6, "leads", "(IIZ)V"⟩
def dkwX6_leads_5 : List UInt8 := [89, 21, 5, 21, 4, 3, 183, 0, 73, 29, 182, 0, 76, 132, 5, 1, 167, 255, 194, 177]
abbrev dktX6_leads_5 : List UInt8 := dkwX6_leads_5 ++ []
def dkwX6_leads_4 : List UInt8 := [184, 0, 69, 154, 0, 6, 167, 0, 31, 21, 4, 4, 21, 5, 120, 2, 130, 126, 54, 4, 42, 187, 0, 36]
abbrev dktX6_leads_4 : List UInt8 := dkwX6_leads_4 ++ dktX6_leads_5
def dkwX6_leads_3 : List UInt8 := [54, 5, 21, 5, 42, 180, 0, 48, 162, 0, 59, 28, 21, 5, 184, 0, 69, 154, 0, 44, 21, 4, 21, 5]
abbrev dktX6_leads_3 : List UInt8 := dkwX6_leads_3 ++ dktX6_leads_4
def dkwX6_leads_2 : List UInt8 := [183, 0, 73, 29, 182, 0, 76, 21, 4, 4, 21, 5, 120, 128, 54, 4, 132, 5, 1, 167, 255, 196, 3]
abbrev dktX6_leads_2 : List UInt8 := dkwX6_leads_2 ++ dktX6_leads_3
def dkwX6_leads_1 : List UInt8 := [21, 4, 21, 5, 184, 0, 69, 153, 0, 6, 167, 0, 29, 42, 187, 0, 36, 89, 21, 5, 21, 4, 3]
abbrev dktX6_leads_1 : List UInt8 := dkwX6_leads_1 ++ dktX6_leads_2
def dkwX6_leads_0 : List UInt8 := [27, 54, 4, 3, 54, 5, 21, 5, 42, 180, 0, 48, 162, 0, 57, 28, 21, 5, 184, 0, 69, 153, 0, 42]
abbrev dktX6_leads_0 : List UInt8 := dkwX6_leads_0 ++ dktX6_leads_1
theorem dksX6_leads_0 : cX6_leads.data.toList.drop 0 = dktX6_leads_0 := by decide +kernel
theorem dksX6_leads_1 : cX6_leads.data.toList.drop 24 = dktX6_leads_1 := dk_seg dksX6_leads_0 24 rfl rfl
theorem dksX6_leads_2 : cX6_leads.data.toList.drop 47 = dktX6_leads_2 := dk_seg dksX6_leads_1 23 rfl rfl
theorem dksX6_leads_3 : cX6_leads.data.toList.drop 70 = dktX6_leads_3 := dk_seg dksX6_leads_2 23 rfl rfl
theorem dksX6_leads_4 : cX6_leads.data.toList.drop 94 = dktX6_leads_4 := dk_seg dksX6_leads_3 24 rfl rfl
theorem dksX6_leads_5 : cX6_leads.data.toList.drop 118 = dktX6_leads_5 := dk_seg dksX6_leads_4 24 rfl rfl
theorem dX6_leads_0 : decode cX6_leads 0 = .ok (.iload_n 1, 1) := dk_27 (dk_at dksX6_leads_0 0 rfl rfl)
theorem dX6_leads_1 : decode cX6_leads 1 = .ok (.istore 4, 2) := dk_54 4 (dk_at dksX6_leads_0 1 rfl rfl)
theorem dX6_leads_3 : decode cX6_leads 3 = .ok (.iconst 0, 1) := dk_3 (dk_at dksX6_leads_0 3 rfl rfl)
theorem dX6_leads_4 : decode cX6_leads 4 = .ok (.istore 5, 2) := dk_54 5 (dk_at dksX6_leads_0 4 rfl rfl)
theorem dX6_leads_6 : decode cX6_leads 6 = .ok (.iload 5, 2) := dk_21 5 (dk_at dksX6_leads_0 6 rfl rfl)
theorem dX6_leads_8 : decode cX6_leads 8 = .ok (.aload_n 0, 1) := dk_42 (dk_at dksX6_leads_0 8 rfl rfl)
theorem dX6_leads_9 : decode cX6_leads 9 = .ok (.getfield 48, 3) := dk_180 0 48 (dk_at dksX6_leads_0 9 rfl rfl)
theorem dX6_leads_12 : decode cX6_leads 12 = .ok (.if_icmp .ge 57, 3) := dk_162 0 57 (dk_at dksX6_leads_0 12 rfl rfl)
theorem dX6_leads_15 : decode cX6_leads 15 = .ok (.iload_n 2, 1) := dk_28 (dk_at dksX6_leads_0 15 rfl rfl)
theorem dX6_leads_16 : decode cX6_leads 16 = .ok (.iload 5, 2) := dk_21 5 (dk_at dksX6_leads_0 16 rfl rfl)
theorem dX6_leads_18 : decode cX6_leads 18 = .ok (.invokestatic 69, 3) := dk_184 0 69 (dk_at dksX6_leads_0 18 rfl rfl)
theorem dX6_leads_21 : decode cX6_leads 21 = .ok (.ifCond .eq 42, 3) := dk_153 0 42 (dk_at dksX6_leads_0 21 rfl rfl)
theorem dX6_leads_24 : decode cX6_leads 24 = .ok (.iload 4, 2) := dk_21 4 (dk_at dksX6_leads_1 0 rfl rfl)
theorem dX6_leads_26 : decode cX6_leads 26 = .ok (.iload 5, 2) := dk_21 5 (dk_at dksX6_leads_1 2 rfl rfl)
theorem dX6_leads_28 : decode cX6_leads 28 = .ok (.invokestatic 69, 3) := dk_184 0 69 (dk_at dksX6_leads_1 4 rfl rfl)
theorem dX6_leads_31 : decode cX6_leads 31 = .ok (.ifCond .eq 6, 3) := dk_153 0 6 (dk_at dksX6_leads_1 7 rfl rfl)
theorem dX6_leads_34 : decode cX6_leads 34 = .ok (.goto 29, 3) := dk_167 0 29 (dk_at dksX6_leads_1 10 rfl rfl)
theorem dX6_leads_37 : decode cX6_leads 37 = .ok (.aload_n 0, 1) := dk_42 (dk_at dksX6_leads_1 13 rfl rfl)
theorem dX6_leads_38 : decode cX6_leads 38 = .ok (.new 36, 3) := dk_187 0 36 (dk_at dksX6_leads_1 14 rfl rfl)
theorem dX6_leads_41 : decode cX6_leads 41 = .ok (.dup, 1) := dk_89 (dk_at dksX6_leads_1 17 rfl rfl)
theorem dX6_leads_42 : decode cX6_leads 42 = .ok (.iload 5, 2) := dk_21 5 (dk_at dksX6_leads_1 18 rfl rfl)
theorem dX6_leads_44 : decode cX6_leads 44 = .ok (.iload 4, 2) := dk_21 4 (dk_at dksX6_leads_1 20 rfl rfl)
theorem dX6_leads_46 : decode cX6_leads 46 = .ok (.iconst 0, 1) := dk_3 (dk_at dksX6_leads_1 22 rfl rfl)
theorem dX6_leads_47 : decode cX6_leads 47 = .ok (.invokespecial 73, 3) := dk_183 0 73 (dk_at dksX6_leads_2 0 rfl rfl)
theorem dX6_leads_50 : decode cX6_leads 50 = .ok (.iload_n 3, 1) := dk_29 (dk_at dksX6_leads_2 3 rfl rfl)
theorem dX6_leads_51 : decode cX6_leads 51 = .ok (.invokevirtual 76, 3) := dk_182 0 76 (dk_at dksX6_leads_2 4 rfl rfl)
theorem dX6_leads_54 : decode cX6_leads 54 = .ok (.iload 4, 2) := dk_21 4 (dk_at dksX6_leads_2 7 rfl rfl)
theorem dX6_leads_56 : decode cX6_leads 56 = .ok (.iconst 1, 1) := dk_4 (dk_at dksX6_leads_2 9 rfl rfl)
theorem dX6_leads_57 : decode cX6_leads 57 = .ok (.iload 5, 2) := dk_21 5 (dk_at dksX6_leads_2 10 rfl rfl)
theorem dX6_leads_59 : decode cX6_leads 59 = .ok (.ishl, 1) := dk_120 (dk_at dksX6_leads_2 12 rfl rfl)
theorem dX6_leads_60 : decode cX6_leads 60 = .ok (.ior, 1) := dk_128 (dk_at dksX6_leads_2 13 rfl rfl)
theorem dX6_leads_61 : decode cX6_leads 61 = .ok (.istore 4, 2) := dk_54 4 (dk_at dksX6_leads_2 14 rfl rfl)
theorem dX6_leads_63 : decode cX6_leads 63 = .ok (.iinc 5 1, 3) := dk_132 5 1 (dk_at dksX6_leads_2 16 rfl rfl)
theorem dX6_leads_66 : decode cX6_leads 66 = .ok (.goto (-60), 3) := dk_167 255 196 (dk_at dksX6_leads_2 19 rfl rfl)
theorem dX6_leads_69 : decode cX6_leads 69 = .ok (.iconst 0, 1) := dk_3 (dk_at dksX6_leads_2 22 rfl rfl)
theorem dX6_leads_70 : decode cX6_leads 70 = .ok (.istore 5, 2) := dk_54 5 (dk_at dksX6_leads_3 0 rfl rfl)
theorem dX6_leads_72 : decode cX6_leads 72 = .ok (.iload 5, 2) := dk_21 5 (dk_at dksX6_leads_3 2 rfl rfl)
theorem dX6_leads_74 : decode cX6_leads 74 = .ok (.aload_n 0, 1) := dk_42 (dk_at dksX6_leads_3 4 rfl rfl)
theorem dX6_leads_75 : decode cX6_leads 75 = .ok (.getfield 48, 3) := dk_180 0 48 (dk_at dksX6_leads_3 5 rfl rfl)
theorem dX6_leads_78 : decode cX6_leads 78 = .ok (.if_icmp .ge 59, 3) := dk_162 0 59 (dk_at dksX6_leads_3 8 rfl rfl)
theorem dX6_leads_81 : decode cX6_leads 81 = .ok (.iload_n 2, 1) := dk_28 (dk_at dksX6_leads_3 11 rfl rfl)
theorem dX6_leads_82 : decode cX6_leads 82 = .ok (.iload 5, 2) := dk_21 5 (dk_at dksX6_leads_3 12 rfl rfl)
theorem dX6_leads_84 : decode cX6_leads 84 = .ok (.invokestatic 69, 3) := dk_184 0 69 (dk_at dksX6_leads_3 14 rfl rfl)
theorem dX6_leads_87 : decode cX6_leads 87 = .ok (.ifCond .ne 44, 3) := dk_154 0 44 (dk_at dksX6_leads_3 17 rfl rfl)
theorem dX6_leads_90 : decode cX6_leads 90 = .ok (.iload 4, 2) := dk_21 4 (dk_at dksX6_leads_3 20 rfl rfl)
theorem dX6_leads_92 : decode cX6_leads 92 = .ok (.iload 5, 2) := dk_21 5 (dk_at dksX6_leads_3 22 rfl rfl)
theorem dX6_leads_94 : decode cX6_leads 94 = .ok (.invokestatic 69, 3) := dk_184 0 69 (dk_at dksX6_leads_4 0 rfl rfl)
theorem dX6_leads_97 : decode cX6_leads 97 = .ok (.ifCond .ne 6, 3) := dk_154 0 6 (dk_at dksX6_leads_4 3 rfl rfl)
theorem dX6_leads_100 : decode cX6_leads 100 = .ok (.goto 31, 3) := dk_167 0 31 (dk_at dksX6_leads_4 6 rfl rfl)
theorem dX6_leads_103 : decode cX6_leads 103 = .ok (.iload 4, 2) := dk_21 4 (dk_at dksX6_leads_4 9 rfl rfl)
theorem dX6_leads_105 : decode cX6_leads 105 = .ok (.iconst 1, 1) := dk_4 (dk_at dksX6_leads_4 11 rfl rfl)
theorem dX6_leads_106 : decode cX6_leads 106 = .ok (.iload 5, 2) := dk_21 5 (dk_at dksX6_leads_4 12 rfl rfl)
theorem dX6_leads_108 : decode cX6_leads 108 = .ok (.ishl, 1) := dk_120 (dk_at dksX6_leads_4 14 rfl rfl)
theorem dX6_leads_109 : decode cX6_leads 109 = .ok (.iconst (-1), 1) := dk_2 (dk_at dksX6_leads_4 15 rfl rfl)
theorem dX6_leads_110 : decode cX6_leads 110 = .ok (.ixor, 1) := dk_130 (dk_at dksX6_leads_4 16 rfl rfl)
theorem dX6_leads_111 : decode cX6_leads 111 = .ok (.iand, 1) := dk_126 (dk_at dksX6_leads_4 17 rfl rfl)
theorem dX6_leads_112 : decode cX6_leads 112 = .ok (.istore 4, 2) := dk_54 4 (dk_at dksX6_leads_4 18 rfl rfl)
theorem dX6_leads_114 : decode cX6_leads 114 = .ok (.aload_n 0, 1) := dk_42 (dk_at dksX6_leads_4 20 rfl rfl)
theorem dX6_leads_115 : decode cX6_leads 115 = .ok (.new 36, 3) := dk_187 0 36 (dk_at dksX6_leads_4 21 rfl rfl)
theorem dX6_leads_118 : decode cX6_leads 118 = .ok (.dup, 1) := dk_89 (dk_at dksX6_leads_5 0 rfl rfl)
theorem dX6_leads_119 : decode cX6_leads 119 = .ok (.iload 5, 2) := dk_21 5 (dk_at dksX6_leads_5 1 rfl rfl)
theorem dX6_leads_121 : decode cX6_leads 121 = .ok (.iload 4, 2) := dk_21 4 (dk_at dksX6_leads_5 3 rfl rfl)
theorem dX6_leads_123 : decode cX6_leads 123 = .ok (.iconst 0, 1) := dk_3 (dk_at dksX6_leads_5 5 rfl rfl)
theorem dX6_leads_124 : decode cX6_leads 124 = .ok (.invokespecial 73, 3) := dk_183 0 73 (dk_at dksX6_leads_5 6 rfl rfl)
theorem dX6_leads_127 : decode cX6_leads 127 = .ok (.iload_n 3, 1) := dk_29 (dk_at dksX6_leads_5 9 rfl rfl)
theorem dX6_leads_128 : decode cX6_leads 128 = .ok (.invokevirtual 76, 3) := dk_182 0 76 (dk_at dksX6_leads_5 10 rfl rfl)
theorem dX6_leads_131 : decode cX6_leads 131 = .ok (.iinc 5 1, 3) := dk_132 5 1 (dk_at dksX6_leads_5 13 rfl rfl)
theorem dX6_leads_134 : decode cX6_leads 134 = .ok (.goto (-62), 3) := dk_167 255 194 (dk_at dksX6_leads_5 16 rfl rfl)
theorem dX6_leads_137 : decode cX6_leads 137 = .ok (.return_, 1) := dk_177 (dk_at dksX6_leads_5 19 rfl rfl)
abbrev cX6_notes : ByteArray := prog_4_method_7_code
def yX6_notes : MethodName := ⟨RX6, "notes", "(LBackLogic$Gate;Z)V"⟩
def dkwX6_notes_4 : List UInt8 := [167, 255, 229, 42, 180, 0, 25, 43, 182, 0, 87, 177]
abbrev dktX6_notes_4 : List UInt8 := dkwX6_notes_4 ++ []
def dkwX6_notes_3 : List UInt8 := [162, 0, 25, 42, 180, 0, 9, 29, 43, 42, 180, 0, 9, 29, 46, 182, 0, 80, 79, 132, 3, 1]
abbrev dktX6_notes_3 : List UInt8 := dkwX6_notes_3 ++ dktX6_notes_4
def dkwX6_notes_2 : List UInt8 := [180, 0, 38, 184, 0, 51, 42, 180, 0, 21, 43, 182, 0, 83, 167, 0, 43, 3, 62, 29, 42, 180, 0, 38]
abbrev dktX6_notes_2 : List UInt8 := dkwX6_notes_2 ++ dktX6_notes_3
def dkwX6_notes_1 : List UInt8 := [29, 182, 0, 80, 46, 79, 132, 3, 1, 167, 255, 229, 42, 180, 0, 15, 3, 42, 180, 0, 9, 3, 42]
abbrev dktX6_notes_1 : List UInt8 := dkwX6_notes_1 ++ dktX6_notes_2
def dkwX6_notes_0 : List UInt8 := [28, 153, 0, 63, 3, 62, 29, 42, 180, 0, 38, 162, 0, 25, 42, 180, 0, 15, 29, 42, 180, 0, 9, 43]
abbrev dktX6_notes_0 : List UInt8 := dkwX6_notes_0 ++ dktX6_notes_1
theorem dksX6_notes_0 : cX6_notes.data.toList.drop 0 = dktX6_notes_0 := by decide +kernel
theorem dksX6_notes_1 : cX6_notes.data.toList.drop 24 = dktX6_notes_1 := dk_seg dksX6_notes_0 24 rfl rfl
theorem dksX6_notes_2 : cX6_notes.data.toList.drop 47 = dktX6_notes_2 := dk_seg dksX6_notes_1 23 rfl rfl
theorem dksX6_notes_3 : cX6_notes.data.toList.drop 71 = dktX6_notes_3 := dk_seg dksX6_notes_2 24 rfl rfl
theorem dksX6_notes_4 : cX6_notes.data.toList.drop 93 = dktX6_notes_4 := dk_seg dksX6_notes_3 22 rfl rfl
theorem dX6_notes_0 : decode cX6_notes 0 = .ok (.iload_n 2, 1) := dk_28 (dk_at dksX6_notes_0 0 rfl rfl)
theorem dX6_notes_1 : decode cX6_notes 1 = .ok (.ifCond .eq 63, 3) := dk_153 0 63 (dk_at dksX6_notes_0 1 rfl rfl)
theorem dX6_notes_4 : decode cX6_notes 4 = .ok (.iconst 0, 1) := dk_3 (dk_at dksX6_notes_0 4 rfl rfl)
theorem dX6_notes_5 : decode cX6_notes 5 = .ok (.istore_n 3, 1) := dk_62 (dk_at dksX6_notes_0 5 rfl rfl)
theorem dX6_notes_6 : decode cX6_notes 6 = .ok (.iload_n 3, 1) := dk_29 (dk_at dksX6_notes_0 6 rfl rfl)
theorem dX6_notes_7 : decode cX6_notes 7 = .ok (.aload_n 0, 1) := dk_42 (dk_at dksX6_notes_0 7 rfl rfl)
theorem dX6_notes_8 : decode cX6_notes 8 = .ok (.getfield 38, 3) := dk_180 0 38 (dk_at dksX6_notes_0 8 rfl rfl)
theorem dX6_notes_11 : decode cX6_notes 11 = .ok (.if_icmp .ge 25, 3) := dk_162 0 25 (dk_at dksX6_notes_0 11 rfl rfl)
theorem dX6_notes_14 : decode cX6_notes 14 = .ok (.aload_n 0, 1) := dk_42 (dk_at dksX6_notes_0 14 rfl rfl)
theorem dX6_notes_15 : decode cX6_notes 15 = .ok (.getfield 15, 3) := dk_180 0 15 (dk_at dksX6_notes_0 15 rfl rfl)
theorem dX6_notes_18 : decode cX6_notes 18 = .ok (.iload_n 3, 1) := dk_29 (dk_at dksX6_notes_0 18 rfl rfl)
theorem dX6_notes_19 : decode cX6_notes 19 = .ok (.aload_n 0, 1) := dk_42 (dk_at dksX6_notes_0 19 rfl rfl)
theorem dX6_notes_20 : decode cX6_notes 20 = .ok (.getfield 9, 3) := dk_180 0 9 (dk_at dksX6_notes_0 20 rfl rfl)
theorem dX6_notes_23 : decode cX6_notes 23 = .ok (.aload_n 1, 1) := dk_43 (dk_at dksX6_notes_0 23 rfl rfl)
theorem dX6_notes_24 : decode cX6_notes 24 = .ok (.iload_n 3, 1) := dk_29 (dk_at dksX6_notes_1 0 rfl rfl)
theorem dX6_notes_25 : decode cX6_notes 25 = .ok (.invokevirtual 80, 3) := dk_182 0 80 (dk_at dksX6_notes_1 1 rfl rfl)
theorem dX6_notes_28 : decode cX6_notes 28 = .ok (.iaload, 1) := dk_46 (dk_at dksX6_notes_1 4 rfl rfl)
theorem dX6_notes_29 : decode cX6_notes 29 = .ok (.iastore, 1) := dk_79 (dk_at dksX6_notes_1 5 rfl rfl)
theorem dX6_notes_30 : decode cX6_notes 30 = .ok (.iinc 3 1, 3) := dk_132 3 1 (dk_at dksX6_notes_1 6 rfl rfl)
theorem dX6_notes_33 : decode cX6_notes 33 = .ok (.goto (-27), 3) := dk_167 255 229 (dk_at dksX6_notes_1 9 rfl rfl)
theorem dX6_notes_36 : decode cX6_notes 36 = .ok (.aload_n 0, 1) := dk_42 (dk_at dksX6_notes_1 12 rfl rfl)
theorem dX6_notes_37 : decode cX6_notes 37 = .ok (.getfield 15, 3) := dk_180 0 15 (dk_at dksX6_notes_1 13 rfl rfl)
theorem dX6_notes_40 : decode cX6_notes 40 = .ok (.iconst 0, 1) := dk_3 (dk_at dksX6_notes_1 16 rfl rfl)
theorem dX6_notes_41 : decode cX6_notes 41 = .ok (.aload_n 0, 1) := dk_42 (dk_at dksX6_notes_1 17 rfl rfl)
theorem dX6_notes_42 : decode cX6_notes 42 = .ok (.getfield 9, 3) := dk_180 0 9 (dk_at dksX6_notes_1 18 rfl rfl)
theorem dX6_notes_45 : decode cX6_notes 45 = .ok (.iconst 0, 1) := dk_3 (dk_at dksX6_notes_1 21 rfl rfl)
theorem dX6_notes_46 : decode cX6_notes 46 = .ok (.aload_n 0, 1) := dk_42 (dk_at dksX6_notes_1 22 rfl rfl)
theorem dX6_notes_47 : decode cX6_notes 47 = .ok (.getfield 38, 3) := dk_180 0 38 (dk_at dksX6_notes_2 0 rfl rfl)
theorem dX6_notes_50 : decode cX6_notes 50 = .ok (.invokestatic 51, 3) := dk_184 0 51 (dk_at dksX6_notes_2 3 rfl rfl)
theorem dX6_notes_53 : decode cX6_notes 53 = .ok (.aload_n 0, 1) := dk_42 (dk_at dksX6_notes_2 6 rfl rfl)
theorem dX6_notes_54 : decode cX6_notes 54 = .ok (.getfield 21, 3) := dk_180 0 21 (dk_at dksX6_notes_2 7 rfl rfl)
theorem dX6_notes_57 : decode cX6_notes 57 = .ok (.aload_n 1, 1) := dk_43 (dk_at dksX6_notes_2 10 rfl rfl)
theorem dX6_notes_58 : decode cX6_notes 58 = .ok (.invokevirtual 83, 3) := dk_182 0 83 (dk_at dksX6_notes_2 11 rfl rfl)
theorem dX6_notes_61 : decode cX6_notes 61 = .ok (.goto 43, 3) := dk_167 0 43 (dk_at dksX6_notes_2 14 rfl rfl)
theorem dX6_notes_64 : decode cX6_notes 64 = .ok (.iconst 0, 1) := dk_3 (dk_at dksX6_notes_2 17 rfl rfl)
theorem dX6_notes_65 : decode cX6_notes 65 = .ok (.istore_n 3, 1) := dk_62 (dk_at dksX6_notes_2 18 rfl rfl)
theorem dX6_notes_66 : decode cX6_notes 66 = .ok (.iload_n 3, 1) := dk_29 (dk_at dksX6_notes_2 19 rfl rfl)
theorem dX6_notes_67 : decode cX6_notes 67 = .ok (.aload_n 0, 1) := dk_42 (dk_at dksX6_notes_2 20 rfl rfl)
theorem dX6_notes_68 : decode cX6_notes 68 = .ok (.getfield 38, 3) := dk_180 0 38 (dk_at dksX6_notes_2 21 rfl rfl)
theorem dX6_notes_71 : decode cX6_notes 71 = .ok (.if_icmp .ge 25, 3) := dk_162 0 25 (dk_at dksX6_notes_3 0 rfl rfl)
theorem dX6_notes_74 : decode cX6_notes 74 = .ok (.aload_n 0, 1) := dk_42 (dk_at dksX6_notes_3 3 rfl rfl)
theorem dX6_notes_75 : decode cX6_notes 75 = .ok (.getfield 9, 3) := dk_180 0 9 (dk_at dksX6_notes_3 4 rfl rfl)
theorem dX6_notes_78 : decode cX6_notes 78 = .ok (.iload_n 3, 1) := dk_29 (dk_at dksX6_notes_3 7 rfl rfl)
theorem dX6_notes_79 : decode cX6_notes 79 = .ok (.aload_n 1, 1) := dk_43 (dk_at dksX6_notes_3 8 rfl rfl)
theorem dX6_notes_80 : decode cX6_notes 80 = .ok (.aload_n 0, 1) := dk_42 (dk_at dksX6_notes_3 9 rfl rfl)
theorem dX6_notes_81 : decode cX6_notes 81 = .ok (.getfield 9, 3) := dk_180 0 9 (dk_at dksX6_notes_3 10 rfl rfl)
theorem dX6_notes_84 : decode cX6_notes 84 = .ok (.iload_n 3, 1) := dk_29 (dk_at dksX6_notes_3 13 rfl rfl)
theorem dX6_notes_85 : decode cX6_notes 85 = .ok (.iaload, 1) := dk_46 (dk_at dksX6_notes_3 14 rfl rfl)
theorem dX6_notes_86 : decode cX6_notes 86 = .ok (.invokevirtual 80, 3) := dk_182 0 80 (dk_at dksX6_notes_3 15 rfl rfl)
theorem dX6_notes_89 : decode cX6_notes 89 = .ok (.iastore, 1) := dk_79 (dk_at dksX6_notes_3 18 rfl rfl)
theorem dX6_notes_90 : decode cX6_notes 90 = .ok (.iinc 3 1, 3) := dk_132 3 1 (dk_at dksX6_notes_3 19 rfl rfl)
theorem dX6_notes_93 : decode cX6_notes 93 = .ok (.goto (-27), 3) := dk_167 255 229 (dk_at dksX6_notes_4 0 rfl rfl)
theorem dX6_notes_96 : decode cX6_notes 96 = .ok (.aload_n 0, 1) := dk_42 (dk_at dksX6_notes_4 3 rfl rfl)
theorem dX6_notes_97 : decode cX6_notes 97 = .ok (.getfield 25, 3) := dk_180 0 25 (dk_at dksX6_notes_4 4 rfl rfl)
theorem dX6_notes_100 : decode cX6_notes 100 = .ok (.aload_n 1, 1) := dk_43 (dk_at dksX6_notes_4 7 rfl rfl)
theorem dX6_notes_101 : decode cX6_notes 101 = .ok (.invokevirtual 87, 3) := dk_182 0 87 (dk_at dksX6_notes_4 8 rfl rfl)
theorem dX6_notes_104 : decode cX6_notes 104 = .ok (.return_, 1) := dk_177 (dk_at dksX6_notes_4 11 rfl rfl)
abbrev cX6_size : ByteArray := prog_4_method_2_code
def yX6_size : MethodName := ⟨RX6, "size", "()I"⟩
def dkwX6_size_0 : List UInt8 := [42, 180, 0, 21, 182, 0, 28, 42, 180, 0, 25, 182, 0, 28, 96, 172]
abbrev dktX6_size_0 : List UInt8 := dkwX6_size_0 ++ []
theorem dksX6_size_0 : cX6_size.data.toList.drop 0 = dktX6_size_0 := by decide +kernel
theorem dX6_size_0 : decode cX6_size 0 = .ok (.aload_n 0, 1) := dk_42 (dk_at dksX6_size_0 0 rfl rfl)
theorem dX6_size_1 : decode cX6_size 1 = .ok (.getfield 21, 3) := dk_180 0 21 (dk_at dksX6_size_0 1 rfl rfl)
theorem dX6_size_4 : decode cX6_size 4 = .ok (.invokevirtual 28, 3) := dk_182 0 28 (dk_at dksX6_size_0 4 rfl rfl)
theorem dX6_size_7 : decode cX6_size 7 = .ok (.aload_n 0, 1) := dk_42 (dk_at dksX6_size_0 7 rfl rfl)
theorem dX6_size_8 : decode cX6_size 8 = .ok (.getfield 25, 3) := dk_180 0 25 (dk_at dksX6_size_0 8 rfl rfl)
theorem dX6_size_11 : decode cX6_size 11 = .ok (.invokevirtual 28, 3) := dk_182 0 28 (dk_at dksX6_size_0 11 rfl rfl)
theorem dX6_size_14 : decode cX6_size 14 = .ok (.iadd, 1) := dk_96 (dk_at dksX6_size_0 14 rfl rfl)
theorem dX6_size_15 : decode cX6_size 15 = .ok (.ireturn, 1) := dk_172 (dk_at dksX6_size_0 15 rfl rfl)
abbrev cX6_at : ByteArray := prog_4_method_3_code
def yX6_at : MethodName := ⟨RX6, "at", "(I)LBackLogic$Gate;"⟩
def dkwX6_at_1 : List UInt8 := [167, 0, 22, 42, 180, 0, 25, 27, 42, 180, 0, 21, 182, 0, 28, 100, 182, 0, 32, 192, 0, 36, 176]
abbrev dktX6_at_1 : List UInt8 := dkwX6_at_1 ++ []
def dkwX6_at_0 : List UInt8 := [27, 42, 180, 0, 21, 182, 0, 28, 162, 0, 17, 42, 180, 0, 21, 27, 182, 0, 32, 192, 0, 36]
abbrev dktX6_at_0 : List UInt8 := dkwX6_at_0 ++ dktX6_at_1
theorem dksX6_at_0 : cX6_at.data.toList.drop 0 = dktX6_at_0 := by decide +kernel
theorem dksX6_at_1 : cX6_at.data.toList.drop 22 = dktX6_at_1 := dk_seg dksX6_at_0 22 rfl rfl
theorem dX6_at_0 : decode cX6_at 0 = .ok (.iload_n 1, 1) := dk_27 (dk_at dksX6_at_0 0 rfl rfl)
theorem dX6_at_1 : decode cX6_at 1 = .ok (.aload_n 0, 1) := dk_42 (dk_at dksX6_at_0 1 rfl rfl)
theorem dX6_at_2 : decode cX6_at 2 = .ok (.getfield 21, 3) := dk_180 0 21 (dk_at dksX6_at_0 2 rfl rfl)
theorem dX6_at_5 : decode cX6_at 5 = .ok (.invokevirtual 28, 3) := dk_182 0 28 (dk_at dksX6_at_0 5 rfl rfl)
theorem dX6_at_8 : decode cX6_at 8 = .ok (.if_icmp .ge 17, 3) := dk_162 0 17 (dk_at dksX6_at_0 8 rfl rfl)
theorem dX6_at_11 : decode cX6_at 11 = .ok (.aload_n 0, 1) := dk_42 (dk_at dksX6_at_0 11 rfl rfl)
theorem dX6_at_12 : decode cX6_at 12 = .ok (.getfield 21, 3) := dk_180 0 21 (dk_at dksX6_at_0 12 rfl rfl)
theorem dX6_at_15 : decode cX6_at 15 = .ok (.iload_n 1, 1) := dk_27 (dk_at dksX6_at_0 15 rfl rfl)
theorem dX6_at_16 : decode cX6_at 16 = .ok (.invokevirtual 32, 3) := dk_182 0 32 (dk_at dksX6_at_0 16 rfl rfl)
theorem dX6_at_19 : decode cX6_at 19 = .ok (.checkcast 36, 3) := dk_192 0 36 (dk_at dksX6_at_0 19 rfl rfl)
theorem dX6_at_22 : decode cX6_at 22 = .ok (.goto 22, 3) := dk_167 0 22 (dk_at dksX6_at_1 0 rfl rfl)
theorem dX6_at_25 : decode cX6_at 25 = .ok (.aload_n 0, 1) := dk_42 (dk_at dksX6_at_1 3 rfl rfl)
theorem dX6_at_26 : decode cX6_at 26 = .ok (.getfield 25, 3) := dk_180 0 25 (dk_at dksX6_at_1 4 rfl rfl)
theorem dX6_at_29 : decode cX6_at 29 = .ok (.iload_n 1, 1) := dk_27 (dk_at dksX6_at_1 7 rfl rfl)
theorem dX6_at_30 : decode cX6_at 30 = .ok (.aload_n 0, 1) := dk_42 (dk_at dksX6_at_1 8 rfl rfl)
theorem dX6_at_31 : decode cX6_at 31 = .ok (.getfield 21, 3) := dk_180 0 21 (dk_at dksX6_at_1 9 rfl rfl)
theorem dX6_at_34 : decode cX6_at 34 = .ok (.invokevirtual 28, 3) := dk_182 0 28 (dk_at dksX6_at_1 12 rfl rfl)
theorem dX6_at_37 : decode cX6_at 37 = .ok (.isub, 1) := dk_100 (dk_at dksX6_at_1 15 rfl rfl)
theorem dX6_at_38 : decode cX6_at 38 = .ok (.invokevirtual 32, 3) := dk_182 0 32 (dk_at dksX6_at_1 16 rfl rfl)
theorem dX6_at_41 : decode cX6_at 41 = .ok (.checkcast 36, 3) := dk_192 0 36 (dk_at dksX6_at_1 19 rfl rfl)
theorem dX6_at_44 : decode cX6_at 44 = .ok (.areturn, 1) := dk_176 (dk_at dksX6_at_1 22 rfl rfl)
theorem q151 : (Jvm.Cond.initialized "BackLogic$Finder") ∈ lw_all := lw_g (lw_at lw_m1 22 rfl) rfl
theorem q289 : (Jvm.Cond.selects "BackLogic$Finder" ({ cls := "java/lang/Object", name := "getClass", desc := "()Ljava/lang/Class;" } : Jvm.MethodName) ({ cls := "java/lang/Object", name := "getClass", desc := "()Ljava/lang/Class;" } : Jvm.MethodName)) ∈ lw_all := lw_g (lw_at lw_m1 160 rfl) rfl
theorem q528 : (Jvm.Cond.instantiable "BackLogic$Finder" (6 : Nat)) ∈ lw_all := lw_g (lw_at lw_m2 159 rfl) rfl
theorem q530 : (Jvm.Cond.instanceMethod ({ cls := "BackLogic$Finder", name := "<init>", desc := "()V" } : Jvm.MethodName)) ∈ lw_all := lw_g (lw_at lw_m2 161 rfl) rfl
theorem q531 : (Jvm.Cond.code ({ cls := "BackLogic$Finder", name := "<init>", desc := "()V" } : Jvm.MethodName) prog_4_method_1_code (1 : Nat) (Option.none : Option Jvm.ClassFile.FieldType)) ∈ lw_all := lw_g (lw_at lw_m2 162 rfl) rfl
theorem q532 : (Jvm.Cond.methodLink "BackLogic$Finder" (3 : Nat) ({ cls := "java/lang/Object", name := "<init>", desc := "()V" } : Jvm.MethodName)) ∈ lw_all := lw_g (lw_at lw_m2 163 rfl) rfl
theorem q533 : (Jvm.Cond.classLink "BackLogic$Finder" (18 : Nat) "java/util/LinkedList") ∈ lw_all := lw_g (lw_at lw_m2 164 rfl) rfl
theorem q534 : (Jvm.Cond.methodLink "BackLogic$Finder" (20 : Nat) ({ cls := "java/util/LinkedList", name := "<init>", desc := "()V" } : Jvm.MethodName)) ∈ lw_all := lw_g (lw_at lw_m2 165 rfl) rfl
theorem q535 : (Jvm.Cond.fieldLink "BackLogic$Finder" (9 : Nat) "BackLogic$Finder" "order" "[I") ∈ lw_all := lw_g (lw_at lw_m2 166 rfl) rfl
theorem q536 : (Jvm.Cond.fieldLink "BackLogic$Finder" (15 : Nat) "BackLogic$Finder" "from" "[I") ∈ lw_all := lw_g (lw_at lw_m2 167 rfl) rfl
theorem q537 : (Jvm.Cond.fieldLink "BackLogic$Finder" (38 : Nat) "BackLogic$Finder" "rows" "I") ∈ lw_all := lw_g (lw_at lw_m2 168 rfl) rfl
theorem q538 : (Jvm.Cond.fieldLink "BackLogic$Finder" (48 : Nat) "BackLogic$Finder" "wires" "I") ∈ lw_all := lw_g (lw_at lw_m2 169 rfl) rfl
theorem q539 : (Jvm.Cond.fieldLink "BackLogic$Finder" (21 : Nat) "BackLogic$Finder" "ahead" "Ljava/util/LinkedList;") ∈ lw_all := lw_g (lw_at lw_m2 170 rfl) rfl
theorem q540 : (Jvm.Cond.fieldLink "BackLogic$Finder" (25 : Nat) "BackLogic$Finder" "behind" "Ljava/util/LinkedList;") ∈ lw_all := lw_g (lw_at lw_m2 171 rfl) rfl
theorem q541 : (Jvm.Cond.laysFinal "BackLogic$Finder" "BackLogic$Finder" "order" "[I") ∈ lw_all := lw_g (lw_at lw_m2 172 rfl) rfl
theorem q542 : (Jvm.Cond.soleField "BackLogic$Finder" "order") ∈ lw_all := lw_g (lw_at lw_m2 173 rfl) rfl
theorem q543 : (Jvm.Cond.laysFinal "BackLogic$Finder" "BackLogic$Finder" "from" "[I") ∈ lw_all := lw_g (lw_at lw_m2 174 rfl) rfl
theorem q544 : (Jvm.Cond.soleField "BackLogic$Finder" "from") ∈ lw_all := lw_g (lw_at lw_m2 175 rfl) rfl
theorem q545 : (Jvm.Cond.lays "BackLogic$Finder" "BackLogic$Finder" "rows" "I") ∈ lw_all := lw_g (lw_at lw_m2 176 rfl) rfl
theorem q546 : (Jvm.Cond.soleField "BackLogic$Finder" "rows") ∈ lw_all := lw_g (lw_at lw_m2 177 rfl) rfl
theorem q547 : (Jvm.Cond.lays "BackLogic$Finder" "BackLogic$Finder" "wires" "I") ∈ lw_all := lw_g (lw_at lw_m2 178 rfl) rfl
theorem q548 : (Jvm.Cond.soleField "BackLogic$Finder" "wires") ∈ lw_all := lw_g (lw_at lw_m2 179 rfl) rfl
theorem q549 : (Jvm.Cond.laysFinal "BackLogic$Finder" "BackLogic$Finder" "ahead" "Ljava/util/LinkedList;") ∈ lw_all := lw_g (lw_at lw_m2 180 rfl) rfl
theorem q550 : (Jvm.Cond.soleField "BackLogic$Finder" "ahead") ∈ lw_all := lw_g (lw_at lw_m2 181 rfl) rfl
theorem q551 : (Jvm.Cond.laysFinal "BackLogic$Finder" "BackLogic$Finder" "behind" "Ljava/util/LinkedList;") ∈ lw_all := lw_g (lw_at lw_m2 182 rfl) rfl
theorem q552 : (Jvm.Cond.soleField "BackLogic$Finder" "behind") ∈ lw_all := lw_g (lw_at lw_m2 183 rfl) rfl
theorem q553 : (Jvm.Cond.superclass "BackLogic$Finder" "java/lang/Object") ∈ lw_all := lw_g (lw_at lw_m2 184 rfl) rfl
theorem q1646 : (Jvm.Cond.instanceMethod ({ cls := "BackLogic$Finder", name := "finds", desc := "([IIZ)V" } : Jvm.MethodName)) ∈ lw_all := lw_g (lw_at lw_m7 77 rfl) rfl
theorem q1647 : (Jvm.Cond.selects "BackLogic$Finder" ({ cls := "BackLogic$Finder", name := "finds", desc := "([IIZ)V" } : Jvm.MethodName) ({ cls := "BackLogic$Finder", name := "finds", desc := "([IIZ)V" } : Jvm.MethodName)) ∈ lw_all := lw_g (lw_at lw_m7 78 rfl) rfl
theorem q1648 : (Jvm.Cond.code ({ cls := "BackLogic$Finder", name := "finds", desc := "([IIZ)V" } : Jvm.MethodName) prog_4_method_4_code (7 : Nat) (Option.none : Option Jvm.ClassFile.FieldType)) ∈ lw_all := lw_g (lw_at lw_m7 79 rfl) rfl
theorem q1649 : (Jvm.Cond.methodLink "BackLogic$Finder" (42 : Nat) ({ cls := "java/lang/Integer", name := "numberOfTrailingZeros", desc := "(I)I" } : Jvm.MethodName)) ∈ lw_all := lw_g (lw_at lw_m7 80 rfl) rfl
theorem q1653 : (Jvm.Cond.methodLink "BackLogic$Finder" (51 : Nat) ({ cls := "java/lang/System", name := "arraycopy", desc := "(Ljava/lang/Object;ILjava/lang/Object;II)V" } : Jvm.MethodName)) ∈ lw_all := lw_g (lw_at lw_m7 84 rfl) rfl
theorem q1654 : (Jvm.Cond.methodLink "BackLogic$Finder" (57 : Nat) ({ cls := "java/util/LinkedList", name := "clear", desc := "()V" } : Jvm.MethodName)) ∈ lw_all := lw_g (lw_at lw_m7 85 rfl) rfl
theorem q1655 : (Jvm.Cond.methodLink "BackLogic$Finder" (60 : Nat) ({ cls := "BackLogic$Finder", name := "from", desc := "(I)I" } : Jvm.MethodName)) ∈ lw_all := lw_g (lw_at lw_m7 86 rfl) rfl
theorem q1656 : (Jvm.Cond.privateMethod ({ cls := "BackLogic$Finder", name := "from", desc := "(I)I" } : Jvm.MethodName)) ∈ lw_tbl := lw_at lw_m7 87 rfl
theorem q1657 : (Jvm.Cond.instanceMethod ({ cls := "BackLogic$Finder", name := "from", desc := "(I)I" } : Jvm.MethodName)) ∈ lw_all := lw_g (lw_at lw_m7 88 rfl) rfl
theorem q1658 : (Jvm.Cond.code ({ cls := "BackLogic$Finder", name := "from", desc := "(I)I" } : Jvm.MethodName) prog_4_method_5_code (3 : Nat) (Option.some Jvm.ClassFile.FieldType.int)) ∈ lw_all := lw_g (lw_at lw_m7 89 rfl) rfl
theorem q1659 : (Jvm.Cond.methodLinkNest "BackLogic$Finder" (62 : Nat) ({ cls := "BackLogic", name := "many", desc := "(I)I" } : Jvm.MethodName) "BackLogic") ∈ lw_tbl := lw_at lw_m7 90 rfl
theorem q1660 : (Jvm.Cond.methodLink "BackLogic$Finder" (65 : Nat) ({ cls := "BackLogic$Finder", name := "leads", desc := "(IIZ)V" } : Jvm.MethodName)) ∈ lw_all := lw_g (lw_at lw_m7 91 rfl) rfl
theorem q1661 : (Jvm.Cond.privateMethod ({ cls := "BackLogic$Finder", name := "leads", desc := "(IIZ)V" } : Jvm.MethodName)) ∈ lw_tbl := lw_at lw_m7 92 rfl
theorem q1662 : (Jvm.Cond.instanceMethod ({ cls := "BackLogic$Finder", name := "leads", desc := "(IIZ)V" } : Jvm.MethodName)) ∈ lw_all := lw_g (lw_at lw_m7 93 rfl) rfl
theorem q1663 : (Jvm.Cond.code ({ cls := "BackLogic$Finder", name := "leads", desc := "(IIZ)V" } : Jvm.MethodName) prog_4_method_6_code (6 : Nat) (Option.none : Option Jvm.ClassFile.FieldType)) ∈ lw_all := lw_g (lw_at lw_m7 94 rfl) rfl
theorem q1664 : (Jvm.Cond.methodLinkNest "BackLogic$Finder" (69 : Nat) ({ cls := "BackLogic", name := "has", desc := "(II)Z" } : Jvm.MethodName) "BackLogic") ∈ lw_tbl := lw_at lw_m7 95 rfl
theorem q1665 : (Jvm.Cond.classLink "BackLogic$Finder" (36 : Nat) "BackLogic$Gate") ∈ lw_all := lw_g (lw_at lw_m7 96 rfl) rfl
theorem q1666 : (Jvm.Cond.methodLink "BackLogic$Finder" (73 : Nat) ({ cls := "BackLogic$Gate", name := "<init>", desc := "(III)V" } : Jvm.MethodName)) ∈ lw_all := lw_g (lw_at lw_m7 97 rfl) rfl
theorem q1667 : (Jvm.Cond.methodLink "BackLogic$Finder" (76 : Nat) ({ cls := "BackLogic$Finder", name := "notes", desc := "(LBackLogic$Gate;Z)V" } : Jvm.MethodName)) ∈ lw_all := lw_g (lw_at lw_m7 98 rfl) rfl
theorem q1668 : (Jvm.Cond.privateMethod ({ cls := "BackLogic$Finder", name := "notes", desc := "(LBackLogic$Gate;Z)V" } : Jvm.MethodName)) ∈ lw_tbl := lw_at lw_m7 99 rfl
theorem q1669 : (Jvm.Cond.instanceMethod ({ cls := "BackLogic$Finder", name := "notes", desc := "(LBackLogic$Gate;Z)V" } : Jvm.MethodName)) ∈ lw_all := lw_g (lw_at lw_m7 100 rfl) rfl
theorem q1670 : (Jvm.Cond.code ({ cls := "BackLogic$Finder", name := "notes", desc := "(LBackLogic$Gate;Z)V" } : Jvm.MethodName) prog_4_method_7_code (4 : Nat) (Option.none : Option Jvm.ClassFile.FieldType)) ∈ lw_all := lw_g (lw_at lw_m7 101 rfl) rfl
theorem q1671 : (Jvm.Cond.methodLink "BackLogic$Finder" (80 : Nat) ({ cls := "BackLogic$Gate", name := "made", desc := "(I)I" } : Jvm.MethodName)) ∈ lw_all := lw_g (lw_at lw_m7 102 rfl) rfl
theorem q1672 : (Jvm.Cond.methodLink "BackLogic$Finder" (83 : Nat) ({ cls := "java/util/LinkedList", name := "addLast", desc := "(Ljava/lang/Object;)V" } : Jvm.MethodName)) ∈ lw_all := lw_g (lw_at lw_m7 103 rfl) rfl
theorem q1673 : (Jvm.Cond.methodLink "BackLogic$Finder" (87 : Nat) ({ cls := "java/util/LinkedList", name := "addFirst", desc := "(Ljava/lang/Object;)V" } : Jvm.MethodName)) ∈ lw_all := lw_g (lw_at lw_m7 104 rfl) rfl
theorem q1683 : (Jvm.Cond.instanceMethod ({ cls := "BackLogic$Finder", name := "size", desc := "()I" } : Jvm.MethodName)) ∈ lw_all := lw_g (lw_at lw_m7 114 rfl) rfl
theorem q1684 : (Jvm.Cond.selects "BackLogic$Finder" ({ cls := "BackLogic$Finder", name := "size", desc := "()I" } : Jvm.MethodName) ({ cls := "BackLogic$Finder", name := "size", desc := "()I" } : Jvm.MethodName)) ∈ lw_all := lw_g (lw_at lw_m7 115 rfl) rfl
theorem q1685 : (Jvm.Cond.code ({ cls := "BackLogic$Finder", name := "size", desc := "()I" } : Jvm.MethodName) prog_4_method_2_code (1 : Nat) (Option.some Jvm.ClassFile.FieldType.int)) ∈ lw_all := lw_g (lw_at lw_m7 116 rfl) rfl
theorem q1686 : (Jvm.Cond.methodLink "BackLogic$Finder" (28 : Nat) ({ cls := "java/util/LinkedList", name := "size", desc := "()I" } : Jvm.MethodName)) ∈ lw_all := lw_g (lw_at lw_m7 117 rfl) rfl
theorem q1688 : (Jvm.Cond.instanceMethod ({ cls := "BackLogic$Finder", name := "at", desc := "(I)LBackLogic$Gate;" } : Jvm.MethodName)) ∈ lw_all := lw_g (lw_at lw_m7 119 rfl) rfl
theorem q1689 : (Jvm.Cond.selects "BackLogic$Finder" ({ cls := "BackLogic$Finder", name := "at", desc := "(I)LBackLogic$Gate;" } : Jvm.MethodName) ({ cls := "BackLogic$Finder", name := "at", desc := "(I)LBackLogic$Gate;" } : Jvm.MethodName)) ∈ lw_all := lw_g (lw_at lw_m7 120 rfl) rfl
theorem q1690 : (Jvm.Cond.code ({ cls := "BackLogic$Finder", name := "at", desc := "(I)LBackLogic$Gate;" } : Jvm.MethodName) prog_4_method_3_code (2 : Nat) (Option.some (Jvm.ClassFile.FieldType.object "BackLogic$Gate"))) ∈ lw_all := lw_g (lw_at lw_m7 121 rfl) rfl
theorem q1691 : (Jvm.Cond.methodLink "BackLogic$Finder" (32 : Nat) ({ cls := "java/util/LinkedList", name := "get", desc := "(I)Ljava/lang/Object;" } : Jvm.MethodName)) ∈ lw_all := lw_g (lw_at lw_m7 122 rfl) rfl
theorem q2692 : (Jvm.Cond.castable "BackLogic$Finder" "java/lang/Object") ∈ lw_tbl := lw_at lw_m11 163 rfl
theorem in_X6 : ∀ w ∈ wsX60, w ∈ lw_all := lw_in wsX60 [541, 543, 545, 547, 549, 551] (by decide +kernel) (by decide +kernel)
/-! BackLogic$Shortest -/
set_option maxRecDepth 100000
def RX7 : String := "BackLogic$Shortest"
def TX7 : u_T := fun k => match k with
  | 0 => ("BackLogic$Shortest", "reached", "[Ljava/util/BitSet;", true)
  | 1 => ("BackLogic$Shortest", "last", "Ljava/util/ArrayList;", true)
  | 2 => ("BackLogic$Shortest", "marks", "Ljava/util/ArrayList;", true)
  | 3 => ("BackLogic$Shortest", "one", "[I", true)
  | 4 => ("BackLogic$Shortest", "trial", "[I", true)
  | 5 => ("BackLogic$Shortest", "next", "[I", true)
  | 6 => ("BackLogic$Shortest", "wires", "I", false)
  | 7 => ("BackLogic$Shortest", "rows", "I", false)
  | _ => ("BackLogic$Shortest", "gates", "Ljava/util/ArrayList;", true)
def tyX7 : Nat → FieldType := fun k => match k with
  | 0 => .array (.object "java/util/BitSet")
  | 1 => .object "java/util/ArrayList"
  | 2 => .object "java/util/ArrayList"
  | 3 => .array .int
  | 4 => .array .int
  | 5 => .array .int
  | 6 => .int
  | 7 => .int
  | _ => .object "java/util/ArrayList"
abbrev wsX70 : List Cond := u_ws RX7 TX7 9
theorem nmX7 : ∀ a, a < 9 → ∀ b, b < 9 → a ≠ b → (TX7 a).2.1 ≠ (TX7 b).2.1 := by decide +kernel
theorem tyX7_ok : ∀ k, k < 9 → parseFieldDescriptor (TX7 k).2.2.1 = some (tyX7 k) := by decide +kernel
abbrev cX7_init : ByteArray := prog_8_method_1_code
def yX7_init : MethodName := ⟨RX7, "<init>", "()V"⟩
def dkwX7_init_2 : List UInt8 := [181, 0, 33, 42, 16, 8, 188, 10, 181, 0, 36, 42, 187, 0, 19, 89, 183, 0, 21, 181, 0, 39, 177]
abbrev dktX7_init_2 : List UInt8 := dkwX7_init_2 ++ []
def dkwX7_init_1 : List UInt8 := [187, 0, 19, 89, 183, 0, 21, 181, 0, 26, 42, 16, 8, 188, 10, 181, 0, 29, 42, 16, 8, 188, 10]
abbrev dktX7_init_1 : List UInt8 := dkwX7_init_1 ++ dktX7_init_2
def dkwX7_init_0 : List UInt8 := [42, 183, 0, 3, 42, 184, 0, 9, 181, 0, 15, 42, 187, 0, 19, 89, 183, 0, 21, 181, 0, 22, 42]
abbrev dktX7_init_0 : List UInt8 := dkwX7_init_0 ++ dktX7_init_1
theorem dksX7_init_0 : cX7_init.data.toList.drop 0 = dktX7_init_0 := by decide +kernel
theorem dksX7_init_1 : cX7_init.data.toList.drop 23 = dktX7_init_1 := dk_seg dksX7_init_0 23 rfl rfl
theorem dksX7_init_2 : cX7_init.data.toList.drop 46 = dktX7_init_2 := dk_seg dksX7_init_1 23 rfl rfl
theorem dX7_init_0 : decode cX7_init 0 = .ok (.aload_n 0, 1) := dk_42 (dk_at dksX7_init_0 0 rfl rfl)
theorem dX7_init_1 : decode cX7_init 1 = .ok (.invokespecial 3, 3) := dk_183 0 3 (dk_at dksX7_init_0 1 rfl rfl)
theorem dX7_init_4 : decode cX7_init 4 = .ok (.aload_n 0, 1) := dk_42 (dk_at dksX7_init_0 4 rfl rfl)
theorem dX7_init_5 : decode cX7_init 5 = .ok (.invokestatic 9, 3) := dk_184 0 9 (dk_at dksX7_init_0 5 rfl rfl)
theorem dX7_init_8 : decode cX7_init 8 = .ok (.putfield 15, 3) := dk_181 0 15 (dk_at dksX7_init_0 8 rfl rfl)
theorem dX7_init_11 : decode cX7_init 11 = .ok (.aload_n 0, 1) := dk_42 (dk_at dksX7_init_0 11 rfl rfl)
theorem dX7_init_12 : decode cX7_init 12 = .ok (.new 19, 3) := dk_187 0 19 (dk_at dksX7_init_0 12 rfl rfl)
theorem dX7_init_15 : decode cX7_init 15 = .ok (.dup, 1) := dk_89 (dk_at dksX7_init_0 15 rfl rfl)
theorem dX7_init_16 : decode cX7_init 16 = .ok (.invokespecial 21, 3) := dk_183 0 21 (dk_at dksX7_init_0 16 rfl rfl)
theorem dX7_init_19 : decode cX7_init 19 = .ok (.putfield 22, 3) := dk_181 0 22 (dk_at dksX7_init_0 19 rfl rfl)
theorem dX7_init_22 : decode cX7_init 22 = .ok (.aload_n 0, 1) := dk_42 (dk_at dksX7_init_0 22 rfl rfl)
theorem dX7_init_23 : decode cX7_init 23 = .ok (.new 19, 3) := dk_187 0 19 (dk_at dksX7_init_1 0 rfl rfl)
theorem dX7_init_26 : decode cX7_init 26 = .ok (.dup, 1) := dk_89 (dk_at dksX7_init_1 3 rfl rfl)
theorem dX7_init_27 : decode cX7_init 27 = .ok (.invokespecial 21, 3) := dk_183 0 21 (dk_at dksX7_init_1 4 rfl rfl)
theorem dX7_init_30 : decode cX7_init 30 = .ok (.putfield 26, 3) := dk_181 0 26 (dk_at dksX7_init_1 7 rfl rfl)
theorem dX7_init_33 : decode cX7_init 33 = .ok (.aload_n 0, 1) := dk_42 (dk_at dksX7_init_1 10 rfl rfl)
theorem dX7_init_34 : decode cX7_init 34 = .ok (.bipush 8, 2) := dk_16 8 (dk_at dksX7_init_1 11 rfl rfl)
theorem dX7_init_36 : decode cX7_init 36 = .ok (.newarray .int, 2) := dk_188_10 (dk_at dksX7_init_1 13 rfl rfl)
theorem dX7_init_38 : decode cX7_init 38 = .ok (.putfield 29, 3) := dk_181 0 29 (dk_at dksX7_init_1 15 rfl rfl)
theorem dX7_init_41 : decode cX7_init 41 = .ok (.aload_n 0, 1) := dk_42 (dk_at dksX7_init_1 18 rfl rfl)
theorem dX7_init_42 : decode cX7_init 42 = .ok (.bipush 8, 2) := dk_16 8 (dk_at dksX7_init_1 19 rfl rfl)
theorem dX7_init_44 : decode cX7_init 44 = .ok (.newarray .int, 2) := dk_188_10 (dk_at dksX7_init_1 21 rfl rfl)
theorem dX7_init_46 : decode cX7_init 46 = .ok (.putfield 33, 3) := dk_181 0 33 (dk_at dksX7_init_2 0 rfl rfl)
theorem dX7_init_49 : decode cX7_init 49 = .ok (.aload_n 0, 1) := dk_42 (dk_at dksX7_init_2 3 rfl rfl)
theorem dX7_init_50 : decode cX7_init 50 = .ok (.bipush 8, 2) := dk_16 8 (dk_at dksX7_init_2 4 rfl rfl)
theorem dX7_init_52 : decode cX7_init 52 = .ok (.newarray .int, 2) := dk_188_10 (dk_at dksX7_init_2 6 rfl rfl)
theorem dX7_init_54 : decode cX7_init 54 = .ok (.putfield 36, 3) := dk_181 0 36 (dk_at dksX7_init_2 8 rfl rfl)
theorem dX7_init_57 : decode cX7_init 57 = .ok (.aload_n 0, 1) := dk_42 (dk_at dksX7_init_2 11 rfl rfl)
theorem dX7_init_58 : decode cX7_init 58 = .ok (.new 19, 3) := dk_187 0 19 (dk_at dksX7_init_2 12 rfl rfl)
theorem dX7_init_61 : decode cX7_init 61 = .ok (.dup, 1) := dk_89 (dk_at dksX7_init_2 15 rfl rfl)
theorem dX7_init_62 : decode cX7_init 62 = .ok (.invokespecial 21, 3) := dk_183 0 21 (dk_at dksX7_init_2 16 rfl rfl)
theorem dX7_init_65 : decode cX7_init 65 = .ok (.putfield 39, 3) := dk_181 0 39 (dk_at dksX7_init_2 19 rfl rfl)
theorem dX7_init_68 : decode cX7_init 68 = .ok (.return_, 1) := dk_177 (dk_at dksX7_init_2 22 rfl rfl)
abbrev cX7_some : ByteArray := prog_8_method_2_code
def yX7_some : MethodName := ⟨RX7, "some", "()[Ljava/util/BitSet;"⟩
def dkwX7_some_1 : List UInt8 := [132, 1, 1, 167, 255, 236, 42, 176]
abbrev dktX7_some_1 : List UInt8 := dkwX7_some_1 ++ []
def dkwX7_some_0 : List UInt8 := [8, 189, 0, 42, 75, 3, 60, 27, 7, 163, 0, 21, 42, 27, 187, 0, 42, 89, 18, 44, 183, 0, 45, 83]
abbrev dktX7_some_0 : List UInt8 := dkwX7_some_0 ++ dktX7_some_1
theorem dksX7_some_0 : cX7_some.data.toList.drop 0 = dktX7_some_0 := by decide +kernel
theorem dksX7_some_1 : cX7_some.data.toList.drop 24 = dktX7_some_1 := dk_seg dksX7_some_0 24 rfl rfl
theorem dX7_some_0 : decode cX7_some 0 = .ok (.iconst 5, 1) := dk_8 (dk_at dksX7_some_0 0 rfl rfl)
theorem dX7_some_1 : decode cX7_some 1 = .ok (.anewarray 42, 3) := dk_189 0 42 (dk_at dksX7_some_0 1 rfl rfl)
theorem dX7_some_4 : decode cX7_some 4 = .ok (.astore_n 0, 1) := dk_75 (dk_at dksX7_some_0 4 rfl rfl)
theorem dX7_some_5 : decode cX7_some 5 = .ok (.iconst 0, 1) := dk_3 (dk_at dksX7_some_0 5 rfl rfl)
theorem dX7_some_6 : decode cX7_some 6 = .ok (.istore_n 1, 1) := dk_60 (dk_at dksX7_some_0 6 rfl rfl)
theorem dX7_some_7 : decode cX7_some 7 = .ok (.iload_n 1, 1) := dk_27 (dk_at dksX7_some_0 7 rfl rfl)
theorem dX7_some_8 : decode cX7_some 8 = .ok (.iconst 4, 1) := dk_7 (dk_at dksX7_some_0 8 rfl rfl)
theorem dX7_some_9 : decode cX7_some 9 = .ok (.if_icmp .gt 21, 3) := dk_163 0 21 (dk_at dksX7_some_0 9 rfl rfl)
theorem dX7_some_12 : decode cX7_some 12 = .ok (.aload_n 0, 1) := dk_42 (dk_at dksX7_some_0 12 rfl rfl)
theorem dX7_some_13 : decode cX7_some 13 = .ok (.iload_n 1, 1) := dk_27 (dk_at dksX7_some_0 13 rfl rfl)
theorem dX7_some_14 : decode cX7_some 14 = .ok (.new 42, 3) := dk_187 0 42 (dk_at dksX7_some_0 14 rfl rfl)
theorem dX7_some_17 : decode cX7_some 17 = .ok (.dup, 1) := dk_89 (dk_at dksX7_some_0 17 rfl rfl)
theorem dX7_some_18 : decode cX7_some 18 = .ok (.ldc 44, 2) := dk_18 44 (dk_at dksX7_some_0 18 rfl rfl)
theorem dX7_some_20 : decode cX7_some 20 = .ok (.invokespecial 45, 3) := dk_183 0 45 (dk_at dksX7_some_0 20 rfl rfl)
theorem dX7_some_23 : decode cX7_some 23 = .ok (.aastore, 1) := dk_83 (dk_at dksX7_some_0 23 rfl rfl)
theorem dX7_some_24 : decode cX7_some 24 = .ok (.iinc 1 1, 3) := dk_132 1 1 (dk_at dksX7_some_1 0 rfl rfl)
theorem dX7_some_27 : decode cX7_some 27 = .ok (.goto (-20), 3) := dk_167 255 236 (dk_at dksX7_some_1 3 rfl rfl)
theorem dX7_some_30 : decode cX7_some 30 = .ok (.aload_n 0, 1) := dk_42 (dk_at dksX7_some_1 6 rfl rfl)
theorem dX7_some_31 : decode cX7_some 31 = .ok (.areturn, 1) := dk_176 (dk_at dksX7_some_1 7 rfl rfl)
abbrev cX7_lays : ByteArray := prog_8_method_3_code
def yX7_lays : MethodName := ⟨RX7, "lays", "(I)V"⟩
def dkwX7_lays_11 : List UInt8 := [180, 0, 22, 182, 0, 79, 184, 0, 83, 182, 0, 67, 87, 177]
abbrev dktX7_lays_11 : List UInt8 := dkwX7_lays_11 ++ []
def dkwX7_lays_10 : List UInt8 := [182, 0, 94, 132, 6, 1, 167, 255, 228, 21, 5, 62, 132, 4, 1, 167, 255, 188, 42, 180, 0, 26, 42]
abbrev dktX7_lays_10 : List UInt8 := dkwX7_lays_10 ++ dktX7_lays_11
def dkwX7_lays_9 : List UInt8 := [21, 6, 21, 5, 162, 0, 27, 42, 42, 180, 0, 22, 21, 6, 182, 0, 89, 192, 0, 93, 21, 4]
abbrev dktX7_lays_9 : List UInt8 := dkwX7_lays_9 ++ dktX7_lays_10
def dkwX7_lays_8 : List UInt8 := [180, 0, 22, 182, 0, 79, 54, 5, 42, 180, 0, 26, 21, 5, 184, 0, 83, 182, 0, 67, 87, 29, 54, 6]
abbrev dktX7_lays_8 : List UInt8 := dkwX7_lays_8 ++ dktX7_lays_9
def dkwX7_lays_7 : List UInt8 := [3, 50, 42, 44, 182, 0, 72, 182, 0, 76, 3, 62, 4, 54, 4, 21, 4, 7, 163, 0, 68, 42]
abbrev dktX7_lays_7 : List UInt8 := dkwX7_lays_7 ++ dktX7_lays_8
def dkwX7_lays_6 : List UInt8 := [29, 7, 163, 0, 18, 42, 180, 0, 15, 29, 50, 182, 0, 71, 132, 3, 1, 167, 255, 239, 42, 180, 0, 15]
abbrev dktX7_lays_6 : List UInt8 := dkwX7_lays_6 ++ dktX7_lays_7
def dkwX7_lays_5 : List UInt8 := [162, 0, 13, 44, 29, 29, 79, 132, 3, 1, 167, 255, 241, 42, 180, 0, 22, 44, 182, 0, 67, 87, 3, 62]
abbrev dktX7_lays_5 : List UInt8 := dkwX7_lays_5 ++ dktX7_lays_6
def dkwX7_lays_4 : List UInt8 := [182, 0, 55, 42, 180, 0, 26, 182, 0, 55, 42, 180, 0, 52, 188, 10, 77, 3, 62, 29, 42, 180, 0, 52]
abbrev dktX7_lays_4 : List UInt8 := dkwX7_lays_4 ++ dktX7_lays_5
def dkwX7_lays_3 : List UInt8 := [3, 183, 0, 64, 182, 0, 67, 87, 132, 3, 1, 167, 255, 219, 132, 2, 1, 167, 255, 206, 42, 180, 0, 22]
abbrev dktX7_lays_3 : List UInt8 := dkwX7_lays_3 ++ dktX7_lays_4
def dkwX7_lays_2 : List UInt8 := [180, 0, 52, 162, 0, 35, 29, 28, 184, 0, 58, 154, 0, 21, 42, 180, 0, 39, 187, 0, 62, 89, 28, 29]
abbrev dktX7_lays_2 : List UInt8 := dkwX7_lays_2 ++ dktX7_lays_3
def dkwX7_lays_1 : List UInt8 := [120, 181, 0, 52, 42, 180, 0, 39, 182, 0, 55, 3, 61, 28, 27, 162, 0, 51, 3, 62, 29, 42]
abbrev dktX7_lays_1 : List UInt8 := dkwX7_lays_1 ++ dktX7_lays_2
def dkwX7_lays_0 : List UInt8 := [42, 180, 0, 48, 27, 160, 0, 11, 42, 180, 0, 52, 158, 0, 4, 177, 42, 27, 181, 0, 48, 42, 4, 27]
abbrev dktX7_lays_0 : List UInt8 := dkwX7_lays_0 ++ dktX7_lays_1
theorem dksX7_lays_0 : cX7_lays.data.toList.drop 0 = dktX7_lays_0 := by decide +kernel
theorem dksX7_lays_1 : cX7_lays.data.toList.drop 24 = dktX7_lays_1 := dk_seg dksX7_lays_0 24 rfl rfl
theorem dksX7_lays_2 : cX7_lays.data.toList.drop 46 = dktX7_lays_2 := dk_seg dksX7_lays_1 22 rfl rfl
theorem dksX7_lays_3 : cX7_lays.data.toList.drop 70 = dktX7_lays_3 := dk_seg dksX7_lays_2 24 rfl rfl
theorem dksX7_lays_4 : cX7_lays.data.toList.drop 94 = dktX7_lays_4 := dk_seg dksX7_lays_3 24 rfl rfl
theorem dksX7_lays_5 : cX7_lays.data.toList.drop 118 = dktX7_lays_5 := dk_seg dksX7_lays_4 24 rfl rfl
theorem dksX7_lays_6 : cX7_lays.data.toList.drop 142 = dktX7_lays_6 := dk_seg dksX7_lays_5 24 rfl rfl
theorem dksX7_lays_7 : cX7_lays.data.toList.drop 166 = dktX7_lays_7 := dk_seg dksX7_lays_6 24 rfl rfl
theorem dksX7_lays_8 : cX7_lays.data.toList.drop 188 = dktX7_lays_8 := dk_seg dksX7_lays_7 22 rfl rfl
theorem dksX7_lays_9 : cX7_lays.data.toList.drop 212 = dktX7_lays_9 := dk_seg dksX7_lays_8 24 rfl rfl
theorem dksX7_lays_10 : cX7_lays.data.toList.drop 234 = dktX7_lays_10 := dk_seg dksX7_lays_9 22 rfl rfl
theorem dksX7_lays_11 : cX7_lays.data.toList.drop 257 = dktX7_lays_11 := dk_seg dksX7_lays_10 23 rfl rfl
theorem dX7_lays_0 : decode cX7_lays 0 = .ok (.aload_n 0, 1) := dk_42 (dk_at dksX7_lays_0 0 rfl rfl)
theorem dX7_lays_1 : decode cX7_lays 1 = .ok (.getfield 48, 3) := dk_180 0 48 (dk_at dksX7_lays_0 1 rfl rfl)
theorem dX7_lays_4 : decode cX7_lays 4 = .ok (.iload_n 1, 1) := dk_27 (dk_at dksX7_lays_0 4 rfl rfl)
theorem dX7_lays_5 : decode cX7_lays 5 = .ok (.if_icmp .ne 11, 3) := dk_160 0 11 (dk_at dksX7_lays_0 5 rfl rfl)
theorem dX7_lays_8 : decode cX7_lays 8 = .ok (.aload_n 0, 1) := dk_42 (dk_at dksX7_lays_0 8 rfl rfl)
theorem dX7_lays_9 : decode cX7_lays 9 = .ok (.getfield 52, 3) := dk_180 0 52 (dk_at dksX7_lays_0 9 rfl rfl)
theorem dX7_lays_12 : decode cX7_lays 12 = .ok (.ifCond .le 4, 3) := dk_158 0 4 (dk_at dksX7_lays_0 12 rfl rfl)
theorem dX7_lays_15 : decode cX7_lays 15 = .ok (.return_, 1) := dk_177 (dk_at dksX7_lays_0 15 rfl rfl)
theorem dX7_lays_16 : decode cX7_lays 16 = .ok (.aload_n 0, 1) := dk_42 (dk_at dksX7_lays_0 16 rfl rfl)
theorem dX7_lays_17 : decode cX7_lays 17 = .ok (.iload_n 1, 1) := dk_27 (dk_at dksX7_lays_0 17 rfl rfl)
theorem dX7_lays_18 : decode cX7_lays 18 = .ok (.putfield 48, 3) := dk_181 0 48 (dk_at dksX7_lays_0 18 rfl rfl)
theorem dX7_lays_21 : decode cX7_lays 21 = .ok (.aload_n 0, 1) := dk_42 (dk_at dksX7_lays_0 21 rfl rfl)
theorem dX7_lays_22 : decode cX7_lays 22 = .ok (.iconst 1, 1) := dk_4 (dk_at dksX7_lays_0 22 rfl rfl)
theorem dX7_lays_23 : decode cX7_lays 23 = .ok (.iload_n 1, 1) := dk_27 (dk_at dksX7_lays_0 23 rfl rfl)
theorem dX7_lays_24 : decode cX7_lays 24 = .ok (.ishl, 1) := dk_120 (dk_at dksX7_lays_1 0 rfl rfl)
theorem dX7_lays_25 : decode cX7_lays 25 = .ok (.putfield 52, 3) := dk_181 0 52 (dk_at dksX7_lays_1 1 rfl rfl)
theorem dX7_lays_28 : decode cX7_lays 28 = .ok (.aload_n 0, 1) := dk_42 (dk_at dksX7_lays_1 4 rfl rfl)
theorem dX7_lays_29 : decode cX7_lays 29 = .ok (.getfield 39, 3) := dk_180 0 39 (dk_at dksX7_lays_1 5 rfl rfl)
theorem dX7_lays_32 : decode cX7_lays 32 = .ok (.invokevirtual 55, 3) := dk_182 0 55 (dk_at dksX7_lays_1 8 rfl rfl)
theorem dX7_lays_35 : decode cX7_lays 35 = .ok (.iconst 0, 1) := dk_3 (dk_at dksX7_lays_1 11 rfl rfl)
theorem dX7_lays_36 : decode cX7_lays 36 = .ok (.istore_n 2, 1) := dk_61 (dk_at dksX7_lays_1 12 rfl rfl)
theorem dX7_lays_37 : decode cX7_lays 37 = .ok (.iload_n 2, 1) := dk_28 (dk_at dksX7_lays_1 13 rfl rfl)
theorem dX7_lays_38 : decode cX7_lays 38 = .ok (.iload_n 1, 1) := dk_27 (dk_at dksX7_lays_1 14 rfl rfl)
theorem dX7_lays_39 : decode cX7_lays 39 = .ok (.if_icmp .ge 51, 3) := dk_162 0 51 (dk_at dksX7_lays_1 15 rfl rfl)
theorem dX7_lays_42 : decode cX7_lays 42 = .ok (.iconst 0, 1) := dk_3 (dk_at dksX7_lays_1 18 rfl rfl)
theorem dX7_lays_43 : decode cX7_lays 43 = .ok (.istore_n 3, 1) := dk_62 (dk_at dksX7_lays_1 19 rfl rfl)
theorem dX7_lays_44 : decode cX7_lays 44 = .ok (.iload_n 3, 1) := dk_29 (dk_at dksX7_lays_1 20 rfl rfl)
theorem dX7_lays_45 : decode cX7_lays 45 = .ok (.aload_n 0, 1) := dk_42 (dk_at dksX7_lays_1 21 rfl rfl)
theorem dX7_lays_46 : decode cX7_lays 46 = .ok (.getfield 52, 3) := dk_180 0 52 (dk_at dksX7_lays_2 0 rfl rfl)
theorem dX7_lays_49 : decode cX7_lays 49 = .ok (.if_icmp .ge 35, 3) := dk_162 0 35 (dk_at dksX7_lays_2 3 rfl rfl)
theorem dX7_lays_52 : decode cX7_lays 52 = .ok (.iload_n 3, 1) := dk_29 (dk_at dksX7_lays_2 6 rfl rfl)
theorem dX7_lays_53 : decode cX7_lays 53 = .ok (.iload_n 2, 1) := dk_28 (dk_at dksX7_lays_2 7 rfl rfl)
theorem dX7_lays_54 : decode cX7_lays 54 = .ok (.invokestatic 58, 3) := dk_184 0 58 (dk_at dksX7_lays_2 8 rfl rfl)
theorem dX7_lays_57 : decode cX7_lays 57 = .ok (.ifCond .ne 21, 3) := dk_154 0 21 (dk_at dksX7_lays_2 11 rfl rfl)
theorem dX7_lays_60 : decode cX7_lays 60 = .ok (.aload_n 0, 1) := dk_42 (dk_at dksX7_lays_2 14 rfl rfl)
theorem dX7_lays_61 : decode cX7_lays 61 = .ok (.getfield 39, 3) := dk_180 0 39 (dk_at dksX7_lays_2 15 rfl rfl)
theorem dX7_lays_64 : decode cX7_lays 64 = .ok (.new 62, 3) := dk_187 0 62 (dk_at dksX7_lays_2 18 rfl rfl)
theorem dX7_lays_67 : decode cX7_lays 67 = .ok (.dup, 1) := dk_89 (dk_at dksX7_lays_2 21 rfl rfl)
theorem dX7_lays_68 : decode cX7_lays 68 = .ok (.iload_n 2, 1) := dk_28 (dk_at dksX7_lays_2 22 rfl rfl)
theorem dX7_lays_69 : decode cX7_lays 69 = .ok (.iload_n 3, 1) := dk_29 (dk_at dksX7_lays_2 23 rfl rfl)
theorem dX7_lays_70 : decode cX7_lays 70 = .ok (.iconst 0, 1) := dk_3 (dk_at dksX7_lays_3 0 rfl rfl)
theorem dX7_lays_71 : decode cX7_lays 71 = .ok (.invokespecial 64, 3) := dk_183 0 64 (dk_at dksX7_lays_3 1 rfl rfl)
theorem dX7_lays_74 : decode cX7_lays 74 = .ok (.invokevirtual 67, 3) := dk_182 0 67 (dk_at dksX7_lays_3 4 rfl rfl)
theorem dX7_lays_77 : decode cX7_lays 77 = .ok (.pop, 1) := dk_87 (dk_at dksX7_lays_3 7 rfl rfl)
theorem dX7_lays_78 : decode cX7_lays 78 = .ok (.iinc 3 1, 3) := dk_132 3 1 (dk_at dksX7_lays_3 8 rfl rfl)
theorem dX7_lays_81 : decode cX7_lays 81 = .ok (.goto (-37), 3) := dk_167 255 219 (dk_at dksX7_lays_3 11 rfl rfl)
theorem dX7_lays_84 : decode cX7_lays 84 = .ok (.iinc 2 1, 3) := dk_132 2 1 (dk_at dksX7_lays_3 14 rfl rfl)
theorem dX7_lays_87 : decode cX7_lays 87 = .ok (.goto (-50), 3) := dk_167 255 206 (dk_at dksX7_lays_3 17 rfl rfl)
theorem dX7_lays_90 : decode cX7_lays 90 = .ok (.aload_n 0, 1) := dk_42 (dk_at dksX7_lays_3 20 rfl rfl)
theorem dX7_lays_91 : decode cX7_lays 91 = .ok (.getfield 22, 3) := dk_180 0 22 (dk_at dksX7_lays_3 21 rfl rfl)
theorem dX7_lays_94 : decode cX7_lays 94 = .ok (.invokevirtual 55, 3) := dk_182 0 55 (dk_at dksX7_lays_4 0 rfl rfl)
theorem dX7_lays_97 : decode cX7_lays 97 = .ok (.aload_n 0, 1) := dk_42 (dk_at dksX7_lays_4 3 rfl rfl)
theorem dX7_lays_98 : decode cX7_lays 98 = .ok (.getfield 26, 3) := dk_180 0 26 (dk_at dksX7_lays_4 4 rfl rfl)
theorem dX7_lays_101 : decode cX7_lays 101 = .ok (.invokevirtual 55, 3) := dk_182 0 55 (dk_at dksX7_lays_4 7 rfl rfl)
theorem dX7_lays_104 : decode cX7_lays 104 = .ok (.aload_n 0, 1) := dk_42 (dk_at dksX7_lays_4 10 rfl rfl)
theorem dX7_lays_105 : decode cX7_lays 105 = .ok (.getfield 52, 3) := dk_180 0 52 (dk_at dksX7_lays_4 11 rfl rfl)
theorem dX7_lays_108 : decode cX7_lays 108 = .ok (.newarray .int, 2) := dk_188_10 (dk_at dksX7_lays_4 14 rfl rfl)
theorem dX7_lays_110 : decode cX7_lays 110 = .ok (.astore_n 2, 1) := dk_77 (dk_at dksX7_lays_4 16 rfl rfl)
theorem dX7_lays_111 : decode cX7_lays 111 = .ok (.iconst 0, 1) := dk_3 (dk_at dksX7_lays_4 17 rfl rfl)
theorem dX7_lays_112 : decode cX7_lays 112 = .ok (.istore_n 3, 1) := dk_62 (dk_at dksX7_lays_4 18 rfl rfl)
theorem dX7_lays_113 : decode cX7_lays 113 = .ok (.iload_n 3, 1) := dk_29 (dk_at dksX7_lays_4 19 rfl rfl)
theorem dX7_lays_114 : decode cX7_lays 114 = .ok (.aload_n 0, 1) := dk_42 (dk_at dksX7_lays_4 20 rfl rfl)
theorem dX7_lays_115 : decode cX7_lays 115 = .ok (.getfield 52, 3) := dk_180 0 52 (dk_at dksX7_lays_4 21 rfl rfl)
theorem dX7_lays_118 : decode cX7_lays 118 = .ok (.if_icmp .ge 13, 3) := dk_162 0 13 (dk_at dksX7_lays_5 0 rfl rfl)
theorem dX7_lays_121 : decode cX7_lays 121 = .ok (.aload_n 2, 1) := dk_44 (dk_at dksX7_lays_5 3 rfl rfl)
theorem dX7_lays_122 : decode cX7_lays 122 = .ok (.iload_n 3, 1) := dk_29 (dk_at dksX7_lays_5 4 rfl rfl)
theorem dX7_lays_123 : decode cX7_lays 123 = .ok (.iload_n 3, 1) := dk_29 (dk_at dksX7_lays_5 5 rfl rfl)
theorem dX7_lays_124 : decode cX7_lays 124 = .ok (.iastore, 1) := dk_79 (dk_at dksX7_lays_5 6 rfl rfl)
theorem dX7_lays_125 : decode cX7_lays 125 = .ok (.iinc 3 1, 3) := dk_132 3 1 (dk_at dksX7_lays_5 7 rfl rfl)
theorem dX7_lays_128 : decode cX7_lays 128 = .ok (.goto (-15), 3) := dk_167 255 241 (dk_at dksX7_lays_5 10 rfl rfl)
theorem dX7_lays_131 : decode cX7_lays 131 = .ok (.aload_n 0, 1) := dk_42 (dk_at dksX7_lays_5 13 rfl rfl)
theorem dX7_lays_132 : decode cX7_lays 132 = .ok (.getfield 22, 3) := dk_180 0 22 (dk_at dksX7_lays_5 14 rfl rfl)
theorem dX7_lays_135 : decode cX7_lays 135 = .ok (.aload_n 2, 1) := dk_44 (dk_at dksX7_lays_5 17 rfl rfl)
theorem dX7_lays_136 : decode cX7_lays 136 = .ok (.invokevirtual 67, 3) := dk_182 0 67 (dk_at dksX7_lays_5 18 rfl rfl)
theorem dX7_lays_139 : decode cX7_lays 139 = .ok (.pop, 1) := dk_87 (dk_at dksX7_lays_5 21 rfl rfl)
theorem dX7_lays_140 : decode cX7_lays 140 = .ok (.iconst 0, 1) := dk_3 (dk_at dksX7_lays_5 22 rfl rfl)
theorem dX7_lays_141 : decode cX7_lays 141 = .ok (.istore_n 3, 1) := dk_62 (dk_at dksX7_lays_5 23 rfl rfl)
theorem dX7_lays_142 : decode cX7_lays 142 = .ok (.iload_n 3, 1) := dk_29 (dk_at dksX7_lays_6 0 rfl rfl)
theorem dX7_lays_143 : decode cX7_lays 143 = .ok (.iconst 4, 1) := dk_7 (dk_at dksX7_lays_6 1 rfl rfl)
theorem dX7_lays_144 : decode cX7_lays 144 = .ok (.if_icmp .gt 18, 3) := dk_163 0 18 (dk_at dksX7_lays_6 2 rfl rfl)
theorem dX7_lays_147 : decode cX7_lays 147 = .ok (.aload_n 0, 1) := dk_42 (dk_at dksX7_lays_6 5 rfl rfl)
theorem dX7_lays_148 : decode cX7_lays 148 = .ok (.getfield 15, 3) := dk_180 0 15 (dk_at dksX7_lays_6 6 rfl rfl)
theorem dX7_lays_151 : decode cX7_lays 151 = .ok (.iload_n 3, 1) := dk_29 (dk_at dksX7_lays_6 9 rfl rfl)
theorem dX7_lays_152 : decode cX7_lays 152 = .ok (.aaload, 1) := dk_50 (dk_at dksX7_lays_6 10 rfl rfl)
theorem dX7_lays_153 : decode cX7_lays 153 = .ok (.invokevirtual 71, 3) := dk_182 0 71 (dk_at dksX7_lays_6 11 rfl rfl)
theorem dX7_lays_156 : decode cX7_lays 156 = .ok (.iinc 3 1, 3) := dk_132 3 1 (dk_at dksX7_lays_6 14 rfl rfl)
theorem dX7_lays_159 : decode cX7_lays 159 = .ok (.goto (-17), 3) := dk_167 255 239 (dk_at dksX7_lays_6 17 rfl rfl)
theorem dX7_lays_162 : decode cX7_lays 162 = .ok (.aload_n 0, 1) := dk_42 (dk_at dksX7_lays_6 20 rfl rfl)
theorem dX7_lays_163 : decode cX7_lays 163 = .ok (.getfield 15, 3) := dk_180 0 15 (dk_at dksX7_lays_6 21 rfl rfl)
theorem dX7_lays_166 : decode cX7_lays 166 = .ok (.iconst 0, 1) := dk_3 (dk_at dksX7_lays_7 0 rfl rfl)
theorem dX7_lays_167 : decode cX7_lays 167 = .ok (.aaload, 1) := dk_50 (dk_at dksX7_lays_7 1 rfl rfl)
theorem dX7_lays_168 : decode cX7_lays 168 = .ok (.aload_n 0, 1) := dk_42 (dk_at dksX7_lays_7 2 rfl rfl)
theorem dX7_lays_169 : decode cX7_lays 169 = .ok (.aload_n 2, 1) := dk_44 (dk_at dksX7_lays_7 3 rfl rfl)
theorem dX7_lays_170 : decode cX7_lays 170 = .ok (.invokevirtual 72, 3) := dk_182 0 72 (dk_at dksX7_lays_7 4 rfl rfl)
theorem dX7_lays_173 : decode cX7_lays 173 = .ok (.invokevirtual 76, 3) := dk_182 0 76 (dk_at dksX7_lays_7 7 rfl rfl)
theorem dX7_lays_176 : decode cX7_lays 176 = .ok (.iconst 0, 1) := dk_3 (dk_at dksX7_lays_7 10 rfl rfl)
theorem dX7_lays_177 : decode cX7_lays 177 = .ok (.istore_n 3, 1) := dk_62 (dk_at dksX7_lays_7 11 rfl rfl)
theorem dX7_lays_178 : decode cX7_lays 178 = .ok (.iconst 1, 1) := dk_4 (dk_at dksX7_lays_7 12 rfl rfl)
theorem dX7_lays_179 : decode cX7_lays 179 = .ok (.istore 4, 2) := dk_54 4 (dk_at dksX7_lays_7 13 rfl rfl)
theorem dX7_lays_181 : decode cX7_lays 181 = .ok (.iload 4, 2) := dk_21 4 (dk_at dksX7_lays_7 15 rfl rfl)
theorem dX7_lays_183 : decode cX7_lays 183 = .ok (.iconst 4, 1) := dk_7 (dk_at dksX7_lays_7 17 rfl rfl)
theorem dX7_lays_184 : decode cX7_lays 184 = .ok (.if_icmp .gt 68, 3) := dk_163 0 68 (dk_at dksX7_lays_7 18 rfl rfl)
theorem dX7_lays_187 : decode cX7_lays 187 = .ok (.aload_n 0, 1) := dk_42 (dk_at dksX7_lays_7 21 rfl rfl)
theorem dX7_lays_188 : decode cX7_lays 188 = .ok (.getfield 22, 3) := dk_180 0 22 (dk_at dksX7_lays_8 0 rfl rfl)
theorem dX7_lays_191 : decode cX7_lays 191 = .ok (.invokevirtual 79, 3) := dk_182 0 79 (dk_at dksX7_lays_8 3 rfl rfl)
theorem dX7_lays_194 : decode cX7_lays 194 = .ok (.istore 5, 2) := dk_54 5 (dk_at dksX7_lays_8 6 rfl rfl)
theorem dX7_lays_196 : decode cX7_lays 196 = .ok (.aload_n 0, 1) := dk_42 (dk_at dksX7_lays_8 8 rfl rfl)
theorem dX7_lays_197 : decode cX7_lays 197 = .ok (.getfield 26, 3) := dk_180 0 26 (dk_at dksX7_lays_8 9 rfl rfl)
theorem dX7_lays_200 : decode cX7_lays 200 = .ok (.iload 5, 2) := dk_21 5 (dk_at dksX7_lays_8 12 rfl rfl)
theorem dX7_lays_202 : decode cX7_lays 202 = .ok (.invokestatic 83, 3) := dk_184 0 83 (dk_at dksX7_lays_8 14 rfl rfl)
theorem dX7_lays_205 : decode cX7_lays 205 = .ok (.invokevirtual 67, 3) := dk_182 0 67 (dk_at dksX7_lays_8 17 rfl rfl)
theorem dX7_lays_208 : decode cX7_lays 208 = .ok (.pop, 1) := dk_87 (dk_at dksX7_lays_8 20 rfl rfl)
theorem dX7_lays_209 : decode cX7_lays 209 = .ok (.iload_n 3, 1) := dk_29 (dk_at dksX7_lays_8 21 rfl rfl)
theorem dX7_lays_210 : decode cX7_lays 210 = .ok (.istore 6, 2) := dk_54 6 (dk_at dksX7_lays_8 22 rfl rfl)
theorem dX7_lays_212 : decode cX7_lays 212 = .ok (.iload 6, 2) := dk_21 6 (dk_at dksX7_lays_9 0 rfl rfl)
theorem dX7_lays_214 : decode cX7_lays 214 = .ok (.iload 5, 2) := dk_21 5 (dk_at dksX7_lays_9 2 rfl rfl)
theorem dX7_lays_216 : decode cX7_lays 216 = .ok (.if_icmp .ge 27, 3) := dk_162 0 27 (dk_at dksX7_lays_9 4 rfl rfl)
theorem dX7_lays_219 : decode cX7_lays 219 = .ok (.aload_n 0, 1) := dk_42 (dk_at dksX7_lays_9 7 rfl rfl)
theorem dX7_lays_220 : decode cX7_lays 220 = .ok (.aload_n 0, 1) := dk_42 (dk_at dksX7_lays_9 8 rfl rfl)
theorem dX7_lays_221 : decode cX7_lays 221 = .ok (.getfield 22, 3) := dk_180 0 22 (dk_at dksX7_lays_9 9 rfl rfl)
theorem dX7_lays_224 : decode cX7_lays 224 = .ok (.iload 6, 2) := dk_21 6 (dk_at dksX7_lays_9 12 rfl rfl)
theorem dX7_lays_226 : decode cX7_lays 226 = .ok (.invokevirtual 89, 3) := dk_182 0 89 (dk_at dksX7_lays_9 14 rfl rfl)
theorem dX7_lays_229 : decode cX7_lays 229 = .ok (.checkcast 93, 3) := dk_192 0 93 (dk_at dksX7_lays_9 17 rfl rfl)
theorem dX7_lays_232 : decode cX7_lays 232 = .ok (.iload 4, 2) := dk_21 4 (dk_at dksX7_lays_9 20 rfl rfl)
theorem dX7_lays_234 : decode cX7_lays 234 = .ok (.invokevirtual 94, 3) := dk_182 0 94 (dk_at dksX7_lays_10 0 rfl rfl)
theorem dX7_lays_237 : decode cX7_lays 237 = .ok (.iinc 6 1, 3) := dk_132 6 1 (dk_at dksX7_lays_10 3 rfl rfl)
theorem dX7_lays_240 : decode cX7_lays 240 = .ok (.goto (-28), 3) := dk_167 255 228 (dk_at dksX7_lays_10 6 rfl rfl)
theorem dX7_lays_243 : decode cX7_lays 243 = .ok (.iload 5, 2) := dk_21 5 (dk_at dksX7_lays_10 9 rfl rfl)
theorem dX7_lays_245 : decode cX7_lays 245 = .ok (.istore_n 3, 1) := dk_62 (dk_at dksX7_lays_10 11 rfl rfl)
theorem dX7_lays_246 : decode cX7_lays 246 = .ok (.iinc 4 1, 3) := dk_132 4 1 (dk_at dksX7_lays_10 12 rfl rfl)
theorem dX7_lays_249 : decode cX7_lays 249 = .ok (.goto (-68), 3) := dk_167 255 188 (dk_at dksX7_lays_10 15 rfl rfl)
theorem dX7_lays_252 : decode cX7_lays 252 = .ok (.aload_n 0, 1) := dk_42 (dk_at dksX7_lays_10 18 rfl rfl)
theorem dX7_lays_253 : decode cX7_lays 253 = .ok (.getfield 26, 3) := dk_180 0 26 (dk_at dksX7_lays_10 19 rfl rfl)
theorem dX7_lays_256 : decode cX7_lays 256 = .ok (.aload_n 0, 1) := dk_42 (dk_at dksX7_lays_10 22 rfl rfl)
theorem dX7_lays_257 : decode cX7_lays 257 = .ok (.getfield 22, 3) := dk_180 0 22 (dk_at dksX7_lays_11 0 rfl rfl)
theorem dX7_lays_260 : decode cX7_lays 260 = .ok (.invokevirtual 79, 3) := dk_182 0 79 (dk_at dksX7_lays_11 3 rfl rfl)
theorem dX7_lays_263 : decode cX7_lays 263 = .ok (.invokestatic 83, 3) := dk_184 0 83 (dk_at dksX7_lays_11 6 rfl rfl)
theorem dX7_lays_266 : decode cX7_lays 266 = .ok (.invokevirtual 67, 3) := dk_182 0 67 (dk_at dksX7_lays_11 9 rfl rfl)
theorem dX7_lays_269 : decode cX7_lays 269 = .ok (.pop, 1) := dk_87 (dk_at dksX7_lays_11 12 rfl rfl)
theorem dX7_lays_270 : decode cX7_lays 270 = .ok (.return_, 1) := dk_177 (dk_at dksX7_lays_11 13 rfl rfl)
abbrev cX7_number : ByteArray := prog_8_method_6_code
def yX7_number : MethodName := ⟨RX7, "number", "([I)I"⟩
def dkwX7_number_2 : List UInt8 := [21, 4, 46, 120, 128, 62, 132, 4, 1, 167, 255, 206, 28, 172]
abbrev dktX7_number_2 : List UInt8 := dkwX7_number_2 ++ []
def dkwX7_number_1 : List UInt8 := [104, 43, 21, 4, 46, 96, 29, 4, 43, 21, 4, 46, 120, 4, 100, 126, 184, 0, 114, 100, 61, 29, 4, 43]
abbrev dktX7_number_1 : List UInt8 := dkwX7_number_1 ++ dktX7_number_2
def dkwX7_number_0 : List UInt8 := [3, 61, 3, 62, 3, 54, 4, 21, 4, 42, 180, 0, 52, 162, 0, 47, 28, 42, 180, 0, 52, 21, 4, 100]
abbrev dktX7_number_0 : List UInt8 := dkwX7_number_0 ++ dktX7_number_1
theorem dksX7_number_0 : cX7_number.data.toList.drop 0 = dktX7_number_0 := by decide +kernel
theorem dksX7_number_1 : cX7_number.data.toList.drop 24 = dktX7_number_1 := dk_seg dksX7_number_0 24 rfl rfl
theorem dksX7_number_2 : cX7_number.data.toList.drop 48 = dktX7_number_2 := dk_seg dksX7_number_1 24 rfl rfl
theorem dX7_number_0 : decode cX7_number 0 = .ok (.iconst 0, 1) := dk_3 (dk_at dksX7_number_0 0 rfl rfl)
theorem dX7_number_1 : decode cX7_number 1 = .ok (.istore_n 2, 1) := dk_61 (dk_at dksX7_number_0 1 rfl rfl)
theorem dX7_number_2 : decode cX7_number 2 = .ok (.iconst 0, 1) := dk_3 (dk_at dksX7_number_0 2 rfl rfl)
theorem dX7_number_3 : decode cX7_number 3 = .ok (.istore_n 3, 1) := dk_62 (dk_at dksX7_number_0 3 rfl rfl)
theorem dX7_number_4 : decode cX7_number 4 = .ok (.iconst 0, 1) := dk_3 (dk_at dksX7_number_0 4 rfl rfl)
theorem dX7_number_5 : decode cX7_number 5 = .ok (.istore 4, 2) := dk_54 4 (dk_at dksX7_number_0 5 rfl rfl)
theorem dX7_number_7 : decode cX7_number 7 = .ok (.iload 4, 2) := dk_21 4 (dk_at dksX7_number_0 7 rfl rfl)
theorem dX7_number_9 : decode cX7_number 9 = .ok (.aload_n 0, 1) := dk_42 (dk_at dksX7_number_0 9 rfl rfl)
theorem dX7_number_10 : decode cX7_number 10 = .ok (.getfield 52, 3) := dk_180 0 52 (dk_at dksX7_number_0 10 rfl rfl)
theorem dX7_number_13 : decode cX7_number 13 = .ok (.if_icmp .ge 47, 3) := dk_162 0 47 (dk_at dksX7_number_0 13 rfl rfl)
theorem dX7_number_16 : decode cX7_number 16 = .ok (.iload_n 2, 1) := dk_28 (dk_at dksX7_number_0 16 rfl rfl)
theorem dX7_number_17 : decode cX7_number 17 = .ok (.aload_n 0, 1) := dk_42 (dk_at dksX7_number_0 17 rfl rfl)
theorem dX7_number_18 : decode cX7_number 18 = .ok (.getfield 52, 3) := dk_180 0 52 (dk_at dksX7_number_0 18 rfl rfl)
theorem dX7_number_21 : decode cX7_number 21 = .ok (.iload 4, 2) := dk_21 4 (dk_at dksX7_number_0 21 rfl rfl)
theorem dX7_number_23 : decode cX7_number 23 = .ok (.isub, 1) := dk_100 (dk_at dksX7_number_0 23 rfl rfl)
theorem dX7_number_24 : decode cX7_number 24 = .ok (.imul, 1) := dk_104 (dk_at dksX7_number_1 0 rfl rfl)
theorem dX7_number_25 : decode cX7_number 25 = .ok (.aload_n 1, 1) := dk_43 (dk_at dksX7_number_1 1 rfl rfl)
theorem dX7_number_26 : decode cX7_number 26 = .ok (.iload 4, 2) := dk_21 4 (dk_at dksX7_number_1 2 rfl rfl)
theorem dX7_number_28 : decode cX7_number 28 = .ok (.iaload, 1) := dk_46 (dk_at dksX7_number_1 4 rfl rfl)
theorem dX7_number_29 : decode cX7_number 29 = .ok (.iadd, 1) := dk_96 (dk_at dksX7_number_1 5 rfl rfl)
theorem dX7_number_30 : decode cX7_number 30 = .ok (.iload_n 3, 1) := dk_29 (dk_at dksX7_number_1 6 rfl rfl)
theorem dX7_number_31 : decode cX7_number 31 = .ok (.iconst 1, 1) := dk_4 (dk_at dksX7_number_1 7 rfl rfl)
theorem dX7_number_32 : decode cX7_number 32 = .ok (.aload_n 1, 1) := dk_43 (dk_at dksX7_number_1 8 rfl rfl)
theorem dX7_number_33 : decode cX7_number 33 = .ok (.iload 4, 2) := dk_21 4 (dk_at dksX7_number_1 9 rfl rfl)
theorem dX7_number_35 : decode cX7_number 35 = .ok (.iaload, 1) := dk_46 (dk_at dksX7_number_1 11 rfl rfl)
theorem dX7_number_36 : decode cX7_number 36 = .ok (.ishl, 1) := dk_120 (dk_at dksX7_number_1 12 rfl rfl)
theorem dX7_number_37 : decode cX7_number 37 = .ok (.iconst 1, 1) := dk_4 (dk_at dksX7_number_1 13 rfl rfl)
theorem dX7_number_38 : decode cX7_number 38 = .ok (.isub, 1) := dk_100 (dk_at dksX7_number_1 14 rfl rfl)
theorem dX7_number_39 : decode cX7_number 39 = .ok (.iand, 1) := dk_126 (dk_at dksX7_number_1 15 rfl rfl)
theorem dX7_number_40 : decode cX7_number 40 = .ok (.invokestatic 114, 3) := dk_184 0 114 (dk_at dksX7_number_1 16 rfl rfl)
theorem dX7_number_43 : decode cX7_number 43 = .ok (.isub, 1) := dk_100 (dk_at dksX7_number_1 19 rfl rfl)
theorem dX7_number_44 : decode cX7_number 44 = .ok (.istore_n 2, 1) := dk_61 (dk_at dksX7_number_1 20 rfl rfl)
theorem dX7_number_45 : decode cX7_number 45 = .ok (.iload_n 3, 1) := dk_29 (dk_at dksX7_number_1 21 rfl rfl)
theorem dX7_number_46 : decode cX7_number 46 = .ok (.iconst 1, 1) := dk_4 (dk_at dksX7_number_1 22 rfl rfl)
theorem dX7_number_47 : decode cX7_number 47 = .ok (.aload_n 1, 1) := dk_43 (dk_at dksX7_number_1 23 rfl rfl)
theorem dX7_number_48 : decode cX7_number 48 = .ok (.iload 4, 2) := dk_21 4 (dk_at dksX7_number_2 0 rfl rfl)
theorem dX7_number_50 : decode cX7_number 50 = .ok (.iaload, 1) := dk_46 (dk_at dksX7_number_2 2 rfl rfl)
theorem dX7_number_51 : decode cX7_number 51 = .ok (.ishl, 1) := dk_120 (dk_at dksX7_number_2 3 rfl rfl)
theorem dX7_number_52 : decode cX7_number 52 = .ok (.ior, 1) := dk_128 (dk_at dksX7_number_2 4 rfl rfl)
theorem dX7_number_53 : decode cX7_number 53 = .ok (.istore_n 3, 1) := dk_62 (dk_at dksX7_number_2 5 rfl rfl)
theorem dX7_number_54 : decode cX7_number 54 = .ok (.iinc 4 1, 3) := dk_132 4 1 (dk_at dksX7_number_2 6 rfl rfl)
theorem dX7_number_57 : decode cX7_number 57 = .ok (.goto (-50), 3) := dk_167 255 206 (dk_at dksX7_number_2 9 rfl rfl)
theorem dX7_number_60 : decode cX7_number 60 = .ok (.iload_n 2, 1) := dk_28 (dk_at dksX7_number_2 12 rfl rfl)
theorem dX7_number_61 : decode cX7_number 61 = .ok (.ireturn, 1) := dk_172 (dk_at dksX7_number_2 13 rfl rfl)
abbrev cX7_grows : ByteArray := prog_8_method_4_code
def yX7_grows : MethodName := ⟨RX7, "grows", "([II)V"⟩
def dkwX7_grows_5 : List UInt8 := [182, 0, 67, 87, 132, 3, 1, 167, 255, 135, 177]
abbrev dktX7_grows_5 : List UInt8 := dkwX7_grows_5 ++ []
def dkwX7_grows_4 : List UInt8 := [58, 4, 42, 180, 0, 36, 3, 25, 4, 3, 42, 180, 0, 52, 184, 0, 105, 42, 180, 0, 22, 25, 4]
abbrev dktX7_grows_4 : List UInt8 := dkwX7_grows_4 ++ dktX7_grows_5
def dkwX7_grows_3 : List UInt8 := [42, 180, 0, 15, 28, 50, 42, 42, 180, 0, 36, 182, 0, 72, 182, 0, 76, 42, 180, 0, 52, 188, 10]
abbrev dktX7_grows_3 : List UInt8 := dkwX7_grows_3 ++ dktX7_grows_4
def dkwX7_grows_2 : List UInt8 := [182, 0, 98, 79, 132, 4, 1, 167, 255, 219, 42, 42, 180, 0, 36, 182, 0, 102, 155, 0, 6, 167, 0, 53]
abbrev dktX7_grows_2 : List UInt8 := dkwX7_grows_2 ++ dktX7_grows_3
def dkwX7_grows_1 : List UInt8 := [162, 0, 34, 42, 180, 0, 36, 21, 4, 42, 180, 0, 39, 29, 182, 0, 89, 192, 0, 62, 43, 21, 4, 46]
abbrev dktX7_grows_1 : List UInt8 := dkwX7_grows_1 ++ dktX7_grows_2
def dkwX7_grows_0 : List UInt8 := [3, 62, 29, 42, 180, 0, 39, 182, 0, 79, 162, 0, 116, 3, 54, 4, 21, 4, 42, 180, 0, 52]
abbrev dktX7_grows_0 : List UInt8 := dkwX7_grows_0 ++ dktX7_grows_1
theorem dksX7_grows_0 : cX7_grows.data.toList.drop 0 = dktX7_grows_0 := by decide +kernel
theorem dksX7_grows_1 : cX7_grows.data.toList.drop 22 = dktX7_grows_1 := dk_seg dksX7_grows_0 22 rfl rfl
theorem dksX7_grows_2 : cX7_grows.data.toList.drop 46 = dktX7_grows_2 := dk_seg dksX7_grows_1 24 rfl rfl
theorem dksX7_grows_3 : cX7_grows.data.toList.drop 70 = dktX7_grows_3 := dk_seg dksX7_grows_2 24 rfl rfl
theorem dksX7_grows_4 : cX7_grows.data.toList.drop 93 = dktX7_grows_4 := dk_seg dksX7_grows_3 23 rfl rfl
theorem dksX7_grows_5 : cX7_grows.data.toList.drop 116 = dktX7_grows_5 := dk_seg dksX7_grows_4 23 rfl rfl
theorem dX7_grows_0 : decode cX7_grows 0 = .ok (.iconst 0, 1) := dk_3 (dk_at dksX7_grows_0 0 rfl rfl)
theorem dX7_grows_1 : decode cX7_grows 1 = .ok (.istore_n 3, 1) := dk_62 (dk_at dksX7_grows_0 1 rfl rfl)
theorem dX7_grows_2 : decode cX7_grows 2 = .ok (.iload_n 3, 1) := dk_29 (dk_at dksX7_grows_0 2 rfl rfl)
theorem dX7_grows_3 : decode cX7_grows 3 = .ok (.aload_n 0, 1) := dk_42 (dk_at dksX7_grows_0 3 rfl rfl)
theorem dX7_grows_4 : decode cX7_grows 4 = .ok (.getfield 39, 3) := dk_180 0 39 (dk_at dksX7_grows_0 4 rfl rfl)
theorem dX7_grows_7 : decode cX7_grows 7 = .ok (.invokevirtual 79, 3) := dk_182 0 79 (dk_at dksX7_grows_0 7 rfl rfl)
theorem dX7_grows_10 : decode cX7_grows 10 = .ok (.if_icmp .ge 116, 3) := dk_162 0 116 (dk_at dksX7_grows_0 10 rfl rfl)
theorem dX7_grows_13 : decode cX7_grows 13 = .ok (.iconst 0, 1) := dk_3 (dk_at dksX7_grows_0 13 rfl rfl)
theorem dX7_grows_14 : decode cX7_grows 14 = .ok (.istore 4, 2) := dk_54 4 (dk_at dksX7_grows_0 14 rfl rfl)
theorem dX7_grows_16 : decode cX7_grows 16 = .ok (.iload 4, 2) := dk_21 4 (dk_at dksX7_grows_0 16 rfl rfl)
theorem dX7_grows_18 : decode cX7_grows 18 = .ok (.aload_n 0, 1) := dk_42 (dk_at dksX7_grows_0 18 rfl rfl)
theorem dX7_grows_19 : decode cX7_grows 19 = .ok (.getfield 52, 3) := dk_180 0 52 (dk_at dksX7_grows_0 19 rfl rfl)
theorem dX7_grows_22 : decode cX7_grows 22 = .ok (.if_icmp .ge 34, 3) := dk_162 0 34 (dk_at dksX7_grows_1 0 rfl rfl)
theorem dX7_grows_25 : decode cX7_grows 25 = .ok (.aload_n 0, 1) := dk_42 (dk_at dksX7_grows_1 3 rfl rfl)
theorem dX7_grows_26 : decode cX7_grows 26 = .ok (.getfield 36, 3) := dk_180 0 36 (dk_at dksX7_grows_1 4 rfl rfl)
theorem dX7_grows_29 : decode cX7_grows 29 = .ok (.iload 4, 2) := dk_21 4 (dk_at dksX7_grows_1 7 rfl rfl)
theorem dX7_grows_31 : decode cX7_grows 31 = .ok (.aload_n 0, 1) := dk_42 (dk_at dksX7_grows_1 9 rfl rfl)
theorem dX7_grows_32 : decode cX7_grows 32 = .ok (.getfield 39, 3) := dk_180 0 39 (dk_at dksX7_grows_1 10 rfl rfl)
theorem dX7_grows_35 : decode cX7_grows 35 = .ok (.iload_n 3, 1) := dk_29 (dk_at dksX7_grows_1 13 rfl rfl)
theorem dX7_grows_36 : decode cX7_grows 36 = .ok (.invokevirtual 89, 3) := dk_182 0 89 (dk_at dksX7_grows_1 14 rfl rfl)
theorem dX7_grows_39 : decode cX7_grows 39 = .ok (.checkcast 62, 3) := dk_192 0 62 (dk_at dksX7_grows_1 17 rfl rfl)
theorem dX7_grows_42 : decode cX7_grows 42 = .ok (.aload_n 1, 1) := dk_43 (dk_at dksX7_grows_1 20 rfl rfl)
theorem dX7_grows_43 : decode cX7_grows 43 = .ok (.iload 4, 2) := dk_21 4 (dk_at dksX7_grows_1 21 rfl rfl)
theorem dX7_grows_45 : decode cX7_grows 45 = .ok (.iaload, 1) := dk_46 (dk_at dksX7_grows_1 23 rfl rfl)
theorem dX7_grows_46 : decode cX7_grows 46 = .ok (.invokevirtual 98, 3) := dk_182 0 98 (dk_at dksX7_grows_2 0 rfl rfl)
theorem dX7_grows_49 : decode cX7_grows 49 = .ok (.iastore, 1) := dk_79 (dk_at dksX7_grows_2 3 rfl rfl)
theorem dX7_grows_50 : decode cX7_grows 50 = .ok (.iinc 4 1, 3) := dk_132 4 1 (dk_at dksX7_grows_2 4 rfl rfl)
theorem dX7_grows_53 : decode cX7_grows 53 = .ok (.goto (-37), 3) := dk_167 255 219 (dk_at dksX7_grows_2 7 rfl rfl)
theorem dX7_grows_56 : decode cX7_grows 56 = .ok (.aload_n 0, 1) := dk_42 (dk_at dksX7_grows_2 10 rfl rfl)
theorem dX7_grows_57 : decode cX7_grows 57 = .ok (.aload_n 0, 1) := dk_42 (dk_at dksX7_grows_2 11 rfl rfl)
theorem dX7_grows_58 : decode cX7_grows 58 = .ok (.getfield 36, 3) := dk_180 0 36 (dk_at dksX7_grows_2 12 rfl rfl)
theorem dX7_grows_61 : decode cX7_grows 61 = .ok (.invokevirtual 102, 3) := dk_182 0 102 (dk_at dksX7_grows_2 15 rfl rfl)
theorem dX7_grows_64 : decode cX7_grows 64 = .ok (.ifCond .lt 6, 3) := dk_155 0 6 (dk_at dksX7_grows_2 18 rfl rfl)
theorem dX7_grows_67 : decode cX7_grows 67 = .ok (.goto 53, 3) := dk_167 0 53 (dk_at dksX7_grows_2 21 rfl rfl)
theorem dX7_grows_70 : decode cX7_grows 70 = .ok (.aload_n 0, 1) := dk_42 (dk_at dksX7_grows_3 0 rfl rfl)
theorem dX7_grows_71 : decode cX7_grows 71 = .ok (.getfield 15, 3) := dk_180 0 15 (dk_at dksX7_grows_3 1 rfl rfl)
theorem dX7_grows_74 : decode cX7_grows 74 = .ok (.iload_n 2, 1) := dk_28 (dk_at dksX7_grows_3 4 rfl rfl)
theorem dX7_grows_75 : decode cX7_grows 75 = .ok (.aaload, 1) := dk_50 (dk_at dksX7_grows_3 5 rfl rfl)
theorem dX7_grows_76 : decode cX7_grows 76 = .ok (.aload_n 0, 1) := dk_42 (dk_at dksX7_grows_3 6 rfl rfl)
theorem dX7_grows_77 : decode cX7_grows 77 = .ok (.aload_n 0, 1) := dk_42 (dk_at dksX7_grows_3 7 rfl rfl)
theorem dX7_grows_78 : decode cX7_grows 78 = .ok (.getfield 36, 3) := dk_180 0 36 (dk_at dksX7_grows_3 8 rfl rfl)
theorem dX7_grows_81 : decode cX7_grows 81 = .ok (.invokevirtual 72, 3) := dk_182 0 72 (dk_at dksX7_grows_3 11 rfl rfl)
theorem dX7_grows_84 : decode cX7_grows 84 = .ok (.invokevirtual 76, 3) := dk_182 0 76 (dk_at dksX7_grows_3 14 rfl rfl)
theorem dX7_grows_87 : decode cX7_grows 87 = .ok (.aload_n 0, 1) := dk_42 (dk_at dksX7_grows_3 17 rfl rfl)
theorem dX7_grows_88 : decode cX7_grows 88 = .ok (.getfield 52, 3) := dk_180 0 52 (dk_at dksX7_grows_3 18 rfl rfl)
theorem dX7_grows_91 : decode cX7_grows 91 = .ok (.newarray .int, 2) := dk_188_10 (dk_at dksX7_grows_3 21 rfl rfl)
theorem dX7_grows_93 : decode cX7_grows 93 = .ok (.astore 4, 2) := dk_58 4 (dk_at dksX7_grows_4 0 rfl rfl)
theorem dX7_grows_95 : decode cX7_grows 95 = .ok (.aload_n 0, 1) := dk_42 (dk_at dksX7_grows_4 2 rfl rfl)
theorem dX7_grows_96 : decode cX7_grows 96 = .ok (.getfield 36, 3) := dk_180 0 36 (dk_at dksX7_grows_4 3 rfl rfl)
theorem dX7_grows_99 : decode cX7_grows 99 = .ok (.iconst 0, 1) := dk_3 (dk_at dksX7_grows_4 6 rfl rfl)
theorem dX7_grows_100 : decode cX7_grows 100 = .ok (.aload 4, 2) := dk_25 4 (dk_at dksX7_grows_4 7 rfl rfl)
theorem dX7_grows_102 : decode cX7_grows 102 = .ok (.iconst 0, 1) := dk_3 (dk_at dksX7_grows_4 9 rfl rfl)
theorem dX7_grows_103 : decode cX7_grows 103 = .ok (.aload_n 0, 1) := dk_42 (dk_at dksX7_grows_4 10 rfl rfl)
theorem dX7_grows_104 : decode cX7_grows 104 = .ok (.getfield 52, 3) := dk_180 0 52 (dk_at dksX7_grows_4 11 rfl rfl)
theorem dX7_grows_107 : decode cX7_grows 107 = .ok (.invokestatic 105, 3) := dk_184 0 105 (dk_at dksX7_grows_4 14 rfl rfl)
theorem dX7_grows_110 : decode cX7_grows 110 = .ok (.aload_n 0, 1) := dk_42 (dk_at dksX7_grows_4 17 rfl rfl)
theorem dX7_grows_111 : decode cX7_grows 111 = .ok (.getfield 22, 3) := dk_180 0 22 (dk_at dksX7_grows_4 18 rfl rfl)
theorem dX7_grows_114 : decode cX7_grows 114 = .ok (.aload 4, 2) := dk_25 4 (dk_at dksX7_grows_4 21 rfl rfl)
theorem dX7_grows_116 : decode cX7_grows 116 = .ok (.invokevirtual 67, 3) := dk_182 0 67 (dk_at dksX7_grows_5 0 rfl rfl)
theorem dX7_grows_119 : decode cX7_grows 119 = .ok (.pop, 1) := dk_87 (dk_at dksX7_grows_5 3 rfl rfl)
theorem dX7_grows_120 : decode cX7_grows 120 = .ok (.iinc 3 1, 3) := dk_132 3 1 (dk_at dksX7_grows_5 4 rfl rfl)
theorem dX7_grows_123 : decode cX7_grows 123 = .ok (.goto (-121), 3) := dk_167 255 135 (dk_at dksX7_grows_5 7 rfl rfl)
theorem dX7_grows_126 : decode cX7_grows 126 = .ok (.return_, 1) := dk_177 (dk_at dksX7_grows_5 10 rfl rfl)
abbrev cX7_within : ByteArray := prog_8_method_5_code
def yX7_within : MethodName := ⟨RX7, "within", "([I)I"⟩
def dkwX7_within_1 : List UInt8 := [153, 0, 5, 29, 172, 132, 3, 1, 167, 255, 233, 2, 172]
abbrev dktX7_within_1 : List UInt8 := dkwX7_within_1 ++ []
def dkwX7_within_0 : List UInt8 := [42, 43, 182, 0, 72, 61, 3, 62, 29, 7, 163, 0, 24, 42, 180, 0, 15, 29, 50, 28, 182, 0, 111]
abbrev dktX7_within_0 : List UInt8 := dkwX7_within_0 ++ dktX7_within_1
theorem dksX7_within_0 : cX7_within.data.toList.drop 0 = dktX7_within_0 := by decide +kernel
theorem dksX7_within_1 : cX7_within.data.toList.drop 23 = dktX7_within_1 := dk_seg dksX7_within_0 23 rfl rfl
theorem dX7_within_0 : decode cX7_within 0 = .ok (.aload_n 0, 1) := dk_42 (dk_at dksX7_within_0 0 rfl rfl)
theorem dX7_within_1 : decode cX7_within 1 = .ok (.aload_n 1, 1) := dk_43 (dk_at dksX7_within_0 1 rfl rfl)
theorem dX7_within_2 : decode cX7_within 2 = .ok (.invokevirtual 72, 3) := dk_182 0 72 (dk_at dksX7_within_0 2 rfl rfl)
theorem dX7_within_5 : decode cX7_within 5 = .ok (.istore_n 2, 1) := dk_61 (dk_at dksX7_within_0 5 rfl rfl)
theorem dX7_within_6 : decode cX7_within 6 = .ok (.iconst 0, 1) := dk_3 (dk_at dksX7_within_0 6 rfl rfl)
theorem dX7_within_7 : decode cX7_within 7 = .ok (.istore_n 3, 1) := dk_62 (dk_at dksX7_within_0 7 rfl rfl)
theorem dX7_within_8 : decode cX7_within 8 = .ok (.iload_n 3, 1) := dk_29 (dk_at dksX7_within_0 8 rfl rfl)
theorem dX7_within_9 : decode cX7_within 9 = .ok (.iconst 4, 1) := dk_7 (dk_at dksX7_within_0 9 rfl rfl)
theorem dX7_within_10 : decode cX7_within 10 = .ok (.if_icmp .gt 24, 3) := dk_163 0 24 (dk_at dksX7_within_0 10 rfl rfl)
theorem dX7_within_13 : decode cX7_within 13 = .ok (.aload_n 0, 1) := dk_42 (dk_at dksX7_within_0 13 rfl rfl)
theorem dX7_within_14 : decode cX7_within 14 = .ok (.getfield 15, 3) := dk_180 0 15 (dk_at dksX7_within_0 14 rfl rfl)
theorem dX7_within_17 : decode cX7_within 17 = .ok (.iload_n 3, 1) := dk_29 (dk_at dksX7_within_0 17 rfl rfl)
theorem dX7_within_18 : decode cX7_within 18 = .ok (.aaload, 1) := dk_50 (dk_at dksX7_within_0 18 rfl rfl)
theorem dX7_within_19 : decode cX7_within 19 = .ok (.iload_n 2, 1) := dk_28 (dk_at dksX7_within_0 19 rfl rfl)
theorem dX7_within_20 : decode cX7_within 20 = .ok (.invokevirtual 111, 3) := dk_182 0 111 (dk_at dksX7_within_0 20 rfl rfl)
theorem dX7_within_23 : decode cX7_within 23 = .ok (.ifCond .eq 5, 3) := dk_153 0 5 (dk_at dksX7_within_1 0 rfl rfl)
theorem dX7_within_26 : decode cX7_within 26 = .ok (.iload_n 3, 1) := dk_29 (dk_at dksX7_within_1 3 rfl rfl)
theorem dX7_within_27 : decode cX7_within 27 = .ok (.ireturn, 1) := dk_172 (dk_at dksX7_within_1 4 rfl rfl)
theorem dX7_within_28 : decode cX7_within 28 = .ok (.iinc 3 1, 3) := dk_132 3 1 (dk_at dksX7_within_1 5 rfl rfl)
theorem dX7_within_31 : decode cX7_within 31 = .ok (.goto (-23), 3) := dk_167 255 233 (dk_at dksX7_within_1 8 rfl rfl)
theorem dX7_within_34 : decode cX7_within 34 = .ok (.iconst (-1), 1) := dk_2 (dk_at dksX7_within_1 11 rfl rfl)
theorem dX7_within_35 : decode cX7_within 35 = .ok (.ireturn, 1) := dk_172 (dk_at dksX7_within_1 12 rfl rfl)
abbrev cX7_first : ByteArray := prog_8_method_9_code
def yX7_first : MethodName := ⟨RX7, "first", "([I)Ljava/util/LinkedList;"⟩
def dkwX7_first_2 : List UInt8 := [167, 255, 240, 44, 176]
abbrev dktX7_first_2 : List UInt8 := dkwX7_first_2 ++ []
def dkwX7_first_1 : List UInt8 := [180, 0, 29, 182, 0, 126, 62, 29, 158, 0, 18, 44, 42, 29, 182, 0, 128, 182, 0, 131, 132, 3, 255]
abbrev dktX7_first_1 : List UInt8 := dkwX7_first_1 ++ dktX7_first_2
def dkwX7_first_0 : List UInt8 := [187, 0, 123, 89, 183, 0, 125, 77, 43, 3, 42, 180, 0, 29, 3, 42, 180, 0, 52, 184, 0, 105, 42, 42]
abbrev dktX7_first_0 : List UInt8 := dkwX7_first_0 ++ dktX7_first_1
theorem dksX7_first_0 : cX7_first.data.toList.drop 0 = dktX7_first_0 := by decide +kernel
theorem dksX7_first_1 : cX7_first.data.toList.drop 24 = dktX7_first_1 := dk_seg dksX7_first_0 24 rfl rfl
theorem dksX7_first_2 : cX7_first.data.toList.drop 47 = dktX7_first_2 := dk_seg dksX7_first_1 23 rfl rfl
theorem dX7_first_0 : decode cX7_first 0 = .ok (.new 123, 3) := dk_187 0 123 (dk_at dksX7_first_0 0 rfl rfl)
theorem dX7_first_3 : decode cX7_first 3 = .ok (.dup, 1) := dk_89 (dk_at dksX7_first_0 3 rfl rfl)
theorem dX7_first_4 : decode cX7_first 4 = .ok (.invokespecial 125, 3) := dk_183 0 125 (dk_at dksX7_first_0 4 rfl rfl)
theorem dX7_first_7 : decode cX7_first 7 = .ok (.astore_n 2, 1) := dk_77 (dk_at dksX7_first_0 7 rfl rfl)
theorem dX7_first_8 : decode cX7_first 8 = .ok (.aload_n 1, 1) := dk_43 (dk_at dksX7_first_0 8 rfl rfl)
theorem dX7_first_9 : decode cX7_first 9 = .ok (.iconst 0, 1) := dk_3 (dk_at dksX7_first_0 9 rfl rfl)
theorem dX7_first_10 : decode cX7_first 10 = .ok (.aload_n 0, 1) := dk_42 (dk_at dksX7_first_0 10 rfl rfl)
theorem dX7_first_11 : decode cX7_first 11 = .ok (.getfield 29, 3) := dk_180 0 29 (dk_at dksX7_first_0 11 rfl rfl)
theorem dX7_first_14 : decode cX7_first 14 = .ok (.iconst 0, 1) := dk_3 (dk_at dksX7_first_0 14 rfl rfl)
theorem dX7_first_15 : decode cX7_first 15 = .ok (.aload_n 0, 1) := dk_42 (dk_at dksX7_first_0 15 rfl rfl)
theorem dX7_first_16 : decode cX7_first 16 = .ok (.getfield 52, 3) := dk_180 0 52 (dk_at dksX7_first_0 16 rfl rfl)
theorem dX7_first_19 : decode cX7_first 19 = .ok (.invokestatic 105, 3) := dk_184 0 105 (dk_at dksX7_first_0 19 rfl rfl)
theorem dX7_first_22 : decode cX7_first 22 = .ok (.aload_n 0, 1) := dk_42 (dk_at dksX7_first_0 22 rfl rfl)
theorem dX7_first_23 : decode cX7_first 23 = .ok (.aload_n 0, 1) := dk_42 (dk_at dksX7_first_0 23 rfl rfl)
theorem dX7_first_24 : decode cX7_first 24 = .ok (.getfield 29, 3) := dk_180 0 29 (dk_at dksX7_first_1 0 rfl rfl)
theorem dX7_first_27 : decode cX7_first 27 = .ok (.invokevirtual 126, 3) := dk_182 0 126 (dk_at dksX7_first_1 3 rfl rfl)
theorem dX7_first_30 : decode cX7_first 30 = .ok (.istore_n 3, 1) := dk_62 (dk_at dksX7_first_1 6 rfl rfl)
theorem dX7_first_31 : decode cX7_first 31 = .ok (.iload_n 3, 1) := dk_29 (dk_at dksX7_first_1 7 rfl rfl)
theorem dX7_first_32 : decode cX7_first 32 = .ok (.ifCond .le 18, 3) := dk_158 0 18 (dk_at dksX7_first_1 8 rfl rfl)
theorem dX7_first_35 : decode cX7_first 35 = .ok (.aload_n 2, 1) := dk_44 (dk_at dksX7_first_1 11 rfl rfl)
theorem dX7_first_36 : decode cX7_first 36 = .ok (.aload_n 0, 1) := dk_42 (dk_at dksX7_first_1 12 rfl rfl)
theorem dX7_first_37 : decode cX7_first 37 = .ok (.iload_n 3, 1) := dk_29 (dk_at dksX7_first_1 13 rfl rfl)
theorem dX7_first_38 : decode cX7_first 38 = .ok (.invokevirtual 128, 3) := dk_182 0 128 (dk_at dksX7_first_1 14 rfl rfl)
theorem dX7_first_41 : decode cX7_first 41 = .ok (.invokevirtual 131, 3) := dk_182 0 131 (dk_at dksX7_first_1 17 rfl rfl)
theorem dX7_first_44 : decode cX7_first 44 = .ok (.iinc 3 (-1), 3) := dk_132 3 255 (dk_at dksX7_first_1 20 rfl rfl)
theorem dX7_first_47 : decode cX7_first 47 = .ok (.goto (-16), 3) := dk_167 255 240 (dk_at dksX7_first_2 0 rfl rfl)
theorem dX7_first_50 : decode cX7_first 50 = .ok (.aload_n 2, 1) := dk_44 (dk_at dksX7_first_2 3 rfl rfl)
theorem dX7_first_51 : decode cX7_first 51 = .ok (.areturn, 1) := dk_176 (dk_at dksX7_first_2 4 rfl rfl)
abbrev cX7_many : ByteArray := prog_8_method_7_code
def yX7_many : MethodName := ⟨RX7, "many", "([I)I"⟩
def dkwX7_many_4 : List UInt8 := [182, 0, 117, 96, 172, 132, 3, 1, 167, 255, 173, 2, 172]
abbrev dktX7_many_4 : List UInt8 := dkwX7_many_4 ++ []
def dkwX7_many_3 : List UInt8 := [167, 255, 230, 42, 42, 180, 0, 36, 182, 0, 102, 54, 5, 21, 5, 7, 160, 0, 11, 7, 42, 29]
abbrev dktX7_many_3 : List UInt8 := dkwX7_many_3 ++ dktX7_many_4
def dkwX7_many_2 : List UInt8 := [180, 0, 52, 162, 0, 23, 42, 180, 0, 36, 25, 4, 21, 5, 46, 43, 21, 5, 46, 79, 132, 5, 1]
abbrev dktX7_many_2 : List UInt8 := dkwX7_many_2 ++ dktX7_many_3
def dkwX7_many_1 : List UInt8 := [162, 0, 78, 42, 180, 0, 22, 29, 182, 0, 89, 192, 0, 93, 58, 4, 3, 54, 5, 21, 5, 42]
abbrev dktX7_many_1 : List UInt8 := dkwX7_many_1 ++ dktX7_many_2
def dkwX7_many_0 : List UInt8 := [42, 43, 182, 0, 102, 61, 28, 155, 0, 5, 28, 172, 3, 62, 29, 42, 180, 0, 22, 182, 0, 79]
abbrev dktX7_many_0 : List UInt8 := dkwX7_many_0 ++ dktX7_many_1
theorem dksX7_many_0 : cX7_many.data.toList.drop 0 = dktX7_many_0 := by decide +kernel
theorem dksX7_many_1 : cX7_many.data.toList.drop 22 = dktX7_many_1 := dk_seg dksX7_many_0 22 rfl rfl
theorem dksX7_many_2 : cX7_many.data.toList.drop 44 = dktX7_many_2 := dk_seg dksX7_many_1 22 rfl rfl
theorem dksX7_many_3 : cX7_many.data.toList.drop 67 = dktX7_many_3 := dk_seg dksX7_many_2 23 rfl rfl
theorem dksX7_many_4 : cX7_many.data.toList.drop 89 = dktX7_many_4 := dk_seg dksX7_many_3 22 rfl rfl
theorem dX7_many_0 : decode cX7_many 0 = .ok (.aload_n 0, 1) := dk_42 (dk_at dksX7_many_0 0 rfl rfl)
theorem dX7_many_1 : decode cX7_many 1 = .ok (.aload_n 1, 1) := dk_43 (dk_at dksX7_many_0 1 rfl rfl)
theorem dX7_many_2 : decode cX7_many 2 = .ok (.invokevirtual 102, 3) := dk_182 0 102 (dk_at dksX7_many_0 2 rfl rfl)
theorem dX7_many_5 : decode cX7_many 5 = .ok (.istore_n 2, 1) := dk_61 (dk_at dksX7_many_0 5 rfl rfl)
theorem dX7_many_6 : decode cX7_many 6 = .ok (.iload_n 2, 1) := dk_28 (dk_at dksX7_many_0 6 rfl rfl)
theorem dX7_many_7 : decode cX7_many 7 = .ok (.ifCond .lt 5, 3) := dk_155 0 5 (dk_at dksX7_many_0 7 rfl rfl)
theorem dX7_many_10 : decode cX7_many 10 = .ok (.iload_n 2, 1) := dk_28 (dk_at dksX7_many_0 10 rfl rfl)
theorem dX7_many_11 : decode cX7_many 11 = .ok (.ireturn, 1) := dk_172 (dk_at dksX7_many_0 11 rfl rfl)
theorem dX7_many_12 : decode cX7_many 12 = .ok (.iconst 0, 1) := dk_3 (dk_at dksX7_many_0 12 rfl rfl)
theorem dX7_many_13 : decode cX7_many 13 = .ok (.istore_n 3, 1) := dk_62 (dk_at dksX7_many_0 13 rfl rfl)
theorem dX7_many_14 : decode cX7_many 14 = .ok (.iload_n 3, 1) := dk_29 (dk_at dksX7_many_0 14 rfl rfl)
theorem dX7_many_15 : decode cX7_many 15 = .ok (.aload_n 0, 1) := dk_42 (dk_at dksX7_many_0 15 rfl rfl)
theorem dX7_many_16 : decode cX7_many 16 = .ok (.getfield 22, 3) := dk_180 0 22 (dk_at dksX7_many_0 16 rfl rfl)
theorem dX7_many_19 : decode cX7_many 19 = .ok (.invokevirtual 79, 3) := dk_182 0 79 (dk_at dksX7_many_0 19 rfl rfl)
theorem dX7_many_22 : decode cX7_many 22 = .ok (.if_icmp .ge 78, 3) := dk_162 0 78 (dk_at dksX7_many_1 0 rfl rfl)
theorem dX7_many_25 : decode cX7_many 25 = .ok (.aload_n 0, 1) := dk_42 (dk_at dksX7_many_1 3 rfl rfl)
theorem dX7_many_26 : decode cX7_many 26 = .ok (.getfield 22, 3) := dk_180 0 22 (dk_at dksX7_many_1 4 rfl rfl)
theorem dX7_many_29 : decode cX7_many 29 = .ok (.iload_n 3, 1) := dk_29 (dk_at dksX7_many_1 7 rfl rfl)
theorem dX7_many_30 : decode cX7_many 30 = .ok (.invokevirtual 89, 3) := dk_182 0 89 (dk_at dksX7_many_1 8 rfl rfl)
theorem dX7_many_33 : decode cX7_many 33 = .ok (.checkcast 93, 3) := dk_192 0 93 (dk_at dksX7_many_1 11 rfl rfl)
theorem dX7_many_36 : decode cX7_many 36 = .ok (.astore 4, 2) := dk_58 4 (dk_at dksX7_many_1 14 rfl rfl)
theorem dX7_many_38 : decode cX7_many 38 = .ok (.iconst 0, 1) := dk_3 (dk_at dksX7_many_1 16 rfl rfl)
theorem dX7_many_39 : decode cX7_many 39 = .ok (.istore 5, 2) := dk_54 5 (dk_at dksX7_many_1 17 rfl rfl)
theorem dX7_many_41 : decode cX7_many 41 = .ok (.iload 5, 2) := dk_21 5 (dk_at dksX7_many_1 19 rfl rfl)
theorem dX7_many_43 : decode cX7_many 43 = .ok (.aload_n 0, 1) := dk_42 (dk_at dksX7_many_1 21 rfl rfl)
theorem dX7_many_44 : decode cX7_many 44 = .ok (.getfield 52, 3) := dk_180 0 52 (dk_at dksX7_many_2 0 rfl rfl)
theorem dX7_many_47 : decode cX7_many 47 = .ok (.if_icmp .ge 23, 3) := dk_162 0 23 (dk_at dksX7_many_2 3 rfl rfl)
theorem dX7_many_50 : decode cX7_many 50 = .ok (.aload_n 0, 1) := dk_42 (dk_at dksX7_many_2 6 rfl rfl)
theorem dX7_many_51 : decode cX7_many 51 = .ok (.getfield 36, 3) := dk_180 0 36 (dk_at dksX7_many_2 7 rfl rfl)
theorem dX7_many_54 : decode cX7_many 54 = .ok (.aload 4, 2) := dk_25 4 (dk_at dksX7_many_2 10 rfl rfl)
theorem dX7_many_56 : decode cX7_many 56 = .ok (.iload 5, 2) := dk_21 5 (dk_at dksX7_many_2 12 rfl rfl)
theorem dX7_many_58 : decode cX7_many 58 = .ok (.iaload, 1) := dk_46 (dk_at dksX7_many_2 14 rfl rfl)
theorem dX7_many_59 : decode cX7_many 59 = .ok (.aload_n 1, 1) := dk_43 (dk_at dksX7_many_2 15 rfl rfl)
theorem dX7_many_60 : decode cX7_many 60 = .ok (.iload 5, 2) := dk_21 5 (dk_at dksX7_many_2 16 rfl rfl)
theorem dX7_many_62 : decode cX7_many 62 = .ok (.iaload, 1) := dk_46 (dk_at dksX7_many_2 18 rfl rfl)
theorem dX7_many_63 : decode cX7_many 63 = .ok (.iastore, 1) := dk_79 (dk_at dksX7_many_2 19 rfl rfl)
theorem dX7_many_64 : decode cX7_many 64 = .ok (.iinc 5 1, 3) := dk_132 5 1 (dk_at dksX7_many_2 20 rfl rfl)
theorem dX7_many_67 : decode cX7_many 67 = .ok (.goto (-26), 3) := dk_167 255 230 (dk_at dksX7_many_3 0 rfl rfl)
theorem dX7_many_70 : decode cX7_many 70 = .ok (.aload_n 0, 1) := dk_42 (dk_at dksX7_many_3 3 rfl rfl)
theorem dX7_many_71 : decode cX7_many 71 = .ok (.aload_n 0, 1) := dk_42 (dk_at dksX7_many_3 4 rfl rfl)
theorem dX7_many_72 : decode cX7_many 72 = .ok (.getfield 36, 3) := dk_180 0 36 (dk_at dksX7_many_3 5 rfl rfl)
theorem dX7_many_75 : decode cX7_many 75 = .ok (.invokevirtual 102, 3) := dk_182 0 102 (dk_at dksX7_many_3 8 rfl rfl)
theorem dX7_many_78 : decode cX7_many 78 = .ok (.istore 5, 2) := dk_54 5 (dk_at dksX7_many_3 11 rfl rfl)
theorem dX7_many_80 : decode cX7_many 80 = .ok (.iload 5, 2) := dk_21 5 (dk_at dksX7_many_3 13 rfl rfl)
theorem dX7_many_82 : decode cX7_many 82 = .ok (.iconst 4, 1) := dk_7 (dk_at dksX7_many_3 15 rfl rfl)
theorem dX7_many_83 : decode cX7_many 83 = .ok (.if_icmp .ne 11, 3) := dk_160 0 11 (dk_at dksX7_many_3 16 rfl rfl)
theorem dX7_many_86 : decode cX7_many 86 = .ok (.iconst 4, 1) := dk_7 (dk_at dksX7_many_3 19 rfl rfl)
theorem dX7_many_87 : decode cX7_many 87 = .ok (.aload_n 0, 1) := dk_42 (dk_at dksX7_many_3 20 rfl rfl)
theorem dX7_many_88 : decode cX7_many 88 = .ok (.iload_n 3, 1) := dk_29 (dk_at dksX7_many_3 21 rfl rfl)
theorem dX7_many_89 : decode cX7_many 89 = .ok (.invokevirtual 117, 3) := dk_182 0 117 (dk_at dksX7_many_4 0 rfl rfl)
theorem dX7_many_92 : decode cX7_many 92 = .ok (.iadd, 1) := dk_96 (dk_at dksX7_many_4 3 rfl rfl)
theorem dX7_many_93 : decode cX7_many 93 = .ok (.ireturn, 1) := dk_172 (dk_at dksX7_many_4 4 rfl rfl)
theorem dX7_many_94 : decode cX7_many 94 = .ok (.iinc 3 1, 3) := dk_132 3 1 (dk_at dksX7_many_4 5 rfl rfl)
theorem dX7_many_97 : decode cX7_many 97 = .ok (.goto (-83), 3) := dk_167 255 173 (dk_at dksX7_many_4 8 rfl rfl)
theorem dX7_many_100 : decode cX7_many 100 = .ok (.iconst (-1), 1) := dk_2 (dk_at dksX7_many_4 11 rfl rfl)
theorem dX7_many_101 : decode cX7_many 101 = .ok (.ireturn, 1) := dk_172 (dk_at dksX7_many_4 12 rfl rfl)
abbrev cX7_steps : ByteArray := prog_8_method_8_code
def yX7_steps : MethodName := ⟨RX7, "steps", "(I)I"⟩
def dkwX7_steps_1 : List UInt8 := [167, 255, 235, 28, 172]
abbrev dktX7_steps_1 : List UInt8 := dkwX7_steps_1 ++ []
def dkwX7_steps_0 : List UInt8 := [3, 61, 27, 42, 180, 0, 26, 28, 182, 0, 89, 192, 0, 84, 182, 0, 120, 161, 0, 9, 132, 2, 1]
abbrev dktX7_steps_0 : List UInt8 := dkwX7_steps_0 ++ dktX7_steps_1
theorem dksX7_steps_0 : cX7_steps.data.toList.drop 0 = dktX7_steps_0 := by decide +kernel
theorem dksX7_steps_1 : cX7_steps.data.toList.drop 23 = dktX7_steps_1 := dk_seg dksX7_steps_0 23 rfl rfl
theorem dX7_steps_0 : decode cX7_steps 0 = .ok (.iconst 0, 1) := dk_3 (dk_at dksX7_steps_0 0 rfl rfl)
theorem dX7_steps_1 : decode cX7_steps 1 = .ok (.istore_n 2, 1) := dk_61 (dk_at dksX7_steps_0 1 rfl rfl)
theorem dX7_steps_2 : decode cX7_steps 2 = .ok (.iload_n 1, 1) := dk_27 (dk_at dksX7_steps_0 2 rfl rfl)
theorem dX7_steps_3 : decode cX7_steps 3 = .ok (.aload_n 0, 1) := dk_42 (dk_at dksX7_steps_0 3 rfl rfl)
theorem dX7_steps_4 : decode cX7_steps 4 = .ok (.getfield 26, 3) := dk_180 0 26 (dk_at dksX7_steps_0 4 rfl rfl)
theorem dX7_steps_7 : decode cX7_steps 7 = .ok (.iload_n 2, 1) := dk_28 (dk_at dksX7_steps_0 7 rfl rfl)
theorem dX7_steps_8 : decode cX7_steps 8 = .ok (.invokevirtual 89, 3) := dk_182 0 89 (dk_at dksX7_steps_0 8 rfl rfl)
theorem dX7_steps_11 : decode cX7_steps 11 = .ok (.checkcast 84, 3) := dk_192 0 84 (dk_at dksX7_steps_0 11 rfl rfl)
theorem dX7_steps_14 : decode cX7_steps 14 = .ok (.invokevirtual 120, 3) := dk_182 0 120 (dk_at dksX7_steps_0 14 rfl rfl)
theorem dX7_steps_17 : decode cX7_steps 17 = .ok (.if_icmp .lt 9, 3) := dk_161 0 9 (dk_at dksX7_steps_0 17 rfl rfl)
theorem dX7_steps_20 : decode cX7_steps 20 = .ok (.iinc 2 1, 3) := dk_132 2 1 (dk_at dksX7_steps_0 20 rfl rfl)
theorem dX7_steps_23 : decode cX7_steps 23 = .ok (.goto (-21), 3) := dk_167 255 235 (dk_at dksX7_steps_1 0 rfl rfl)
theorem dX7_steps_26 : decode cX7_steps 26 = .ok (.iload_n 2, 1) := dk_28 (dk_at dksX7_steps_1 3 rfl rfl)
theorem dX7_steps_27 : decode cX7_steps 27 = .ok (.ireturn, 1) := dk_172 (dk_at dksX7_steps_1 4 rfl rfl)
abbrev cX7_next : ByteArray := prog_8_method_10_code
def yX7_next : MethodName := ⟨RX7, "next", "(I)LBackLogic$Gate;"⟩
def dkwX7_next_2 : List UInt8 := [28, 182, 0, 89, 192, 0, 62, 176]
abbrev dktX7_next_2 : List UInt8 := dkwX7_next_2 ++ []
def dkwX7_next_1 : List UInt8 := [167, 255, 234, 42, 180, 0, 33, 3, 42, 180, 0, 29, 3, 42, 180, 0, 52, 184, 0, 105, 42, 180, 0, 39]
abbrev dktX7_next_1 : List UInt8 := dkwX7_next_1 ++ dktX7_next_2
def dkwX7_next_0 : List UInt8 := [3, 61, 42, 42, 180, 0, 39, 28, 182, 0, 89, 192, 0, 62, 27, 182, 0, 135, 154, 0, 9, 132, 2, 1]
abbrev dktX7_next_0 : List UInt8 := dkwX7_next_0 ++ dktX7_next_1
theorem dksX7_next_0 : cX7_next.data.toList.drop 0 = dktX7_next_0 := by decide +kernel
theorem dksX7_next_1 : cX7_next.data.toList.drop 24 = dktX7_next_1 := dk_seg dksX7_next_0 24 rfl rfl
theorem dksX7_next_2 : cX7_next.data.toList.drop 48 = dktX7_next_2 := dk_seg dksX7_next_1 24 rfl rfl
theorem dX7_next_0 : decode cX7_next 0 = .ok (.iconst 0, 1) := dk_3 (dk_at dksX7_next_0 0 rfl rfl)
theorem dX7_next_1 : decode cX7_next 1 = .ok (.istore_n 2, 1) := dk_61 (dk_at dksX7_next_0 1 rfl rfl)
theorem dX7_next_2 : decode cX7_next 2 = .ok (.aload_n 0, 1) := dk_42 (dk_at dksX7_next_0 2 rfl rfl)
theorem dX7_next_3 : decode cX7_next 3 = .ok (.aload_n 0, 1) := dk_42 (dk_at dksX7_next_0 3 rfl rfl)
theorem dX7_next_4 : decode cX7_next 4 = .ok (.getfield 39, 3) := dk_180 0 39 (dk_at dksX7_next_0 4 rfl rfl)
theorem dX7_next_7 : decode cX7_next 7 = .ok (.iload_n 2, 1) := dk_28 (dk_at dksX7_next_0 7 rfl rfl)
theorem dX7_next_8 : decode cX7_next 8 = .ok (.invokevirtual 89, 3) := dk_182 0 89 (dk_at dksX7_next_0 8 rfl rfl)
theorem dX7_next_11 : decode cX7_next 11 = .ok (.checkcast 62, 3) := dk_192 0 62 (dk_at dksX7_next_0 11 rfl rfl)
theorem dX7_next_14 : decode cX7_next 14 = .ok (.iload_n 1, 1) := dk_27 (dk_at dksX7_next_0 14 rfl rfl)
theorem dX7_next_15 : decode cX7_next 15 = .ok (.invokevirtual 135, 3) := dk_182 0 135 (dk_at dksX7_next_0 15 rfl rfl)
theorem dX7_next_18 : decode cX7_next 18 = .ok (.ifCond .ne 9, 3) := dk_154 0 9 (dk_at dksX7_next_0 18 rfl rfl)
theorem dX7_next_21 : decode cX7_next 21 = .ok (.iinc 2 1, 3) := dk_132 2 1 (dk_at dksX7_next_0 21 rfl rfl)
theorem dX7_next_24 : decode cX7_next 24 = .ok (.goto (-22), 3) := dk_167 255 234 (dk_at dksX7_next_1 0 rfl rfl)
theorem dX7_next_27 : decode cX7_next 27 = .ok (.aload_n 0, 1) := dk_42 (dk_at dksX7_next_1 3 rfl rfl)
theorem dX7_next_28 : decode cX7_next 28 = .ok (.getfield 33, 3) := dk_180 0 33 (dk_at dksX7_next_1 4 rfl rfl)
theorem dX7_next_31 : decode cX7_next 31 = .ok (.iconst 0, 1) := dk_3 (dk_at dksX7_next_1 7 rfl rfl)
theorem dX7_next_32 : decode cX7_next 32 = .ok (.aload_n 0, 1) := dk_42 (dk_at dksX7_next_1 8 rfl rfl)
theorem dX7_next_33 : decode cX7_next 33 = .ok (.getfield 29, 3) := dk_180 0 29 (dk_at dksX7_next_1 9 rfl rfl)
theorem dX7_next_36 : decode cX7_next 36 = .ok (.iconst 0, 1) := dk_3 (dk_at dksX7_next_1 12 rfl rfl)
theorem dX7_next_37 : decode cX7_next 37 = .ok (.aload_n 0, 1) := dk_42 (dk_at dksX7_next_1 13 rfl rfl)
theorem dX7_next_38 : decode cX7_next 38 = .ok (.getfield 52, 3) := dk_180 0 52 (dk_at dksX7_next_1 14 rfl rfl)
theorem dX7_next_41 : decode cX7_next 41 = .ok (.invokestatic 105, 3) := dk_184 0 105 (dk_at dksX7_next_1 17 rfl rfl)
theorem dX7_next_44 : decode cX7_next 44 = .ok (.aload_n 0, 1) := dk_42 (dk_at dksX7_next_1 20 rfl rfl)
theorem dX7_next_45 : decode cX7_next 45 = .ok (.getfield 39, 3) := dk_180 0 39 (dk_at dksX7_next_1 21 rfl rfl)
theorem dX7_next_48 : decode cX7_next 48 = .ok (.iload_n 2, 1) := dk_28 (dk_at dksX7_next_2 0 rfl rfl)
theorem dX7_next_49 : decode cX7_next 49 = .ok (.invokevirtual 89, 3) := dk_182 0 89 (dk_at dksX7_next_2 1 rfl rfl)
theorem dX7_next_52 : decode cX7_next 52 = .ok (.checkcast 62, 3) := dk_192 0 62 (dk_at dksX7_next_2 4 rfl rfl)
theorem dX7_next_55 : decode cX7_next 55 = .ok (.areturn, 1) := dk_176 (dk_at dksX7_next_2 7 rfl rfl)
abbrev cX7_isNearer : ByteArray := prog_8_method_11_code
def yX7_isNearer : MethodName := ⟨RX7, "isNearer", "(LBackLogic$Gate;I)Z"⟩
def dkwX7_isNearer_2 : List UInt8 := [3, 172]
abbrev dktX7_isNearer_2 : List UInt8 := dkwX7_isNearer_2 ++ []
def dkwX7_isNearer_1 : List UInt8 := [46, 79, 132, 3, 1, 167, 255, 229, 42, 42, 180, 0, 33, 182, 0, 126, 28, 162, 0, 7, 4, 167, 0, 4]
abbrev dktX7_isNearer_1 : List UInt8 := dkwX7_isNearer_1 ++ dktX7_isNearer_2
def dkwX7_isNearer_0 : List UInt8 := [3, 62, 29, 42, 180, 0, 52, 162, 0, 25, 42, 180, 0, 33, 29, 42, 180, 0, 29, 43, 29, 182, 0, 98]
abbrev dktX7_isNearer_0 : List UInt8 := dkwX7_isNearer_0 ++ dktX7_isNearer_1
theorem dksX7_isNearer_0 : cX7_isNearer.data.toList.drop 0 = dktX7_isNearer_0 := by decide +kernel
theorem dksX7_isNearer_1 : cX7_isNearer.data.toList.drop 24 = dktX7_isNearer_1 := dk_seg dksX7_isNearer_0 24 rfl rfl
theorem dksX7_isNearer_2 : cX7_isNearer.data.toList.drop 48 = dktX7_isNearer_2 := dk_seg dksX7_isNearer_1 24 rfl rfl
theorem dX7_isNearer_0 : decode cX7_isNearer 0 = .ok (.iconst 0, 1) := dk_3 (dk_at dksX7_isNearer_0 0 rfl rfl)
theorem dX7_isNearer_1 : decode cX7_isNearer 1 = .ok (.istore_n 3, 1) := dk_62 (dk_at dksX7_isNearer_0 1 rfl rfl)
theorem dX7_isNearer_2 : decode cX7_isNearer 2 = .ok (.iload_n 3, 1) := dk_29 (dk_at dksX7_isNearer_0 2 rfl rfl)
theorem dX7_isNearer_3 : decode cX7_isNearer 3 = .ok (.aload_n 0, 1) := dk_42 (dk_at dksX7_isNearer_0 3 rfl rfl)
theorem dX7_isNearer_4 : decode cX7_isNearer 4 = .ok (.getfield 52, 3) := dk_180 0 52 (dk_at dksX7_isNearer_0 4 rfl rfl)
theorem dX7_isNearer_7 : decode cX7_isNearer 7 = .ok (.if_icmp .ge 25, 3) := dk_162 0 25 (dk_at dksX7_isNearer_0 7 rfl rfl)
theorem dX7_isNearer_10 : decode cX7_isNearer 10 = .ok (.aload_n 0, 1) := dk_42 (dk_at dksX7_isNearer_0 10 rfl rfl)
theorem dX7_isNearer_11 : decode cX7_isNearer 11 = .ok (.getfield 33, 3) := dk_180 0 33 (dk_at dksX7_isNearer_0 11 rfl rfl)
theorem dX7_isNearer_14 : decode cX7_isNearer 14 = .ok (.iload_n 3, 1) := dk_29 (dk_at dksX7_isNearer_0 14 rfl rfl)
theorem dX7_isNearer_15 : decode cX7_isNearer 15 = .ok (.aload_n 0, 1) := dk_42 (dk_at dksX7_isNearer_0 15 rfl rfl)
theorem dX7_isNearer_16 : decode cX7_isNearer 16 = .ok (.getfield 29, 3) := dk_180 0 29 (dk_at dksX7_isNearer_0 16 rfl rfl)
theorem dX7_isNearer_19 : decode cX7_isNearer 19 = .ok (.aload_n 1, 1) := dk_43 (dk_at dksX7_isNearer_0 19 rfl rfl)
theorem dX7_isNearer_20 : decode cX7_isNearer 20 = .ok (.iload_n 3, 1) := dk_29 (dk_at dksX7_isNearer_0 20 rfl rfl)
theorem dX7_isNearer_21 : decode cX7_isNearer 21 = .ok (.invokevirtual 98, 3) := dk_182 0 98 (dk_at dksX7_isNearer_0 21 rfl rfl)
theorem dX7_isNearer_24 : decode cX7_isNearer 24 = .ok (.iaload, 1) := dk_46 (dk_at dksX7_isNearer_1 0 rfl rfl)
theorem dX7_isNearer_25 : decode cX7_isNearer 25 = .ok (.iastore, 1) := dk_79 (dk_at dksX7_isNearer_1 1 rfl rfl)
theorem dX7_isNearer_26 : decode cX7_isNearer 26 = .ok (.iinc 3 1, 3) := dk_132 3 1 (dk_at dksX7_isNearer_1 2 rfl rfl)
theorem dX7_isNearer_29 : decode cX7_isNearer 29 = .ok (.goto (-27), 3) := dk_167 255 229 (dk_at dksX7_isNearer_1 5 rfl rfl)
theorem dX7_isNearer_32 : decode cX7_isNearer 32 = .ok (.aload_n 0, 1) := dk_42 (dk_at dksX7_isNearer_1 8 rfl rfl)
theorem dX7_isNearer_33 : decode cX7_isNearer 33 = .ok (.aload_n 0, 1) := dk_42 (dk_at dksX7_isNearer_1 9 rfl rfl)
theorem dX7_isNearer_34 : decode cX7_isNearer 34 = .ok (.getfield 33, 3) := dk_180 0 33 (dk_at dksX7_isNearer_1 10 rfl rfl)
theorem dX7_isNearer_37 : decode cX7_isNearer 37 = .ok (.invokevirtual 126, 3) := dk_182 0 126 (dk_at dksX7_isNearer_1 13 rfl rfl)
theorem dX7_isNearer_40 : decode cX7_isNearer 40 = .ok (.iload_n 2, 1) := dk_28 (dk_at dksX7_isNearer_1 16 rfl rfl)
theorem dX7_isNearer_41 : decode cX7_isNearer 41 = .ok (.if_icmp .ge 7, 3) := dk_162 0 7 (dk_at dksX7_isNearer_1 17 rfl rfl)
theorem dX7_isNearer_44 : decode cX7_isNearer 44 = .ok (.iconst 1, 1) := dk_4 (dk_at dksX7_isNearer_1 20 rfl rfl)
theorem dX7_isNearer_45 : decode cX7_isNearer 45 = .ok (.goto 4, 3) := dk_167 0 4 (dk_at dksX7_isNearer_1 21 rfl rfl)
theorem dX7_isNearer_48 : decode cX7_isNearer 48 = .ok (.iconst 0, 1) := dk_3 (dk_at dksX7_isNearer_2 0 rfl rfl)
theorem dX7_isNearer_49 : decode cX7_isNearer 49 = .ok (.ireturn, 1) := dk_172 (dk_at dksX7_isNearer_2 1 rfl rfl)
theorem q152 : (Jvm.Cond.initialized "BackLogic$Shortest") ∈ lw_all := lw_g (lw_at lw_m1 23 rfl) rfl
theorem q293 : (Jvm.Cond.selects "BackLogic$Shortest" ({ cls := "java/lang/Object", name := "getClass", desc := "()Ljava/lang/Class;" } : Jvm.MethodName) ({ cls := "java/lang/Object", name := "getClass", desc := "()Ljava/lang/Class;" } : Jvm.MethodName)) ∈ lw_all := lw_g (lw_at lw_m1 164 rfl) rfl
theorem q555 : (Jvm.Cond.instantiable "BackLogic$Shortest" (9 : Nat)) ∈ lw_all := lw_g (lw_at lw_m2 186 rfl) rfl
theorem q557 : (Jvm.Cond.instanceMethod ({ cls := "BackLogic$Shortest", name := "<init>", desc := "()V" } : Jvm.MethodName)) ∈ lw_all := lw_g (lw_at lw_m2 188 rfl) rfl
theorem q558 : (Jvm.Cond.code ({ cls := "BackLogic$Shortest", name := "<init>", desc := "()V" } : Jvm.MethodName) prog_8_method_1_code (1 : Nat) (Option.none : Option Jvm.ClassFile.FieldType)) ∈ lw_all := lw_g (lw_at lw_m2 189 rfl) rfl
theorem q559 : (Jvm.Cond.methodLink "BackLogic$Shortest" (3 : Nat) ({ cls := "java/lang/Object", name := "<init>", desc := "()V" } : Jvm.MethodName)) ∈ lw_all := lw_g (lw_at lw_m2 190 rfl) rfl
theorem q560 : (Jvm.Cond.methodLink "BackLogic$Shortest" (9 : Nat) ({ cls := "BackLogic$Shortest", name := "some", desc := "()[Ljava/util/BitSet;" } : Jvm.MethodName)) ∈ lw_all := lw_g (lw_at lw_m2 191 rfl) rfl
theorem q561 : (Jvm.Cond.static ({ cls := "BackLogic$Shortest", name := "some", desc := "()[Ljava/util/BitSet;" } : Jvm.MethodName)) ∈ lw_all := lw_g (lw_at lw_m2 192 rfl) rfl
theorem q562 : (Jvm.Cond.code ({ cls := "BackLogic$Shortest", name := "some", desc := "()[Ljava/util/BitSet;" } : Jvm.MethodName) prog_8_method_2_code (2 : Nat) (Option.some (Jvm.ClassFile.FieldType.array (Jvm.ClassFile.FieldType.object "java/util/BitSet")))) ∈ lw_all := lw_g (lw_at lw_m2 193 rfl) rfl
theorem q563 : (Jvm.Cond.classLink "BackLogic$Shortest" (42 : Nat) "java/util/BitSet") ∈ lw_all := lw_g (lw_at lw_m2 194 rfl) rfl
theorem q566 : (Jvm.Cond.constant "BackLogic$Shortest" (44 : Nat) (40320 : Int32)) ∈ lw_all := lw_g (lw_at lw_m2 197 rfl) rfl
theorem q567 : (Jvm.Cond.methodLink "BackLogic$Shortest" (45 : Nat) ({ cls := "java/util/BitSet", name := "<init>", desc := "(I)V" } : Jvm.MethodName)) ∈ lw_all := lw_g (lw_at lw_m2 198 rfl) rfl
theorem q589 : (Jvm.Cond.classLink "BackLogic$Shortest" (19 : Nat) "java/util/ArrayList") ∈ lw_all := lw_g (lw_at lw_m2 220 rfl) rfl
theorem q590 : (Jvm.Cond.methodLink "BackLogic$Shortest" (21 : Nat) ({ cls := "java/util/ArrayList", name := "<init>", desc := "()V" } : Jvm.MethodName)) ∈ lw_all := lw_g (lw_at lw_m2 221 rfl) rfl
theorem q591 : (Jvm.Cond.fieldLink "BackLogic$Shortest" (15 : Nat) "BackLogic$Shortest" "reached" "[Ljava/util/BitSet;") ∈ lw_all := lw_g (lw_at lw_m2 222 rfl) rfl
theorem q592 : (Jvm.Cond.fieldLink "BackLogic$Shortest" (22 : Nat) "BackLogic$Shortest" "last" "Ljava/util/ArrayList;") ∈ lw_all := lw_g (lw_at lw_m2 223 rfl) rfl
theorem q593 : (Jvm.Cond.fieldLink "BackLogic$Shortest" (26 : Nat) "BackLogic$Shortest" "marks" "Ljava/util/ArrayList;") ∈ lw_all := lw_g (lw_at lw_m2 224 rfl) rfl
theorem q594 : (Jvm.Cond.fieldLink "BackLogic$Shortest" (29 : Nat) "BackLogic$Shortest" "one" "[I") ∈ lw_all := lw_g (lw_at lw_m2 225 rfl) rfl
theorem q595 : (Jvm.Cond.fieldLink "BackLogic$Shortest" (33 : Nat) "BackLogic$Shortest" "trial" "[I") ∈ lw_all := lw_g (lw_at lw_m2 226 rfl) rfl
theorem q596 : (Jvm.Cond.fieldLink "BackLogic$Shortest" (36 : Nat) "BackLogic$Shortest" "next" "[I") ∈ lw_all := lw_g (lw_at lw_m2 227 rfl) rfl
theorem q597 : (Jvm.Cond.fieldLink "BackLogic$Shortest" (48 : Nat) "BackLogic$Shortest" "wires" "I") ∈ lw_all := lw_g (lw_at lw_m2 228 rfl) rfl
theorem q598 : (Jvm.Cond.fieldLink "BackLogic$Shortest" (52 : Nat) "BackLogic$Shortest" "rows" "I") ∈ lw_all := lw_g (lw_at lw_m2 229 rfl) rfl
theorem q599 : (Jvm.Cond.fieldLink "BackLogic$Shortest" (39 : Nat) "BackLogic$Shortest" "gates" "Ljava/util/ArrayList;") ∈ lw_all := lw_g (lw_at lw_m2 230 rfl) rfl
theorem q600 : (Jvm.Cond.laysFinal "BackLogic$Shortest" "BackLogic$Shortest" "reached" "[Ljava/util/BitSet;") ∈ lw_all := lw_g (lw_at lw_m2 231 rfl) rfl
theorem q601 : (Jvm.Cond.soleField "BackLogic$Shortest" "reached") ∈ lw_all := lw_g (lw_at lw_m2 232 rfl) rfl
theorem q602 : (Jvm.Cond.laysFinal "BackLogic$Shortest" "BackLogic$Shortest" "last" "Ljava/util/ArrayList;") ∈ lw_all := lw_g (lw_at lw_m2 233 rfl) rfl
theorem q603 : (Jvm.Cond.soleField "BackLogic$Shortest" "last") ∈ lw_all := lw_g (lw_at lw_m2 234 rfl) rfl
theorem q604 : (Jvm.Cond.laysFinal "BackLogic$Shortest" "BackLogic$Shortest" "marks" "Ljava/util/ArrayList;") ∈ lw_all := lw_g (lw_at lw_m2 235 rfl) rfl
theorem q605 : (Jvm.Cond.soleField "BackLogic$Shortest" "marks") ∈ lw_all := lw_g (lw_at lw_m2 236 rfl) rfl
theorem q606 : (Jvm.Cond.laysFinal "BackLogic$Shortest" "BackLogic$Shortest" "one" "[I") ∈ lw_all := lw_g (lw_at lw_m2 237 rfl) rfl
theorem q607 : (Jvm.Cond.soleField "BackLogic$Shortest" "one") ∈ lw_all := lw_g (lw_at lw_m2 238 rfl) rfl
theorem q608 : (Jvm.Cond.laysFinal "BackLogic$Shortest" "BackLogic$Shortest" "trial" "[I") ∈ lw_all := lw_g (lw_at lw_m2 239 rfl) rfl
theorem q609 : (Jvm.Cond.soleField "BackLogic$Shortest" "trial") ∈ lw_all := lw_g (lw_at lw_m3 0 rfl) rfl
theorem q610 : (Jvm.Cond.laysFinal "BackLogic$Shortest" "BackLogic$Shortest" "next" "[I") ∈ lw_all := lw_g (lw_at lw_m3 1 rfl) rfl
theorem q611 : (Jvm.Cond.soleField "BackLogic$Shortest" "next") ∈ lw_all := lw_g (lw_at lw_m3 2 rfl) rfl
theorem q612 : (Jvm.Cond.lays "BackLogic$Shortest" "BackLogic$Shortest" "wires" "I") ∈ lw_all := lw_g (lw_at lw_m3 3 rfl) rfl
theorem q613 : (Jvm.Cond.soleField "BackLogic$Shortest" "wires") ∈ lw_all := lw_g (lw_at lw_m3 4 rfl) rfl
theorem q614 : (Jvm.Cond.lays "BackLogic$Shortest" "BackLogic$Shortest" "rows" "I") ∈ lw_all := lw_g (lw_at lw_m3 5 rfl) rfl
theorem q615 : (Jvm.Cond.soleField "BackLogic$Shortest" "rows") ∈ lw_all := lw_g (lw_at lw_m3 6 rfl) rfl
theorem q616 : (Jvm.Cond.laysFinal "BackLogic$Shortest" "BackLogic$Shortest" "gates" "Ljava/util/ArrayList;") ∈ lw_all := lw_g (lw_at lw_m3 7 rfl) rfl
theorem q617 : (Jvm.Cond.soleField "BackLogic$Shortest" "gates") ∈ lw_all := lw_g (lw_at lw_m3 8 rfl) rfl
theorem q618 : (Jvm.Cond.superclass "BackLogic$Shortest" "java/lang/Object") ∈ lw_all := lw_g (lw_at lw_m3 9 rfl) rfl
theorem q1718 : (Jvm.Cond.instanceMethod ({ cls := "BackLogic$Shortest", name := "lays", desc := "(I)V" } : Jvm.MethodName)) ∈ lw_all := lw_g (lw_at lw_m7 149 rfl) rfl
theorem q1719 : (Jvm.Cond.selects "BackLogic$Shortest" ({ cls := "BackLogic$Shortest", name := "lays", desc := "(I)V" } : Jvm.MethodName) ({ cls := "BackLogic$Shortest", name := "lays", desc := "(I)V" } : Jvm.MethodName)) ∈ lw_all := lw_g (lw_at lw_m7 150 rfl) rfl
theorem q1720 : (Jvm.Cond.code ({ cls := "BackLogic$Shortest", name := "lays", desc := "(I)V" } : Jvm.MethodName) prog_8_method_3_code (7 : Nat) (Option.none : Option Jvm.ClassFile.FieldType)) ∈ lw_all := lw_g (lw_at lw_m7 151 rfl) rfl
theorem q1721 : (Jvm.Cond.methodLink "BackLogic$Shortest" (55 : Nat) ({ cls := "java/util/ArrayList", name := "clear", desc := "()V" } : Jvm.MethodName)) ∈ lw_all := lw_g (lw_at lw_m7 152 rfl) rfl
theorem q1722 : (Jvm.Cond.methodLinkNest "BackLogic$Shortest" (58 : Nat) ({ cls := "BackLogic", name := "has", desc := "(II)Z" } : Jvm.MethodName) "BackLogic") ∈ lw_tbl := lw_at lw_m7 153 rfl
theorem q1723 : (Jvm.Cond.classLink "BackLogic$Shortest" (62 : Nat) "BackLogic$Gate") ∈ lw_all := lw_g (lw_at lw_m7 154 rfl) rfl
theorem q1724 : (Jvm.Cond.methodLink "BackLogic$Shortest" (64 : Nat) ({ cls := "BackLogic$Gate", name := "<init>", desc := "(III)V" } : Jvm.MethodName)) ∈ lw_all := lw_g (lw_at lw_m7 155 rfl) rfl
theorem q1725 : (Jvm.Cond.methodLink "BackLogic$Shortest" (67 : Nat) ({ cls := "java/util/ArrayList", name := "add", desc := "(Ljava/lang/Object;)Z" } : Jvm.MethodName)) ∈ lw_all := lw_g (lw_at lw_m7 156 rfl) rfl
theorem q1726 : (Jvm.Cond.methodLink "BackLogic$Shortest" (71 : Nat) ({ cls := "java/util/BitSet", name := "clear", desc := "()V" } : Jvm.MethodName)) ∈ lw_all := lw_g (lw_at lw_m7 157 rfl) rfl
theorem q1730 : (Jvm.Cond.methodLink "BackLogic$Shortest" (72 : Nat) ({ cls := "BackLogic$Shortest", name := "number", desc := "([I)I" } : Jvm.MethodName)) ∈ lw_all := lw_g (lw_at lw_m7 161 rfl) rfl
theorem q1731 : (Jvm.Cond.privateMethod ({ cls := "BackLogic$Shortest", name := "number", desc := "([I)I" } : Jvm.MethodName)) ∈ lw_tbl := lw_at lw_m7 162 rfl
theorem q1732 : (Jvm.Cond.instanceMethod ({ cls := "BackLogic$Shortest", name := "number", desc := "([I)I" } : Jvm.MethodName)) ∈ lw_all := lw_g (lw_at lw_m7 163 rfl) rfl
theorem q1733 : (Jvm.Cond.code ({ cls := "BackLogic$Shortest", name := "number", desc := "([I)I" } : Jvm.MethodName) prog_8_method_6_code (5 : Nat) (Option.some Jvm.ClassFile.FieldType.int)) ∈ lw_all := lw_g (lw_at lw_m7 164 rfl) rfl
theorem q1734 : (Jvm.Cond.methodLinkNest "BackLogic$Shortest" (114 : Nat) ({ cls := "BackLogic", name := "many", desc := "(I)I" } : Jvm.MethodName) "BackLogic") ∈ lw_tbl := lw_at lw_m7 165 rfl
theorem q1735 : (Jvm.Cond.methodLink "BackLogic$Shortest" (76 : Nat) ({ cls := "java/util/BitSet", name := "set", desc := "(I)V" } : Jvm.MethodName)) ∈ lw_all := lw_g (lw_at lw_m7 166 rfl) rfl
theorem q1762 : (Jvm.Cond.methodLink "BackLogic$Shortest" (79 : Nat) ({ cls := "java/util/ArrayList", name := "size", desc := "()I" } : Jvm.MethodName)) ∈ lw_all := lw_g (lw_at lw_m7 193 rfl) rfl
theorem q1763 : (Jvm.Cond.methodLink "BackLogic$Shortest" (83 : Nat) ({ cls := "java/lang/Integer", name := "valueOf", desc := "(I)Ljava/lang/Integer;" } : Jvm.MethodName)) ∈ lw_all := lw_g (lw_at lw_m7 194 rfl) rfl
theorem q1783 : (Jvm.Cond.methodLink "BackLogic$Shortest" (89 : Nat) ({ cls := "java/util/ArrayList", name := "get", desc := "(I)Ljava/lang/Object;" } : Jvm.MethodName)) ∈ lw_all := lw_g (lw_at lw_m7 214 rfl) rfl
theorem q1784 : (Jvm.Cond.classLink "BackLogic$Shortest" (93 : Nat) "[I") ∈ lw_all := lw_g (lw_at lw_m7 215 rfl) rfl
theorem q1785 : (Jvm.Cond.methodLink "BackLogic$Shortest" (94 : Nat) ({ cls := "BackLogic$Shortest", name := "grows", desc := "([II)V" } : Jvm.MethodName)) ∈ lw_all := lw_g (lw_at lw_m7 216 rfl) rfl
theorem q1786 : (Jvm.Cond.privateMethod ({ cls := "BackLogic$Shortest", name := "grows", desc := "([II)V" } : Jvm.MethodName)) ∈ lw_tbl := lw_at lw_m7 217 rfl
theorem q1787 : (Jvm.Cond.instanceMethod ({ cls := "BackLogic$Shortest", name := "grows", desc := "([II)V" } : Jvm.MethodName)) ∈ lw_all := lw_g (lw_at lw_m7 218 rfl) rfl
theorem q1788 : (Jvm.Cond.code ({ cls := "BackLogic$Shortest", name := "grows", desc := "([II)V" } : Jvm.MethodName) prog_8_method_4_code (5 : Nat) (Option.none : Option Jvm.ClassFile.FieldType)) ∈ lw_all := lw_g (lw_at lw_m7 219 rfl) rfl
theorem q1789 : (Jvm.Cond.methodLink "BackLogic$Shortest" (98 : Nat) ({ cls := "BackLogic$Gate", name := "made", desc := "(I)I" } : Jvm.MethodName)) ∈ lw_all := lw_g (lw_at lw_m7 220 rfl) rfl
theorem q1790 : (Jvm.Cond.methodLink "BackLogic$Shortest" (102 : Nat) ({ cls := "BackLogic$Shortest", name := "within", desc := "([I)I" } : Jvm.MethodName)) ∈ lw_all := lw_g (lw_at lw_m7 221 rfl) rfl
theorem q1791 : (Jvm.Cond.privateMethod ({ cls := "BackLogic$Shortest", name := "within", desc := "([I)I" } : Jvm.MethodName)) ∈ lw_tbl := lw_at lw_m7 222 rfl
theorem q1792 : (Jvm.Cond.instanceMethod ({ cls := "BackLogic$Shortest", name := "within", desc := "([I)I" } : Jvm.MethodName)) ∈ lw_all := lw_g (lw_at lw_m7 223 rfl) rfl
theorem q1793 : (Jvm.Cond.code ({ cls := "BackLogic$Shortest", name := "within", desc := "([I)I" } : Jvm.MethodName) prog_8_method_5_code (4 : Nat) (Option.some Jvm.ClassFile.FieldType.int)) ∈ lw_all := lw_g (lw_at lw_m7 224 rfl) rfl
theorem q1794 : (Jvm.Cond.methodLink "BackLogic$Shortest" (111 : Nat) ({ cls := "java/util/BitSet", name := "get", desc := "(I)Z" } : Jvm.MethodName)) ∈ lw_all := lw_g (lw_at lw_m7 225 rfl) rfl
theorem q1798 : (Jvm.Cond.methodLink "BackLogic$Shortest" (105 : Nat) ({ cls := "java/lang/System", name := "arraycopy", desc := "(Ljava/lang/Object;ILjava/lang/Object;II)V" } : Jvm.MethodName)) ∈ lw_all := lw_g (lw_at lw_m7 229 rfl) rfl
theorem q1800 : (Jvm.Cond.instanceMethod ({ cls := "BackLogic$Shortest", name := "first", desc := "([I)Ljava/util/LinkedList;" } : Jvm.MethodName)) ∈ lw_all := lw_g (lw_at lw_m7 231 rfl) rfl
theorem q1801 : (Jvm.Cond.selects "BackLogic$Shortest" ({ cls := "BackLogic$Shortest", name := "first", desc := "([I)Ljava/util/LinkedList;" } : Jvm.MethodName) ({ cls := "BackLogic$Shortest", name := "first", desc := "([I)Ljava/util/LinkedList;" } : Jvm.MethodName)) ∈ lw_all := lw_g (lw_at lw_m7 232 rfl) rfl
theorem q1802 : (Jvm.Cond.code ({ cls := "BackLogic$Shortest", name := "first", desc := "([I)Ljava/util/LinkedList;" } : Jvm.MethodName) prog_8_method_9_code (4 : Nat) (Option.some (Jvm.ClassFile.FieldType.object "java/util/LinkedList"))) ∈ lw_all := lw_g (lw_at lw_m7 233 rfl) rfl
theorem q1803 : (Jvm.Cond.classLink "BackLogic$Shortest" (123 : Nat) "java/util/LinkedList") ∈ lw_all := lw_g (lw_at lw_m7 234 rfl) rfl
theorem q1804 : (Jvm.Cond.methodLink "BackLogic$Shortest" (125 : Nat) ({ cls := "java/util/LinkedList", name := "<init>", desc := "()V" } : Jvm.MethodName)) ∈ lw_all := lw_g (lw_at lw_m7 235 rfl) rfl
theorem q1805 : (Jvm.Cond.methodLink "BackLogic$Shortest" (126 : Nat) ({ cls := "BackLogic$Shortest", name := "many", desc := "([I)I" } : Jvm.MethodName)) ∈ lw_all := lw_g (lw_at lw_m7 236 rfl) rfl
theorem q1806 : (Jvm.Cond.instanceMethod ({ cls := "BackLogic$Shortest", name := "many", desc := "([I)I" } : Jvm.MethodName)) ∈ lw_all := lw_g (lw_at lw_m7 237 rfl) rfl
theorem q1807 : (Jvm.Cond.selects "BackLogic$Shortest" ({ cls := "BackLogic$Shortest", name := "many", desc := "([I)I" } : Jvm.MethodName) ({ cls := "BackLogic$Shortest", name := "many", desc := "([I)I" } : Jvm.MethodName)) ∈ lw_all := lw_g (lw_at lw_m7 238 rfl) rfl
theorem q1808 : (Jvm.Cond.code ({ cls := "BackLogic$Shortest", name := "many", desc := "([I)I" } : Jvm.MethodName) prog_8_method_7_code (6 : Nat) (Option.some Jvm.ClassFile.FieldType.int)) ∈ lw_all := lw_g (lw_at lw_m7 239 rfl) rfl
theorem q1809 : (Jvm.Cond.methodLink "BackLogic$Shortest" (117 : Nat) ({ cls := "BackLogic$Shortest", name := "steps", desc := "(I)I" } : Jvm.MethodName)) ∈ lw_all := lw_g (lw_at lw_m8 0 rfl) rfl
theorem q1810 : (Jvm.Cond.privateMethod ({ cls := "BackLogic$Shortest", name := "steps", desc := "(I)I" } : Jvm.MethodName)) ∈ lw_tbl := lw_at lw_m8 1 rfl
theorem q1811 : (Jvm.Cond.instanceMethod ({ cls := "BackLogic$Shortest", name := "steps", desc := "(I)I" } : Jvm.MethodName)) ∈ lw_all := lw_g (lw_at lw_m8 2 rfl) rfl
theorem q1812 : (Jvm.Cond.code ({ cls := "BackLogic$Shortest", name := "steps", desc := "(I)I" } : Jvm.MethodName) prog_8_method_8_code (3 : Nat) (Option.some Jvm.ClassFile.FieldType.int)) ∈ lw_all := lw_g (lw_at lw_m8 3 rfl) rfl
theorem q1813 : (Jvm.Cond.classLink "BackLogic$Shortest" (84 : Nat) "java/lang/Integer") ∈ lw_all := lw_g (lw_at lw_m8 4 rfl) rfl
theorem q1814 : (Jvm.Cond.methodLink "BackLogic$Shortest" (120 : Nat) ({ cls := "java/lang/Integer", name := "intValue", desc := "()I" } : Jvm.MethodName)) ∈ lw_all := lw_g (lw_at lw_m8 5 rfl) rfl
theorem q1818 : (Jvm.Cond.methodLink "BackLogic$Shortest" (128 : Nat) ({ cls := "BackLogic$Shortest", name := "next", desc := "(I)LBackLogic$Gate;" } : Jvm.MethodName)) ∈ lw_all := lw_g (lw_at lw_m8 9 rfl) rfl
theorem q1819 : (Jvm.Cond.privateMethod ({ cls := "BackLogic$Shortest", name := "next", desc := "(I)LBackLogic$Gate;" } : Jvm.MethodName)) ∈ lw_tbl := lw_at lw_m8 10 rfl
theorem q1820 : (Jvm.Cond.instanceMethod ({ cls := "BackLogic$Shortest", name := "next", desc := "(I)LBackLogic$Gate;" } : Jvm.MethodName)) ∈ lw_all := lw_g (lw_at lw_m8 11 rfl) rfl
theorem q1821 : (Jvm.Cond.code ({ cls := "BackLogic$Shortest", name := "next", desc := "(I)LBackLogic$Gate;" } : Jvm.MethodName) prog_8_method_10_code (3 : Nat) (Option.some (Jvm.ClassFile.FieldType.object "BackLogic$Gate"))) ∈ lw_all := lw_g (lw_at lw_m8 12 rfl) rfl
theorem q1822 : (Jvm.Cond.methodLink "BackLogic$Shortest" (135 : Nat) ({ cls := "BackLogic$Shortest", name := "isNearer", desc := "(LBackLogic$Gate;I)Z" } : Jvm.MethodName)) ∈ lw_all := lw_g (lw_at lw_m8 13 rfl) rfl
theorem q1823 : (Jvm.Cond.privateMethod ({ cls := "BackLogic$Shortest", name := "isNearer", desc := "(LBackLogic$Gate;I)Z" } : Jvm.MethodName)) ∈ lw_tbl := lw_at lw_m8 14 rfl
theorem q1824 : (Jvm.Cond.instanceMethod ({ cls := "BackLogic$Shortest", name := "isNearer", desc := "(LBackLogic$Gate;I)Z" } : Jvm.MethodName)) ∈ lw_all := lw_g (lw_at lw_m8 15 rfl) rfl
theorem q1825 : (Jvm.Cond.code ({ cls := "BackLogic$Shortest", name := "isNearer", desc := "(LBackLogic$Gate;I)Z" } : Jvm.MethodName) prog_8_method_11_code (4 : Nat) (Option.some Jvm.ClassFile.FieldType.boolean)) ∈ lw_all := lw_g (lw_at lw_m8 16 rfl) rfl
theorem q1826 : (Jvm.Cond.methodLink "BackLogic$Shortest" (131 : Nat) ({ cls := "java/util/LinkedList", name := "addLast", desc := "(Ljava/lang/Object;)V" } : Jvm.MethodName)) ∈ lw_all := lw_g (lw_at lw_m8 17 rfl) rfl
theorem q2693 : (Jvm.Cond.castable "BackLogic$Shortest" "java/lang/Object") ∈ lw_tbl := lw_at lw_m11 164 rfl
theorem in_X7 : ∀ w ∈ wsX70, w ∈ lw_all := lw_in wsX70 [600, 602, 604, 606, 608, 610, 612, 614, 616] (by decide +kernel) (by decide +kernel)
/-! BackLogic$Tests -/
set_option maxRecDepth 100000
def RX8 : String := "BackLogic$Tests"
def TX8 : u_T := fun k => match k with
  | 0 => ("BackLogic$Tests", "sees", "[I", true)
  | 1 => ("BackLogic$Tests", "chosen", "[I", true)
  | 2 => ("BackLogic$Tests", "rows", "I", false)
  | 3 => ("BackLogic$Tests", "all", "I", false)
  | _ => ("BackLogic$Tests", "many", "I", false)
def tyX8 : Nat → FieldType := fun k => match k with
  | 0 => .array .int
  | 1 => .array .int
  | 2 => .int
  | 3 => .int
  | _ => .int
abbrev wsX80 : List Cond := u_ws RX8 TX8 5
theorem nmX8 : ∀ a, a < 5 → ∀ b, b < 5 → a ≠ b → (TX8 a).2.1 ≠ (TX8 b).2.1 := by decide +kernel
theorem tyX8_ok : ∀ k, k < 5 → parseFieldDescriptor (TX8 k).2.2.1 = some (tyX8 k) := by decide +kernel
abbrev cX8_init : ByteArray := prog_10_method_1_code
def yX8_init : MethodName := ⟨RX8, "<init>", "()V"⟩
def dkwX8_init_0 : List UInt8 := [42, 183, 0, 3, 42, 16, 16, 188, 10, 181, 0, 9, 42, 16, 8, 188, 10, 181, 0, 15, 177]
abbrev dktX8_init_0 : List UInt8 := dkwX8_init_0 ++ []
theorem dksX8_init_0 : cX8_init.data.toList.drop 0 = dktX8_init_0 := by decide +kernel
theorem dX8_init_0 : decode cX8_init 0 = .ok (.aload_n 0, 1) := dk_42 (dk_at dksX8_init_0 0 rfl rfl)
theorem dX8_init_1 : decode cX8_init 1 = .ok (.invokespecial 3, 3) := dk_183 0 3 (dk_at dksX8_init_0 1 rfl rfl)
theorem dX8_init_4 : decode cX8_init 4 = .ok (.aload_n 0, 1) := dk_42 (dk_at dksX8_init_0 4 rfl rfl)
theorem dX8_init_5 : decode cX8_init 5 = .ok (.bipush 16, 2) := dk_16 16 (dk_at dksX8_init_0 5 rfl rfl)
theorem dX8_init_7 : decode cX8_init 7 = .ok (.newarray .int, 2) := dk_188_10 (dk_at dksX8_init_0 7 rfl rfl)
theorem dX8_init_9 : decode cX8_init 9 = .ok (.putfield 9, 3) := dk_181 0 9 (dk_at dksX8_init_0 9 rfl rfl)
theorem dX8_init_12 : decode cX8_init 12 = .ok (.aload_n 0, 1) := dk_42 (dk_at dksX8_init_0 12 rfl rfl)
theorem dX8_init_13 : decode cX8_init 13 = .ok (.bipush 8, 2) := dk_16 8 (dk_at dksX8_init_0 13 rfl rfl)
theorem dX8_init_15 : decode cX8_init 15 = .ok (.newarray .int, 2) := dk_188_10 (dk_at dksX8_init_0 15 rfl rfl)
theorem dX8_init_17 : decode cX8_init 17 = .ok (.putfield 15, 3) := dk_181 0 15 (dk_at dksX8_init_0 17 rfl rfl)
theorem dX8_init_20 : decode cX8_init 20 = .ok (.return_, 1) := dk_177 (dk_at dksX8_init_0 20 rfl rfl)
abbrev cX8_begins : ByteArray := prog_10_method_2_code
def yX8_begins : MethodName := ⟨RX8, "begins", "(I)V"⟩
def dkwX8_begins_0 : List UInt8 := [42, 27, 181, 0, 18, 42, 3, 181, 0, 22, 177]
abbrev dktX8_begins_0 : List UInt8 := dkwX8_begins_0 ++ []
theorem dksX8_begins_0 : cX8_begins.data.toList.drop 0 = dktX8_begins_0 := by decide +kernel
theorem dX8_begins_0 : decode cX8_begins 0 = .ok (.aload_n 0, 1) := dk_42 (dk_at dksX8_begins_0 0 rfl rfl)
theorem dX8_begins_1 : decode cX8_begins 1 = .ok (.iload_n 1, 1) := dk_27 (dk_at dksX8_begins_0 1 rfl rfl)
theorem dX8_begins_2 : decode cX8_begins 2 = .ok (.putfield 18, 3) := dk_181 0 18 (dk_at dksX8_begins_0 2 rfl rfl)
theorem dX8_begins_5 : decode cX8_begins 5 = .ok (.aload_n 0, 1) := dk_42 (dk_at dksX8_begins_0 5 rfl rfl)
theorem dX8_begins_6 : decode cX8_begins 6 = .ok (.iconst 0, 1) := dk_3 (dk_at dksX8_begins_0 6 rfl rfl)
theorem dX8_begins_7 : decode cX8_begins 7 = .ok (.putfield 22, 3) := dk_181 0 22 (dk_at dksX8_begins_0 7 rfl rfl)
theorem dX8_begins_10 : decode cX8_begins 10 = .ok (.return_, 1) := dk_177 (dk_at dksX8_begins_0 10 rfl rfl)
abbrev cX8_adds : ByteArray := prog_10_method_3_code
def yX8_adds : MethodName := ⟨RX8, "adds", "(II)V"⟩
def dkwX8_adds_0 : List UInt8 := [42, 180, 0, 9, 27, 28, 79, 42, 89, 180, 0, 22, 28, 128, 181, 0, 22, 177]
abbrev dktX8_adds_0 : List UInt8 := dkwX8_adds_0 ++ []
theorem dksX8_adds_0 : cX8_adds.data.toList.drop 0 = dktX8_adds_0 := by decide +kernel
theorem dX8_adds_0 : decode cX8_adds 0 = .ok (.aload_n 0, 1) := dk_42 (dk_at dksX8_adds_0 0 rfl rfl)
theorem dX8_adds_1 : decode cX8_adds 1 = .ok (.getfield 9, 3) := dk_180 0 9 (dk_at dksX8_adds_0 1 rfl rfl)
theorem dX8_adds_4 : decode cX8_adds 4 = .ok (.iload_n 1, 1) := dk_27 (dk_at dksX8_adds_0 4 rfl rfl)
theorem dX8_adds_5 : decode cX8_adds 5 = .ok (.iload_n 2, 1) := dk_28 (dk_at dksX8_adds_0 5 rfl rfl)
theorem dX8_adds_6 : decode cX8_adds 6 = .ok (.iastore, 1) := dk_79 (dk_at dksX8_adds_0 6 rfl rfl)
theorem dX8_adds_7 : decode cX8_adds 7 = .ok (.aload_n 0, 1) := dk_42 (dk_at dksX8_adds_0 7 rfl rfl)
theorem dX8_adds_8 : decode cX8_adds 8 = .ok (.dup, 1) := dk_89 (dk_at dksX8_adds_0 8 rfl rfl)
theorem dX8_adds_9 : decode cX8_adds 9 = .ok (.getfield 22, 3) := dk_180 0 22 (dk_at dksX8_adds_0 9 rfl rfl)
theorem dX8_adds_12 : decode cX8_adds 12 = .ok (.iload_n 2, 1) := dk_28 (dk_at dksX8_adds_0 12 rfl rfl)
theorem dX8_adds_13 : decode cX8_adds 13 = .ok (.ior, 1) := dk_128 (dk_at dksX8_adds_0 13 rfl rfl)
theorem dX8_adds_14 : decode cX8_adds 14 = .ok (.putfield 22, 3) := dk_181 0 22 (dk_at dksX8_adds_0 14 rfl rfl)
theorem dX8_adds_17 : decode cX8_adds 17 = .ok (.return_, 1) := dk_177 (dk_at dksX8_adds_0 17 rfl rfl)
abbrev cX8_lays : ByteArray := prog_10_method_4_code
def yX8_lays : MethodName := ⟨RX8, "lays", "()I"⟩
def dkwX8_lays_1 : List UInt8 := [181, 0, 25, 167, 255, 236, 42, 180, 0, 25, 172]
abbrev dktX8_lays_1 : List UInt8 := dkwX8_lays_1 ++ []
def dkwX8_lays_0 : List UInt8 := [42, 3, 181, 0, 25, 42, 3, 3, 3, 182, 0, 28, 154, 0, 16, 42, 89, 180, 0, 25, 4, 96]
abbrev dktX8_lays_0 : List UInt8 := dkwX8_lays_0 ++ dktX8_lays_1
theorem dksX8_lays_0 : cX8_lays.data.toList.drop 0 = dktX8_lays_0 := by decide +kernel
theorem dksX8_lays_1 : cX8_lays.data.toList.drop 22 = dktX8_lays_1 := dk_seg dksX8_lays_0 22 rfl rfl
theorem dX8_lays_0 : decode cX8_lays 0 = .ok (.aload_n 0, 1) := dk_42 (dk_at dksX8_lays_0 0 rfl rfl)
theorem dX8_lays_1 : decode cX8_lays 1 = .ok (.iconst 0, 1) := dk_3 (dk_at dksX8_lays_0 1 rfl rfl)
theorem dX8_lays_2 : decode cX8_lays 2 = .ok (.putfield 25, 3) := dk_181 0 25 (dk_at dksX8_lays_0 2 rfl rfl)
theorem dX8_lays_5 : decode cX8_lays 5 = .ok (.aload_n 0, 1) := dk_42 (dk_at dksX8_lays_0 5 rfl rfl)
theorem dX8_lays_6 : decode cX8_lays 6 = .ok (.iconst 0, 1) := dk_3 (dk_at dksX8_lays_0 6 rfl rfl)
theorem dX8_lays_7 : decode cX8_lays 7 = .ok (.iconst 0, 1) := dk_3 (dk_at dksX8_lays_0 7 rfl rfl)
theorem dX8_lays_8 : decode cX8_lays 8 = .ok (.iconst 0, 1) := dk_3 (dk_at dksX8_lays_0 8 rfl rfl)
theorem dX8_lays_9 : decode cX8_lays 9 = .ok (.invokevirtual 28, 3) := dk_182 0 28 (dk_at dksX8_lays_0 9 rfl rfl)
theorem dX8_lays_12 : decode cX8_lays 12 = .ok (.ifCond .ne 16, 3) := dk_154 0 16 (dk_at dksX8_lays_0 12 rfl rfl)
theorem dX8_lays_15 : decode cX8_lays 15 = .ok (.aload_n 0, 1) := dk_42 (dk_at dksX8_lays_0 15 rfl rfl)
theorem dX8_lays_16 : decode cX8_lays 16 = .ok (.dup, 1) := dk_89 (dk_at dksX8_lays_0 16 rfl rfl)
theorem dX8_lays_17 : decode cX8_lays 17 = .ok (.getfield 25, 3) := dk_180 0 25 (dk_at dksX8_lays_0 17 rfl rfl)
theorem dX8_lays_20 : decode cX8_lays 20 = .ok (.iconst 1, 1) := dk_4 (dk_at dksX8_lays_0 20 rfl rfl)
theorem dX8_lays_21 : decode cX8_lays 21 = .ok (.iadd, 1) := dk_96 (dk_at dksX8_lays_0 21 rfl rfl)
theorem dX8_lays_22 : decode cX8_lays 22 = .ok (.putfield 25, 3) := dk_181 0 25 (dk_at dksX8_lays_1 0 rfl rfl)
theorem dX8_lays_25 : decode cX8_lays 25 = .ok (.goto (-20), 3) := dk_167 255 236 (dk_at dksX8_lays_1 3 rfl rfl)
theorem dX8_lays_28 : decode cX8_lays 28 = .ok (.aload_n 0, 1) := dk_42 (dk_at dksX8_lays_1 6 rfl rfl)
theorem dX8_lays_29 : decode cX8_lays 29 = .ok (.getfield 25, 3) := dk_180 0 25 (dk_at dksX8_lays_1 7 rfl rfl)
theorem dX8_lays_32 : decode cX8_lays 32 = .ok (.ireturn, 1) := dk_172 (dk_at dksX8_lays_1 10 rfl rfl)
abbrev cX8_goes : ByteArray := prog_10_method_5_code
def yX8_goes : MethodName := ⟨RX8, "goes", "(III)Z"⟩
def dkwX8_goes_3 : List UInt8 := [167, 255, 211, 3, 172]
abbrev dktX8_goes_3 : List UInt8 := dkwX8_goes_3 ++ []
def dkwX8_goes_2 : List UInt8 := [21, 4, 4, 96, 29, 42, 180, 0, 9, 21, 4, 46, 128, 182, 0, 28, 153, 0, 5, 4, 172, 132, 4, 1]
abbrev dktX8_goes_2 : List UInt8 := dkwX8_goes_2 ++ dktX8_goes_3
def dkwX8_goes_1 : List UInt8 := [54, 4, 21, 4, 42, 180, 0, 18, 162, 0, 42, 42, 180, 0, 15, 27, 21, 4, 79, 42, 27, 4, 96]
abbrev dktX8_goes_1 : List UInt8 := dkwX8_goes_1 ++ dktX8_goes_2
def dkwX8_goes_0 : List UInt8 := [27, 42, 180, 0, 25, 160, 0, 17, 29, 42, 180, 0, 22, 160, 0, 7, 4, 167, 0, 4, 3, 172, 28]
abbrev dktX8_goes_0 : List UInt8 := dkwX8_goes_0 ++ dktX8_goes_1
theorem dksX8_goes_0 : cX8_goes.data.toList.drop 0 = dktX8_goes_0 := by decide +kernel
theorem dksX8_goes_1 : cX8_goes.data.toList.drop 23 = dktX8_goes_1 := dk_seg dksX8_goes_0 23 rfl rfl
theorem dksX8_goes_2 : cX8_goes.data.toList.drop 46 = dktX8_goes_2 := dk_seg dksX8_goes_1 23 rfl rfl
theorem dksX8_goes_3 : cX8_goes.data.toList.drop 70 = dktX8_goes_3 := dk_seg dksX8_goes_2 24 rfl rfl
theorem dX8_goes_0 : decode cX8_goes 0 = .ok (.iload_n 1, 1) := dk_27 (dk_at dksX8_goes_0 0 rfl rfl)
theorem dX8_goes_1 : decode cX8_goes 1 = .ok (.aload_n 0, 1) := dk_42 (dk_at dksX8_goes_0 1 rfl rfl)
theorem dX8_goes_2 : decode cX8_goes 2 = .ok (.getfield 25, 3) := dk_180 0 25 (dk_at dksX8_goes_0 2 rfl rfl)
theorem dX8_goes_5 : decode cX8_goes 5 = .ok (.if_icmp .ne 17, 3) := dk_160 0 17 (dk_at dksX8_goes_0 5 rfl rfl)
theorem dX8_goes_8 : decode cX8_goes 8 = .ok (.iload_n 3, 1) := dk_29 (dk_at dksX8_goes_0 8 rfl rfl)
theorem dX8_goes_9 : decode cX8_goes 9 = .ok (.aload_n 0, 1) := dk_42 (dk_at dksX8_goes_0 9 rfl rfl)
theorem dX8_goes_10 : decode cX8_goes 10 = .ok (.getfield 22, 3) := dk_180 0 22 (dk_at dksX8_goes_0 10 rfl rfl)
theorem dX8_goes_13 : decode cX8_goes 13 = .ok (.if_icmp .ne 7, 3) := dk_160 0 7 (dk_at dksX8_goes_0 13 rfl rfl)
theorem dX8_goes_16 : decode cX8_goes 16 = .ok (.iconst 1, 1) := dk_4 (dk_at dksX8_goes_0 16 rfl rfl)
theorem dX8_goes_17 : decode cX8_goes 17 = .ok (.goto 4, 3) := dk_167 0 4 (dk_at dksX8_goes_0 17 rfl rfl)
theorem dX8_goes_20 : decode cX8_goes 20 = .ok (.iconst 0, 1) := dk_3 (dk_at dksX8_goes_0 20 rfl rfl)
theorem dX8_goes_21 : decode cX8_goes 21 = .ok (.ireturn, 1) := dk_172 (dk_at dksX8_goes_0 21 rfl rfl)
theorem dX8_goes_22 : decode cX8_goes 22 = .ok (.iload_n 2, 1) := dk_28 (dk_at dksX8_goes_0 22 rfl rfl)
theorem dX8_goes_23 : decode cX8_goes 23 = .ok (.istore 4, 2) := dk_54 4 (dk_at dksX8_goes_1 0 rfl rfl)
theorem dX8_goes_25 : decode cX8_goes 25 = .ok (.iload 4, 2) := dk_21 4 (dk_at dksX8_goes_1 2 rfl rfl)
theorem dX8_goes_27 : decode cX8_goes 27 = .ok (.aload_n 0, 1) := dk_42 (dk_at dksX8_goes_1 4 rfl rfl)
theorem dX8_goes_28 : decode cX8_goes 28 = .ok (.getfield 18, 3) := dk_180 0 18 (dk_at dksX8_goes_1 5 rfl rfl)
theorem dX8_goes_31 : decode cX8_goes 31 = .ok (.if_icmp .ge 42, 3) := dk_162 0 42 (dk_at dksX8_goes_1 8 rfl rfl)
theorem dX8_goes_34 : decode cX8_goes 34 = .ok (.aload_n 0, 1) := dk_42 (dk_at dksX8_goes_1 11 rfl rfl)
theorem dX8_goes_35 : decode cX8_goes 35 = .ok (.getfield 15, 3) := dk_180 0 15 (dk_at dksX8_goes_1 12 rfl rfl)
theorem dX8_goes_38 : decode cX8_goes 38 = .ok (.iload_n 1, 1) := dk_27 (dk_at dksX8_goes_1 15 rfl rfl)
theorem dX8_goes_39 : decode cX8_goes 39 = .ok (.iload 4, 2) := dk_21 4 (dk_at dksX8_goes_1 16 rfl rfl)
theorem dX8_goes_41 : decode cX8_goes 41 = .ok (.iastore, 1) := dk_79 (dk_at dksX8_goes_1 18 rfl rfl)
theorem dX8_goes_42 : decode cX8_goes 42 = .ok (.aload_n 0, 1) := dk_42 (dk_at dksX8_goes_1 19 rfl rfl)
theorem dX8_goes_43 : decode cX8_goes 43 = .ok (.iload_n 1, 1) := dk_27 (dk_at dksX8_goes_1 20 rfl rfl)
theorem dX8_goes_44 : decode cX8_goes 44 = .ok (.iconst 1, 1) := dk_4 (dk_at dksX8_goes_1 21 rfl rfl)
theorem dX8_goes_45 : decode cX8_goes 45 = .ok (.iadd, 1) := dk_96 (dk_at dksX8_goes_1 22 rfl rfl)
theorem dX8_goes_46 : decode cX8_goes 46 = .ok (.iload 4, 2) := dk_21 4 (dk_at dksX8_goes_2 0 rfl rfl)
theorem dX8_goes_48 : decode cX8_goes 48 = .ok (.iconst 1, 1) := dk_4 (dk_at dksX8_goes_2 2 rfl rfl)
theorem dX8_goes_49 : decode cX8_goes 49 = .ok (.iadd, 1) := dk_96 (dk_at dksX8_goes_2 3 rfl rfl)
theorem dX8_goes_50 : decode cX8_goes 50 = .ok (.iload_n 3, 1) := dk_29 (dk_at dksX8_goes_2 4 rfl rfl)
theorem dX8_goes_51 : decode cX8_goes 51 = .ok (.aload_n 0, 1) := dk_42 (dk_at dksX8_goes_2 5 rfl rfl)
theorem dX8_goes_52 : decode cX8_goes 52 = .ok (.getfield 9, 3) := dk_180 0 9 (dk_at dksX8_goes_2 6 rfl rfl)
theorem dX8_goes_55 : decode cX8_goes 55 = .ok (.iload 4, 2) := dk_21 4 (dk_at dksX8_goes_2 9 rfl rfl)
theorem dX8_goes_57 : decode cX8_goes 57 = .ok (.iaload, 1) := dk_46 (dk_at dksX8_goes_2 11 rfl rfl)
theorem dX8_goes_58 : decode cX8_goes 58 = .ok (.ior, 1) := dk_128 (dk_at dksX8_goes_2 12 rfl rfl)
theorem dX8_goes_59 : decode cX8_goes 59 = .ok (.invokevirtual 28, 3) := dk_182 0 28 (dk_at dksX8_goes_2 13 rfl rfl)
theorem dX8_goes_62 : decode cX8_goes 62 = .ok (.ifCond .eq 5, 3) := dk_153 0 5 (dk_at dksX8_goes_2 16 rfl rfl)
theorem dX8_goes_65 : decode cX8_goes 65 = .ok (.iconst 1, 1) := dk_4 (dk_at dksX8_goes_2 19 rfl rfl)
theorem dX8_goes_66 : decode cX8_goes 66 = .ok (.ireturn, 1) := dk_172 (dk_at dksX8_goes_2 20 rfl rfl)
theorem dX8_goes_67 : decode cX8_goes 67 = .ok (.iinc 4 1, 3) := dk_132 4 1 (dk_at dksX8_goes_2 21 rfl rfl)
theorem dX8_goes_70 : decode cX8_goes 70 = .ok (.goto (-45), 3) := dk_167 255 211 (dk_at dksX8_goes_3 0 rfl rfl)
theorem dX8_goes_73 : decode cX8_goes 73 = .ok (.iconst 0, 1) := dk_3 (dk_at dksX8_goes_3 3 rfl rfl)
theorem dX8_goes_74 : decode cX8_goes 74 = .ok (.ireturn, 1) := dk_172 (dk_at dksX8_goes_3 4 rfl rfl)
abbrev cX8_chosen : ByteArray := prog_10_method_6_code
def yX8_chosen : MethodName := ⟨RX8, "chosen", "(I)I"⟩
def dkwX8_chosen_0 : List UInt8 := [42, 180, 0, 15, 27, 46, 172]
abbrev dktX8_chosen_0 : List UInt8 := dkwX8_chosen_0 ++ []
theorem dksX8_chosen_0 : cX8_chosen.data.toList.drop 0 = dktX8_chosen_0 := by decide +kernel
theorem dX8_chosen_0 : decode cX8_chosen 0 = .ok (.aload_n 0, 1) := dk_42 (dk_at dksX8_chosen_0 0 rfl rfl)
theorem dX8_chosen_1 : decode cX8_chosen 1 = .ok (.getfield 15, 3) := dk_180 0 15 (dk_at dksX8_chosen_0 1 rfl rfl)
theorem dX8_chosen_4 : decode cX8_chosen 4 = .ok (.iload_n 1, 1) := dk_27 (dk_at dksX8_chosen_0 4 rfl rfl)
theorem dX8_chosen_5 : decode cX8_chosen 5 = .ok (.iaload, 1) := dk_46 (dk_at dksX8_chosen_0 5 rfl rfl)
theorem dX8_chosen_6 : decode cX8_chosen 6 = .ok (.ireturn, 1) := dk_172 (dk_at dksX8_chosen_0 6 rfl rfl)
theorem q154 : (Jvm.Cond.initialized "BackLogic$Tests") ∈ lw_all := lw_g (lw_at lw_m1 25 rfl) rfl
theorem q295 : (Jvm.Cond.selects "BackLogic$Tests" ({ cls := "java/lang/Object", name := "getClass", desc := "()Ljava/lang/Class;" } : Jvm.MethodName) ({ cls := "java/lang/Object", name := "getClass", desc := "()Ljava/lang/Class;" } : Jvm.MethodName)) ∈ lw_all := lw_g (lw_at lw_m1 166 rfl) rfl
theorem q620 : (Jvm.Cond.instantiable "BackLogic$Tests" (5 : Nat)) ∈ lw_all := lw_g (lw_at lw_m3 11 rfl) rfl
theorem q622 : (Jvm.Cond.instanceMethod ({ cls := "BackLogic$Tests", name := "<init>", desc := "()V" } : Jvm.MethodName)) ∈ lw_all := lw_g (lw_at lw_m3 13 rfl) rfl
theorem q623 : (Jvm.Cond.code ({ cls := "BackLogic$Tests", name := "<init>", desc := "()V" } : Jvm.MethodName) prog_10_method_1_code (1 : Nat) (Option.none : Option Jvm.ClassFile.FieldType)) ∈ lw_all := lw_g (lw_at lw_m3 14 rfl) rfl
theorem q624 : (Jvm.Cond.methodLink "BackLogic$Tests" (3 : Nat) ({ cls := "java/lang/Object", name := "<init>", desc := "()V" } : Jvm.MethodName)) ∈ lw_all := lw_g (lw_at lw_m3 15 rfl) rfl
theorem q625 : (Jvm.Cond.fieldLink "BackLogic$Tests" (9 : Nat) "BackLogic$Tests" "sees" "[I") ∈ lw_all := lw_g (lw_at lw_m3 16 rfl) rfl
theorem q626 : (Jvm.Cond.fieldLink "BackLogic$Tests" (15 : Nat) "BackLogic$Tests" "chosen" "[I") ∈ lw_all := lw_g (lw_at lw_m3 17 rfl) rfl
theorem q627 : (Jvm.Cond.fieldLink "BackLogic$Tests" (18 : Nat) "BackLogic$Tests" "rows" "I") ∈ lw_all := lw_g (lw_at lw_m3 18 rfl) rfl
theorem q628 : (Jvm.Cond.fieldLink "BackLogic$Tests" (22 : Nat) "BackLogic$Tests" "all" "I") ∈ lw_all := lw_g (lw_at lw_m3 19 rfl) rfl
theorem q629 : (Jvm.Cond.fieldLink "BackLogic$Tests" (25 : Nat) "BackLogic$Tests" "many" "I") ∈ lw_all := lw_g (lw_at lw_m3 20 rfl) rfl
theorem q630 : (Jvm.Cond.laysFinal "BackLogic$Tests" "BackLogic$Tests" "sees" "[I") ∈ lw_all := lw_g (lw_at lw_m3 21 rfl) rfl
theorem q631 : (Jvm.Cond.soleField "BackLogic$Tests" "sees") ∈ lw_all := lw_g (lw_at lw_m3 22 rfl) rfl
theorem q632 : (Jvm.Cond.laysFinal "BackLogic$Tests" "BackLogic$Tests" "chosen" "[I") ∈ lw_all := lw_g (lw_at lw_m3 23 rfl) rfl
theorem q633 : (Jvm.Cond.soleField "BackLogic$Tests" "chosen") ∈ lw_all := lw_g (lw_at lw_m3 24 rfl) rfl
theorem q634 : (Jvm.Cond.lays "BackLogic$Tests" "BackLogic$Tests" "rows" "I") ∈ lw_all := lw_g (lw_at lw_m3 25 rfl) rfl
theorem q635 : (Jvm.Cond.soleField "BackLogic$Tests" "rows") ∈ lw_all := lw_g (lw_at lw_m3 26 rfl) rfl
theorem q636 : (Jvm.Cond.lays "BackLogic$Tests" "BackLogic$Tests" "all" "I") ∈ lw_all := lw_g (lw_at lw_m3 27 rfl) rfl
theorem q637 : (Jvm.Cond.soleField "BackLogic$Tests" "all") ∈ lw_all := lw_g (lw_at lw_m3 28 rfl) rfl
theorem q638 : (Jvm.Cond.lays "BackLogic$Tests" "BackLogic$Tests" "many" "I") ∈ lw_all := lw_g (lw_at lw_m3 29 rfl) rfl
theorem q639 : (Jvm.Cond.soleField "BackLogic$Tests" "many") ∈ lw_all := lw_g (lw_at lw_m3 30 rfl) rfl
theorem q640 : (Jvm.Cond.superclass "BackLogic$Tests" "java/lang/Object") ∈ lw_all := lw_g (lw_at lw_m3 31 rfl) rfl
theorem q1929 : (Jvm.Cond.instanceMethod ({ cls := "BackLogic$Tests", name := "begins", desc := "(I)V" } : Jvm.MethodName)) ∈ lw_all := lw_g (lw_at lw_m8 120 rfl) rfl
theorem q1930 : (Jvm.Cond.selects "BackLogic$Tests" ({ cls := "BackLogic$Tests", name := "begins", desc := "(I)V" } : Jvm.MethodName) ({ cls := "BackLogic$Tests", name := "begins", desc := "(I)V" } : Jvm.MethodName)) ∈ lw_all := lw_g (lw_at lw_m8 121 rfl) rfl
theorem q1931 : (Jvm.Cond.code ({ cls := "BackLogic$Tests", name := "begins", desc := "(I)V" } : Jvm.MethodName) prog_10_method_2_code (2 : Nat) (Option.none : Option Jvm.ClassFile.FieldType)) ∈ lw_all := lw_g (lw_at lw_m8 122 rfl) rfl
theorem q1937 : (Jvm.Cond.instanceMethod ({ cls := "BackLogic$Tests", name := "adds", desc := "(II)V" } : Jvm.MethodName)) ∈ lw_all := lw_g (lw_at lw_m8 128 rfl) rfl
theorem q1938 : (Jvm.Cond.selects "BackLogic$Tests" ({ cls := "BackLogic$Tests", name := "adds", desc := "(II)V" } : Jvm.MethodName) ({ cls := "BackLogic$Tests", name := "adds", desc := "(II)V" } : Jvm.MethodName)) ∈ lw_all := lw_g (lw_at lw_m8 129 rfl) rfl
theorem q1939 : (Jvm.Cond.code ({ cls := "BackLogic$Tests", name := "adds", desc := "(II)V" } : Jvm.MethodName) prog_10_method_3_code (3 : Nat) (Option.none : Option Jvm.ClassFile.FieldType)) ∈ lw_all := lw_g (lw_at lw_m8 130 rfl) rfl
theorem q1941 : (Jvm.Cond.instanceMethod ({ cls := "BackLogic$Tests", name := "lays", desc := "()I" } : Jvm.MethodName)) ∈ lw_all := lw_g (lw_at lw_m8 132 rfl) rfl
theorem q1942 : (Jvm.Cond.selects "BackLogic$Tests" ({ cls := "BackLogic$Tests", name := "lays", desc := "()I" } : Jvm.MethodName) ({ cls := "BackLogic$Tests", name := "lays", desc := "()I" } : Jvm.MethodName)) ∈ lw_all := lw_g (lw_at lw_m8 133 rfl) rfl
theorem q1943 : (Jvm.Cond.code ({ cls := "BackLogic$Tests", name := "lays", desc := "()I" } : Jvm.MethodName) prog_10_method_4_code (1 : Nat) (Option.some Jvm.ClassFile.FieldType.int)) ∈ lw_all := lw_g (lw_at lw_m8 134 rfl) rfl
theorem q1944 : (Jvm.Cond.methodLink "BackLogic$Tests" (28 : Nat) ({ cls := "BackLogic$Tests", name := "goes", desc := "(III)Z" } : Jvm.MethodName)) ∈ lw_all := lw_g (lw_at lw_m8 135 rfl) rfl
theorem q1945 : (Jvm.Cond.privateMethod ({ cls := "BackLogic$Tests", name := "goes", desc := "(III)Z" } : Jvm.MethodName)) ∈ lw_tbl := lw_at lw_m8 136 rfl
theorem q1946 : (Jvm.Cond.instanceMethod ({ cls := "BackLogic$Tests", name := "goes", desc := "(III)Z" } : Jvm.MethodName)) ∈ lw_all := lw_g (lw_at lw_m8 137 rfl) rfl
theorem q1947 : (Jvm.Cond.code ({ cls := "BackLogic$Tests", name := "goes", desc := "(III)Z" } : Jvm.MethodName) prog_10_method_5_code (5 : Nat) (Option.some Jvm.ClassFile.FieldType.boolean)) ∈ lw_all := lw_g (lw_at lw_m8 138 rfl) rfl
theorem q1949 : (Jvm.Cond.instanceMethod ({ cls := "BackLogic$Tests", name := "chosen", desc := "(I)I" } : Jvm.MethodName)) ∈ lw_all := lw_g (lw_at lw_m8 140 rfl) rfl
theorem q1950 : (Jvm.Cond.selects "BackLogic$Tests" ({ cls := "BackLogic$Tests", name := "chosen", desc := "(I)I" } : Jvm.MethodName) ({ cls := "BackLogic$Tests", name := "chosen", desc := "(I)I" } : Jvm.MethodName)) ∈ lw_all := lw_g (lw_at lw_m8 141 rfl) rfl
theorem q1951 : (Jvm.Cond.code ({ cls := "BackLogic$Tests", name := "chosen", desc := "(I)I" } : Jvm.MethodName) prog_10_method_6_code (2 : Nat) (Option.some Jvm.ClassFile.FieldType.int)) ∈ lw_all := lw_g (lw_at lw_m8 142 rfl) rfl
theorem q2694 : (Jvm.Cond.castable "BackLogic$Tests" "java/lang/Object") ∈ lw_tbl := lw_at lw_m11 165 rfl
theorem in_X8 : ∀ w ∈ wsX80, w ∈ lw_all := lw_in wsX80 [630, 632, 634, 636, 638] (by decide +kernel) (by decide +kernel)
/-! BackLogic$Line -/
set_option maxRecDepth 100000
def RX10 : String := "BackLogic$Line"
def TX10 : u_T := fun k => match k with
  | 0 => ("BackLogic$Line", "kind", "I", true)
  | 1 => ("BackLogic$Line", "first", "I", true)
  | _ => ("BackLogic$Line", "end", "I", true)
def tyX10 : Nat → FieldType := fun k => match k with
  | 0 => .int
  | 1 => .int
  | _ => .int
abbrev wsX100 : List Cond := u_ws RX10 TX10 3
theorem nmX10 : ∀ a, a < 3 → ∀ b, b < 3 → a ≠ b → (TX10 a).2.1 ≠ (TX10 b).2.1 := by decide +kernel
theorem tyX10_ok : ∀ k, k < 3 → parseFieldDescriptor (TX10 k).2.2.1 = some (tyX10 k) := by decide +kernel
abbrev cX10_init : ByteArray := prog_6_method_1_code
def yX10_init : MethodName := ⟨RX10, "<init>", "(III)V"⟩
def dkwX10_init_0 : List UInt8 := [42, 183, 0, 1, 42, 27, 181, 0, 7, 42, 28, 181, 0, 13, 42, 29, 181, 0, 16, 177]
abbrev dktX10_init_0 : List UInt8 := dkwX10_init_0 ++ []
theorem dksX10_init_0 : cX10_init.data.toList.drop 0 = dktX10_init_0 := by decide +kernel
theorem dX10_init_0 : decode cX10_init 0 = .ok (.aload_n 0, 1) := dk_42 (dk_at dksX10_init_0 0 rfl rfl)
theorem dX10_init_1 : decode cX10_init 1 = .ok (.invokespecial 1, 3) := dk_183 0 1 (dk_at dksX10_init_0 1 rfl rfl)
theorem dX10_init_4 : decode cX10_init 4 = .ok (.aload_n 0, 1) := dk_42 (dk_at dksX10_init_0 4 rfl rfl)
theorem dX10_init_5 : decode cX10_init 5 = .ok (.iload_n 1, 1) := dk_27 (dk_at dksX10_init_0 5 rfl rfl)
theorem dX10_init_6 : decode cX10_init 6 = .ok (.putfield 7, 3) := dk_181 0 7 (dk_at dksX10_init_0 6 rfl rfl)
theorem dX10_init_9 : decode cX10_init 9 = .ok (.aload_n 0, 1) := dk_42 (dk_at dksX10_init_0 9 rfl rfl)
theorem dX10_init_10 : decode cX10_init 10 = .ok (.iload_n 2, 1) := dk_28 (dk_at dksX10_init_0 10 rfl rfl)
theorem dX10_init_11 : decode cX10_init 11 = .ok (.putfield 13, 3) := dk_181 0 13 (dk_at dksX10_init_0 11 rfl rfl)
theorem dX10_init_14 : decode cX10_init 14 = .ok (.aload_n 0, 1) := dk_42 (dk_at dksX10_init_0 14 rfl rfl)
theorem dX10_init_15 : decode cX10_init 15 = .ok (.iload_n 3, 1) := dk_29 (dk_at dksX10_init_0 15 rfl rfl)
theorem dX10_init_16 : decode cX10_init 16 = .ok (.putfield 16, 3) := dk_181 0 16 (dk_at dksX10_init_0 16 rfl rfl)
theorem dX10_init_19 : decode cX10_init 19 = .ok (.return_, 1) := dk_177 (dk_at dksX10_init_0 19 rfl rfl)
theorem q161 : (Jvm.Cond.initialized "BackLogic$Line") ∈ lw_all := lw_g (lw_at lw_m1 32 rfl) rfl
theorem q291 : (Jvm.Cond.selects "BackLogic$Line" ({ cls := "java/lang/Object", name := "getClass", desc := "()Ljava/lang/Class;" } : Jvm.MethodName) ({ cls := "java/lang/Object", name := "getClass", desc := "()Ljava/lang/Class;" } : Jvm.MethodName)) ∈ lw_all := lw_g (lw_at lw_m1 162 rfl) rfl
theorem q940 : (Jvm.Cond.instantiable "BackLogic$Line" (3 : Nat)) ∈ lw_all := lw_g (lw_at lw_m4 91 rfl) rfl
theorem q942 : (Jvm.Cond.instanceMethod ({ cls := "BackLogic$Line", name := "<init>", desc := "(III)V" } : Jvm.MethodName)) ∈ lw_all := lw_g (lw_at lw_m4 93 rfl) rfl
theorem q943 : (Jvm.Cond.code ({ cls := "BackLogic$Line", name := "<init>", desc := "(III)V" } : Jvm.MethodName) prog_6_method_1_code (4 : Nat) (Option.none : Option Jvm.ClassFile.FieldType)) ∈ lw_all := lw_g (lw_at lw_m4 94 rfl) rfl
theorem q944 : (Jvm.Cond.methodLink "BackLogic$Line" (1 : Nat) ({ cls := "java/lang/Object", name := "<init>", desc := "()V" } : Jvm.MethodName)) ∈ lw_all := lw_g (lw_at lw_m4 95 rfl) rfl
theorem q945 : (Jvm.Cond.fieldLink "BackLogic$Line" (7 : Nat) "BackLogic$Line" "kind" "I") ∈ lw_all := lw_g (lw_at lw_m4 96 rfl) rfl
theorem q947 : (Jvm.Cond.fieldLink "BackLogic$Line" (13 : Nat) "BackLogic$Line" "first" "I") ∈ lw_all := lw_g (lw_at lw_m4 98 rfl) rfl
theorem q949 : (Jvm.Cond.fieldLink "BackLogic$Line" (16 : Nat) "BackLogic$Line" "end" "I") ∈ lw_all := lw_g (lw_at lw_m4 100 rfl) rfl
theorem q951 : (Jvm.Cond.laysFinal "BackLogic$Line" "BackLogic$Line" "kind" "I") ∈ lw_all := lw_g (lw_at lw_m4 102 rfl) rfl
theorem q952 : (Jvm.Cond.soleField "BackLogic$Line" "kind") ∈ lw_all := lw_g (lw_at lw_m4 103 rfl) rfl
theorem q953 : (Jvm.Cond.laysFinal "BackLogic$Line" "BackLogic$Line" "first" "I") ∈ lw_all := lw_g (lw_at lw_m4 104 rfl) rfl
theorem q954 : (Jvm.Cond.soleField "BackLogic$Line" "first") ∈ lw_all := lw_g (lw_at lw_m4 105 rfl) rfl
theorem q955 : (Jvm.Cond.laysFinal "BackLogic$Line" "BackLogic$Line" "end" "I") ∈ lw_all := lw_g (lw_at lw_m4 106 rfl) rfl
theorem q956 : (Jvm.Cond.soleField "BackLogic$Line" "end") ∈ lw_all := lw_g (lw_at lw_m4 107 rfl) rfl
theorem q957 : (Jvm.Cond.superclass "BackLogic$Line" "java/lang/Object") ∈ lw_all := lw_g (lw_at lw_m4 108 rfl) rfl
theorem q2697 : (Jvm.Cond.castable "BackLogic$Line" "java/lang/Object") ∈ lw_tbl := lw_at lw_m11 168 rfl
theorem in_X10 : ∀ w ∈ wsX100, w ∈ lw_all := lw_in wsX100 [951, 953, 955] (by decide +kernel) (by decide +kernel)
/-! BackLogic$Gate -/
set_option maxRecDepth 100000
def RX11 : String := "BackLogic$Gate"
def TX11 : u_T := fun k => match k with
  | 0 => ("BackLogic$Gate", "target", "I", true)
  | 1 => ("BackLogic$Gate", "on", "I", true)
  | _ => ("BackLogic$Gate", "off", "I", true)
def tyX11 : Nat → FieldType := fun k => match k with
  | 0 => .int
  | 1 => .int
  | _ => .int
abbrev wsX110 : List Cond := u_ws RX11 TX11 3
theorem nmX11 : ∀ a, a < 3 → ∀ b, b < 3 → a ≠ b → (TX11 a).2.1 ≠ (TX11 b).2.1 := by decide +kernel
theorem tyX11_ok : ∀ k, k < 3 → parseFieldDescriptor (TX11 k).2.2.1 = some (tyX11 k) := by decide +kernel
abbrev cX11_init : ByteArray := prog_5_method_1_code
def yX11_init : MethodName := ⟨RX11, "<init>", "(III)V"⟩
def dkwX11_init_0 : List UInt8 := [42, 183, 0, 1, 42, 27, 181, 0, 7, 42, 28, 181, 0, 13, 42, 29, 181, 0, 16, 177]
abbrev dktX11_init_0 : List UInt8 := dkwX11_init_0 ++ []
theorem dksX11_init_0 : cX11_init.data.toList.drop 0 = dktX11_init_0 := by decide +kernel
theorem dX11_init_0 : decode cX11_init 0 = .ok (.aload_n 0, 1) := dk_42 (dk_at dksX11_init_0 0 rfl rfl)
theorem dX11_init_1 : decode cX11_init 1 = .ok (.invokespecial 1, 3) := dk_183 0 1 (dk_at dksX11_init_0 1 rfl rfl)
theorem dX11_init_4 : decode cX11_init 4 = .ok (.aload_n 0, 1) := dk_42 (dk_at dksX11_init_0 4 rfl rfl)
theorem dX11_init_5 : decode cX11_init 5 = .ok (.iload_n 1, 1) := dk_27 (dk_at dksX11_init_0 5 rfl rfl)
theorem dX11_init_6 : decode cX11_init 6 = .ok (.putfield 7, 3) := dk_181 0 7 (dk_at dksX11_init_0 6 rfl rfl)
theorem dX11_init_9 : decode cX11_init 9 = .ok (.aload_n 0, 1) := dk_42 (dk_at dksX11_init_0 9 rfl rfl)
theorem dX11_init_10 : decode cX11_init 10 = .ok (.iload_n 2, 1) := dk_28 (dk_at dksX11_init_0 10 rfl rfl)
theorem dX11_init_11 : decode cX11_init 11 = .ok (.putfield 13, 3) := dk_181 0 13 (dk_at dksX11_init_0 11 rfl rfl)
theorem dX11_init_14 : decode cX11_init 14 = .ok (.aload_n 0, 1) := dk_42 (dk_at dksX11_init_0 14 rfl rfl)
theorem dX11_init_15 : decode cX11_init 15 = .ok (.iload_n 3, 1) := dk_29 (dk_at dksX11_init_0 15 rfl rfl)
theorem dX11_init_16 : decode cX11_init 16 = .ok (.putfield 16, 3) := dk_181 0 16 (dk_at dksX11_init_0 16 rfl rfl)
theorem dX11_init_19 : decode cX11_init 19 = .ok (.return_, 1) := dk_177 (dk_at dksX11_init_0 19 rfl rfl)
abbrev cX11_isAlike : ByteArray := prog_5_method_5_code
def yX11_isAlike : MethodName := ⟨RX11, "isAlike", "(LBackLogic$Gate;)Z"⟩
def dkwX11_isAlike_1 : List UInt8 := [180, 0, 16, 43, 180, 0, 16, 160, 0, 7, 4, 167, 0, 4, 3, 172]
abbrev dktX11_isAlike_1 : List UInt8 := dkwX11_isAlike_1 ++ []
def dkwX11_isAlike_0 : List UInt8 := [42, 180, 0, 7, 43, 180, 0, 7, 160, 0, 29, 42, 180, 0, 13, 43, 180, 0, 13, 160, 0, 18, 42]
abbrev dktX11_isAlike_0 : List UInt8 := dkwX11_isAlike_0 ++ dktX11_isAlike_1
theorem dksX11_isAlike_0 : cX11_isAlike.data.toList.drop 0 = dktX11_isAlike_0 := by decide +kernel
theorem dksX11_isAlike_1 : cX11_isAlike.data.toList.drop 23 = dktX11_isAlike_1 := dk_seg dksX11_isAlike_0 23 rfl rfl
theorem dX11_isAlike_0 : decode cX11_isAlike 0 = .ok (.aload_n 0, 1) := dk_42 (dk_at dksX11_isAlike_0 0 rfl rfl)
theorem dX11_isAlike_1 : decode cX11_isAlike 1 = .ok (.getfield 7, 3) := dk_180 0 7 (dk_at dksX11_isAlike_0 1 rfl rfl)
theorem dX11_isAlike_4 : decode cX11_isAlike 4 = .ok (.aload_n 1, 1) := dk_43 (dk_at dksX11_isAlike_0 4 rfl rfl)
theorem dX11_isAlike_5 : decode cX11_isAlike 5 = .ok (.getfield 7, 3) := dk_180 0 7 (dk_at dksX11_isAlike_0 5 rfl rfl)
theorem dX11_isAlike_8 : decode cX11_isAlike 8 = .ok (.if_icmp .ne 29, 3) := dk_160 0 29 (dk_at dksX11_isAlike_0 8 rfl rfl)
theorem dX11_isAlike_11 : decode cX11_isAlike 11 = .ok (.aload_n 0, 1) := dk_42 (dk_at dksX11_isAlike_0 11 rfl rfl)
theorem dX11_isAlike_12 : decode cX11_isAlike 12 = .ok (.getfield 13, 3) := dk_180 0 13 (dk_at dksX11_isAlike_0 12 rfl rfl)
theorem dX11_isAlike_15 : decode cX11_isAlike 15 = .ok (.aload_n 1, 1) := dk_43 (dk_at dksX11_isAlike_0 15 rfl rfl)
theorem dX11_isAlike_16 : decode cX11_isAlike 16 = .ok (.getfield 13, 3) := dk_180 0 13 (dk_at dksX11_isAlike_0 16 rfl rfl)
theorem dX11_isAlike_19 : decode cX11_isAlike 19 = .ok (.if_icmp .ne 18, 3) := dk_160 0 18 (dk_at dksX11_isAlike_0 19 rfl rfl)
theorem dX11_isAlike_22 : decode cX11_isAlike 22 = .ok (.aload_n 0, 1) := dk_42 (dk_at dksX11_isAlike_0 22 rfl rfl)
theorem dX11_isAlike_23 : decode cX11_isAlike 23 = .ok (.getfield 16, 3) := dk_180 0 16 (dk_at dksX11_isAlike_1 0 rfl rfl)
theorem dX11_isAlike_26 : decode cX11_isAlike 26 = .ok (.aload_n 1, 1) := dk_43 (dk_at dksX11_isAlike_1 3 rfl rfl)
theorem dX11_isAlike_27 : decode cX11_isAlike 27 = .ok (.getfield 16, 3) := dk_180 0 16 (dk_at dksX11_isAlike_1 4 rfl rfl)
theorem dX11_isAlike_30 : decode cX11_isAlike 30 = .ok (.if_icmp .ne 7, 3) := dk_160 0 7 (dk_at dksX11_isAlike_1 7 rfl rfl)
theorem dX11_isAlike_33 : decode cX11_isAlike 33 = .ok (.iconst 1, 1) := dk_4 (dk_at dksX11_isAlike_1 10 rfl rfl)
theorem dX11_isAlike_34 : decode cX11_isAlike 34 = .ok (.goto 4, 3) := dk_167 0 4 (dk_at dksX11_isAlike_1 11 rfl rfl)
theorem dX11_isAlike_37 : decode cX11_isAlike 37 = .ok (.iconst 0, 1) := dk_3 (dk_at dksX11_isAlike_1 14 rfl rfl)
theorem dX11_isAlike_38 : decode cX11_isAlike 38 = .ok (.ireturn, 1) := dk_172 (dk_at dksX11_isAlike_1 15 rfl rfl)
abbrev cX11_without : ByteArray := prog_5_method_7_code
def yX11_without : MethodName := ⟨RX11, "without", "(LBackLogic$Gate;)LBackLogic$Gate;"⟩
def dkwX11_without_2 : List UInt8 := [42, 180, 0, 7, 42, 180, 0, 13, 28, 2, 130, 126, 42, 180, 0, 16, 28, 2, 130, 126, 183, 0, 32, 176]
abbrev dktX11_without_2 : List UInt8 := dkwX11_without_2 ++ []
def dkwX11_without_1 : List UInt8 := [182, 0, 23, 43, 182, 0, 23, 160, 0, 11, 28, 184, 0, 27, 4, 159, 0, 5, 1, 176, 187, 0, 8, 89]
abbrev dktX11_without_1 : List UInt8 := dkwX11_without_1 ++ dktX11_without_2
def dkwX11_without_0 : List UInt8 := [42, 180, 0, 13, 43, 180, 0, 13, 130, 61, 42, 180, 0, 7, 43, 180, 0, 7, 160, 0, 22, 42]
abbrev dktX11_without_0 : List UInt8 := dkwX11_without_0 ++ dktX11_without_1
theorem dksX11_without_0 : cX11_without.data.toList.drop 0 = dktX11_without_0 := by decide +kernel
theorem dksX11_without_1 : cX11_without.data.toList.drop 22 = dktX11_without_1 := dk_seg dksX11_without_0 22 rfl rfl
theorem dksX11_without_2 : cX11_without.data.toList.drop 46 = dktX11_without_2 := dk_seg dksX11_without_1 24 rfl rfl
theorem dX11_without_0 : decode cX11_without 0 = .ok (.aload_n 0, 1) := dk_42 (dk_at dksX11_without_0 0 rfl rfl)
theorem dX11_without_1 : decode cX11_without 1 = .ok (.getfield 13, 3) := dk_180 0 13 (dk_at dksX11_without_0 1 rfl rfl)
theorem dX11_without_4 : decode cX11_without 4 = .ok (.aload_n 1, 1) := dk_43 (dk_at dksX11_without_0 4 rfl rfl)
theorem dX11_without_5 : decode cX11_without 5 = .ok (.getfield 13, 3) := dk_180 0 13 (dk_at dksX11_without_0 5 rfl rfl)
theorem dX11_without_8 : decode cX11_without 8 = .ok (.ixor, 1) := dk_130 (dk_at dksX11_without_0 8 rfl rfl)
theorem dX11_without_9 : decode cX11_without 9 = .ok (.istore_n 2, 1) := dk_61 (dk_at dksX11_without_0 9 rfl rfl)
theorem dX11_without_10 : decode cX11_without 10 = .ok (.aload_n 0, 1) := dk_42 (dk_at dksX11_without_0 10 rfl rfl)
theorem dX11_without_11 : decode cX11_without 11 = .ok (.getfield 7, 3) := dk_180 0 7 (dk_at dksX11_without_0 11 rfl rfl)
theorem dX11_without_14 : decode cX11_without 14 = .ok (.aload_n 1, 1) := dk_43 (dk_at dksX11_without_0 14 rfl rfl)
theorem dX11_without_15 : decode cX11_without 15 = .ok (.getfield 7, 3) := dk_180 0 7 (dk_at dksX11_without_0 15 rfl rfl)
theorem dX11_without_18 : decode cX11_without 18 = .ok (.if_icmp .ne 22, 3) := dk_160 0 22 (dk_at dksX11_without_0 18 rfl rfl)
theorem dX11_without_21 : decode cX11_without 21 = .ok (.aload_n 0, 1) := dk_42 (dk_at dksX11_without_0 21 rfl rfl)
theorem dX11_without_22 : decode cX11_without 22 = .ok (.invokevirtual 23, 3) := dk_182 0 23 (dk_at dksX11_without_1 0 rfl rfl)
theorem dX11_without_25 : decode cX11_without 25 = .ok (.aload_n 1, 1) := dk_43 (dk_at dksX11_without_1 3 rfl rfl)
theorem dX11_without_26 : decode cX11_without 26 = .ok (.invokevirtual 23, 3) := dk_182 0 23 (dk_at dksX11_without_1 4 rfl rfl)
theorem dX11_without_29 : decode cX11_without 29 = .ok (.if_icmp .ne 11, 3) := dk_160 0 11 (dk_at dksX11_without_1 7 rfl rfl)
theorem dX11_without_32 : decode cX11_without 32 = .ok (.iload_n 2, 1) := dk_28 (dk_at dksX11_without_1 10 rfl rfl)
theorem dX11_without_33 : decode cX11_without 33 = .ok (.invokestatic 27, 3) := dk_184 0 27 (dk_at dksX11_without_1 11 rfl rfl)
theorem dX11_without_36 : decode cX11_without 36 = .ok (.iconst 1, 1) := dk_4 (dk_at dksX11_without_1 14 rfl rfl)
theorem dX11_without_37 : decode cX11_without 37 = .ok (.if_icmp .eq 5, 3) := dk_159 0 5 (dk_at dksX11_without_1 15 rfl rfl)
theorem dX11_without_40 : decode cX11_without 40 = .ok (.aconst_null, 1) := dk_1 (dk_at dksX11_without_1 18 rfl rfl)
theorem dX11_without_41 : decode cX11_without 41 = .ok (.areturn, 1) := dk_176 (dk_at dksX11_without_1 19 rfl rfl)
theorem dX11_without_42 : decode cX11_without 42 = .ok (.new 8, 3) := dk_187 0 8 (dk_at dksX11_without_1 20 rfl rfl)
theorem dX11_without_45 : decode cX11_without 45 = .ok (.dup, 1) := dk_89 (dk_at dksX11_without_1 23 rfl rfl)
theorem dX11_without_46 : decode cX11_without 46 = .ok (.aload_n 0, 1) := dk_42 (dk_at dksX11_without_2 0 rfl rfl)
theorem dX11_without_47 : decode cX11_without 47 = .ok (.getfield 7, 3) := dk_180 0 7 (dk_at dksX11_without_2 1 rfl rfl)
theorem dX11_without_50 : decode cX11_without 50 = .ok (.aload_n 0, 1) := dk_42 (dk_at dksX11_without_2 4 rfl rfl)
theorem dX11_without_51 : decode cX11_without 51 = .ok (.getfield 13, 3) := dk_180 0 13 (dk_at dksX11_without_2 5 rfl rfl)
theorem dX11_without_54 : decode cX11_without 54 = .ok (.iload_n 2, 1) := dk_28 (dk_at dksX11_without_2 8 rfl rfl)
theorem dX11_without_55 : decode cX11_without 55 = .ok (.iconst (-1), 1) := dk_2 (dk_at dksX11_without_2 9 rfl rfl)
theorem dX11_without_56 : decode cX11_without 56 = .ok (.ixor, 1) := dk_130 (dk_at dksX11_without_2 10 rfl rfl)
theorem dX11_without_57 : decode cX11_without 57 = .ok (.iand, 1) := dk_126 (dk_at dksX11_without_2 11 rfl rfl)
theorem dX11_without_58 : decode cX11_without 58 = .ok (.aload_n 0, 1) := dk_42 (dk_at dksX11_without_2 12 rfl rfl)
theorem dX11_without_59 : decode cX11_without 59 = .ok (.getfield 16, 3) := dk_180 0 16 (dk_at dksX11_without_2 13 rfl rfl)
theorem dX11_without_62 : decode cX11_without 62 = .ok (.iload_n 2, 1) := dk_28 (dk_at dksX11_without_2 16 rfl rfl)
theorem dX11_without_63 : decode cX11_without 63 = .ok (.iconst (-1), 1) := dk_2 (dk_at dksX11_without_2 17 rfl rfl)
theorem dX11_without_64 : decode cX11_without 64 = .ok (.ixor, 1) := dk_130 (dk_at dksX11_without_2 18 rfl rfl)
theorem dX11_without_65 : decode cX11_without 65 = .ok (.iand, 1) := dk_126 (dk_at dksX11_without_2 19 rfl rfl)
theorem dX11_without_66 : decode cX11_without 66 = .ok (.invokespecial 32, 3) := dk_183 0 32 (dk_at dksX11_without_2 20 rfl rfl)
theorem dX11_without_69 : decode cX11_without 69 = .ok (.areturn, 1) := dk_176 (dk_at dksX11_without_2 23 rfl rfl)
abbrev cX11_controls : ByteArray := prog_5_method_3_code
def yX11_controls : MethodName := ⟨RX11, "controls", "()I"⟩
def dkwX11_controls_0 : List UInt8 := [42, 180, 0, 13, 42, 180, 0, 16, 128, 172]
abbrev dktX11_controls_0 : List UInt8 := dkwX11_controls_0 ++ []
theorem dksX11_controls_0 : cX11_controls.data.toList.drop 0 = dktX11_controls_0 := by decide +kernel
theorem dX11_controls_0 : decode cX11_controls 0 = .ok (.aload_n 0, 1) := dk_42 (dk_at dksX11_controls_0 0 rfl rfl)
theorem dX11_controls_1 : decode cX11_controls 1 = .ok (.getfield 13, 3) := dk_180 0 13 (dk_at dksX11_controls_0 1 rfl rfl)
theorem dX11_controls_4 : decode cX11_controls 4 = .ok (.aload_n 0, 1) := dk_42 (dk_at dksX11_controls_0 4 rfl rfl)
theorem dX11_controls_5 : decode cX11_controls 5 = .ok (.getfield 16, 3) := dk_180 0 16 (dk_at dksX11_controls_0 5 rfl rfl)
theorem dX11_controls_8 : decode cX11_controls 8 = .ok (.ior, 1) := dk_128 (dk_at dksX11_controls_0 8 rfl rfl)
theorem dX11_controls_9 : decode cX11_controls 9 = .ok (.ireturn, 1) := dk_172 (dk_at dksX11_controls_0 9 rfl rfl)
abbrev cX11_turned : ByteArray := prog_5_method_8_code
def yX11_turned : MethodName := ⟨RX11, "turned", "(LBackLogic$Gate;)LBackLogic$Gate;"⟩
def dkwX11_turned_3 : List UInt8 := [42, 180, 0, 13, 28, 130, 42, 180, 0, 16, 28, 130, 183, 0, 32, 176]
abbrev dktX11_turned_3 : List UInt8 := dkwX11_turned_3 ++ []
def dkwX11_turned_2 : List UInt8 := [180, 0, 16, 28, 2, 130, 126, 43, 180, 0, 16, 159, 0, 5, 1, 176, 187, 0, 8, 89, 42, 180, 0, 7]
abbrev dktX11_turned_2 : List UInt8 := dkwX11_turned_2 ++ dktX11_turned_3
def dkwX11_turned_1 : List UInt8 := [184, 0, 27, 4, 160, 0, 33, 42, 180, 0, 13, 28, 2, 130, 126, 43, 180, 0, 13, 160, 0, 18, 42]
abbrev dktX11_turned_1 : List UInt8 := dkwX11_turned_1 ++ dktX11_turned_2
def dkwX11_turned_0 : List UInt8 := [42, 182, 0, 23, 43, 182, 0, 23, 2, 130, 126, 61, 42, 180, 0, 7, 43, 180, 0, 7, 160, 0, 41, 28]
abbrev dktX11_turned_0 : List UInt8 := dkwX11_turned_0 ++ dktX11_turned_1
theorem dksX11_turned_0 : cX11_turned.data.toList.drop 0 = dktX11_turned_0 := by decide +kernel
theorem dksX11_turned_1 : cX11_turned.data.toList.drop 24 = dktX11_turned_1 := dk_seg dksX11_turned_0 24 rfl rfl
theorem dksX11_turned_2 : cX11_turned.data.toList.drop 47 = dktX11_turned_2 := dk_seg dksX11_turned_1 23 rfl rfl
theorem dksX11_turned_3 : cX11_turned.data.toList.drop 71 = dktX11_turned_3 := dk_seg dksX11_turned_2 24 rfl rfl
theorem dX11_turned_0 : decode cX11_turned 0 = .ok (.aload_n 0, 1) := dk_42 (dk_at dksX11_turned_0 0 rfl rfl)
theorem dX11_turned_1 : decode cX11_turned 1 = .ok (.invokevirtual 23, 3) := dk_182 0 23 (dk_at dksX11_turned_0 1 rfl rfl)
theorem dX11_turned_4 : decode cX11_turned 4 = .ok (.aload_n 1, 1) := dk_43 (dk_at dksX11_turned_0 4 rfl rfl)
theorem dX11_turned_5 : decode cX11_turned 5 = .ok (.invokevirtual 23, 3) := dk_182 0 23 (dk_at dksX11_turned_0 5 rfl rfl)
theorem dX11_turned_8 : decode cX11_turned 8 = .ok (.iconst (-1), 1) := dk_2 (dk_at dksX11_turned_0 8 rfl rfl)
theorem dX11_turned_9 : decode cX11_turned 9 = .ok (.ixor, 1) := dk_130 (dk_at dksX11_turned_0 9 rfl rfl)
theorem dX11_turned_10 : decode cX11_turned 10 = .ok (.iand, 1) := dk_126 (dk_at dksX11_turned_0 10 rfl rfl)
theorem dX11_turned_11 : decode cX11_turned 11 = .ok (.istore_n 2, 1) := dk_61 (dk_at dksX11_turned_0 11 rfl rfl)
theorem dX11_turned_12 : decode cX11_turned 12 = .ok (.aload_n 0, 1) := dk_42 (dk_at dksX11_turned_0 12 rfl rfl)
theorem dX11_turned_13 : decode cX11_turned 13 = .ok (.getfield 7, 3) := dk_180 0 7 (dk_at dksX11_turned_0 13 rfl rfl)
theorem dX11_turned_16 : decode cX11_turned 16 = .ok (.aload_n 1, 1) := dk_43 (dk_at dksX11_turned_0 16 rfl rfl)
theorem dX11_turned_17 : decode cX11_turned 17 = .ok (.getfield 7, 3) := dk_180 0 7 (dk_at dksX11_turned_0 17 rfl rfl)
theorem dX11_turned_20 : decode cX11_turned 20 = .ok (.if_icmp .ne 41, 3) := dk_160 0 41 (dk_at dksX11_turned_0 20 rfl rfl)
theorem dX11_turned_23 : decode cX11_turned 23 = .ok (.iload_n 2, 1) := dk_28 (dk_at dksX11_turned_0 23 rfl rfl)
theorem dX11_turned_24 : decode cX11_turned 24 = .ok (.invokestatic 27, 3) := dk_184 0 27 (dk_at dksX11_turned_1 0 rfl rfl)
theorem dX11_turned_27 : decode cX11_turned 27 = .ok (.iconst 1, 1) := dk_4 (dk_at dksX11_turned_1 3 rfl rfl)
theorem dX11_turned_28 : decode cX11_turned 28 = .ok (.if_icmp .ne 33, 3) := dk_160 0 33 (dk_at dksX11_turned_1 4 rfl rfl)
theorem dX11_turned_31 : decode cX11_turned 31 = .ok (.aload_n 0, 1) := dk_42 (dk_at dksX11_turned_1 7 rfl rfl)
theorem dX11_turned_32 : decode cX11_turned 32 = .ok (.getfield 13, 3) := dk_180 0 13 (dk_at dksX11_turned_1 8 rfl rfl)
theorem dX11_turned_35 : decode cX11_turned 35 = .ok (.iload_n 2, 1) := dk_28 (dk_at dksX11_turned_1 11 rfl rfl)
theorem dX11_turned_36 : decode cX11_turned 36 = .ok (.iconst (-1), 1) := dk_2 (dk_at dksX11_turned_1 12 rfl rfl)
theorem dX11_turned_37 : decode cX11_turned 37 = .ok (.ixor, 1) := dk_130 (dk_at dksX11_turned_1 13 rfl rfl)
theorem dX11_turned_38 : decode cX11_turned 38 = .ok (.iand, 1) := dk_126 (dk_at dksX11_turned_1 14 rfl rfl)
theorem dX11_turned_39 : decode cX11_turned 39 = .ok (.aload_n 1, 1) := dk_43 (dk_at dksX11_turned_1 15 rfl rfl)
theorem dX11_turned_40 : decode cX11_turned 40 = .ok (.getfield 13, 3) := dk_180 0 13 (dk_at dksX11_turned_1 16 rfl rfl)
theorem dX11_turned_43 : decode cX11_turned 43 = .ok (.if_icmp .ne 18, 3) := dk_160 0 18 (dk_at dksX11_turned_1 19 rfl rfl)
theorem dX11_turned_46 : decode cX11_turned 46 = .ok (.aload_n 0, 1) := dk_42 (dk_at dksX11_turned_1 22 rfl rfl)
theorem dX11_turned_47 : decode cX11_turned 47 = .ok (.getfield 16, 3) := dk_180 0 16 (dk_at dksX11_turned_2 0 rfl rfl)
theorem dX11_turned_50 : decode cX11_turned 50 = .ok (.iload_n 2, 1) := dk_28 (dk_at dksX11_turned_2 3 rfl rfl)
theorem dX11_turned_51 : decode cX11_turned 51 = .ok (.iconst (-1), 1) := dk_2 (dk_at dksX11_turned_2 4 rfl rfl)
theorem dX11_turned_52 : decode cX11_turned 52 = .ok (.ixor, 1) := dk_130 (dk_at dksX11_turned_2 5 rfl rfl)
theorem dX11_turned_53 : decode cX11_turned 53 = .ok (.iand, 1) := dk_126 (dk_at dksX11_turned_2 6 rfl rfl)
theorem dX11_turned_54 : decode cX11_turned 54 = .ok (.aload_n 1, 1) := dk_43 (dk_at dksX11_turned_2 7 rfl rfl)
theorem dX11_turned_55 : decode cX11_turned 55 = .ok (.getfield 16, 3) := dk_180 0 16 (dk_at dksX11_turned_2 8 rfl rfl)
theorem dX11_turned_58 : decode cX11_turned 58 = .ok (.if_icmp .eq 5, 3) := dk_159 0 5 (dk_at dksX11_turned_2 11 rfl rfl)
theorem dX11_turned_61 : decode cX11_turned 61 = .ok (.aconst_null, 1) := dk_1 (dk_at dksX11_turned_2 14 rfl rfl)
theorem dX11_turned_62 : decode cX11_turned 62 = .ok (.areturn, 1) := dk_176 (dk_at dksX11_turned_2 15 rfl rfl)
theorem dX11_turned_63 : decode cX11_turned 63 = .ok (.new 8, 3) := dk_187 0 8 (dk_at dksX11_turned_2 16 rfl rfl)
theorem dX11_turned_66 : decode cX11_turned 66 = .ok (.dup, 1) := dk_89 (dk_at dksX11_turned_2 19 rfl rfl)
theorem dX11_turned_67 : decode cX11_turned 67 = .ok (.aload_n 0, 1) := dk_42 (dk_at dksX11_turned_2 20 rfl rfl)
theorem dX11_turned_68 : decode cX11_turned 68 = .ok (.getfield 7, 3) := dk_180 0 7 (dk_at dksX11_turned_2 21 rfl rfl)
theorem dX11_turned_71 : decode cX11_turned 71 = .ok (.aload_n 0, 1) := dk_42 (dk_at dksX11_turned_3 0 rfl rfl)
theorem dX11_turned_72 : decode cX11_turned 72 = .ok (.getfield 13, 3) := dk_180 0 13 (dk_at dksX11_turned_3 1 rfl rfl)
theorem dX11_turned_75 : decode cX11_turned 75 = .ok (.iload_n 2, 1) := dk_28 (dk_at dksX11_turned_3 4 rfl rfl)
theorem dX11_turned_76 : decode cX11_turned 76 = .ok (.ixor, 1) := dk_130 (dk_at dksX11_turned_3 5 rfl rfl)
theorem dX11_turned_77 : decode cX11_turned 77 = .ok (.aload_n 0, 1) := dk_42 (dk_at dksX11_turned_3 6 rfl rfl)
theorem dX11_turned_78 : decode cX11_turned 78 = .ok (.getfield 16, 3) := dk_180 0 16 (dk_at dksX11_turned_3 7 rfl rfl)
theorem dX11_turned_81 : decode cX11_turned 81 = .ok (.iload_n 2, 1) := dk_28 (dk_at dksX11_turned_3 10 rfl rfl)
theorem dX11_turned_82 : decode cX11_turned 82 = .ok (.ixor, 1) := dk_130 (dk_at dksX11_turned_3 11 rfl rfl)
theorem dX11_turned_83 : decode cX11_turned 83 = .ok (.invokespecial 32, 3) := dk_183 0 32 (dk_at dksX11_turned_3 12 rfl rfl)
theorem dX11_turned_86 : decode cX11_turned 86 = .ok (.areturn, 1) := dk_176 (dk_at dksX11_turned_3 15 rfl rfl)
abbrev cX11_agrees : ByteArray := prog_5_method_6_code
def yX11_agrees : MethodName := ⟨RX11, "agrees", "(LBackLogic$Gate;I)Z"⟩
def dkwX11_agrees_1 : List UInt8 := [182, 0, 19, 159, 0, 5, 3, 172, 132, 3, 1, 167, 255, 225, 4, 172]
abbrev dktX11_agrees_1 : List UInt8 := dkwX11_agrees_1 ++ []
def dkwX11_agrees_0 : List UInt8 := [3, 62, 29, 28, 162, 0, 32, 43, 42, 29, 182, 0, 19, 182, 0, 19, 42, 43, 29, 182, 0, 19]
abbrev dktX11_agrees_0 : List UInt8 := dkwX11_agrees_0 ++ dktX11_agrees_1
theorem dksX11_agrees_0 : cX11_agrees.data.toList.drop 0 = dktX11_agrees_0 := by decide +kernel
theorem dksX11_agrees_1 : cX11_agrees.data.toList.drop 22 = dktX11_agrees_1 := dk_seg dksX11_agrees_0 22 rfl rfl
theorem dX11_agrees_0 : decode cX11_agrees 0 = .ok (.iconst 0, 1) := dk_3 (dk_at dksX11_agrees_0 0 rfl rfl)
theorem dX11_agrees_1 : decode cX11_agrees 1 = .ok (.istore_n 3, 1) := dk_62 (dk_at dksX11_agrees_0 1 rfl rfl)
theorem dX11_agrees_2 : decode cX11_agrees 2 = .ok (.iload_n 3, 1) := dk_29 (dk_at dksX11_agrees_0 2 rfl rfl)
theorem dX11_agrees_3 : decode cX11_agrees 3 = .ok (.iload_n 2, 1) := dk_28 (dk_at dksX11_agrees_0 3 rfl rfl)
theorem dX11_agrees_4 : decode cX11_agrees 4 = .ok (.if_icmp .ge 32, 3) := dk_162 0 32 (dk_at dksX11_agrees_0 4 rfl rfl)
theorem dX11_agrees_7 : decode cX11_agrees 7 = .ok (.aload_n 1, 1) := dk_43 (dk_at dksX11_agrees_0 7 rfl rfl)
theorem dX11_agrees_8 : decode cX11_agrees 8 = .ok (.aload_n 0, 1) := dk_42 (dk_at dksX11_agrees_0 8 rfl rfl)
theorem dX11_agrees_9 : decode cX11_agrees 9 = .ok (.iload_n 3, 1) := dk_29 (dk_at dksX11_agrees_0 9 rfl rfl)
theorem dX11_agrees_10 : decode cX11_agrees 10 = .ok (.invokevirtual 19, 3) := dk_182 0 19 (dk_at dksX11_agrees_0 10 rfl rfl)
theorem dX11_agrees_13 : decode cX11_agrees 13 = .ok (.invokevirtual 19, 3) := dk_182 0 19 (dk_at dksX11_agrees_0 13 rfl rfl)
theorem dX11_agrees_16 : decode cX11_agrees 16 = .ok (.aload_n 0, 1) := dk_42 (dk_at dksX11_agrees_0 16 rfl rfl)
theorem dX11_agrees_17 : decode cX11_agrees 17 = .ok (.aload_n 1, 1) := dk_43 (dk_at dksX11_agrees_0 17 rfl rfl)
theorem dX11_agrees_18 : decode cX11_agrees 18 = .ok (.iload_n 3, 1) := dk_29 (dk_at dksX11_agrees_0 18 rfl rfl)
theorem dX11_agrees_19 : decode cX11_agrees 19 = .ok (.invokevirtual 19, 3) := dk_182 0 19 (dk_at dksX11_agrees_0 19 rfl rfl)
theorem dX11_agrees_22 : decode cX11_agrees 22 = .ok (.invokevirtual 19, 3) := dk_182 0 19 (dk_at dksX11_agrees_1 0 rfl rfl)
theorem dX11_agrees_25 : decode cX11_agrees 25 = .ok (.if_icmp .eq 5, 3) := dk_159 0 5 (dk_at dksX11_agrees_1 3 rfl rfl)
theorem dX11_agrees_28 : decode cX11_agrees 28 = .ok (.iconst 0, 1) := dk_3 (dk_at dksX11_agrees_1 6 rfl rfl)
theorem dX11_agrees_29 : decode cX11_agrees 29 = .ok (.ireturn, 1) := dk_172 (dk_at dksX11_agrees_1 7 rfl rfl)
theorem dX11_agrees_30 : decode cX11_agrees 30 = .ok (.iinc 3 1, 3) := dk_132 3 1 (dk_at dksX11_agrees_1 8 rfl rfl)
theorem dX11_agrees_33 : decode cX11_agrees 33 = .ok (.goto (-31), 3) := dk_167 255 225 (dk_at dksX11_agrees_1 11 rfl rfl)
theorem dX11_agrees_36 : decode cX11_agrees 36 = .ok (.iconst 1, 1) := dk_4 (dk_at dksX11_agrees_1 14 rfl rfl)
theorem dX11_agrees_37 : decode cX11_agrees 37 = .ok (.ireturn, 1) := dk_172 (dk_at dksX11_agrees_1 15 rfl rfl)
abbrev cX11_made : ByteArray := prog_5_method_2_code
def yX11_made : MethodName := ⟨RX11, "made", "(I)I"⟩
def dkwX11_made_1 : List UInt8 := [42, 180, 0, 7, 120, 130, 167, 0, 4, 27, 172]
abbrev dktX11_made_1 : List UInt8 := dkwX11_made_1 ++ []
def dkwX11_made_0 : List UInt8 := [27, 42, 180, 0, 13, 126, 42, 180, 0, 13, 160, 0, 23, 27, 42, 180, 0, 16, 126, 154, 0, 14, 27, 4]
abbrev dktX11_made_0 : List UInt8 := dkwX11_made_0 ++ dktX11_made_1
theorem dksX11_made_0 : cX11_made.data.toList.drop 0 = dktX11_made_0 := by decide +kernel
theorem dksX11_made_1 : cX11_made.data.toList.drop 24 = dktX11_made_1 := dk_seg dksX11_made_0 24 rfl rfl
theorem dX11_made_0 : decode cX11_made 0 = .ok (.iload_n 1, 1) := dk_27 (dk_at dksX11_made_0 0 rfl rfl)
theorem dX11_made_1 : decode cX11_made 1 = .ok (.aload_n 0, 1) := dk_42 (dk_at dksX11_made_0 1 rfl rfl)
theorem dX11_made_2 : decode cX11_made 2 = .ok (.getfield 13, 3) := dk_180 0 13 (dk_at dksX11_made_0 2 rfl rfl)
theorem dX11_made_5 : decode cX11_made 5 = .ok (.iand, 1) := dk_126 (dk_at dksX11_made_0 5 rfl rfl)
theorem dX11_made_6 : decode cX11_made 6 = .ok (.aload_n 0, 1) := dk_42 (dk_at dksX11_made_0 6 rfl rfl)
theorem dX11_made_7 : decode cX11_made 7 = .ok (.getfield 13, 3) := dk_180 0 13 (dk_at dksX11_made_0 7 rfl rfl)
theorem dX11_made_10 : decode cX11_made 10 = .ok (.if_icmp .ne 23, 3) := dk_160 0 23 (dk_at dksX11_made_0 10 rfl rfl)
theorem dX11_made_13 : decode cX11_made 13 = .ok (.iload_n 1, 1) := dk_27 (dk_at dksX11_made_0 13 rfl rfl)
theorem dX11_made_14 : decode cX11_made 14 = .ok (.aload_n 0, 1) := dk_42 (dk_at dksX11_made_0 14 rfl rfl)
theorem dX11_made_15 : decode cX11_made 15 = .ok (.getfield 16, 3) := dk_180 0 16 (dk_at dksX11_made_0 15 rfl rfl)
theorem dX11_made_18 : decode cX11_made 18 = .ok (.iand, 1) := dk_126 (dk_at dksX11_made_0 18 rfl rfl)
theorem dX11_made_19 : decode cX11_made 19 = .ok (.ifCond .ne 14, 3) := dk_154 0 14 (dk_at dksX11_made_0 19 rfl rfl)
theorem dX11_made_22 : decode cX11_made 22 = .ok (.iload_n 1, 1) := dk_27 (dk_at dksX11_made_0 22 rfl rfl)
theorem dX11_made_23 : decode cX11_made 23 = .ok (.iconst 1, 1) := dk_4 (dk_at dksX11_made_0 23 rfl rfl)
theorem dX11_made_24 : decode cX11_made 24 = .ok (.aload_n 0, 1) := dk_42 (dk_at dksX11_made_1 0 rfl rfl)
theorem dX11_made_25 : decode cX11_made 25 = .ok (.getfield 7, 3) := dk_180 0 7 (dk_at dksX11_made_1 1 rfl rfl)
theorem dX11_made_28 : decode cX11_made 28 = .ok (.ishl, 1) := dk_120 (dk_at dksX11_made_1 4 rfl rfl)
theorem dX11_made_29 : decode cX11_made 29 = .ok (.ixor, 1) := dk_130 (dk_at dksX11_made_1 5 rfl rfl)
theorem dX11_made_30 : decode cX11_made 30 = .ok (.goto 4, 3) := dk_167 0 4 (dk_at dksX11_made_1 6 rfl rfl)
theorem dX11_made_33 : decode cX11_made 33 = .ok (.iload_n 1, 1) := dk_27 (dk_at dksX11_made_1 9 rfl rfl)
theorem dX11_made_34 : decode cX11_made 34 = .ok (.ireturn, 1) := dk_172 (dk_at dksX11_made_1 10 rfl rfl)
abbrev cX11_told : ByteArray := prog_5_method_9_code
def yX11_told : MethodName := ⟨RX11, "told", "(I)I"⟩
def dkwX11_told_1 : List UInt8 := [180, 0, 16, 172]
abbrev dktX11_told_1 : List UInt8 := dkwX11_told_1 ++ []
def dkwX11_told_0 : List UInt8 := [27, 154, 0, 10, 42, 180, 0, 7, 167, 0, 19, 27, 4, 160, 0, 10, 42, 180, 0, 13, 167, 0, 7, 42]
abbrev dktX11_told_0 : List UInt8 := dkwX11_told_0 ++ dktX11_told_1
theorem dksX11_told_0 : cX11_told.data.toList.drop 0 = dktX11_told_0 := by decide +kernel
theorem dksX11_told_1 : cX11_told.data.toList.drop 24 = dktX11_told_1 := dk_seg dksX11_told_0 24 rfl rfl
theorem dX11_told_0 : decode cX11_told 0 = .ok (.iload_n 1, 1) := dk_27 (dk_at dksX11_told_0 0 rfl rfl)
theorem dX11_told_1 : decode cX11_told 1 = .ok (.ifCond .ne 10, 3) := dk_154 0 10 (dk_at dksX11_told_0 1 rfl rfl)
theorem dX11_told_4 : decode cX11_told 4 = .ok (.aload_n 0, 1) := dk_42 (dk_at dksX11_told_0 4 rfl rfl)
theorem dX11_told_5 : decode cX11_told 5 = .ok (.getfield 7, 3) := dk_180 0 7 (dk_at dksX11_told_0 5 rfl rfl)
theorem dX11_told_8 : decode cX11_told 8 = .ok (.goto 19, 3) := dk_167 0 19 (dk_at dksX11_told_0 8 rfl rfl)
theorem dX11_told_11 : decode cX11_told 11 = .ok (.iload_n 1, 1) := dk_27 (dk_at dksX11_told_0 11 rfl rfl)
theorem dX11_told_12 : decode cX11_told 12 = .ok (.iconst 1, 1) := dk_4 (dk_at dksX11_told_0 12 rfl rfl)
theorem dX11_told_13 : decode cX11_told 13 = .ok (.if_icmp .ne 10, 3) := dk_160 0 10 (dk_at dksX11_told_0 13 rfl rfl)
theorem dX11_told_16 : decode cX11_told 16 = .ok (.aload_n 0, 1) := dk_42 (dk_at dksX11_told_0 16 rfl rfl)
theorem dX11_told_17 : decode cX11_told 17 = .ok (.getfield 13, 3) := dk_180 0 13 (dk_at dksX11_told_0 17 rfl rfl)
theorem dX11_told_20 : decode cX11_told 20 = .ok (.goto 7, 3) := dk_167 0 7 (dk_at dksX11_told_0 20 rfl rfl)
theorem dX11_told_23 : decode cX11_told 23 = .ok (.aload_n 0, 1) := dk_42 (dk_at dksX11_told_0 23 rfl rfl)
theorem dX11_told_24 : decode cX11_told 24 = .ok (.getfield 16, 3) := dk_180 0 16 (dk_at dksX11_told_1 0 rfl rfl)
theorem dX11_told_27 : decode cX11_told 27 = .ok (.ireturn, 1) := dk_172 (dk_at dksX11_told_1 3 rfl rfl)
abbrev cX11_wires : ByteArray := prog_5_method_4_code
def yX11_wires : MethodName := ⟨RX11, "wires", "()I"⟩
def dkwX11_wires_0 : List UInt8 := [42, 180, 0, 13, 42, 180, 0, 16, 128, 4, 42, 180, 0, 7, 120, 128, 172]
abbrev dktX11_wires_0 : List UInt8 := dkwX11_wires_0 ++ []
theorem dksX11_wires_0 : cX11_wires.data.toList.drop 0 = dktX11_wires_0 := by decide +kernel
theorem dX11_wires_0 : decode cX11_wires 0 = .ok (.aload_n 0, 1) := dk_42 (dk_at dksX11_wires_0 0 rfl rfl)
theorem dX11_wires_1 : decode cX11_wires 1 = .ok (.getfield 13, 3) := dk_180 0 13 (dk_at dksX11_wires_0 1 rfl rfl)
theorem dX11_wires_4 : decode cX11_wires 4 = .ok (.aload_n 0, 1) := dk_42 (dk_at dksX11_wires_0 4 rfl rfl)
theorem dX11_wires_5 : decode cX11_wires 5 = .ok (.getfield 16, 3) := dk_180 0 16 (dk_at dksX11_wires_0 5 rfl rfl)
theorem dX11_wires_8 : decode cX11_wires 8 = .ok (.ior, 1) := dk_128 (dk_at dksX11_wires_0 8 rfl rfl)
theorem dX11_wires_9 : decode cX11_wires 9 = .ok (.iconst 1, 1) := dk_4 (dk_at dksX11_wires_0 9 rfl rfl)
theorem dX11_wires_10 : decode cX11_wires 10 = .ok (.aload_n 0, 1) := dk_42 (dk_at dksX11_wires_0 10 rfl rfl)
theorem dX11_wires_11 : decode cX11_wires 11 = .ok (.getfield 7, 3) := dk_180 0 7 (dk_at dksX11_wires_0 11 rfl rfl)
theorem dX11_wires_14 : decode cX11_wires 14 = .ok (.ishl, 1) := dk_120 (dk_at dksX11_wires_0 14 rfl rfl)
theorem dX11_wires_15 : decode cX11_wires 15 = .ok (.ior, 1) := dk_128 (dk_at dksX11_wires_0 15 rfl rfl)
theorem dX11_wires_16 : decode cX11_wires 16 = .ok (.ireturn, 1) := dk_172 (dk_at dksX11_wires_0 16 rfl rfl)
theorem q166 : (Jvm.Cond.initialized "BackLogic$Gate") ∈ lw_all := lw_g (lw_at lw_m1 37 rfl) rfl
theorem q290 : (Jvm.Cond.selects "BackLogic$Gate" ({ cls := "java/lang/Object", name := "getClass", desc := "()Ljava/lang/Class;" } : Jvm.MethodName) ({ cls := "java/lang/Object", name := "getClass", desc := "()Ljava/lang/Class;" } : Jvm.MethodName)) ∈ lw_all := lw_g (lw_at lw_m1 161 rfl) rfl
theorem q1015 : (Jvm.Cond.instantiable "BackLogic$Gate" (3 : Nat)) ∈ lw_all := lw_g (lw_at lw_m4 166 rfl) rfl
theorem q1018 : (Jvm.Cond.instanceMethod ({ cls := "BackLogic$Gate", name := "<init>", desc := "(III)V" } : Jvm.MethodName)) ∈ lw_all := lw_g (lw_at lw_m4 169 rfl) rfl
theorem q1019 : (Jvm.Cond.code ({ cls := "BackLogic$Gate", name := "<init>", desc := "(III)V" } : Jvm.MethodName) prog_5_method_1_code (4 : Nat) (Option.none : Option Jvm.ClassFile.FieldType)) ∈ lw_all := lw_g (lw_at lw_m4 170 rfl) rfl
theorem q1020 : (Jvm.Cond.methodLink "BackLogic$Gate" (1 : Nat) ({ cls := "java/lang/Object", name := "<init>", desc := "()V" } : Jvm.MethodName)) ∈ lw_all := lw_g (lw_at lw_m4 171 rfl) rfl
theorem q1021 : (Jvm.Cond.fieldLink "BackLogic$Gate" (7 : Nat) "BackLogic$Gate" "target" "I") ∈ lw_all := lw_g (lw_at lw_m4 172 rfl) rfl
theorem q1022 : (Jvm.Cond.fieldLink "BackLogic$Gate" (13 : Nat) "BackLogic$Gate" "on" "I") ∈ lw_all := lw_g (lw_at lw_m4 173 rfl) rfl
theorem q1023 : (Jvm.Cond.fieldLink "BackLogic$Gate" (16 : Nat) "BackLogic$Gate" "off" "I") ∈ lw_all := lw_g (lw_at lw_m4 174 rfl) rfl
theorem q1024 : (Jvm.Cond.laysFinal "BackLogic$Gate" "BackLogic$Gate" "target" "I") ∈ lw_all := lw_g (lw_at lw_m4 175 rfl) rfl
theorem q1025 : (Jvm.Cond.soleField "BackLogic$Gate" "target") ∈ lw_all := lw_g (lw_at lw_m4 176 rfl) rfl
theorem q1026 : (Jvm.Cond.laysFinal "BackLogic$Gate" "BackLogic$Gate" "on" "I") ∈ lw_all := lw_g (lw_at lw_m4 177 rfl) rfl
theorem q1027 : (Jvm.Cond.soleField "BackLogic$Gate" "on") ∈ lw_all := lw_g (lw_at lw_m4 178 rfl) rfl
theorem q1028 : (Jvm.Cond.laysFinal "BackLogic$Gate" "BackLogic$Gate" "off" "I") ∈ lw_all := lw_g (lw_at lw_m4 179 rfl) rfl
theorem q1029 : (Jvm.Cond.soleField "BackLogic$Gate" "off") ∈ lw_all := lw_g (lw_at lw_m4 180 rfl) rfl
theorem q1030 : (Jvm.Cond.superclass "BackLogic$Gate" "java/lang/Object") ∈ lw_all := lw_g (lw_at lw_m4 181 rfl) rfl
theorem q1590 : (Jvm.Cond.instanceMethod ({ cls := "BackLogic$Gate", name := "isAlike", desc := "(LBackLogic$Gate;)Z" } : Jvm.MethodName)) ∈ lw_all := lw_g (lw_at lw_m7 21 rfl) rfl
theorem q1591 : (Jvm.Cond.selects "BackLogic$Gate" ({ cls := "BackLogic$Gate", name := "isAlike", desc := "(LBackLogic$Gate;)Z" } : Jvm.MethodName) ({ cls := "BackLogic$Gate", name := "isAlike", desc := "(LBackLogic$Gate;)Z" } : Jvm.MethodName)) ∈ lw_all := lw_g (lw_at lw_m7 22 rfl) rfl
theorem q1592 : (Jvm.Cond.code ({ cls := "BackLogic$Gate", name := "isAlike", desc := "(LBackLogic$Gate;)Z" } : Jvm.MethodName) prog_5_method_5_code (2 : Nat) (Option.some Jvm.ClassFile.FieldType.boolean)) ∈ lw_all := lw_g (lw_at lw_m7 23 rfl) rfl
theorem q1594 : (Jvm.Cond.instanceMethod ({ cls := "BackLogic$Gate", name := "without", desc := "(LBackLogic$Gate;)LBackLogic$Gate;" } : Jvm.MethodName)) ∈ lw_all := lw_g (lw_at lw_m7 25 rfl) rfl
theorem q1595 : (Jvm.Cond.selects "BackLogic$Gate" ({ cls := "BackLogic$Gate", name := "without", desc := "(LBackLogic$Gate;)LBackLogic$Gate;" } : Jvm.MethodName) ({ cls := "BackLogic$Gate", name := "without", desc := "(LBackLogic$Gate;)LBackLogic$Gate;" } : Jvm.MethodName)) ∈ lw_all := lw_g (lw_at lw_m7 26 rfl) rfl
theorem q1596 : (Jvm.Cond.code ({ cls := "BackLogic$Gate", name := "without", desc := "(LBackLogic$Gate;)LBackLogic$Gate;" } : Jvm.MethodName) prog_5_method_7_code (3 : Nat) (Option.some (Jvm.ClassFile.FieldType.object "BackLogic$Gate"))) ∈ lw_all := lw_g (lw_at lw_m7 27 rfl) rfl
theorem q1597 : (Jvm.Cond.methodLink "BackLogic$Gate" (23 : Nat) ({ cls := "BackLogic$Gate", name := "controls", desc := "()I" } : Jvm.MethodName)) ∈ lw_all := lw_g (lw_at lw_m7 28 rfl) rfl
theorem q1598 : (Jvm.Cond.instanceMethod ({ cls := "BackLogic$Gate", name := "controls", desc := "()I" } : Jvm.MethodName)) ∈ lw_all := lw_g (lw_at lw_m7 29 rfl) rfl
theorem q1599 : (Jvm.Cond.selects "BackLogic$Gate" ({ cls := "BackLogic$Gate", name := "controls", desc := "()I" } : Jvm.MethodName) ({ cls := "BackLogic$Gate", name := "controls", desc := "()I" } : Jvm.MethodName)) ∈ lw_all := lw_g (lw_at lw_m7 30 rfl) rfl
theorem q1600 : (Jvm.Cond.code ({ cls := "BackLogic$Gate", name := "controls", desc := "()I" } : Jvm.MethodName) prog_5_method_3_code (1 : Nat) (Option.some Jvm.ClassFile.FieldType.int)) ∈ lw_all := lw_g (lw_at lw_m7 31 rfl) rfl
theorem q1601 : (Jvm.Cond.methodLinkNest "BackLogic$Gate" (27 : Nat) ({ cls := "BackLogic", name := "many", desc := "(I)I" } : Jvm.MethodName) "BackLogic") ∈ lw_tbl := lw_at lw_m7 32 rfl
theorem q1610 : (Jvm.Cond.classLink "BackLogic$Gate" (8 : Nat) "BackLogic$Gate") ∈ lw_all := lw_g (lw_at lw_m7 41 rfl) rfl
theorem q1611 : (Jvm.Cond.methodLink "BackLogic$Gate" (32 : Nat) ({ cls := "BackLogic$Gate", name := "<init>", desc := "(III)V" } : Jvm.MethodName)) ∈ lw_all := lw_g (lw_at lw_m7 42 rfl) rfl
theorem q1613 : (Jvm.Cond.instanceMethod ({ cls := "BackLogic$Gate", name := "turned", desc := "(LBackLogic$Gate;)LBackLogic$Gate;" } : Jvm.MethodName)) ∈ lw_all := lw_g (lw_at lw_m7 44 rfl) rfl
theorem q1614 : (Jvm.Cond.selects "BackLogic$Gate" ({ cls := "BackLogic$Gate", name := "turned", desc := "(LBackLogic$Gate;)LBackLogic$Gate;" } : Jvm.MethodName) ({ cls := "BackLogic$Gate", name := "turned", desc := "(LBackLogic$Gate;)LBackLogic$Gate;" } : Jvm.MethodName)) ∈ lw_all := lw_g (lw_at lw_m7 45 rfl) rfl
theorem q1615 : (Jvm.Cond.code ({ cls := "BackLogic$Gate", name := "turned", desc := "(LBackLogic$Gate;)LBackLogic$Gate;" } : Jvm.MethodName) prog_5_method_8_code (3 : Nat) (Option.some (Jvm.ClassFile.FieldType.object "BackLogic$Gate"))) ∈ lw_all := lw_g (lw_at lw_m7 46 rfl) rfl
theorem q1621 : (Jvm.Cond.instanceMethod ({ cls := "BackLogic$Gate", name := "agrees", desc := "(LBackLogic$Gate;I)Z" } : Jvm.MethodName)) ∈ lw_all := lw_g (lw_at lw_m7 52 rfl) rfl
theorem q1622 : (Jvm.Cond.selects "BackLogic$Gate" ({ cls := "BackLogic$Gate", name := "agrees", desc := "(LBackLogic$Gate;I)Z" } : Jvm.MethodName) ({ cls := "BackLogic$Gate", name := "agrees", desc := "(LBackLogic$Gate;I)Z" } : Jvm.MethodName)) ∈ lw_all := lw_g (lw_at lw_m7 53 rfl) rfl
theorem q1623 : (Jvm.Cond.code ({ cls := "BackLogic$Gate", name := "agrees", desc := "(LBackLogic$Gate;I)Z" } : Jvm.MethodName) prog_5_method_6_code (4 : Nat) (Option.some Jvm.ClassFile.FieldType.boolean)) ∈ lw_all := lw_g (lw_at lw_m7 54 rfl) rfl
theorem q1624 : (Jvm.Cond.methodLink "BackLogic$Gate" (19 : Nat) ({ cls := "BackLogic$Gate", name := "made", desc := "(I)I" } : Jvm.MethodName)) ∈ lw_all := lw_g (lw_at lw_m7 55 rfl) rfl
theorem q1625 : (Jvm.Cond.instanceMethod ({ cls := "BackLogic$Gate", name := "made", desc := "(I)I" } : Jvm.MethodName)) ∈ lw_all := lw_g (lw_at lw_m7 56 rfl) rfl
theorem q1626 : (Jvm.Cond.selects "BackLogic$Gate" ({ cls := "BackLogic$Gate", name := "made", desc := "(I)I" } : Jvm.MethodName) ({ cls := "BackLogic$Gate", name := "made", desc := "(I)I" } : Jvm.MethodName)) ∈ lw_all := lw_g (lw_at lw_m7 57 rfl) rfl
theorem q1627 : (Jvm.Cond.code ({ cls := "BackLogic$Gate", name := "made", desc := "(I)I" } : Jvm.MethodName) prog_5_method_2_code (2 : Nat) (Option.some Jvm.ClassFile.FieldType.int)) ∈ lw_all := lw_g (lw_at lw_m7 58 rfl) rfl
theorem q1850 : (Jvm.Cond.instanceMethod ({ cls := "BackLogic$Gate", name := "told", desc := "(I)I" } : Jvm.MethodName)) ∈ lw_all := lw_g (lw_at lw_m8 41 rfl) rfl
theorem q1851 : (Jvm.Cond.selects "BackLogic$Gate" ({ cls := "BackLogic$Gate", name := "told", desc := "(I)I" } : Jvm.MethodName) ({ cls := "BackLogic$Gate", name := "told", desc := "(I)I" } : Jvm.MethodName)) ∈ lw_all := lw_g (lw_at lw_m8 42 rfl) rfl
theorem q1852 : (Jvm.Cond.code ({ cls := "BackLogic$Gate", name := "told", desc := "(I)I" } : Jvm.MethodName) prog_5_method_9_code (2 : Nat) (Option.some Jvm.ClassFile.FieldType.int)) ∈ lw_all := lw_g (lw_at lw_m8 43 rfl) rfl
theorem q1860 : (Jvm.Cond.instanceMethod ({ cls := "BackLogic$Gate", name := "wires", desc := "()I" } : Jvm.MethodName)) ∈ lw_all := lw_g (lw_at lw_m8 51 rfl) rfl
theorem q1861 : (Jvm.Cond.selects "BackLogic$Gate" ({ cls := "BackLogic$Gate", name := "wires", desc := "()I" } : Jvm.MethodName) ({ cls := "BackLogic$Gate", name := "wires", desc := "()I" } : Jvm.MethodName)) ∈ lw_all := lw_g (lw_at lw_m8 52 rfl) rfl
theorem q1862 : (Jvm.Cond.code ({ cls := "BackLogic$Gate", name := "wires", desc := "()I" } : Jvm.MethodName) prog_5_method_4_code (1 : Nat) (Option.some Jvm.ClassFile.FieldType.int)) ∈ lw_all := lw_g (lw_at lw_m8 53 rfl) rfl
theorem q2698 : (Jvm.Cond.castable "BackLogic$Gate" "java/lang/Object") ∈ lw_tbl := lw_at lw_m11 169 rfl
theorem in_X11 : ∀ w ∈ wsX110, w ∈ lw_all := lw_in wsX110 [1024, 1026, 1028] (by decide +kernel) (by decide +kernel)
/-! BackLogic -/
set_option maxRecDepth 100000
def RX0 : String := "BackLogic"
def TX0 : u_T := fun k => match k with
  | 0 => ("BackLogic", "fault", "LBackLogic$Fault;", true)
  | 1 => ("BackLogic", "tokens", "LBackLogic$Tokens;", true)
  | 2 => ("BackLogic", "parser", "LBackLogic$Parser;", true)
  | 3 => ("BackLogic", "cascade", "LBackLogic$Cascade;", true)
  | 4 => ("BackLogic", "trial", "LBackLogic$Cascade;", true)
  | 5 => ("BackLogic", "table", "LBackLogic$Table;", true)
  | 6 => ("BackLogic", "finder", "LBackLogic$Finder;", true)
  | 7 => ("BackLogic", "shortest", "LBackLogic$Shortest;", true)
  | 8 => ("BackLogic", "tests", "LBackLogic$Tests;", true)
  | 9 => ("BackLogic", "past", "Ljava/util/ArrayDeque;", true)
  | 10 => ("BackLogic", "slots", "[LBackLogic$Cascade;", true)
  | 11 => ("BackLogic", "price", "[I", true)
  | 12 => ("BackLogic", "order", "[I", true)
  | 13 => ("BackLogic", "other", "[I", true)
  | 14 => ("BackLogic", "level", "[I", true)
  | 15 => ("BackLogic", "place", "I", false)
  | 16 => ("BackLogic", "wires", "I", false)
  | _ => ("BackLogic", "goes", "[I", true)
def tyX0 : Nat → FieldType := fun k => match k with
  | 0 => .object "BackLogic$Fault"
  | 1 => .object "BackLogic$Tokens"
  | 2 => .object "BackLogic$Parser"
  | 3 => .object "BackLogic$Cascade"
  | 4 => .object "BackLogic$Cascade"
  | 5 => .object "BackLogic$Table"
  | 6 => .object "BackLogic$Finder"
  | 7 => .object "BackLogic$Shortest"
  | 8 => .object "BackLogic$Tests"
  | 9 => .object "java/util/ArrayDeque"
  | 10 => .array (.object "BackLogic$Cascade")
  | 11 => .array .int
  | 12 => .array .int
  | 13 => .array .int
  | 14 => .array .int
  | 15 => .int
  | 16 => .int
  | _ => .array .int
abbrev wsX00 : List Cond := u_ws RX0 TX0 18
set_option maxRecDepth 100000 in
theorem nmX0 : ∀ a, a < 18 → ∀ b, b < 18 → a ≠ b → (TX0 a).2.1 ≠ (TX0 b).2.1 := by decide +kernel
set_option maxRecDepth 100000 in
theorem tyX0_ok : ∀ k, k < 18 → parseFieldDescriptor (TX0 k).2.2.1 = some (tyX0 k) := by decide +kernel
abbrev cX0_init : ByteArray := prog_1_method_4_code
def yX0_init : MethodName := ⟨RX0, "<init>", "()V"⟩
def dkwX0_init_8 : List UInt8 := [42, 7, 188, 10, 181, 0, 104, 177]
abbrev dktX0_init_8 : List UInt8 := dkwX0_init_8 ++ []
def dkwX0_init_7 : List UInt8 := [181, 0, 91, 42, 16, 16, 188, 10, 181, 0, 94, 42, 16, 16, 188, 10, 181, 0, 97, 42, 2, 181, 0, 100]
abbrev dktX0_init_7 : List UInt8 := dkwX0_init_7 ++ dktX0_init_8
def dkwX0_init_6 : List UInt8 := [4, 79, 89, 4, 4, 79, 89, 5, 8, 79, 89, 6, 16, 13, 79, 181, 0, 87, 42, 16, 64, 188, 10]
abbrev dktX0_init_6 : List UInt8 := dkwX0_init_6 ++ dktX0_init_7
def dkwX0_init_5 : List UInt8 := [187, 0, 76, 89, 183, 0, 78, 181, 0, 79, 42, 6, 189, 0, 38, 181, 0, 83, 42, 7, 188, 10, 89, 3]
abbrev dktX0_init_5 : List UInt8 := dkwX0_init_5 ++ dktX0_init_6
def dkwX0_init_4 : List UInt8 := [187, 0, 62, 89, 183, 0, 64, 181, 0, 65, 42, 187, 0, 69, 89, 183, 0, 71, 181, 0, 72, 42]
abbrev dktX0_init_4 : List UInt8 := dkwX0_init_4 ++ dktX0_init_5
def dkwX0_init_3 : List UInt8 := [187, 0, 48, 89, 183, 0, 50, 181, 0, 51, 42, 187, 0, 55, 89, 183, 0, 57, 181, 0, 58, 42]
abbrev dktX0_init_3 : List UInt8 := dkwX0_init_3 ++ dktX0_init_4
def dkwX0_init_2 : List UInt8 := [187, 0, 38, 89, 183, 0, 40, 181, 0, 41, 42, 187, 0, 38, 89, 183, 0, 40, 181, 0, 45, 42]
abbrev dktX0_init_2 : List UInt8 := dkwX0_init_2 ++ dktX0_init_3
def dkwX0_init_1 : List UInt8 := [181, 0, 25, 42, 187, 0, 29, 89, 42, 180, 0, 25, 42, 180, 0, 16, 183, 0, 31, 181, 0, 34, 42]
abbrev dktX0_init_1 : List UInt8 := dkwX0_init_1 ++ dktX0_init_2
def dkwX0_init_0 : List UInt8 := [42, 183, 0, 7, 42, 187, 0, 13, 89, 183, 0, 15, 181, 0, 16, 42, 187, 0, 22, 89, 183, 0, 24]
abbrev dktX0_init_0 : List UInt8 := dkwX0_init_0 ++ dktX0_init_1
theorem dksX0_init_0 : cX0_init.data.toList.drop 0 = dktX0_init_0 := by decide +kernel
theorem dksX0_init_1 : cX0_init.data.toList.drop 23 = dktX0_init_1 := dk_seg dksX0_init_0 23 rfl rfl
theorem dksX0_init_2 : cX0_init.data.toList.drop 46 = dktX0_init_2 := dk_seg dksX0_init_1 23 rfl rfl
theorem dksX0_init_3 : cX0_init.data.toList.drop 68 = dktX0_init_3 := dk_seg dksX0_init_2 22 rfl rfl
theorem dksX0_init_4 : cX0_init.data.toList.drop 90 = dktX0_init_4 := dk_seg dksX0_init_3 22 rfl rfl
theorem dksX0_init_5 : cX0_init.data.toList.drop 112 = dktX0_init_5 := dk_seg dksX0_init_4 22 rfl rfl
theorem dksX0_init_6 : cX0_init.data.toList.drop 136 = dktX0_init_6 := dk_seg dksX0_init_5 24 rfl rfl
theorem dksX0_init_7 : cX0_init.data.toList.drop 159 = dktX0_init_7 := dk_seg dksX0_init_6 23 rfl rfl
theorem dksX0_init_8 : cX0_init.data.toList.drop 183 = dktX0_init_8 := dk_seg dksX0_init_7 24 rfl rfl
theorem dX0_init_0 : decode cX0_init 0 = .ok (.aload_n 0, 1) := dk_42 (dk_at dksX0_init_0 0 rfl rfl)
theorem dX0_init_1 : decode cX0_init 1 = .ok (.invokespecial 7, 3) := dk_183 0 7 (dk_at dksX0_init_0 1 rfl rfl)
theorem dX0_init_4 : decode cX0_init 4 = .ok (.aload_n 0, 1) := dk_42 (dk_at dksX0_init_0 4 rfl rfl)
theorem dX0_init_5 : decode cX0_init 5 = .ok (.new 13, 3) := dk_187 0 13 (dk_at dksX0_init_0 5 rfl rfl)
theorem dX0_init_8 : decode cX0_init 8 = .ok (.dup, 1) := dk_89 (dk_at dksX0_init_0 8 rfl rfl)
theorem dX0_init_9 : decode cX0_init 9 = .ok (.invokespecial 15, 3) := dk_183 0 15 (dk_at dksX0_init_0 9 rfl rfl)
theorem dX0_init_12 : decode cX0_init 12 = .ok (.putfield 16, 3) := dk_181 0 16 (dk_at dksX0_init_0 12 rfl rfl)
theorem dX0_init_15 : decode cX0_init 15 = .ok (.aload_n 0, 1) := dk_42 (dk_at dksX0_init_0 15 rfl rfl)
theorem dX0_init_16 : decode cX0_init 16 = .ok (.new 22, 3) := dk_187 0 22 (dk_at dksX0_init_0 16 rfl rfl)
theorem dX0_init_19 : decode cX0_init 19 = .ok (.dup, 1) := dk_89 (dk_at dksX0_init_0 19 rfl rfl)
theorem dX0_init_20 : decode cX0_init 20 = .ok (.invokespecial 24, 3) := dk_183 0 24 (dk_at dksX0_init_0 20 rfl rfl)
theorem dX0_init_23 : decode cX0_init 23 = .ok (.putfield 25, 3) := dk_181 0 25 (dk_at dksX0_init_1 0 rfl rfl)
theorem dX0_init_26 : decode cX0_init 26 = .ok (.aload_n 0, 1) := dk_42 (dk_at dksX0_init_1 3 rfl rfl)
theorem dX0_init_27 : decode cX0_init 27 = .ok (.new 29, 3) := dk_187 0 29 (dk_at dksX0_init_1 4 rfl rfl)
theorem dX0_init_30 : decode cX0_init 30 = .ok (.dup, 1) := dk_89 (dk_at dksX0_init_1 7 rfl rfl)
theorem dX0_init_31 : decode cX0_init 31 = .ok (.aload_n 0, 1) := dk_42 (dk_at dksX0_init_1 8 rfl rfl)
theorem dX0_init_32 : decode cX0_init 32 = .ok (.getfield 25, 3) := dk_180 0 25 (dk_at dksX0_init_1 9 rfl rfl)
theorem dX0_init_35 : decode cX0_init 35 = .ok (.aload_n 0, 1) := dk_42 (dk_at dksX0_init_1 12 rfl rfl)
theorem dX0_init_36 : decode cX0_init 36 = .ok (.getfield 16, 3) := dk_180 0 16 (dk_at dksX0_init_1 13 rfl rfl)
theorem dX0_init_39 : decode cX0_init 39 = .ok (.invokespecial 31, 3) := dk_183 0 31 (dk_at dksX0_init_1 16 rfl rfl)
theorem dX0_init_42 : decode cX0_init 42 = .ok (.putfield 34, 3) := dk_181 0 34 (dk_at dksX0_init_1 19 rfl rfl)
theorem dX0_init_45 : decode cX0_init 45 = .ok (.aload_n 0, 1) := dk_42 (dk_at dksX0_init_1 22 rfl rfl)
theorem dX0_init_46 : decode cX0_init 46 = .ok (.new 38, 3) := dk_187 0 38 (dk_at dksX0_init_2 0 rfl rfl)
theorem dX0_init_49 : decode cX0_init 49 = .ok (.dup, 1) := dk_89 (dk_at dksX0_init_2 3 rfl rfl)
theorem dX0_init_50 : decode cX0_init 50 = .ok (.invokespecial 40, 3) := dk_183 0 40 (dk_at dksX0_init_2 4 rfl rfl)
theorem dX0_init_53 : decode cX0_init 53 = .ok (.putfield 41, 3) := dk_181 0 41 (dk_at dksX0_init_2 7 rfl rfl)
theorem dX0_init_56 : decode cX0_init 56 = .ok (.aload_n 0, 1) := dk_42 (dk_at dksX0_init_2 10 rfl rfl)
theorem dX0_init_57 : decode cX0_init 57 = .ok (.new 38, 3) := dk_187 0 38 (dk_at dksX0_init_2 11 rfl rfl)
theorem dX0_init_60 : decode cX0_init 60 = .ok (.dup, 1) := dk_89 (dk_at dksX0_init_2 14 rfl rfl)
theorem dX0_init_61 : decode cX0_init 61 = .ok (.invokespecial 40, 3) := dk_183 0 40 (dk_at dksX0_init_2 15 rfl rfl)
theorem dX0_init_64 : decode cX0_init 64 = .ok (.putfield 45, 3) := dk_181 0 45 (dk_at dksX0_init_2 18 rfl rfl)
theorem dX0_init_67 : decode cX0_init 67 = .ok (.aload_n 0, 1) := dk_42 (dk_at dksX0_init_2 21 rfl rfl)
theorem dX0_init_68 : decode cX0_init 68 = .ok (.new 48, 3) := dk_187 0 48 (dk_at dksX0_init_3 0 rfl rfl)
theorem dX0_init_71 : decode cX0_init 71 = .ok (.dup, 1) := dk_89 (dk_at dksX0_init_3 3 rfl rfl)
theorem dX0_init_72 : decode cX0_init 72 = .ok (.invokespecial 50, 3) := dk_183 0 50 (dk_at dksX0_init_3 4 rfl rfl)
theorem dX0_init_75 : decode cX0_init 75 = .ok (.putfield 51, 3) := dk_181 0 51 (dk_at dksX0_init_3 7 rfl rfl)
theorem dX0_init_78 : decode cX0_init 78 = .ok (.aload_n 0, 1) := dk_42 (dk_at dksX0_init_3 10 rfl rfl)
theorem dX0_init_79 : decode cX0_init 79 = .ok (.new 55, 3) := dk_187 0 55 (dk_at dksX0_init_3 11 rfl rfl)
theorem dX0_init_82 : decode cX0_init 82 = .ok (.dup, 1) := dk_89 (dk_at dksX0_init_3 14 rfl rfl)
theorem dX0_init_83 : decode cX0_init 83 = .ok (.invokespecial 57, 3) := dk_183 0 57 (dk_at dksX0_init_3 15 rfl rfl)
theorem dX0_init_86 : decode cX0_init 86 = .ok (.putfield 58, 3) := dk_181 0 58 (dk_at dksX0_init_3 18 rfl rfl)
theorem dX0_init_89 : decode cX0_init 89 = .ok (.aload_n 0, 1) := dk_42 (dk_at dksX0_init_3 21 rfl rfl)
theorem dX0_init_90 : decode cX0_init 90 = .ok (.new 62, 3) := dk_187 0 62 (dk_at dksX0_init_4 0 rfl rfl)
theorem dX0_init_93 : decode cX0_init 93 = .ok (.dup, 1) := dk_89 (dk_at dksX0_init_4 3 rfl rfl)
theorem dX0_init_94 : decode cX0_init 94 = .ok (.invokespecial 64, 3) := dk_183 0 64 (dk_at dksX0_init_4 4 rfl rfl)
theorem dX0_init_97 : decode cX0_init 97 = .ok (.putfield 65, 3) := dk_181 0 65 (dk_at dksX0_init_4 7 rfl rfl)
theorem dX0_init_100 : decode cX0_init 100 = .ok (.aload_n 0, 1) := dk_42 (dk_at dksX0_init_4 10 rfl rfl)
theorem dX0_init_101 : decode cX0_init 101 = .ok (.new 69, 3) := dk_187 0 69 (dk_at dksX0_init_4 11 rfl rfl)
theorem dX0_init_104 : decode cX0_init 104 = .ok (.dup, 1) := dk_89 (dk_at dksX0_init_4 14 rfl rfl)
theorem dX0_init_105 : decode cX0_init 105 = .ok (.invokespecial 71, 3) := dk_183 0 71 (dk_at dksX0_init_4 15 rfl rfl)
theorem dX0_init_108 : decode cX0_init 108 = .ok (.putfield 72, 3) := dk_181 0 72 (dk_at dksX0_init_4 18 rfl rfl)
theorem dX0_init_111 : decode cX0_init 111 = .ok (.aload_n 0, 1) := dk_42 (dk_at dksX0_init_4 21 rfl rfl)
theorem dX0_init_112 : decode cX0_init 112 = .ok (.new 76, 3) := dk_187 0 76 (dk_at dksX0_init_5 0 rfl rfl)
theorem dX0_init_115 : decode cX0_init 115 = .ok (.dup, 1) := dk_89 (dk_at dksX0_init_5 3 rfl rfl)
theorem dX0_init_116 : decode cX0_init 116 = .ok (.invokespecial 78, 3) := dk_183 0 78 (dk_at dksX0_init_5 4 rfl rfl)
theorem dX0_init_119 : decode cX0_init 119 = .ok (.putfield 79, 3) := dk_181 0 79 (dk_at dksX0_init_5 7 rfl rfl)
theorem dX0_init_122 : decode cX0_init 122 = .ok (.aload_n 0, 1) := dk_42 (dk_at dksX0_init_5 10 rfl rfl)
theorem dX0_init_123 : decode cX0_init 123 = .ok (.iconst 3, 1) := dk_6 (dk_at dksX0_init_5 11 rfl rfl)
theorem dX0_init_124 : decode cX0_init 124 = .ok (.anewarray 38, 3) := dk_189 0 38 (dk_at dksX0_init_5 12 rfl rfl)
theorem dX0_init_127 : decode cX0_init 127 = .ok (.putfield 83, 3) := dk_181 0 83 (dk_at dksX0_init_5 15 rfl rfl)
theorem dX0_init_130 : decode cX0_init 130 = .ok (.aload_n 0, 1) := dk_42 (dk_at dksX0_init_5 18 rfl rfl)
theorem dX0_init_131 : decode cX0_init 131 = .ok (.iconst 4, 1) := dk_7 (dk_at dksX0_init_5 19 rfl rfl)
theorem dX0_init_132 : decode cX0_init 132 = .ok (.newarray .int, 2) := dk_188_10 (dk_at dksX0_init_5 20 rfl rfl)
theorem dX0_init_134 : decode cX0_init 134 = .ok (.dup, 1) := dk_89 (dk_at dksX0_init_5 22 rfl rfl)
theorem dX0_init_135 : decode cX0_init 135 = .ok (.iconst 0, 1) := dk_3 (dk_at dksX0_init_5 23 rfl rfl)
theorem dX0_init_136 : decode cX0_init 136 = .ok (.iconst 1, 1) := dk_4 (dk_at dksX0_init_6 0 rfl rfl)
theorem dX0_init_137 : decode cX0_init 137 = .ok (.iastore, 1) := dk_79 (dk_at dksX0_init_6 1 rfl rfl)
theorem dX0_init_138 : decode cX0_init 138 = .ok (.dup, 1) := dk_89 (dk_at dksX0_init_6 2 rfl rfl)
theorem dX0_init_139 : decode cX0_init 139 = .ok (.iconst 1, 1) := dk_4 (dk_at dksX0_init_6 3 rfl rfl)
theorem dX0_init_140 : decode cX0_init 140 = .ok (.iconst 1, 1) := dk_4 (dk_at dksX0_init_6 4 rfl rfl)
theorem dX0_init_141 : decode cX0_init 141 = .ok (.iastore, 1) := dk_79 (dk_at dksX0_init_6 5 rfl rfl)
theorem dX0_init_142 : decode cX0_init 142 = .ok (.dup, 1) := dk_89 (dk_at dksX0_init_6 6 rfl rfl)
theorem dX0_init_143 : decode cX0_init 143 = .ok (.iconst 2, 1) := dk_5 (dk_at dksX0_init_6 7 rfl rfl)
theorem dX0_init_144 : decode cX0_init 144 = .ok (.iconst 5, 1) := dk_8 (dk_at dksX0_init_6 8 rfl rfl)
theorem dX0_init_145 : decode cX0_init 145 = .ok (.iastore, 1) := dk_79 (dk_at dksX0_init_6 9 rfl rfl)
theorem dX0_init_146 : decode cX0_init 146 = .ok (.dup, 1) := dk_89 (dk_at dksX0_init_6 10 rfl rfl)
theorem dX0_init_147 : decode cX0_init 147 = .ok (.iconst 3, 1) := dk_6 (dk_at dksX0_init_6 11 rfl rfl)
theorem dX0_init_148 : decode cX0_init 148 = .ok (.bipush 13, 2) := dk_16 13 (dk_at dksX0_init_6 12 rfl rfl)
theorem dX0_init_150 : decode cX0_init 150 = .ok (.iastore, 1) := dk_79 (dk_at dksX0_init_6 14 rfl rfl)
theorem dX0_init_151 : decode cX0_init 151 = .ok (.putfield 87, 3) := dk_181 0 87 (dk_at dksX0_init_6 15 rfl rfl)
theorem dX0_init_154 : decode cX0_init 154 = .ok (.aload_n 0, 1) := dk_42 (dk_at dksX0_init_6 18 rfl rfl)
theorem dX0_init_155 : decode cX0_init 155 = .ok (.bipush 64, 2) := dk_16 64 (dk_at dksX0_init_6 19 rfl rfl)
theorem dX0_init_157 : decode cX0_init 157 = .ok (.newarray .int, 2) := dk_188_10 (dk_at dksX0_init_6 21 rfl rfl)
theorem dX0_init_159 : decode cX0_init 159 = .ok (.putfield 91, 3) := dk_181 0 91 (dk_at dksX0_init_7 0 rfl rfl)
theorem dX0_init_162 : decode cX0_init 162 = .ok (.aload_n 0, 1) := dk_42 (dk_at dksX0_init_7 3 rfl rfl)
theorem dX0_init_163 : decode cX0_init 163 = .ok (.bipush 16, 2) := dk_16 16 (dk_at dksX0_init_7 4 rfl rfl)
theorem dX0_init_165 : decode cX0_init 165 = .ok (.newarray .int, 2) := dk_188_10 (dk_at dksX0_init_7 6 rfl rfl)
theorem dX0_init_167 : decode cX0_init 167 = .ok (.putfield 94, 3) := dk_181 0 94 (dk_at dksX0_init_7 8 rfl rfl)
theorem dX0_init_170 : decode cX0_init 170 = .ok (.aload_n 0, 1) := dk_42 (dk_at dksX0_init_7 11 rfl rfl)
theorem dX0_init_171 : decode cX0_init 171 = .ok (.bipush 16, 2) := dk_16 16 (dk_at dksX0_init_7 12 rfl rfl)
theorem dX0_init_173 : decode cX0_init 173 = .ok (.newarray .int, 2) := dk_188_10 (dk_at dksX0_init_7 14 rfl rfl)
theorem dX0_init_175 : decode cX0_init 175 = .ok (.putfield 97, 3) := dk_181 0 97 (dk_at dksX0_init_7 16 rfl rfl)
theorem dX0_init_178 : decode cX0_init 178 = .ok (.aload_n 0, 1) := dk_42 (dk_at dksX0_init_7 19 rfl rfl)
theorem dX0_init_179 : decode cX0_init 179 = .ok (.iconst (-1), 1) := dk_2 (dk_at dksX0_init_7 20 rfl rfl)
theorem dX0_init_180 : decode cX0_init 180 = .ok (.putfield 100, 3) := dk_181 0 100 (dk_at dksX0_init_7 21 rfl rfl)
theorem dX0_init_183 : decode cX0_init 183 = .ok (.aload_n 0, 1) := dk_42 (dk_at dksX0_init_8 0 rfl rfl)
theorem dX0_init_184 : decode cX0_init 184 = .ok (.iconst 4, 1) := dk_7 (dk_at dksX0_init_8 1 rfl rfl)
theorem dX0_init_185 : decode cX0_init 185 = .ok (.newarray .int, 2) := dk_188_10 (dk_at dksX0_init_8 2 rfl rfl)
theorem dX0_init_187 : decode cX0_init 187 = .ok (.putfield 104, 3) := dk_181 0 104 (dk_at dksX0_init_8 4 rfl rfl)
theorem dX0_init_190 : decode cX0_init 190 = .ok (.return_, 1) := dk_177 (dk_at dksX0_init_8 7 rfl rfl)
abbrev cX0_feed : ByteArray := prog_1_method_5_code
def yX0_feed : MethodName := ⟨RX0, "feed", "(IIIII)I"⟩
def dkwX0_feed_2 : List UInt8 := [180, 0, 25, 180, 0, 107, 172]
abbrev dktX0_feed_2 : List UInt8 := dkwX0_feed_2 ++ []
def dkwX0_feed_1 : List UInt8 := [28, 182, 0, 110, 42, 29, 182, 0, 110, 42, 21, 4, 182, 0, 110, 42, 21, 5, 182, 0, 110, 42]
abbrev dktX0_feed_1 : List UInt8 := dkwX0_feed_1 ++ dktX0_feed_2
def dkwX0_feed_0 : List UInt8 := [42, 180, 0, 25, 180, 0, 107, 16, 20, 96, 17, 7, 208, 164, 0, 5, 2, 172, 42, 27, 182, 0, 110, 42]
abbrev dktX0_feed_0 : List UInt8 := dkwX0_feed_0 ++ dktX0_feed_1
theorem dksX0_feed_0 : cX0_feed.data.toList.drop 0 = dktX0_feed_0 := by decide +kernel
theorem dksX0_feed_1 : cX0_feed.data.toList.drop 24 = dktX0_feed_1 := dk_seg dksX0_feed_0 24 rfl rfl
theorem dksX0_feed_2 : cX0_feed.data.toList.drop 46 = dktX0_feed_2 := dk_seg dksX0_feed_1 22 rfl rfl
theorem dX0_feed_0 : decode cX0_feed 0 = .ok (.aload_n 0, 1) := dk_42 (dk_at dksX0_feed_0 0 rfl rfl)
theorem dX0_feed_1 : decode cX0_feed 1 = .ok (.getfield 25, 3) := dk_180 0 25 (dk_at dksX0_feed_0 1 rfl rfl)
theorem dX0_feed_4 : decode cX0_feed 4 = .ok (.getfield 107, 3) := dk_180 0 107 (dk_at dksX0_feed_0 4 rfl rfl)
theorem dX0_feed_7 : decode cX0_feed 7 = .ok (.bipush 20, 2) := dk_16 20 (dk_at dksX0_feed_0 7 rfl rfl)
theorem dX0_feed_9 : decode cX0_feed 9 = .ok (.iadd, 1) := dk_96 (dk_at dksX0_feed_0 9 rfl rfl)
theorem dX0_feed_10 : decode cX0_feed 10 = .ok (.sipush 2000, 3) := dk_17 7 208 (dk_at dksX0_feed_0 10 rfl rfl)
theorem dX0_feed_13 : decode cX0_feed 13 = .ok (.if_icmp .le 5, 3) := dk_164 0 5 (dk_at dksX0_feed_0 13 rfl rfl)
theorem dX0_feed_16 : decode cX0_feed 16 = .ok (.iconst (-1), 1) := dk_2 (dk_at dksX0_feed_0 16 rfl rfl)
theorem dX0_feed_17 : decode cX0_feed 17 = .ok (.ireturn, 1) := dk_172 (dk_at dksX0_feed_0 17 rfl rfl)
theorem dX0_feed_18 : decode cX0_feed 18 = .ok (.aload_n 0, 1) := dk_42 (dk_at dksX0_feed_0 18 rfl rfl)
theorem dX0_feed_19 : decode cX0_feed 19 = .ok (.iload_n 1, 1) := dk_27 (dk_at dksX0_feed_0 19 rfl rfl)
theorem dX0_feed_20 : decode cX0_feed 20 = .ok (.invokevirtual 110, 3) := dk_182 0 110 (dk_at dksX0_feed_0 20 rfl rfl)
theorem dX0_feed_23 : decode cX0_feed 23 = .ok (.aload_n 0, 1) := dk_42 (dk_at dksX0_feed_0 23 rfl rfl)
theorem dX0_feed_24 : decode cX0_feed 24 = .ok (.iload_n 2, 1) := dk_28 (dk_at dksX0_feed_1 0 rfl rfl)
theorem dX0_feed_25 : decode cX0_feed 25 = .ok (.invokevirtual 110, 3) := dk_182 0 110 (dk_at dksX0_feed_1 1 rfl rfl)
theorem dX0_feed_28 : decode cX0_feed 28 = .ok (.aload_n 0, 1) := dk_42 (dk_at dksX0_feed_1 4 rfl rfl)
theorem dX0_feed_29 : decode cX0_feed 29 = .ok (.iload_n 3, 1) := dk_29 (dk_at dksX0_feed_1 5 rfl rfl)
theorem dX0_feed_30 : decode cX0_feed 30 = .ok (.invokevirtual 110, 3) := dk_182 0 110 (dk_at dksX0_feed_1 6 rfl rfl)
theorem dX0_feed_33 : decode cX0_feed 33 = .ok (.aload_n 0, 1) := dk_42 (dk_at dksX0_feed_1 9 rfl rfl)
theorem dX0_feed_34 : decode cX0_feed 34 = .ok (.iload 4, 2) := dk_21 4 (dk_at dksX0_feed_1 10 rfl rfl)
theorem dX0_feed_36 : decode cX0_feed 36 = .ok (.invokevirtual 110, 3) := dk_182 0 110 (dk_at dksX0_feed_1 12 rfl rfl)
theorem dX0_feed_39 : decode cX0_feed 39 = .ok (.aload_n 0, 1) := dk_42 (dk_at dksX0_feed_1 15 rfl rfl)
theorem dX0_feed_40 : decode cX0_feed 40 = .ok (.iload 5, 2) := dk_21 5 (dk_at dksX0_feed_1 16 rfl rfl)
theorem dX0_feed_42 : decode cX0_feed 42 = .ok (.invokevirtual 110, 3) := dk_182 0 110 (dk_at dksX0_feed_1 18 rfl rfl)
theorem dX0_feed_45 : decode cX0_feed 45 = .ok (.aload_n 0, 1) := dk_42 (dk_at dksX0_feed_1 21 rfl rfl)
theorem dX0_feed_46 : decode cX0_feed 46 = .ok (.getfield 25, 3) := dk_180 0 25 (dk_at dksX0_feed_2 0 rfl rfl)
theorem dX0_feed_49 : decode cX0_feed 49 = .ok (.getfield 107, 3) := dk_180 0 107 (dk_at dksX0_feed_2 3 rfl rfl)
theorem dX0_feed_52 : decode cX0_feed 52 = .ok (.ireturn, 1) := dk_172 (dk_at dksX0_feed_2 6 rfl rfl)
abbrev cX0_typed : ByteArray := prog_1_method_6_code
def yX0_typed : MethodName := ⟨RX0, "typed", "(I)V"⟩
def dkwX0_typed_1 : List UInt8 := [145, 84, 42, 180, 0, 25, 89, 180, 0, 107, 4, 96, 181, 0, 107, 132, 2, 248, 167, 255, 217, 177]
abbrev dktX0_typed_1 : List UInt8 := dkwX0_typed_1 ++ []
def dkwX0_typed_0 : List UInt8 := [16, 24, 61, 28, 155, 0, 41, 42, 180, 0, 25, 180, 0, 114, 42, 180, 0, 25, 180, 0, 107, 27, 28, 122]
abbrev dktX0_typed_0 : List UInt8 := dkwX0_typed_0 ++ dktX0_typed_1
theorem dksX0_typed_0 : cX0_typed.data.toList.drop 0 = dktX0_typed_0 := by decide +kernel
theorem dksX0_typed_1 : cX0_typed.data.toList.drop 24 = dktX0_typed_1 := dk_seg dksX0_typed_0 24 rfl rfl
theorem dX0_typed_0 : decode cX0_typed 0 = .ok (.bipush 24, 2) := dk_16 24 (dk_at dksX0_typed_0 0 rfl rfl)
theorem dX0_typed_2 : decode cX0_typed 2 = .ok (.istore_n 2, 1) := dk_61 (dk_at dksX0_typed_0 2 rfl rfl)
theorem dX0_typed_3 : decode cX0_typed 3 = .ok (.iload_n 2, 1) := dk_28 (dk_at dksX0_typed_0 3 rfl rfl)
theorem dX0_typed_4 : decode cX0_typed 4 = .ok (.ifCond .lt 41, 3) := dk_155 0 41 (dk_at dksX0_typed_0 4 rfl rfl)
theorem dX0_typed_7 : decode cX0_typed 7 = .ok (.aload_n 0, 1) := dk_42 (dk_at dksX0_typed_0 7 rfl rfl)
theorem dX0_typed_8 : decode cX0_typed 8 = .ok (.getfield 25, 3) := dk_180 0 25 (dk_at dksX0_typed_0 8 rfl rfl)
theorem dX0_typed_11 : decode cX0_typed 11 = .ok (.getfield 114, 3) := dk_180 0 114 (dk_at dksX0_typed_0 11 rfl rfl)
theorem dX0_typed_14 : decode cX0_typed 14 = .ok (.aload_n 0, 1) := dk_42 (dk_at dksX0_typed_0 14 rfl rfl)
theorem dX0_typed_15 : decode cX0_typed 15 = .ok (.getfield 25, 3) := dk_180 0 25 (dk_at dksX0_typed_0 15 rfl rfl)
theorem dX0_typed_18 : decode cX0_typed 18 = .ok (.getfield 107, 3) := dk_180 0 107 (dk_at dksX0_typed_0 18 rfl rfl)
theorem dX0_typed_21 : decode cX0_typed 21 = .ok (.iload_n 1, 1) := dk_27 (dk_at dksX0_typed_0 21 rfl rfl)
theorem dX0_typed_22 : decode cX0_typed 22 = .ok (.iload_n 2, 1) := dk_28 (dk_at dksX0_typed_0 22 rfl rfl)
theorem dX0_typed_23 : decode cX0_typed 23 = .ok (.ishr, 1) := dk_122 (dk_at dksX0_typed_0 23 rfl rfl)
theorem dX0_typed_24 : decode cX0_typed 24 = .ok (.i2b, 1) := dk_145 (dk_at dksX0_typed_1 0 rfl rfl)
theorem dX0_typed_25 : decode cX0_typed 25 = .ok (.bastore, 1) := dk_84 (dk_at dksX0_typed_1 1 rfl rfl)
theorem dX0_typed_26 : decode cX0_typed 26 = .ok (.aload_n 0, 1) := dk_42 (dk_at dksX0_typed_1 2 rfl rfl)
theorem dX0_typed_27 : decode cX0_typed 27 = .ok (.getfield 25, 3) := dk_180 0 25 (dk_at dksX0_typed_1 3 rfl rfl)
theorem dX0_typed_30 : decode cX0_typed 30 = .ok (.dup, 1) := dk_89 (dk_at dksX0_typed_1 6 rfl rfl)
theorem dX0_typed_31 : decode cX0_typed 31 = .ok (.getfield 107, 3) := dk_180 0 107 (dk_at dksX0_typed_1 7 rfl rfl)
theorem dX0_typed_34 : decode cX0_typed 34 = .ok (.iconst 1, 1) := dk_4 (dk_at dksX0_typed_1 10 rfl rfl)
theorem dX0_typed_35 : decode cX0_typed 35 = .ok (.iadd, 1) := dk_96 (dk_at dksX0_typed_1 11 rfl rfl)
theorem dX0_typed_36 : decode cX0_typed 36 = .ok (.putfield 107, 3) := dk_181 0 107 (dk_at dksX0_typed_1 12 rfl rfl)
theorem dX0_typed_39 : decode cX0_typed 39 = .ok (.iinc 2 (-8), 3) := dk_132 2 248 (dk_at dksX0_typed_1 15 rfl rfl)
theorem dX0_typed_42 : decode cX0_typed 42 = .ok (.goto (-39), 3) := dk_167 255 217 (dk_at dksX0_typed_1 18 rfl rfl)
theorem dX0_typed_45 : decode cX0_typed 45 = .ok (.return_, 1) := dk_177 (dk_at dksX0_typed_1 21 rfl rfl)
abbrev cX0_back : ByteArray := prog_1_method_7_code
def yX0_back : MethodName := ⟨RX0, "back", "(I)I"⟩
def dkwX0_back_1 : List UInt8 := [180, 0, 107, 27, 100, 181, 0, 107, 42, 180, 0, 25, 180, 0, 107, 172]
abbrev dktX0_back_1 : List UInt8 := dkwX0_back_1 ++ []
def dkwX0_back_0 : List UInt8 := [27, 155, 0, 14, 27, 42, 180, 0, 25, 180, 0, 107, 164, 0, 5, 2, 172, 42, 180, 0, 25, 89]
abbrev dktX0_back_0 : List UInt8 := dkwX0_back_0 ++ dktX0_back_1
theorem dksX0_back_0 : cX0_back.data.toList.drop 0 = dktX0_back_0 := by decide +kernel
theorem dksX0_back_1 : cX0_back.data.toList.drop 22 = dktX0_back_1 := dk_seg dksX0_back_0 22 rfl rfl
theorem dX0_back_0 : decode cX0_back 0 = .ok (.iload_n 1, 1) := dk_27 (dk_at dksX0_back_0 0 rfl rfl)
theorem dX0_back_1 : decode cX0_back 1 = .ok (.ifCond .lt 14, 3) := dk_155 0 14 (dk_at dksX0_back_0 1 rfl rfl)
theorem dX0_back_4 : decode cX0_back 4 = .ok (.iload_n 1, 1) := dk_27 (dk_at dksX0_back_0 4 rfl rfl)
theorem dX0_back_5 : decode cX0_back 5 = .ok (.aload_n 0, 1) := dk_42 (dk_at dksX0_back_0 5 rfl rfl)
theorem dX0_back_6 : decode cX0_back 6 = .ok (.getfield 25, 3) := dk_180 0 25 (dk_at dksX0_back_0 6 rfl rfl)
theorem dX0_back_9 : decode cX0_back 9 = .ok (.getfield 107, 3) := dk_180 0 107 (dk_at dksX0_back_0 9 rfl rfl)
theorem dX0_back_12 : decode cX0_back 12 = .ok (.if_icmp .le 5, 3) := dk_164 0 5 (dk_at dksX0_back_0 12 rfl rfl)
theorem dX0_back_15 : decode cX0_back 15 = .ok (.iconst (-1), 1) := dk_2 (dk_at dksX0_back_0 15 rfl rfl)
theorem dX0_back_16 : decode cX0_back 16 = .ok (.ireturn, 1) := dk_172 (dk_at dksX0_back_0 16 rfl rfl)
theorem dX0_back_17 : decode cX0_back 17 = .ok (.aload_n 0, 1) := dk_42 (dk_at dksX0_back_0 17 rfl rfl)
theorem dX0_back_18 : decode cX0_back 18 = .ok (.getfield 25, 3) := dk_180 0 25 (dk_at dksX0_back_0 18 rfl rfl)
theorem dX0_back_21 : decode cX0_back 21 = .ok (.dup, 1) := dk_89 (dk_at dksX0_back_0 21 rfl rfl)
theorem dX0_back_22 : decode cX0_back 22 = .ok (.getfield 107, 3) := dk_180 0 107 (dk_at dksX0_back_1 0 rfl rfl)
theorem dX0_back_25 : decode cX0_back 25 = .ok (.iload_n 1, 1) := dk_27 (dk_at dksX0_back_1 3 rfl rfl)
theorem dX0_back_26 : decode cX0_back 26 = .ok (.isub, 1) := dk_100 (dk_at dksX0_back_1 4 rfl rfl)
theorem dX0_back_27 : decode cX0_back 27 = .ok (.putfield 107, 3) := dk_181 0 107 (dk_at dksX0_back_1 5 rfl rfl)
theorem dX0_back_30 : decode cX0_back 30 = .ok (.aload_n 0, 1) := dk_42 (dk_at dksX0_back_1 8 rfl rfl)
theorem dX0_back_31 : decode cX0_back 31 = .ok (.getfield 25, 3) := dk_180 0 25 (dk_at dksX0_back_1 9 rfl rfl)
theorem dX0_back_34 : decode cX0_back 34 = .ok (.getfield 107, 3) := dk_180 0 107 (dk_at dksX0_back_1 12 rfl rfl)
theorem dX0_back_37 : decode cX0_back 37 = .ok (.ireturn, 1) := dk_172 (dk_at dksX0_back_1 15 rfl rfl)
abbrev cX0_read : ByteArray := prog_1_method_8_code
def yX0_read : MethodName := ⟨RX0, "read", "()I"⟩
def dkwX0_read_1 : List UInt8 := [180, 0, 124, 60, 42, 44, 180, 0, 127, 181, 0, 100, 42, 180, 0, 25, 3, 181, 0, 107, 27, 172]
abbrev dktX0_read_1 : List UInt8 := dkwX0_read_1 ++ []
def dkwX0_read_0 : List UInt8 := [3, 60, 42, 2, 181, 0, 100, 42, 180, 0, 34, 182, 0, 118, 42, 182, 0, 121, 167, 0, 17, 77, 44]
abbrev dktX0_read_0 : List UInt8 := dkwX0_read_0 ++ dktX0_read_1
theorem dksX0_read_0 : cX0_read.data.toList.drop 0 = dktX0_read_0 := by decide +kernel
theorem dksX0_read_1 : cX0_read.data.toList.drop 23 = dktX0_read_1 := dk_seg dksX0_read_0 23 rfl rfl
theorem dX0_read_0 : decode cX0_read 0 = .ok (.iconst 0, 1) := dk_3 (dk_at dksX0_read_0 0 rfl rfl)
theorem dX0_read_1 : decode cX0_read 1 = .ok (.istore_n 1, 1) := dk_60 (dk_at dksX0_read_0 1 rfl rfl)
theorem dX0_read_2 : decode cX0_read 2 = .ok (.aload_n 0, 1) := dk_42 (dk_at dksX0_read_0 2 rfl rfl)
theorem dX0_read_3 : decode cX0_read 3 = .ok (.iconst (-1), 1) := dk_2 (dk_at dksX0_read_0 3 rfl rfl)
theorem dX0_read_4 : decode cX0_read 4 = .ok (.putfield 100, 3) := dk_181 0 100 (dk_at dksX0_read_0 4 rfl rfl)
theorem dX0_read_7 : decode cX0_read 7 = .ok (.aload_n 0, 1) := dk_42 (dk_at dksX0_read_0 7 rfl rfl)
theorem dX0_read_8 : decode cX0_read 8 = .ok (.getfield 34, 3) := dk_180 0 34 (dk_at dksX0_read_0 8 rfl rfl)
theorem dX0_read_11 : decode cX0_read 11 = .ok (.invokevirtual 118, 3) := dk_182 0 118 (dk_at dksX0_read_0 11 rfl rfl)
theorem dX0_read_14 : decode cX0_read 14 = .ok (.aload_n 0, 1) := dk_42 (dk_at dksX0_read_0 14 rfl rfl)
theorem dX0_read_15 : decode cX0_read 15 = .ok (.invokevirtual 121, 3) := dk_182 0 121 (dk_at dksX0_read_0 15 rfl rfl)
theorem dX0_read_18 : decode cX0_read 18 = .ok (.goto 17, 3) := dk_167 0 17 (dk_at dksX0_read_0 18 rfl rfl)
theorem dX0_read_21 : decode cX0_read 21 = .ok (.astore_n 2, 1) := dk_77 (dk_at dksX0_read_0 21 rfl rfl)
theorem dX0_read_22 : decode cX0_read 22 = .ok (.aload_n 2, 1) := dk_44 (dk_at dksX0_read_0 22 rfl rfl)
theorem dX0_read_23 : decode cX0_read 23 = .ok (.getfield 124, 3) := dk_180 0 124 (dk_at dksX0_read_1 0 rfl rfl)
theorem dX0_read_26 : decode cX0_read 26 = .ok (.istore_n 1, 1) := dk_60 (dk_at dksX0_read_1 3 rfl rfl)
theorem dX0_read_27 : decode cX0_read 27 = .ok (.aload_n 0, 1) := dk_42 (dk_at dksX0_read_1 4 rfl rfl)
theorem dX0_read_28 : decode cX0_read 28 = .ok (.aload_n 2, 1) := dk_44 (dk_at dksX0_read_1 5 rfl rfl)
theorem dX0_read_29 : decode cX0_read 29 = .ok (.getfield 127, 3) := dk_180 0 127 (dk_at dksX0_read_1 6 rfl rfl)
theorem dX0_read_32 : decode cX0_read 32 = .ok (.putfield 100, 3) := dk_181 0 100 (dk_at dksX0_read_1 9 rfl rfl)
theorem dX0_read_35 : decode cX0_read 35 = .ok (.aload_n 0, 1) := dk_42 (dk_at dksX0_read_1 12 rfl rfl)
theorem dX0_read_36 : decode cX0_read 36 = .ok (.getfield 25, 3) := dk_180 0 25 (dk_at dksX0_read_1 13 rfl rfl)
theorem dX0_read_39 : decode cX0_read 39 = .ok (.iconst 0, 1) := dk_3 (dk_at dksX0_read_1 16 rfl rfl)
theorem dX0_read_40 : decode cX0_read 40 = .ok (.putfield 107, 3) := dk_181 0 107 (dk_at dksX0_read_1 17 rfl rfl)
theorem dX0_read_43 : decode cX0_read 43 = .ok (.iload_n 1, 1) := dk_27 (dk_at dksX0_read_1 20 rfl rfl)
theorem dX0_read_44 : decode cX0_read 44 = .ok (.ireturn, 1) := dk_172 (dk_at dksX0_read_1 21 rfl rfl)
abbrev cX0_isIn : ByteArray := prog_1_method_1_code
def yX0_isIn : MethodName := ⟨RX0, "isIn", "(III)Z"⟩
def dkwX0_isIn_0 : List UInt8 := [26, 27, 161, 0, 12, 26, 28, 163, 0, 7, 4, 167, 0, 4, 3, 172]
abbrev dktX0_isIn_0 : List UInt8 := dkwX0_isIn_0 ++ []
theorem dksX0_isIn_0 : cX0_isIn.data.toList.drop 0 = dktX0_isIn_0 := by decide +kernel
theorem dX0_isIn_0 : decode cX0_isIn 0 = .ok (.iload_n 0, 1) := dk_26 (dk_at dksX0_isIn_0 0 rfl rfl)
theorem dX0_isIn_1 : decode cX0_isIn 1 = .ok (.iload_n 1, 1) := dk_27 (dk_at dksX0_isIn_0 1 rfl rfl)
theorem dX0_isIn_2 : decode cX0_isIn 2 = .ok (.if_icmp .lt 12, 3) := dk_161 0 12 (dk_at dksX0_isIn_0 2 rfl rfl)
theorem dX0_isIn_5 : decode cX0_isIn 5 = .ok (.iload_n 0, 1) := dk_26 (dk_at dksX0_isIn_0 5 rfl rfl)
theorem dX0_isIn_6 : decode cX0_isIn 6 = .ok (.iload_n 2, 1) := dk_28 (dk_at dksX0_isIn_0 6 rfl rfl)
theorem dX0_isIn_7 : decode cX0_isIn 7 = .ok (.if_icmp .gt 7, 3) := dk_163 0 7 (dk_at dksX0_isIn_0 7 rfl rfl)
theorem dX0_isIn_10 : decode cX0_isIn 10 = .ok (.iconst 1, 1) := dk_4 (dk_at dksX0_isIn_0 10 rfl rfl)
theorem dX0_isIn_11 : decode cX0_isIn 11 = .ok (.goto 4, 3) := dk_167 0 4 (dk_at dksX0_isIn_0 11 rfl rfl)
theorem dX0_isIn_14 : decode cX0_isIn 14 = .ok (.iconst 0, 1) := dk_3 (dk_at dksX0_isIn_0 14 rfl rfl)
theorem dX0_isIn_15 : decode cX0_isIn 15 = .ok (.ireturn, 1) := dk_172 (dk_at dksX0_isIn_0 15 rfl rfl)
abbrev cX0_begins : ByteArray := prog_1_method_9_code
def yX0_begins : MethodName := ⟨RX0, "begins", "()V"⟩
def dkwX0_begins_3 : List UInt8 := [42, 180, 0, 83, 27, 1, 83, 132, 1, 1, 167, 255, 241, 177]
abbrev dktX0_begins_3 : List UInt8 := dkwX0_begins_3 ++ []
def dkwX0_begins_2 : List UInt8 := [3, 42, 180, 0, 87, 3, 7, 184, 0, 142, 42, 180, 0, 79, 182, 0, 148, 3, 60, 27, 6, 162, 0, 16]
abbrev dktX0_begins_2 : List UInt8 := dkwX0_begins_2 ++ dktX0_begins_3
def dkwX0_begins_1 : List UInt8 := [182, 0, 133, 42, 180, 0, 51, 42, 180, 0, 34, 180, 0, 137, 182, 0, 138, 42, 180, 0, 34, 180, 0, 141]
abbrev dktX0_begins_1 : List UInt8 := dkwX0_begins_1 ++ dktX0_begins_2
def dkwX0_begins_0 : List UInt8 := [42, 42, 180, 0, 34, 180, 0, 128, 181, 0, 131, 42, 180, 0, 41, 42, 180, 0, 34, 180, 0, 132]
abbrev dktX0_begins_0 : List UInt8 := dkwX0_begins_0 ++ dktX0_begins_1
theorem dksX0_begins_0 : cX0_begins.data.toList.drop 0 = dktX0_begins_0 := by decide +kernel
theorem dksX0_begins_1 : cX0_begins.data.toList.drop 22 = dktX0_begins_1 := dk_seg dksX0_begins_0 22 rfl rfl
theorem dksX0_begins_2 : cX0_begins.data.toList.drop 46 = dktX0_begins_2 := dk_seg dksX0_begins_1 24 rfl rfl
theorem dksX0_begins_3 : cX0_begins.data.toList.drop 70 = dktX0_begins_3 := dk_seg dksX0_begins_2 24 rfl rfl
theorem dX0_begins_0 : decode cX0_begins 0 = .ok (.aload_n 0, 1) := dk_42 (dk_at dksX0_begins_0 0 rfl rfl)
theorem dX0_begins_1 : decode cX0_begins 1 = .ok (.aload_n 0, 1) := dk_42 (dk_at dksX0_begins_0 1 rfl rfl)
theorem dX0_begins_2 : decode cX0_begins 2 = .ok (.getfield 34, 3) := dk_180 0 34 (dk_at dksX0_begins_0 2 rfl rfl)
theorem dX0_begins_5 : decode cX0_begins 5 = .ok (.getfield 128, 3) := dk_180 0 128 (dk_at dksX0_begins_0 5 rfl rfl)
theorem dX0_begins_8 : decode cX0_begins 8 = .ok (.putfield 131, 3) := dk_181 0 131 (dk_at dksX0_begins_0 8 rfl rfl)
theorem dX0_begins_11 : decode cX0_begins 11 = .ok (.aload_n 0, 1) := dk_42 (dk_at dksX0_begins_0 11 rfl rfl)
theorem dX0_begins_12 : decode cX0_begins 12 = .ok (.getfield 41, 3) := dk_180 0 41 (dk_at dksX0_begins_0 12 rfl rfl)
theorem dX0_begins_15 : decode cX0_begins 15 = .ok (.aload_n 0, 1) := dk_42 (dk_at dksX0_begins_0 15 rfl rfl)
theorem dX0_begins_16 : decode cX0_begins 16 = .ok (.getfield 34, 3) := dk_180 0 34 (dk_at dksX0_begins_0 16 rfl rfl)
theorem dX0_begins_19 : decode cX0_begins 19 = .ok (.getfield 132, 3) := dk_180 0 132 (dk_at dksX0_begins_0 19 rfl rfl)
theorem dX0_begins_22 : decode cX0_begins 22 = .ok (.invokevirtual 133, 3) := dk_182 0 133 (dk_at dksX0_begins_1 0 rfl rfl)
theorem dX0_begins_25 : decode cX0_begins 25 = .ok (.aload_n 0, 1) := dk_42 (dk_at dksX0_begins_1 3 rfl rfl)
theorem dX0_begins_26 : decode cX0_begins 26 = .ok (.getfield 51, 3) := dk_180 0 51 (dk_at dksX0_begins_1 4 rfl rfl)
theorem dX0_begins_29 : decode cX0_begins 29 = .ok (.aload_n 0, 1) := dk_42 (dk_at dksX0_begins_1 7 rfl rfl)
theorem dX0_begins_30 : decode cX0_begins 30 = .ok (.getfield 34, 3) := dk_180 0 34 (dk_at dksX0_begins_1 8 rfl rfl)
theorem dX0_begins_33 : decode cX0_begins 33 = .ok (.getfield 137, 3) := dk_180 0 137 (dk_at dksX0_begins_1 11 rfl rfl)
theorem dX0_begins_36 : decode cX0_begins 36 = .ok (.invokevirtual 138, 3) := dk_182 0 138 (dk_at dksX0_begins_1 14 rfl rfl)
theorem dX0_begins_39 : decode cX0_begins 39 = .ok (.aload_n 0, 1) := dk_42 (dk_at dksX0_begins_1 17 rfl rfl)
theorem dX0_begins_40 : decode cX0_begins 40 = .ok (.getfield 34, 3) := dk_180 0 34 (dk_at dksX0_begins_1 18 rfl rfl)
theorem dX0_begins_43 : decode cX0_begins 43 = .ok (.getfield 141, 3) := dk_180 0 141 (dk_at dksX0_begins_1 21 rfl rfl)
theorem dX0_begins_46 : decode cX0_begins 46 = .ok (.iconst 0, 1) := dk_3 (dk_at dksX0_begins_2 0 rfl rfl)
theorem dX0_begins_47 : decode cX0_begins 47 = .ok (.aload_n 0, 1) := dk_42 (dk_at dksX0_begins_2 1 rfl rfl)
theorem dX0_begins_48 : decode cX0_begins 48 = .ok (.getfield 87, 3) := dk_180 0 87 (dk_at dksX0_begins_2 2 rfl rfl)
theorem dX0_begins_51 : decode cX0_begins 51 = .ok (.iconst 0, 1) := dk_3 (dk_at dksX0_begins_2 5 rfl rfl)
theorem dX0_begins_52 : decode cX0_begins 52 = .ok (.iconst 4, 1) := dk_7 (dk_at dksX0_begins_2 6 rfl rfl)
theorem dX0_begins_53 : decode cX0_begins 53 = .ok (.invokestatic 142, 3) := dk_184 0 142 (dk_at dksX0_begins_2 7 rfl rfl)
theorem dX0_begins_56 : decode cX0_begins 56 = .ok (.aload_n 0, 1) := dk_42 (dk_at dksX0_begins_2 10 rfl rfl)
theorem dX0_begins_57 : decode cX0_begins 57 = .ok (.getfield 79, 3) := dk_180 0 79 (dk_at dksX0_begins_2 11 rfl rfl)
theorem dX0_begins_60 : decode cX0_begins 60 = .ok (.invokevirtual 148, 3) := dk_182 0 148 (dk_at dksX0_begins_2 14 rfl rfl)
theorem dX0_begins_63 : decode cX0_begins 63 = .ok (.iconst 0, 1) := dk_3 (dk_at dksX0_begins_2 17 rfl rfl)
theorem dX0_begins_64 : decode cX0_begins 64 = .ok (.istore_n 1, 1) := dk_60 (dk_at dksX0_begins_2 18 rfl rfl)
theorem dX0_begins_65 : decode cX0_begins 65 = .ok (.iload_n 1, 1) := dk_27 (dk_at dksX0_begins_2 19 rfl rfl)
theorem dX0_begins_66 : decode cX0_begins 66 = .ok (.iconst 3, 1) := dk_6 (dk_at dksX0_begins_2 20 rfl rfl)
theorem dX0_begins_67 : decode cX0_begins 67 = .ok (.if_icmp .ge 16, 3) := dk_162 0 16 (dk_at dksX0_begins_2 21 rfl rfl)
theorem dX0_begins_70 : decode cX0_begins 70 = .ok (.aload_n 0, 1) := dk_42 (dk_at dksX0_begins_3 0 rfl rfl)
theorem dX0_begins_71 : decode cX0_begins 71 = .ok (.getfield 83, 3) := dk_180 0 83 (dk_at dksX0_begins_3 1 rfl rfl)
theorem dX0_begins_74 : decode cX0_begins 74 = .ok (.iload_n 1, 1) := dk_27 (dk_at dksX0_begins_3 4 rfl rfl)
theorem dX0_begins_75 : decode cX0_begins 75 = .ok (.aconst_null, 1) := dk_1 (dk_at dksX0_begins_3 5 rfl rfl)
theorem dX0_begins_76 : decode cX0_begins 76 = .ok (.aastore, 1) := dk_83 (dk_at dksX0_begins_3 6 rfl rfl)
theorem dX0_begins_77 : decode cX0_begins 77 = .ok (.iinc 1 1, 3) := dk_132 1 1 (dk_at dksX0_begins_3 7 rfl rfl)
theorem dX0_begins_80 : decode cX0_begins 80 = .ok (.goto (-15), 3) := dk_167 255 241 (dk_at dksX0_begins_3 10 rfl rfl)
theorem dX0_begins_83 : decode cX0_begins 83 = .ok (.return_, 1) := dk_177 (dk_at dksX0_begins_3 13 rfl rfl)
abbrev cX0_place : ByteArray := prog_1_method_10_code
def yX0_place : MethodName := ⟨RX0, "place", "()I"⟩
theorem dX0_place_0 : decode cX0_place 0 = .ok (.aload_n 0, 1) := by decide +kernel
theorem dX0_place_1 : decode cX0_place 1 = .ok (.getfield 100, 3) := by decide +kernel
theorem dX0_place_4 : decode cX0_place 4 = .ok (.ireturn, 1) := by decide +kernel
abbrev cX0_put : ByteArray := prog_1_method_15_code
def yX0_put : MethodName := ⟨RX0, "put", "(IIII)Z"⟩
def dkwX0_put_4 : List UInt8 := [21, 4, 183, 0, 195, 182, 0, 198, 4, 172]
abbrev dktX0_put_4 : List UInt8 := dkwX0_put_4 ++ []
def dkwX0_put_3 : List UInt8 := [153, 0, 5, 3, 172, 42, 182, 0, 186, 42, 180, 0, 41, 180, 0, 189, 27, 187, 0, 193, 89, 28, 29]
abbrev dktX0_put_3 : List UInt8 := dkwX0_put_3 ++ dktX0_put_4
def dkwX0_put_2 : List UInt8 := [182, 0, 179, 154, 0, 5, 3, 172, 29, 21, 4, 126, 154, 0, 14, 29, 21, 4, 128, 28, 184, 0, 182]
abbrev dktX0_put_2 : List UInt8 := dkwX0_put_2 ++ dktX0_put_3
def dkwX0_put_1 : List UInt8 := [159, 0, 28, 42, 28, 182, 0, 175, 153, 0, 20, 42, 29, 182, 0, 179, 153, 0, 12, 42, 21, 4]
abbrev dktX0_put_1 : List UInt8 := dkwX0_put_1 ++ dktX0_put_2
def dkwX0_put_0 : List UInt8 := [27, 3, 42, 180, 0, 41, 182, 0, 174, 184, 0, 155, 153, 0, 40, 42, 180, 0, 41, 182, 0, 174, 16, 16]
abbrev dktX0_put_0 : List UInt8 := dkwX0_put_0 ++ dktX0_put_1
theorem dksX0_put_0 : cX0_put.data.toList.drop 0 = dktX0_put_0 := by decide +kernel
theorem dksX0_put_1 : cX0_put.data.toList.drop 24 = dktX0_put_1 := dk_seg dksX0_put_0 24 rfl rfl
theorem dksX0_put_2 : cX0_put.data.toList.drop 46 = dktX0_put_2 := dk_seg dksX0_put_1 22 rfl rfl
theorem dksX0_put_3 : cX0_put.data.toList.drop 69 = dktX0_put_3 := dk_seg dksX0_put_2 23 rfl rfl
theorem dksX0_put_4 : cX0_put.data.toList.drop 92 = dktX0_put_4 := dk_seg dksX0_put_3 23 rfl rfl
theorem dX0_put_0 : decode cX0_put 0 = .ok (.iload_n 1, 1) := dk_27 (dk_at dksX0_put_0 0 rfl rfl)
theorem dX0_put_1 : decode cX0_put 1 = .ok (.iconst 0, 1) := dk_3 (dk_at dksX0_put_0 1 rfl rfl)
theorem dX0_put_2 : decode cX0_put 2 = .ok (.aload_n 0, 1) := dk_42 (dk_at dksX0_put_0 2 rfl rfl)
theorem dX0_put_3 : decode cX0_put 3 = .ok (.getfield 41, 3) := dk_180 0 41 (dk_at dksX0_put_0 3 rfl rfl)
theorem dX0_put_6 : decode cX0_put 6 = .ok (.invokevirtual 174, 3) := dk_182 0 174 (dk_at dksX0_put_0 6 rfl rfl)
theorem dX0_put_9 : decode cX0_put 9 = .ok (.invokestatic 155, 3) := dk_184 0 155 (dk_at dksX0_put_0 9 rfl rfl)
theorem dX0_put_12 : decode cX0_put 12 = .ok (.ifCond .eq 40, 3) := dk_153 0 40 (dk_at dksX0_put_0 12 rfl rfl)
theorem dX0_put_15 : decode cX0_put 15 = .ok (.aload_n 0, 1) := dk_42 (dk_at dksX0_put_0 15 rfl rfl)
theorem dX0_put_16 : decode cX0_put 16 = .ok (.getfield 41, 3) := dk_180 0 41 (dk_at dksX0_put_0 16 rfl rfl)
theorem dX0_put_19 : decode cX0_put 19 = .ok (.invokevirtual 174, 3) := dk_182 0 174 (dk_at dksX0_put_0 19 rfl rfl)
theorem dX0_put_22 : decode cX0_put 22 = .ok (.bipush 16, 2) := dk_16 16 (dk_at dksX0_put_0 22 rfl rfl)
theorem dX0_put_24 : decode cX0_put 24 = .ok (.if_icmp .eq 28, 3) := dk_159 0 28 (dk_at dksX0_put_1 0 rfl rfl)
theorem dX0_put_27 : decode cX0_put 27 = .ok (.aload_n 0, 1) := dk_42 (dk_at dksX0_put_1 3 rfl rfl)
theorem dX0_put_28 : decode cX0_put 28 = .ok (.iload_n 2, 1) := dk_28 (dk_at dksX0_put_1 4 rfl rfl)
theorem dX0_put_29 : decode cX0_put 29 = .ok (.invokevirtual 175, 3) := dk_182 0 175 (dk_at dksX0_put_1 5 rfl rfl)
theorem dX0_put_32 : decode cX0_put 32 = .ok (.ifCond .eq 20, 3) := dk_153 0 20 (dk_at dksX0_put_1 8 rfl rfl)
theorem dX0_put_35 : decode cX0_put 35 = .ok (.aload_n 0, 1) := dk_42 (dk_at dksX0_put_1 11 rfl rfl)
theorem dX0_put_36 : decode cX0_put 36 = .ok (.iload_n 3, 1) := dk_29 (dk_at dksX0_put_1 12 rfl rfl)
theorem dX0_put_37 : decode cX0_put 37 = .ok (.invokevirtual 179, 3) := dk_182 0 179 (dk_at dksX0_put_1 13 rfl rfl)
theorem dX0_put_40 : decode cX0_put 40 = .ok (.ifCond .eq 12, 3) := dk_153 0 12 (dk_at dksX0_put_1 16 rfl rfl)
theorem dX0_put_43 : decode cX0_put 43 = .ok (.aload_n 0, 1) := dk_42 (dk_at dksX0_put_1 19 rfl rfl)
theorem dX0_put_44 : decode cX0_put 44 = .ok (.iload 4, 2) := dk_21 4 (dk_at dksX0_put_1 20 rfl rfl)
theorem dX0_put_46 : decode cX0_put 46 = .ok (.invokevirtual 179, 3) := dk_182 0 179 (dk_at dksX0_put_2 0 rfl rfl)
theorem dX0_put_49 : decode cX0_put 49 = .ok (.ifCond .ne 5, 3) := dk_154 0 5 (dk_at dksX0_put_2 3 rfl rfl)
theorem dX0_put_52 : decode cX0_put 52 = .ok (.iconst 0, 1) := dk_3 (dk_at dksX0_put_2 6 rfl rfl)
theorem dX0_put_53 : decode cX0_put 53 = .ok (.ireturn, 1) := dk_172 (dk_at dksX0_put_2 7 rfl rfl)
theorem dX0_put_54 : decode cX0_put 54 = .ok (.iload_n 3, 1) := dk_29 (dk_at dksX0_put_2 8 rfl rfl)
theorem dX0_put_55 : decode cX0_put 55 = .ok (.iload 4, 2) := dk_21 4 (dk_at dksX0_put_2 9 rfl rfl)
theorem dX0_put_57 : decode cX0_put 57 = .ok (.iand, 1) := dk_126 (dk_at dksX0_put_2 11 rfl rfl)
theorem dX0_put_58 : decode cX0_put 58 = .ok (.ifCond .ne 14, 3) := dk_154 0 14 (dk_at dksX0_put_2 12 rfl rfl)
theorem dX0_put_61 : decode cX0_put 61 = .ok (.iload_n 3, 1) := dk_29 (dk_at dksX0_put_2 15 rfl rfl)
theorem dX0_put_62 : decode cX0_put 62 = .ok (.iload 4, 2) := dk_21 4 (dk_at dksX0_put_2 16 rfl rfl)
theorem dX0_put_64 : decode cX0_put 64 = .ok (.ior, 1) := dk_128 (dk_at dksX0_put_2 18 rfl rfl)
theorem dX0_put_65 : decode cX0_put 65 = .ok (.iload_n 2, 1) := dk_28 (dk_at dksX0_put_2 19 rfl rfl)
theorem dX0_put_66 : decode cX0_put 66 = .ok (.invokestatic 182, 3) := dk_184 0 182 (dk_at dksX0_put_2 20 rfl rfl)
theorem dX0_put_69 : decode cX0_put 69 = .ok (.ifCond .eq 5, 3) := dk_153 0 5 (dk_at dksX0_put_3 0 rfl rfl)
theorem dX0_put_72 : decode cX0_put 72 = .ok (.iconst 0, 1) := dk_3 (dk_at dksX0_put_3 3 rfl rfl)
theorem dX0_put_73 : decode cX0_put 73 = .ok (.ireturn, 1) := dk_172 (dk_at dksX0_put_3 4 rfl rfl)
theorem dX0_put_74 : decode cX0_put 74 = .ok (.aload_n 0, 1) := dk_42 (dk_at dksX0_put_3 5 rfl rfl)
theorem dX0_put_75 : decode cX0_put 75 = .ok (.invokevirtual 186, 3) := dk_182 0 186 (dk_at dksX0_put_3 6 rfl rfl)
theorem dX0_put_78 : decode cX0_put 78 = .ok (.aload_n 0, 1) := dk_42 (dk_at dksX0_put_3 9 rfl rfl)
theorem dX0_put_79 : decode cX0_put 79 = .ok (.getfield 41, 3) := dk_180 0 41 (dk_at dksX0_put_3 10 rfl rfl)
theorem dX0_put_82 : decode cX0_put 82 = .ok (.getfield 189, 3) := dk_180 0 189 (dk_at dksX0_put_3 13 rfl rfl)
theorem dX0_put_85 : decode cX0_put 85 = .ok (.iload_n 1, 1) := dk_27 (dk_at dksX0_put_3 16 rfl rfl)
theorem dX0_put_86 : decode cX0_put 86 = .ok (.new 193, 3) := dk_187 0 193 (dk_at dksX0_put_3 17 rfl rfl)
theorem dX0_put_89 : decode cX0_put 89 = .ok (.dup, 1) := dk_89 (dk_at dksX0_put_3 20 rfl rfl)
theorem dX0_put_90 : decode cX0_put 90 = .ok (.iload_n 2, 1) := dk_28 (dk_at dksX0_put_3 21 rfl rfl)
theorem dX0_put_91 : decode cX0_put 91 = .ok (.iload_n 3, 1) := dk_29 (dk_at dksX0_put_3 22 rfl rfl)
theorem dX0_put_92 : decode cX0_put 92 = .ok (.iload 4, 2) := dk_21 4 (dk_at dksX0_put_4 0 rfl rfl)
theorem dX0_put_94 : decode cX0_put 94 = .ok (.invokespecial 195, 3) := dk_183 0 195 (dk_at dksX0_put_4 2 rfl rfl)
theorem dX0_put_97 : decode cX0_put 97 = .ok (.invokevirtual 198, 3) := dk_182 0 198 (dk_at dksX0_put_4 5 rfl rfl)
theorem dX0_put_100 : decode cX0_put 100 = .ok (.iconst 1, 1) := dk_4 (dk_at dksX0_put_4 8 rfl rfl)
theorem dX0_put_101 : decode cX0_put 101 = .ok (.ireturn, 1) := dk_172 (dk_at dksX0_put_4 9 rfl rfl)
abbrev cX0_isWire : ByteArray := prog_1_method_13_code
def yX0_isWire : MethodName := ⟨RX0, "isWire", "(I)Z"⟩
def dkwX0_isWire_0 : List UInt8 := [27, 3, 42, 180, 0, 131, 4, 100, 184, 0, 155, 172]
abbrev dktX0_isWire_0 : List UInt8 := dkwX0_isWire_0 ++ []
theorem dksX0_isWire_0 : cX0_isWire.data.toList.drop 0 = dktX0_isWire_0 := by decide +kernel
theorem dX0_isWire_0 : decode cX0_isWire 0 = .ok (.iload_n 1, 1) := dk_27 (dk_at dksX0_isWire_0 0 rfl rfl)
theorem dX0_isWire_1 : decode cX0_isWire 1 = .ok (.iconst 0, 1) := dk_3 (dk_at dksX0_isWire_0 1 rfl rfl)
theorem dX0_isWire_2 : decode cX0_isWire 2 = .ok (.aload_n 0, 1) := dk_42 (dk_at dksX0_isWire_0 2 rfl rfl)
theorem dX0_isWire_3 : decode cX0_isWire 3 = .ok (.getfield 131, 3) := dk_180 0 131 (dk_at dksX0_isWire_0 3 rfl rfl)
theorem dX0_isWire_6 : decode cX0_isWire 6 = .ok (.iconst 1, 1) := dk_4 (dk_at dksX0_isWire_0 6 rfl rfl)
theorem dX0_isWire_7 : decode cX0_isWire 7 = .ok (.isub, 1) := dk_100 (dk_at dksX0_isWire_0 7 rfl rfl)
theorem dX0_isWire_8 : decode cX0_isWire 8 = .ok (.invokestatic 155, 3) := dk_184 0 155 (dk_at dksX0_isWire_0 8 rfl rfl)
theorem dX0_isWire_11 : decode cX0_isWire 11 = .ok (.ireturn, 1) := dk_172 (dk_at dksX0_isWire_0 11 rfl rfl)
abbrev cX0_isRow : ByteArray := prog_1_method_12_code
def yX0_isRow : MethodName := ⟨RX0, "isRow", "(I)Z"⟩
def dkwX0_isRow_0 : List UInt8 := [27, 3, 42, 182, 0, 151, 4, 100, 184, 0, 155, 172]
abbrev dktX0_isRow_0 : List UInt8 := dkwX0_isRow_0 ++ []
theorem dksX0_isRow_0 : cX0_isRow.data.toList.drop 0 = dktX0_isRow_0 := by decide +kernel
theorem dX0_isRow_0 : decode cX0_isRow 0 = .ok (.iload_n 1, 1) := dk_27 (dk_at dksX0_isRow_0 0 rfl rfl)
theorem dX0_isRow_1 : decode cX0_isRow 1 = .ok (.iconst 0, 1) := dk_3 (dk_at dksX0_isRow_0 1 rfl rfl)
theorem dX0_isRow_2 : decode cX0_isRow 2 = .ok (.aload_n 0, 1) := dk_42 (dk_at dksX0_isRow_0 2 rfl rfl)
theorem dX0_isRow_3 : decode cX0_isRow 3 = .ok (.invokevirtual 151, 3) := dk_182 0 151 (dk_at dksX0_isRow_0 3 rfl rfl)
theorem dX0_isRow_6 : decode cX0_isRow 6 = .ok (.iconst 1, 1) := dk_4 (dk_at dksX0_isRow_0 6 rfl rfl)
theorem dX0_isRow_7 : decode cX0_isRow 7 = .ok (.isub, 1) := dk_100 (dk_at dksX0_isRow_0 7 rfl rfl)
theorem dX0_isRow_8 : decode cX0_isRow 8 = .ok (.invokestatic 155, 3) := dk_184 0 155 (dk_at dksX0_isRow_0 8 rfl rfl)
theorem dX0_isRow_11 : decode cX0_isRow 11 = .ok (.ireturn, 1) := dk_172 (dk_at dksX0_isRow_0 11 rfl rfl)
abbrev cX0_rows : ByteArray := prog_1_method_11_code
def yX0_rows : MethodName := ⟨RX0, "rows", "()I"⟩
def dkwX0_rows_0 : List UInt8 := [4, 42, 180, 0, 131, 120, 172]
abbrev dktX0_rows_0 : List UInt8 := dkwX0_rows_0 ++ []
theorem dksX0_rows_0 : cX0_rows.data.toList.drop 0 = dktX0_rows_0 := by decide +kernel
theorem dX0_rows_0 : decode cX0_rows 0 = .ok (.iconst 1, 1) := dk_4 (dk_at dksX0_rows_0 0 rfl rfl)
theorem dX0_rows_1 : decode cX0_rows 1 = .ok (.aload_n 0, 1) := dk_42 (dk_at dksX0_rows_0 1 rfl rfl)
theorem dX0_rows_2 : decode cX0_rows 2 = .ok (.getfield 131, 3) := dk_180 0 131 (dk_at dksX0_rows_0 2 rfl rfl)
theorem dX0_rows_5 : decode cX0_rows 5 = .ok (.ishl, 1) := dk_120 (dk_at dksX0_rows_0 5 rfl rfl)
theorem dX0_rows_6 : decode cX0_rows 6 = .ok (.ireturn, 1) := dk_172 (dk_at dksX0_rows_0 6 rfl rfl)
abbrev cX0_has : ByteArray := prog_1_method_2_code
def yX0_has : MethodName := ⟨RX0, "has", "(II)Z"⟩
def dkwX0_has_0 : List UInt8 := [26, 27, 122, 4, 126, 4, 160, 0, 7, 4, 167, 0, 4, 3, 172]
abbrev dktX0_has_0 : List UInt8 := dkwX0_has_0 ++ []
theorem dksX0_has_0 : cX0_has.data.toList.drop 0 = dktX0_has_0 := by decide +kernel
theorem dX0_has_0 : decode cX0_has 0 = .ok (.iload_n 0, 1) := dk_26 (dk_at dksX0_has_0 0 rfl rfl)
theorem dX0_has_1 : decode cX0_has 1 = .ok (.iload_n 1, 1) := dk_27 (dk_at dksX0_has_0 1 rfl rfl)
theorem dX0_has_2 : decode cX0_has 2 = .ok (.ishr, 1) := dk_122 (dk_at dksX0_has_0 2 rfl rfl)
theorem dX0_has_3 : decode cX0_has 3 = .ok (.iconst 1, 1) := dk_4 (dk_at dksX0_has_0 3 rfl rfl)
theorem dX0_has_4 : decode cX0_has 4 = .ok (.iand, 1) := dk_126 (dk_at dksX0_has_0 4 rfl rfl)
theorem dX0_has_5 : decode cX0_has 5 = .ok (.iconst 1, 1) := dk_4 (dk_at dksX0_has_0 5 rfl rfl)
theorem dX0_has_6 : decode cX0_has 6 = .ok (.if_icmp .ne 7, 3) := dk_160 0 7 (dk_at dksX0_has_0 6 rfl rfl)
theorem dX0_has_9 : decode cX0_has 9 = .ok (.iconst 1, 1) := dk_4 (dk_at dksX0_has_0 9 rfl rfl)
theorem dX0_has_10 : decode cX0_has 10 = .ok (.goto 4, 3) := dk_167 0 4 (dk_at dksX0_has_0 10 rfl rfl)
theorem dX0_has_13 : decode cX0_has 13 = .ok (.iconst 0, 1) := dk_3 (dk_at dksX0_has_0 13 rfl rfl)
theorem dX0_has_14 : decode cX0_has 14 = .ok (.ireturn, 1) := dk_172 (dk_at dksX0_has_0 14 rfl rfl)
abbrev cX0_keeps : ByteArray := prog_1_method_14_code
def yX0_keeps : MethodName := ⟨RX0, "keeps", "()V"⟩
def dkwX0_keeps_1 : List UInt8 := [42, 180, 0, 41, 182, 0, 166, 182, 0, 170, 177]
abbrev dktX0_keeps_1 : List UInt8 := dkwX0_keeps_1 ++ []
def dkwX0_keeps_0 : List UInt8 := [42, 180, 0, 79, 182, 0, 159, 16, 40, 160, 0, 11, 42, 180, 0, 79, 182, 0, 162, 87, 42, 180, 0, 79]
abbrev dktX0_keeps_0 : List UInt8 := dkwX0_keeps_0 ++ dktX0_keeps_1
theorem dksX0_keeps_0 : cX0_keeps.data.toList.drop 0 = dktX0_keeps_0 := by decide +kernel
theorem dksX0_keeps_1 : cX0_keeps.data.toList.drop 24 = dktX0_keeps_1 := dk_seg dksX0_keeps_0 24 rfl rfl
theorem dX0_keeps_0 : decode cX0_keeps 0 = .ok (.aload_n 0, 1) := dk_42 (dk_at dksX0_keeps_0 0 rfl rfl)
theorem dX0_keeps_1 : decode cX0_keeps 1 = .ok (.getfield 79, 3) := dk_180 0 79 (dk_at dksX0_keeps_0 1 rfl rfl)
theorem dX0_keeps_4 : decode cX0_keeps 4 = .ok (.invokevirtual 159, 3) := dk_182 0 159 (dk_at dksX0_keeps_0 4 rfl rfl)
theorem dX0_keeps_7 : decode cX0_keeps 7 = .ok (.bipush 40, 2) := dk_16 40 (dk_at dksX0_keeps_0 7 rfl rfl)
theorem dX0_keeps_9 : decode cX0_keeps 9 = .ok (.if_icmp .ne 11, 3) := dk_160 0 11 (dk_at dksX0_keeps_0 9 rfl rfl)
theorem dX0_keeps_12 : decode cX0_keeps 12 = .ok (.aload_n 0, 1) := dk_42 (dk_at dksX0_keeps_0 12 rfl rfl)
theorem dX0_keeps_13 : decode cX0_keeps 13 = .ok (.getfield 79, 3) := dk_180 0 79 (dk_at dksX0_keeps_0 13 rfl rfl)
theorem dX0_keeps_16 : decode cX0_keeps 16 = .ok (.invokevirtual 162, 3) := dk_182 0 162 (dk_at dksX0_keeps_0 16 rfl rfl)
theorem dX0_keeps_19 : decode cX0_keeps 19 = .ok (.pop, 1) := dk_87 (dk_at dksX0_keeps_0 19 rfl rfl)
theorem dX0_keeps_20 : decode cX0_keeps 20 = .ok (.aload_n 0, 1) := dk_42 (dk_at dksX0_keeps_0 20 rfl rfl)
theorem dX0_keeps_21 : decode cX0_keeps 21 = .ok (.getfield 79, 3) := dk_180 0 79 (dk_at dksX0_keeps_0 21 rfl rfl)
theorem dX0_keeps_24 : decode cX0_keeps 24 = .ok (.aload_n 0, 1) := dk_42 (dk_at dksX0_keeps_1 0 rfl rfl)
theorem dX0_keeps_25 : decode cX0_keeps 25 = .ok (.getfield 41, 3) := dk_180 0 41 (dk_at dksX0_keeps_1 1 rfl rfl)
theorem dX0_keeps_28 : decode cX0_keeps 28 = .ok (.invokevirtual 166, 3) := dk_182 0 166 (dk_at dksX0_keeps_1 4 rfl rfl)
theorem dX0_keeps_31 : decode cX0_keeps 31 = .ok (.invokevirtual 170, 3) := dk_182 0 170 (dk_at dksX0_keeps_1 7 rfl rfl)
theorem dX0_keeps_34 : decode cX0_keeps 34 = .ok (.return_, 1) := dk_177 (dk_at dksX0_keeps_1 10 rfl rfl)
abbrev cX0_take : ByteArray := prog_1_method_16_code
def yX0_take : MethodName := ⟨RX0, "take", "(I)Z"⟩
def dkwX0_take_1 : List UInt8 := [27, 182, 0, 207, 87, 4, 172]
abbrev dktX0_take_1 : List UInt8 := dkwX0_take_1 ++ []
def dkwX0_take_0 : List UInt8 := [42, 180, 0, 41, 27, 182, 0, 204, 154, 0, 5, 3, 172, 42, 182, 0, 186, 42, 180, 0, 41, 180, 0, 189]
abbrev dktX0_take_0 : List UInt8 := dkwX0_take_0 ++ dktX0_take_1
theorem dksX0_take_0 : cX0_take.data.toList.drop 0 = dktX0_take_0 := by decide +kernel
theorem dksX0_take_1 : cX0_take.data.toList.drop 24 = dktX0_take_1 := dk_seg dksX0_take_0 24 rfl rfl
theorem dX0_take_0 : decode cX0_take 0 = .ok (.aload_n 0, 1) := dk_42 (dk_at dksX0_take_0 0 rfl rfl)
theorem dX0_take_1 : decode cX0_take 1 = .ok (.getfield 41, 3) := dk_180 0 41 (dk_at dksX0_take_0 1 rfl rfl)
theorem dX0_take_4 : decode cX0_take 4 = .ok (.iload_n 1, 1) := dk_27 (dk_at dksX0_take_0 4 rfl rfl)
theorem dX0_take_5 : decode cX0_take 5 = .ok (.invokevirtual 204, 3) := dk_182 0 204 (dk_at dksX0_take_0 5 rfl rfl)
theorem dX0_take_8 : decode cX0_take 8 = .ok (.ifCond .ne 5, 3) := dk_154 0 5 (dk_at dksX0_take_0 8 rfl rfl)
theorem dX0_take_11 : decode cX0_take 11 = .ok (.iconst 0, 1) := dk_3 (dk_at dksX0_take_0 11 rfl rfl)
theorem dX0_take_12 : decode cX0_take 12 = .ok (.ireturn, 1) := dk_172 (dk_at dksX0_take_0 12 rfl rfl)
theorem dX0_take_13 : decode cX0_take 13 = .ok (.aload_n 0, 1) := dk_42 (dk_at dksX0_take_0 13 rfl rfl)
theorem dX0_take_14 : decode cX0_take 14 = .ok (.invokevirtual 186, 3) := dk_182 0 186 (dk_at dksX0_take_0 14 rfl rfl)
theorem dX0_take_17 : decode cX0_take 17 = .ok (.aload_n 0, 1) := dk_42 (dk_at dksX0_take_0 17 rfl rfl)
theorem dX0_take_18 : decode cX0_take 18 = .ok (.getfield 41, 3) := dk_180 0 41 (dk_at dksX0_take_0 18 rfl rfl)
theorem dX0_take_21 : decode cX0_take 21 = .ok (.getfield 189, 3) := dk_180 0 189 (dk_at dksX0_take_0 21 rfl rfl)
theorem dX0_take_24 : decode cX0_take 24 = .ok (.iload_n 1, 1) := dk_27 (dk_at dksX0_take_1 0 rfl rfl)
theorem dX0_take_25 : decode cX0_take 25 = .ok (.invokevirtual 207, 3) := dk_182 0 207 (dk_at dksX0_take_1 1 rfl rfl)
theorem dX0_take_28 : decode cX0_take 28 = .ok (.pop, 1) := dk_87 (dk_at dksX0_take_1 4 rfl rfl)
theorem dX0_take_29 : decode cX0_take 29 = .ok (.iconst 1, 1) := dk_4 (dk_at dksX0_take_1 5 rfl rfl)
theorem dX0_take_30 : decode cX0_take 30 = .ok (.ireturn, 1) := dk_172 (dk_at dksX0_take_1 6 rfl rfl)
abbrev cX0_swap : ByteArray := prog_1_method_17_code
def yX0_swap : MethodName := ⟨RX0, "swap", "(I)Z"⟩
def dkwX0_swap_1 : List UInt8 := [180, 0, 41, 27, 182, 0, 211, 4, 172]
abbrev dktX0_swap_1 : List UInt8 := dkwX0_swap_1 ++ []
def dkwX0_swap_0 : List UInt8 := [27, 3, 42, 180, 0, 41, 182, 0, 174, 5, 100, 184, 0, 155, 154, 0, 5, 3, 172, 42, 182, 0, 186, 42]
abbrev dktX0_swap_0 : List UInt8 := dkwX0_swap_0 ++ dktX0_swap_1
theorem dksX0_swap_0 : cX0_swap.data.toList.drop 0 = dktX0_swap_0 := by decide +kernel
theorem dksX0_swap_1 : cX0_swap.data.toList.drop 24 = dktX0_swap_1 := dk_seg dksX0_swap_0 24 rfl rfl
theorem dX0_swap_0 : decode cX0_swap 0 = .ok (.iload_n 1, 1) := dk_27 (dk_at dksX0_swap_0 0 rfl rfl)
theorem dX0_swap_1 : decode cX0_swap 1 = .ok (.iconst 0, 1) := dk_3 (dk_at dksX0_swap_0 1 rfl rfl)
theorem dX0_swap_2 : decode cX0_swap 2 = .ok (.aload_n 0, 1) := dk_42 (dk_at dksX0_swap_0 2 rfl rfl)
theorem dX0_swap_3 : decode cX0_swap 3 = .ok (.getfield 41, 3) := dk_180 0 41 (dk_at dksX0_swap_0 3 rfl rfl)
theorem dX0_swap_6 : decode cX0_swap 6 = .ok (.invokevirtual 174, 3) := dk_182 0 174 (dk_at dksX0_swap_0 6 rfl rfl)
theorem dX0_swap_9 : decode cX0_swap 9 = .ok (.iconst 2, 1) := dk_5 (dk_at dksX0_swap_0 9 rfl rfl)
theorem dX0_swap_10 : decode cX0_swap 10 = .ok (.isub, 1) := dk_100 (dk_at dksX0_swap_0 10 rfl rfl)
theorem dX0_swap_11 : decode cX0_swap 11 = .ok (.invokestatic 155, 3) := dk_184 0 155 (dk_at dksX0_swap_0 11 rfl rfl)
theorem dX0_swap_14 : decode cX0_swap 14 = .ok (.ifCond .ne 5, 3) := dk_154 0 5 (dk_at dksX0_swap_0 14 rfl rfl)
theorem dX0_swap_17 : decode cX0_swap 17 = .ok (.iconst 0, 1) := dk_3 (dk_at dksX0_swap_0 17 rfl rfl)
theorem dX0_swap_18 : decode cX0_swap 18 = .ok (.ireturn, 1) := dk_172 (dk_at dksX0_swap_0 18 rfl rfl)
theorem dX0_swap_19 : decode cX0_swap 19 = .ok (.aload_n 0, 1) := dk_42 (dk_at dksX0_swap_0 19 rfl rfl)
theorem dX0_swap_20 : decode cX0_swap 20 = .ok (.invokevirtual 186, 3) := dk_182 0 186 (dk_at dksX0_swap_0 20 rfl rfl)
theorem dX0_swap_23 : decode cX0_swap 23 = .ok (.aload_n 0, 1) := dk_42 (dk_at dksX0_swap_0 23 rfl rfl)
theorem dX0_swap_24 : decode cX0_swap 24 = .ok (.getfield 41, 3) := dk_180 0 41 (dk_at dksX0_swap_1 0 rfl rfl)
theorem dX0_swap_27 : decode cX0_swap 27 = .ok (.iload_n 1, 1) := dk_27 (dk_at dksX0_swap_1 3 rfl rfl)
theorem dX0_swap_28 : decode cX0_swap 28 = .ok (.invokevirtual 211, 3) := dk_182 0 211 (dk_at dksX0_swap_1 4 rfl rfl)
theorem dX0_swap_31 : decode cX0_swap 31 = .ok (.iconst 1, 1) := dk_4 (dk_at dksX0_swap_1 7 rfl rfl)
theorem dX0_swap_32 : decode cX0_swap 32 = .ok (.ireturn, 1) := dk_172 (dk_at dksX0_swap_1 8 rfl rfl)
abbrev cX0_become : ByteArray := prog_1_method_19_code
def yX0_become : MethodName := ⟨RX0, "become", "(I)I"⟩
def dkwX0_become_1 : List UInt8 := [180, 0, 41, 42, 180, 0, 45, 182, 0, 133, 28, 172]
abbrev dktX0_become_1 : List UInt8 := dkwX0_become_1 ++ []
def dkwX0_become_0 : List UInt8 := [42, 27, 182, 0, 240, 61, 28, 155, 0, 9, 28, 16, 16, 164, 0, 5, 2, 172, 42, 182, 0, 186, 42]
abbrev dktX0_become_0 : List UInt8 := dkwX0_become_0 ++ dktX0_become_1
theorem dksX0_become_0 : cX0_become.data.toList.drop 0 = dktX0_become_0 := by decide +kernel
theorem dksX0_become_1 : cX0_become.data.toList.drop 23 = dktX0_become_1 := dk_seg dksX0_become_0 23 rfl rfl
theorem dX0_become_0 : decode cX0_become 0 = .ok (.aload_n 0, 1) := dk_42 (dk_at dksX0_become_0 0 rfl rfl)
theorem dX0_become_1 : decode cX0_become 1 = .ok (.iload_n 1, 1) := dk_27 (dk_at dksX0_become_0 1 rfl rfl)
theorem dX0_become_2 : decode cX0_become 2 = .ok (.invokevirtual 240, 3) := dk_182 0 240 (dk_at dksX0_become_0 2 rfl rfl)
theorem dX0_become_5 : decode cX0_become 5 = .ok (.istore_n 2, 1) := dk_61 (dk_at dksX0_become_0 5 rfl rfl)
theorem dX0_become_6 : decode cX0_become 6 = .ok (.iload_n 2, 1) := dk_28 (dk_at dksX0_become_0 6 rfl rfl)
theorem dX0_become_7 : decode cX0_become 7 = .ok (.ifCond .lt 9, 3) := dk_155 0 9 (dk_at dksX0_become_0 7 rfl rfl)
theorem dX0_become_10 : decode cX0_become 10 = .ok (.iload_n 2, 1) := dk_28 (dk_at dksX0_become_0 10 rfl rfl)
theorem dX0_become_11 : decode cX0_become 11 = .ok (.bipush 16, 2) := dk_16 16 (dk_at dksX0_become_0 11 rfl rfl)
theorem dX0_become_13 : decode cX0_become 13 = .ok (.if_icmp .le 5, 3) := dk_164 0 5 (dk_at dksX0_become_0 13 rfl rfl)
theorem dX0_become_16 : decode cX0_become 16 = .ok (.iconst (-1), 1) := dk_2 (dk_at dksX0_become_0 16 rfl rfl)
theorem dX0_become_17 : decode cX0_become 17 = .ok (.ireturn, 1) := dk_172 (dk_at dksX0_become_0 17 rfl rfl)
theorem dX0_become_18 : decode cX0_become 18 = .ok (.aload_n 0, 1) := dk_42 (dk_at dksX0_become_0 18 rfl rfl)
theorem dX0_become_19 : decode cX0_become 19 = .ok (.invokevirtual 186, 3) := dk_182 0 186 (dk_at dksX0_become_0 19 rfl rfl)
theorem dX0_become_22 : decode cX0_become 22 = .ok (.aload_n 0, 1) := dk_42 (dk_at dksX0_become_0 22 rfl rfl)
theorem dX0_become_23 : decode cX0_become 23 = .ok (.getfield 41, 3) := dk_180 0 41 (dk_at dksX0_become_1 0 rfl rfl)
theorem dX0_become_26 : decode cX0_become 26 = .ok (.aload_n 0, 1) := dk_42 (dk_at dksX0_become_1 3 rfl rfl)
theorem dX0_become_27 : decode cX0_become 27 = .ok (.getfield 45, 3) := dk_180 0 45 (dk_at dksX0_become_1 4 rfl rfl)
theorem dX0_become_30 : decode cX0_become 30 = .ok (.invokevirtual 133, 3) := dk_182 0 133 (dk_at dksX0_become_1 7 rfl rfl)
theorem dX0_become_33 : decode cX0_become 33 = .ok (.iload_n 2, 1) := dk_28 (dk_at dksX0_become_1 10 rfl rfl)
theorem dX0_become_34 : decode cX0_become 34 = .ok (.ireturn, 1) := dk_172 (dk_at dksX0_become_1 11 rfl rfl)
abbrev cX0_tries : ByteArray := prog_1_method_18_code
def yX0_tries : MethodName := ⟨RX0, "tries", "(I)I"⟩
def dkwX0_tries_9 : List UInt8 := [182, 0, 174, 172, 2, 172]
abbrev dktX0_tries_9 : List UInt8 := dkwX0_tries_9 ++ []
def dkwX0_tries_8 : List UInt8 := [180, 0, 45, 180, 0, 189, 44, 182, 0, 239, 192, 0, 193, 182, 0, 227, 167, 255, 232, 42, 180, 0, 45]
abbrev dktX0_tries_8 : List UInt8 := dkwX0_tries_8 ++ dktX0_tries_9
def dkwX0_tries_7 : List UInt8 := [182, 0, 231, 77, 42, 180, 0, 45, 180, 0, 189, 182, 0, 221, 44, 182, 0, 235, 154, 0, 23, 42]
abbrev dktX0_tries_7 : List UInt8 := dkwX0_tries_7 ++ dktX0_tries_8
def dkwX0_tries_6 : List UInt8 := [182, 0, 228, 42, 180, 0, 45, 182, 0, 174, 172, 42, 180, 0, 131, 6, 164, 0, 5, 2, 172, 42]
abbrev dktX0_tries_6 : List UInt8 := dkwX0_tries_6 ++ dktX0_tries_7
def dkwX0_tries_5 : List UInt8 := [182, 0, 223, 182, 0, 227, 132, 2, 1, 167, 255, 224, 42, 180, 0, 45, 182, 0, 174, 172, 42, 180, 0, 45]
abbrev dktX0_tries_5 : List UInt8 := dkwX0_tries_5 ++ dktX0_tries_6
def dkwX0_tries_4 : List UInt8 := [42, 180, 0, 58, 182, 0, 222, 162, 0, 27, 42, 180, 0, 45, 180, 0, 189, 42, 180, 0, 58, 28]
abbrev dktX0_tries_4 : List UInt8 := dkwX0_tries_4 ++ dktX0_tries_5
def dkwX0_tries_3 : List UInt8 := [160, 0, 7, 4, 167, 0, 4, 3, 182, 0, 217, 42, 180, 0, 45, 180, 0, 189, 182, 0, 221, 3, 61, 28]
abbrev dktX0_tries_3 : List UInt8 := dkwX0_tries_3 ++ dktX0_tries_4
def dkwX0_tries_2 : List UInt8 := [42, 180, 0, 45, 42, 182, 0, 151, 182, 0, 214, 42, 180, 0, 45, 182, 0, 174, 172, 42, 27, 5]
abbrev dktX0_tries_2 : List UInt8 := dkwX0_tries_2 ++ dktX0_tries_3
def dkwX0_tries_1 : List UInt8 := [170, 0, 0, 0, 0, 0, 0, 199, 0, 0, 0, 0, 0, 0, 0, 4, 0, 0, 0, 36, 0, 0, 0, 55, 0, 0, 0, 55, 0, 0, 0, 124, 0, 0, 0, 139]
abbrev dktX0_tries_1 : List UInt8 := dkwX0_tries_1 ++ dktX0_tries_2
def dkwX0_tries_0 : List UInt8 := [42, 180, 0, 45, 42, 180, 0, 41, 182, 0, 133, 27]
abbrev dktX0_tries_0 : List UInt8 := dkwX0_tries_0 ++ dktX0_tries_1
theorem dksX0_tries_0 : cX0_tries.data.toList.drop 0 = dktX0_tries_0 := by decide +kernel
theorem dksX0_tries_1 : cX0_tries.data.toList.drop 12 = dktX0_tries_1 := dk_seg dksX0_tries_0 12 rfl rfl
theorem dksX0_tries_2 : cX0_tries.data.toList.drop 48 = dktX0_tries_2 := dk_seg dksX0_tries_1 36 rfl rfl
theorem dksX0_tries_3 : cX0_tries.data.toList.drop 70 = dktX0_tries_3 := dk_seg dksX0_tries_2 22 rfl rfl
theorem dksX0_tries_4 : cX0_tries.data.toList.drop 94 = dktX0_tries_4 := dk_seg dksX0_tries_3 24 rfl rfl
theorem dksX0_tries_5 : cX0_tries.data.toList.drop 116 = dktX0_tries_5 := dk_seg dksX0_tries_4 22 rfl rfl
theorem dksX0_tries_6 : cX0_tries.data.toList.drop 140 = dktX0_tries_6 := dk_seg dksX0_tries_5 24 rfl rfl
theorem dksX0_tries_7 : cX0_tries.data.toList.drop 162 = dktX0_tries_7 := dk_seg dksX0_tries_6 22 rfl rfl
theorem dksX0_tries_8 : cX0_tries.data.toList.drop 184 = dktX0_tries_8 := dk_seg dksX0_tries_7 22 rfl rfl
theorem dksX0_tries_9 : cX0_tries.data.toList.drop 207 = dktX0_tries_9 := dk_seg dksX0_tries_8 23 rfl rfl
theorem dX0_tries_0 : decode cX0_tries 0 = .ok (.aload_n 0, 1) := dk_42 (dk_at dksX0_tries_0 0 rfl rfl)
theorem dX0_tries_1 : decode cX0_tries 1 = .ok (.getfield 45, 3) := dk_180 0 45 (dk_at dksX0_tries_0 1 rfl rfl)
theorem dX0_tries_4 : decode cX0_tries 4 = .ok (.aload_n 0, 1) := dk_42 (dk_at dksX0_tries_0 4 rfl rfl)
theorem dX0_tries_5 : decode cX0_tries 5 = .ok (.getfield 41, 3) := dk_180 0 41 (dk_at dksX0_tries_0 5 rfl rfl)
theorem dX0_tries_8 : decode cX0_tries 8 = .ok (.invokevirtual 133, 3) := dk_182 0 133 (dk_at dksX0_tries_0 8 rfl rfl)
theorem dX0_tries_11 : decode cX0_tries 11 = .ok (.iload_n 1, 1) := dk_27 (dk_at dksX0_tries_0 11 rfl rfl)
theorem dX0_tries_12 : decode cX0_tries 12 = .ok (.tableswitch 199 0 4 #[36, 55, 55, 124, 139], 36) := by decide +kernel
theorem dX0_tries_48 : decode cX0_tries 48 = .ok (.aload_n 0, 1) := dk_42 (dk_at dksX0_tries_2 0 rfl rfl)
theorem dX0_tries_49 : decode cX0_tries 49 = .ok (.getfield 45, 3) := dk_180 0 45 (dk_at dksX0_tries_2 1 rfl rfl)
theorem dX0_tries_52 : decode cX0_tries 52 = .ok (.aload_n 0, 1) := dk_42 (dk_at dksX0_tries_2 4 rfl rfl)
theorem dX0_tries_53 : decode cX0_tries 53 = .ok (.invokevirtual 151, 3) := dk_182 0 151 (dk_at dksX0_tries_2 5 rfl rfl)
theorem dX0_tries_56 : decode cX0_tries 56 = .ok (.invokevirtual 214, 3) := dk_182 0 214 (dk_at dksX0_tries_2 8 rfl rfl)
theorem dX0_tries_59 : decode cX0_tries 59 = .ok (.aload_n 0, 1) := dk_42 (dk_at dksX0_tries_2 11 rfl rfl)
theorem dX0_tries_60 : decode cX0_tries 60 = .ok (.getfield 45, 3) := dk_180 0 45 (dk_at dksX0_tries_2 12 rfl rfl)
theorem dX0_tries_63 : decode cX0_tries 63 = .ok (.invokevirtual 174, 3) := dk_182 0 174 (dk_at dksX0_tries_2 15 rfl rfl)
theorem dX0_tries_66 : decode cX0_tries 66 = .ok (.ireturn, 1) := dk_172 (dk_at dksX0_tries_2 18 rfl rfl)
theorem dX0_tries_67 : decode cX0_tries 67 = .ok (.aload_n 0, 1) := dk_42 (dk_at dksX0_tries_2 19 rfl rfl)
theorem dX0_tries_68 : decode cX0_tries 68 = .ok (.iload_n 1, 1) := dk_27 (dk_at dksX0_tries_2 20 rfl rfl)
theorem dX0_tries_69 : decode cX0_tries 69 = .ok (.iconst 2, 1) := dk_5 (dk_at dksX0_tries_2 21 rfl rfl)
theorem dX0_tries_70 : decode cX0_tries 70 = .ok (.if_icmp .ne 7, 3) := dk_160 0 7 (dk_at dksX0_tries_3 0 rfl rfl)
theorem dX0_tries_73 : decode cX0_tries 73 = .ok (.iconst 1, 1) := dk_4 (dk_at dksX0_tries_3 3 rfl rfl)
theorem dX0_tries_74 : decode cX0_tries 74 = .ok (.goto 4, 3) := dk_167 0 4 (dk_at dksX0_tries_3 4 rfl rfl)
theorem dX0_tries_77 : decode cX0_tries 77 = .ok (.iconst 0, 1) := dk_3 (dk_at dksX0_tries_3 7 rfl rfl)
theorem dX0_tries_78 : decode cX0_tries 78 = .ok (.invokevirtual 217, 3) := dk_182 0 217 (dk_at dksX0_tries_3 8 rfl rfl)
theorem dX0_tries_81 : decode cX0_tries 81 = .ok (.aload_n 0, 1) := dk_42 (dk_at dksX0_tries_3 11 rfl rfl)
theorem dX0_tries_82 : decode cX0_tries 82 = .ok (.getfield 45, 3) := dk_180 0 45 (dk_at dksX0_tries_3 12 rfl rfl)
theorem dX0_tries_85 : decode cX0_tries 85 = .ok (.getfield 189, 3) := dk_180 0 189 (dk_at dksX0_tries_3 15 rfl rfl)
theorem dX0_tries_88 : decode cX0_tries 88 = .ok (.invokevirtual 221, 3) := dk_182 0 221 (dk_at dksX0_tries_3 18 rfl rfl)
theorem dX0_tries_91 : decode cX0_tries 91 = .ok (.iconst 0, 1) := dk_3 (dk_at dksX0_tries_3 21 rfl rfl)
theorem dX0_tries_92 : decode cX0_tries 92 = .ok (.istore_n 2, 1) := dk_61 (dk_at dksX0_tries_3 22 rfl rfl)
theorem dX0_tries_93 : decode cX0_tries 93 = .ok (.iload_n 2, 1) := dk_28 (dk_at dksX0_tries_3 23 rfl rfl)
theorem dX0_tries_94 : decode cX0_tries 94 = .ok (.aload_n 0, 1) := dk_42 (dk_at dksX0_tries_4 0 rfl rfl)
theorem dX0_tries_95 : decode cX0_tries 95 = .ok (.getfield 58, 3) := dk_180 0 58 (dk_at dksX0_tries_4 1 rfl rfl)
theorem dX0_tries_98 : decode cX0_tries 98 = .ok (.invokevirtual 222, 3) := dk_182 0 222 (dk_at dksX0_tries_4 4 rfl rfl)
theorem dX0_tries_101 : decode cX0_tries 101 = .ok (.if_icmp .ge 27, 3) := dk_162 0 27 (dk_at dksX0_tries_4 7 rfl rfl)
theorem dX0_tries_104 : decode cX0_tries 104 = .ok (.aload_n 0, 1) := dk_42 (dk_at dksX0_tries_4 10 rfl rfl)
theorem dX0_tries_105 : decode cX0_tries 105 = .ok (.getfield 45, 3) := dk_180 0 45 (dk_at dksX0_tries_4 11 rfl rfl)
theorem dX0_tries_108 : decode cX0_tries 108 = .ok (.getfield 189, 3) := dk_180 0 189 (dk_at dksX0_tries_4 14 rfl rfl)
theorem dX0_tries_111 : decode cX0_tries 111 = .ok (.aload_n 0, 1) := dk_42 (dk_at dksX0_tries_4 17 rfl rfl)
theorem dX0_tries_112 : decode cX0_tries 112 = .ok (.getfield 58, 3) := dk_180 0 58 (dk_at dksX0_tries_4 18 rfl rfl)
theorem dX0_tries_115 : decode cX0_tries 115 = .ok (.iload_n 2, 1) := dk_28 (dk_at dksX0_tries_4 21 rfl rfl)
theorem dX0_tries_116 : decode cX0_tries 116 = .ok (.invokevirtual 223, 3) := dk_182 0 223 (dk_at dksX0_tries_5 0 rfl rfl)
theorem dX0_tries_119 : decode cX0_tries 119 = .ok (.invokevirtual 227, 3) := dk_182 0 227 (dk_at dksX0_tries_5 3 rfl rfl)
theorem dX0_tries_122 : decode cX0_tries 122 = .ok (.iinc 2 1, 3) := dk_132 2 1 (dk_at dksX0_tries_5 6 rfl rfl)
theorem dX0_tries_125 : decode cX0_tries 125 = .ok (.goto (-32), 3) := dk_167 255 224 (dk_at dksX0_tries_5 9 rfl rfl)
theorem dX0_tries_128 : decode cX0_tries 128 = .ok (.aload_n 0, 1) := dk_42 (dk_at dksX0_tries_5 12 rfl rfl)
theorem dX0_tries_129 : decode cX0_tries 129 = .ok (.getfield 45, 3) := dk_180 0 45 (dk_at dksX0_tries_5 13 rfl rfl)
theorem dX0_tries_132 : decode cX0_tries 132 = .ok (.invokevirtual 174, 3) := dk_182 0 174 (dk_at dksX0_tries_5 16 rfl rfl)
theorem dX0_tries_135 : decode cX0_tries 135 = .ok (.ireturn, 1) := dk_172 (dk_at dksX0_tries_5 19 rfl rfl)
theorem dX0_tries_136 : decode cX0_tries 136 = .ok (.aload_n 0, 1) := dk_42 (dk_at dksX0_tries_5 20 rfl rfl)
theorem dX0_tries_137 : decode cX0_tries 137 = .ok (.getfield 45, 3) := dk_180 0 45 (dk_at dksX0_tries_5 21 rfl rfl)
theorem dX0_tries_140 : decode cX0_tries 140 = .ok (.invokevirtual 228, 3) := dk_182 0 228 (dk_at dksX0_tries_6 0 rfl rfl)
theorem dX0_tries_143 : decode cX0_tries 143 = .ok (.aload_n 0, 1) := dk_42 (dk_at dksX0_tries_6 3 rfl rfl)
theorem dX0_tries_144 : decode cX0_tries 144 = .ok (.getfield 45, 3) := dk_180 0 45 (dk_at dksX0_tries_6 4 rfl rfl)
theorem dX0_tries_147 : decode cX0_tries 147 = .ok (.invokevirtual 174, 3) := dk_182 0 174 (dk_at dksX0_tries_6 7 rfl rfl)
theorem dX0_tries_150 : decode cX0_tries 150 = .ok (.ireturn, 1) := dk_172 (dk_at dksX0_tries_6 10 rfl rfl)
theorem dX0_tries_151 : decode cX0_tries 151 = .ok (.aload_n 0, 1) := dk_42 (dk_at dksX0_tries_6 11 rfl rfl)
theorem dX0_tries_152 : decode cX0_tries 152 = .ok (.getfield 131, 3) := dk_180 0 131 (dk_at dksX0_tries_6 12 rfl rfl)
theorem dX0_tries_155 : decode cX0_tries 155 = .ok (.iconst 3, 1) := dk_6 (dk_at dksX0_tries_6 15 rfl rfl)
theorem dX0_tries_156 : decode cX0_tries 156 = .ok (.if_icmp .le 5, 3) := dk_164 0 5 (dk_at dksX0_tries_6 16 rfl rfl)
theorem dX0_tries_159 : decode cX0_tries 159 = .ok (.iconst (-1), 1) := dk_2 (dk_at dksX0_tries_6 19 rfl rfl)
theorem dX0_tries_160 : decode cX0_tries 160 = .ok (.ireturn, 1) := dk_172 (dk_at dksX0_tries_6 20 rfl rfl)
theorem dX0_tries_161 : decode cX0_tries 161 = .ok (.aload_n 0, 1) := dk_42 (dk_at dksX0_tries_6 21 rfl rfl)
theorem dX0_tries_162 : decode cX0_tries 162 = .ok (.invokevirtual 231, 3) := dk_182 0 231 (dk_at dksX0_tries_7 0 rfl rfl)
theorem dX0_tries_165 : decode cX0_tries 165 = .ok (.astore_n 2, 1) := dk_77 (dk_at dksX0_tries_7 3 rfl rfl)
theorem dX0_tries_166 : decode cX0_tries 166 = .ok (.aload_n 0, 1) := dk_42 (dk_at dksX0_tries_7 4 rfl rfl)
theorem dX0_tries_167 : decode cX0_tries 167 = .ok (.getfield 45, 3) := dk_180 0 45 (dk_at dksX0_tries_7 5 rfl rfl)
theorem dX0_tries_170 : decode cX0_tries 170 = .ok (.getfield 189, 3) := dk_180 0 189 (dk_at dksX0_tries_7 8 rfl rfl)
theorem dX0_tries_173 : decode cX0_tries 173 = .ok (.invokevirtual 221, 3) := dk_182 0 221 (dk_at dksX0_tries_7 11 rfl rfl)
theorem dX0_tries_176 : decode cX0_tries 176 = .ok (.aload_n 2, 1) := dk_44 (dk_at dksX0_tries_7 14 rfl rfl)
theorem dX0_tries_177 : decode cX0_tries 177 = .ok (.invokevirtual 235, 3) := dk_182 0 235 (dk_at dksX0_tries_7 15 rfl rfl)
theorem dX0_tries_180 : decode cX0_tries 180 = .ok (.ifCond .ne 23, 3) := dk_154 0 23 (dk_at dksX0_tries_7 18 rfl rfl)
theorem dX0_tries_183 : decode cX0_tries 183 = .ok (.aload_n 0, 1) := dk_42 (dk_at dksX0_tries_7 21 rfl rfl)
theorem dX0_tries_184 : decode cX0_tries 184 = .ok (.getfield 45, 3) := dk_180 0 45 (dk_at dksX0_tries_8 0 rfl rfl)
theorem dX0_tries_187 : decode cX0_tries 187 = .ok (.getfield 189, 3) := dk_180 0 189 (dk_at dksX0_tries_8 3 rfl rfl)
theorem dX0_tries_190 : decode cX0_tries 190 = .ok (.aload_n 2, 1) := dk_44 (dk_at dksX0_tries_8 6 rfl rfl)
theorem dX0_tries_191 : decode cX0_tries 191 = .ok (.invokevirtual 239, 3) := dk_182 0 239 (dk_at dksX0_tries_8 7 rfl rfl)
theorem dX0_tries_194 : decode cX0_tries 194 = .ok (.checkcast 193, 3) := dk_192 0 193 (dk_at dksX0_tries_8 10 rfl rfl)
theorem dX0_tries_197 : decode cX0_tries 197 = .ok (.invokevirtual 227, 3) := dk_182 0 227 (dk_at dksX0_tries_8 13 rfl rfl)
theorem dX0_tries_200 : decode cX0_tries 200 = .ok (.goto (-24), 3) := dk_167 255 232 (dk_at dksX0_tries_8 16 rfl rfl)
theorem dX0_tries_203 : decode cX0_tries 203 = .ok (.aload_n 0, 1) := dk_42 (dk_at dksX0_tries_8 19 rfl rfl)
theorem dX0_tries_204 : decode cX0_tries 204 = .ok (.getfield 45, 3) := dk_180 0 45 (dk_at dksX0_tries_8 20 rfl rfl)
theorem dX0_tries_207 : decode cX0_tries 207 = .ok (.invokevirtual 174, 3) := dk_182 0 174 (dk_at dksX0_tries_9 0 rfl rfl)
theorem dX0_tries_210 : decode cX0_tries 210 = .ok (.ireturn, 1) := dk_172 (dk_at dksX0_tries_9 3 rfl rfl)
theorem dX0_tries_211 : decode cX0_tries 211 = .ok (.iconst (-1), 1) := dk_2 (dk_at dksX0_tries_9 4 rfl rfl)
theorem dX0_tries_212 : decode cX0_tries 212 = .ok (.ireturn, 1) := dk_172 (dk_at dksX0_tries_9 5 rfl rfl)
abbrev cX0_many : ByteArray := prog_1_method_3_code
def yX0_many : MethodName := ⟨RX0, "many", "(I)I"⟩
theorem dX0_many_0 : decode cX0_many 0 = .ok (.iload_n 0, 1) := by decide +kernel
theorem dX0_many_1 : decode cX0_many 1 = .ok (.invokestatic 1, 3) := by decide +kernel
theorem dX0_many_4 : decode cX0_many 4 = .ok (.ireturn, 1) := by decide +kernel
abbrev cX0_finds : ByteArray := prog_1_method_28_code
def yX0_finds : MethodName := ⟨RX0, "finds", "(Z)V"⟩
def dkwX0_finds_1 : List UInt8 := [182, 0, 151, 27, 182, 1, 33, 177]
abbrev dktX0_finds_1 : List UInt8 := dkwX0_finds_1 ++ []
def dkwX0_finds_0 : List UInt8 := [42, 180, 0, 41, 42, 180, 0, 91, 42, 182, 0, 151, 182, 1, 20, 42, 180, 0, 58, 42, 180, 0, 91, 42]
abbrev dktX0_finds_0 : List UInt8 := dkwX0_finds_0 ++ dktX0_finds_1
theorem dksX0_finds_0 : cX0_finds.data.toList.drop 0 = dktX0_finds_0 := by decide +kernel
theorem dksX0_finds_1 : cX0_finds.data.toList.drop 24 = dktX0_finds_1 := dk_seg dksX0_finds_0 24 rfl rfl
theorem dX0_finds_0 : decode cX0_finds 0 = .ok (.aload_n 0, 1) := dk_42 (dk_at dksX0_finds_0 0 rfl rfl)
theorem dX0_finds_1 : decode cX0_finds 1 = .ok (.getfield 41, 3) := dk_180 0 41 (dk_at dksX0_finds_0 1 rfl rfl)
theorem dX0_finds_4 : decode cX0_finds 4 = .ok (.aload_n 0, 1) := dk_42 (dk_at dksX0_finds_0 4 rfl rfl)
theorem dX0_finds_5 : decode cX0_finds 5 = .ok (.getfield 91, 3) := dk_180 0 91 (dk_at dksX0_finds_0 5 rfl rfl)
theorem dX0_finds_8 : decode cX0_finds 8 = .ok (.aload_n 0, 1) := dk_42 (dk_at dksX0_finds_0 8 rfl rfl)
theorem dX0_finds_9 : decode cX0_finds 9 = .ok (.invokevirtual 151, 3) := dk_182 0 151 (dk_at dksX0_finds_0 9 rfl rfl)
theorem dX0_finds_12 : decode cX0_finds 12 = .ok (.invokevirtual 276, 3) := dk_182 1 20 (dk_at dksX0_finds_0 12 rfl rfl)
theorem dX0_finds_15 : decode cX0_finds 15 = .ok (.aload_n 0, 1) := dk_42 (dk_at dksX0_finds_0 15 rfl rfl)
theorem dX0_finds_16 : decode cX0_finds 16 = .ok (.getfield 58, 3) := dk_180 0 58 (dk_at dksX0_finds_0 16 rfl rfl)
theorem dX0_finds_19 : decode cX0_finds 19 = .ok (.aload_n 0, 1) := dk_42 (dk_at dksX0_finds_0 19 rfl rfl)
theorem dX0_finds_20 : decode cX0_finds 20 = .ok (.getfield 91, 3) := dk_180 0 91 (dk_at dksX0_finds_0 20 rfl rfl)
theorem dX0_finds_23 : decode cX0_finds 23 = .ok (.aload_n 0, 1) := dk_42 (dk_at dksX0_finds_0 23 rfl rfl)
theorem dX0_finds_24 : decode cX0_finds 24 = .ok (.invokevirtual 151, 3) := dk_182 0 151 (dk_at dksX0_finds_1 0 rfl rfl)
theorem dX0_finds_27 : decode cX0_finds 27 = .ok (.iload_n 1, 1) := dk_27 (dk_at dksX0_finds_1 3 rfl rfl)
theorem dX0_finds_28 : decode cX0_finds 28 = .ok (.invokevirtual 289, 3) := dk_182 1 33 (dk_at dksX0_finds_1 4 rfl rfl)
theorem dX0_finds_31 : decode cX0_finds 31 = .ok (.return_, 1) := dk_177 (dk_at dksX0_finds_1 7 rfl rfl)
abbrev cX0_leastRow : ByteArray := prog_1_method_30_code
def yX0_leastRow : MethodName := ⟨RX0, "leastRow", "()Ljava/util/LinkedList;"⟩
def dkwX0_leastRow_1 : List UInt8 := [182, 1, 36, 42, 180, 0, 65, 42, 180, 0, 91, 182, 1, 39, 176]
abbrev dktX0_leastRow_1 : List UInt8 := dkwX0_leastRow_1 ++ []
def dkwX0_leastRow_0 : List UInt8 := [42, 180, 0, 41, 42, 180, 0, 91, 42, 182, 0, 151, 182, 1, 20, 42, 180, 0, 65, 42, 180, 0, 131]
abbrev dktX0_leastRow_0 : List UInt8 := dkwX0_leastRow_0 ++ dktX0_leastRow_1
theorem dksX0_leastRow_0 : cX0_leastRow.data.toList.drop 0 = dktX0_leastRow_0 := by decide +kernel
theorem dksX0_leastRow_1 : cX0_leastRow.data.toList.drop 23 = dktX0_leastRow_1 := dk_seg dksX0_leastRow_0 23 rfl rfl
theorem dX0_leastRow_0 : decode cX0_leastRow 0 = .ok (.aload_n 0, 1) := dk_42 (dk_at dksX0_leastRow_0 0 rfl rfl)
theorem dX0_leastRow_1 : decode cX0_leastRow 1 = .ok (.getfield 41, 3) := dk_180 0 41 (dk_at dksX0_leastRow_0 1 rfl rfl)
theorem dX0_leastRow_4 : decode cX0_leastRow 4 = .ok (.aload_n 0, 1) := dk_42 (dk_at dksX0_leastRow_0 4 rfl rfl)
theorem dX0_leastRow_5 : decode cX0_leastRow 5 = .ok (.getfield 91, 3) := dk_180 0 91 (dk_at dksX0_leastRow_0 5 rfl rfl)
theorem dX0_leastRow_8 : decode cX0_leastRow 8 = .ok (.aload_n 0, 1) := dk_42 (dk_at dksX0_leastRow_0 8 rfl rfl)
theorem dX0_leastRow_9 : decode cX0_leastRow 9 = .ok (.invokevirtual 151, 3) := dk_182 0 151 (dk_at dksX0_leastRow_0 9 rfl rfl)
theorem dX0_leastRow_12 : decode cX0_leastRow 12 = .ok (.invokevirtual 276, 3) := dk_182 1 20 (dk_at dksX0_leastRow_0 12 rfl rfl)
theorem dX0_leastRow_15 : decode cX0_leastRow 15 = .ok (.aload_n 0, 1) := dk_42 (dk_at dksX0_leastRow_0 15 rfl rfl)
theorem dX0_leastRow_16 : decode cX0_leastRow 16 = .ok (.getfield 65, 3) := dk_180 0 65 (dk_at dksX0_leastRow_0 16 rfl rfl)
theorem dX0_leastRow_19 : decode cX0_leastRow 19 = .ok (.aload_n 0, 1) := dk_42 (dk_at dksX0_leastRow_0 19 rfl rfl)
theorem dX0_leastRow_20 : decode cX0_leastRow 20 = .ok (.getfield 131, 3) := dk_180 0 131 (dk_at dksX0_leastRow_0 20 rfl rfl)
theorem dX0_leastRow_23 : decode cX0_leastRow 23 = .ok (.invokevirtual 292, 3) := dk_182 1 36 (dk_at dksX0_leastRow_1 0 rfl rfl)
theorem dX0_leastRow_26 : decode cX0_leastRow 26 = .ok (.aload_n 0, 1) := dk_42 (dk_at dksX0_leastRow_1 3 rfl rfl)
theorem dX0_leastRow_27 : decode cX0_leastRow 27 = .ok (.getfield 65, 3) := dk_180 0 65 (dk_at dksX0_leastRow_1 4 rfl rfl)
theorem dX0_leastRow_30 : decode cX0_leastRow 30 = .ok (.aload_n 0, 1) := dk_42 (dk_at dksX0_leastRow_1 7 rfl rfl)
theorem dX0_leastRow_31 : decode cX0_leastRow 31 = .ok (.getfield 91, 3) := dk_180 0 91 (dk_at dksX0_leastRow_1 8 rfl rfl)
theorem dX0_leastRow_34 : decode cX0_leastRow 34 = .ok (.invokevirtual 295, 3) := dk_182 1 39 (dk_at dksX0_leastRow_1 11 rfl rfl)
theorem dX0_leastRow_37 : decode cX0_leastRow 37 = .ok (.areturn, 1) := dk_176 (dk_at dksX0_leastRow_1 14 rfl rfl)
abbrev cX0_undo : ByteArray := prog_1_method_20_code
def yX0_undo : MethodName := ⟨RX0, "undo", "()Z"⟩
def dkwX0_undo_1 : List UInt8 := [192, 0, 38, 182, 0, 133, 4, 172]
abbrev dktX0_undo_1 : List UInt8 := dkwX0_undo_1 ++ []
def dkwX0_undo_0 : List UInt8 := [42, 180, 0, 79, 182, 0, 243, 153, 0, 5, 3, 172, 42, 180, 0, 41, 42, 180, 0, 79, 182, 0, 244]
abbrev dktX0_undo_0 : List UInt8 := dkwX0_undo_0 ++ dktX0_undo_1
theorem dksX0_undo_0 : cX0_undo.data.toList.drop 0 = dktX0_undo_0 := by decide +kernel
theorem dksX0_undo_1 : cX0_undo.data.toList.drop 23 = dktX0_undo_1 := dk_seg dksX0_undo_0 23 rfl rfl
theorem dX0_undo_0 : decode cX0_undo 0 = .ok (.aload_n 0, 1) := dk_42 (dk_at dksX0_undo_0 0 rfl rfl)
theorem dX0_undo_1 : decode cX0_undo 1 = .ok (.getfield 79, 3) := dk_180 0 79 (dk_at dksX0_undo_0 1 rfl rfl)
theorem dX0_undo_4 : decode cX0_undo 4 = .ok (.invokevirtual 243, 3) := dk_182 0 243 (dk_at dksX0_undo_0 4 rfl rfl)
theorem dX0_undo_7 : decode cX0_undo 7 = .ok (.ifCond .eq 5, 3) := dk_153 0 5 (dk_at dksX0_undo_0 7 rfl rfl)
theorem dX0_undo_10 : decode cX0_undo 10 = .ok (.iconst 0, 1) := dk_3 (dk_at dksX0_undo_0 10 rfl rfl)
theorem dX0_undo_11 : decode cX0_undo 11 = .ok (.ireturn, 1) := dk_172 (dk_at dksX0_undo_0 11 rfl rfl)
theorem dX0_undo_12 : decode cX0_undo 12 = .ok (.aload_n 0, 1) := dk_42 (dk_at dksX0_undo_0 12 rfl rfl)
theorem dX0_undo_13 : decode cX0_undo 13 = .ok (.getfield 41, 3) := dk_180 0 41 (dk_at dksX0_undo_0 13 rfl rfl)
theorem dX0_undo_16 : decode cX0_undo 16 = .ok (.aload_n 0, 1) := dk_42 (dk_at dksX0_undo_0 16 rfl rfl)
theorem dX0_undo_17 : decode cX0_undo 17 = .ok (.getfield 79, 3) := dk_180 0 79 (dk_at dksX0_undo_0 17 rfl rfl)
theorem dX0_undo_20 : decode cX0_undo 20 = .ok (.invokevirtual 244, 3) := dk_182 0 244 (dk_at dksX0_undo_0 20 rfl rfl)
theorem dX0_undo_23 : decode cX0_undo 23 = .ok (.checkcast 38, 3) := dk_192 0 38 (dk_at dksX0_undo_1 0 rfl rfl)
theorem dX0_undo_26 : decode cX0_undo 26 = .ok (.invokevirtual 133, 3) := dk_182 0 133 (dk_at dksX0_undo_1 3 rfl rfl)
theorem dX0_undo_29 : decode cX0_undo 29 = .ok (.iconst 1, 1) := dk_4 (dk_at dksX0_undo_1 6 rfl rfl)
theorem dX0_undo_30 : decode cX0_undo 30 = .ok (.ireturn, 1) := dk_172 (dk_at dksX0_undo_1 7 rfl rfl)
abbrev cX0_gate : ByteArray := prog_1_method_21_code
def yX0_gate : MethodName := ⟨RX0, "gate", "(II)I"⟩
def dkwX0_gate_4 : List UInt8 := [182, 1, 5, 172, 42, 180, 0, 41, 27, 42, 182, 0, 151, 182, 1, 9, 172, 2, 172]
abbrev dktX0_gate_4 : List UInt8 := dkwX0_gate_4 ++ []
def dkwX0_gate_3 : List UInt8 := [180, 0, 97, 182, 1, 1, 87, 42, 180, 0, 97, 27, 46, 172, 42, 180, 0, 41, 27, 42, 182, 0, 151]
abbrev dktX0_gate_3 : List UInt8 := dkwX0_gate_3 ++ dktX0_gate_4
def dkwX0_gate_2 : List UInt8 := [45, 28, 182, 0, 248, 172, 42, 180, 0, 87, 45, 182, 0, 251, 184, 0, 254, 46, 172, 42, 180, 0, 41, 42]
abbrev dktX0_gate_2 : List UInt8 := dkwX0_gate_2 ++ dktX0_gate_3
def dkwX0_gate_1 : List UInt8 := [170, 0, 0, 0, 105, 0, 0, 0, 0, 0, 0, 0, 6, 0, 0, 0, 41, 0, 0, 0, 41, 0, 0, 0, 41, 0, 0, 0, 47, 0, 0, 0, 60, 0, 0, 0, 79, 0, 0, 0, 92]
abbrev dktX0_gate_1 : List UInt8 := dkwX0_gate_1 ++ dktX0_gate_2
def dkwX0_gate_0 : List UInt8 := [42, 180, 0, 41, 27, 182, 0, 204, 154, 0, 5, 2, 172, 42, 180, 0, 41, 27, 182, 0, 247, 78, 28]
abbrev dktX0_gate_0 : List UInt8 := dkwX0_gate_0 ++ dktX0_gate_1
theorem dksX0_gate_0 : cX0_gate.data.toList.drop 0 = dktX0_gate_0 := by decide +kernel
theorem dksX0_gate_1 : cX0_gate.data.toList.drop 23 = dktX0_gate_1 := dk_seg dksX0_gate_0 23 rfl rfl
theorem dksX0_gate_2 : cX0_gate.data.toList.drop 64 = dktX0_gate_2 := dk_seg dksX0_gate_1 41 rfl rfl
theorem dksX0_gate_3 : cX0_gate.data.toList.drop 88 = dktX0_gate_3 := dk_seg dksX0_gate_2 24 rfl rfl
theorem dksX0_gate_4 : cX0_gate.data.toList.drop 111 = dktX0_gate_4 := dk_seg dksX0_gate_3 23 rfl rfl
theorem dX0_gate_0 : decode cX0_gate 0 = .ok (.aload_n 0, 1) := dk_42 (dk_at dksX0_gate_0 0 rfl rfl)
theorem dX0_gate_1 : decode cX0_gate 1 = .ok (.getfield 41, 3) := dk_180 0 41 (dk_at dksX0_gate_0 1 rfl rfl)
theorem dX0_gate_4 : decode cX0_gate 4 = .ok (.iload_n 1, 1) := dk_27 (dk_at dksX0_gate_0 4 rfl rfl)
theorem dX0_gate_5 : decode cX0_gate 5 = .ok (.invokevirtual 204, 3) := dk_182 0 204 (dk_at dksX0_gate_0 5 rfl rfl)
theorem dX0_gate_8 : decode cX0_gate 8 = .ok (.ifCond .ne 5, 3) := dk_154 0 5 (dk_at dksX0_gate_0 8 rfl rfl)
theorem dX0_gate_11 : decode cX0_gate 11 = .ok (.iconst (-1), 1) := dk_2 (dk_at dksX0_gate_0 11 rfl rfl)
theorem dX0_gate_12 : decode cX0_gate 12 = .ok (.ireturn, 1) := dk_172 (dk_at dksX0_gate_0 12 rfl rfl)
theorem dX0_gate_13 : decode cX0_gate 13 = .ok (.aload_n 0, 1) := dk_42 (dk_at dksX0_gate_0 13 rfl rfl)
theorem dX0_gate_14 : decode cX0_gate 14 = .ok (.getfield 41, 3) := dk_180 0 41 (dk_at dksX0_gate_0 14 rfl rfl)
theorem dX0_gate_17 : decode cX0_gate 17 = .ok (.iload_n 1, 1) := dk_27 (dk_at dksX0_gate_0 17 rfl rfl)
theorem dX0_gate_18 : decode cX0_gate 18 = .ok (.invokevirtual 247, 3) := dk_182 0 247 (dk_at dksX0_gate_0 18 rfl rfl)
theorem dX0_gate_21 : decode cX0_gate 21 = .ok (.astore_n 3, 1) := dk_78 (dk_at dksX0_gate_0 21 rfl rfl)
theorem dX0_gate_22 : decode cX0_gate 22 = .ok (.iload_n 2, 1) := dk_28 (dk_at dksX0_gate_0 22 rfl rfl)
theorem dX0_gate_23 : decode cX0_gate 23 = .ok (.tableswitch 105 0 6 #[41, 41, 41, 47, 60, 79, 92], 41) := by decide +kernel
theorem dX0_gate_64 : decode cX0_gate 64 = .ok (.aload_n 3, 1) := dk_45 (dk_at dksX0_gate_2 0 rfl rfl)
theorem dX0_gate_65 : decode cX0_gate 65 = .ok (.iload_n 2, 1) := dk_28 (dk_at dksX0_gate_2 1 rfl rfl)
theorem dX0_gate_66 : decode cX0_gate 66 = .ok (.invokevirtual 248, 3) := dk_182 0 248 (dk_at dksX0_gate_2 2 rfl rfl)
theorem dX0_gate_69 : decode cX0_gate 69 = .ok (.ireturn, 1) := dk_172 (dk_at dksX0_gate_2 5 rfl rfl)
theorem dX0_gate_70 : decode cX0_gate 70 = .ok (.aload_n 0, 1) := dk_42 (dk_at dksX0_gate_2 6 rfl rfl)
theorem dX0_gate_71 : decode cX0_gate 71 = .ok (.getfield 87, 3) := dk_180 0 87 (dk_at dksX0_gate_2 7 rfl rfl)
theorem dX0_gate_74 : decode cX0_gate 74 = .ok (.aload_n 3, 1) := dk_45 (dk_at dksX0_gate_2 10 rfl rfl)
theorem dX0_gate_75 : decode cX0_gate 75 = .ok (.invokevirtual 251, 3) := dk_182 0 251 (dk_at dksX0_gate_2 11 rfl rfl)
theorem dX0_gate_78 : decode cX0_gate 78 = .ok (.invokestatic 254, 3) := dk_184 0 254 (dk_at dksX0_gate_2 14 rfl rfl)
theorem dX0_gate_81 : decode cX0_gate 81 = .ok (.iaload, 1) := dk_46 (dk_at dksX0_gate_2 17 rfl rfl)
theorem dX0_gate_82 : decode cX0_gate 82 = .ok (.ireturn, 1) := dk_172 (dk_at dksX0_gate_2 18 rfl rfl)
theorem dX0_gate_83 : decode cX0_gate 83 = .ok (.aload_n 0, 1) := dk_42 (dk_at dksX0_gate_2 19 rfl rfl)
theorem dX0_gate_84 : decode cX0_gate 84 = .ok (.getfield 41, 3) := dk_180 0 41 (dk_at dksX0_gate_2 20 rfl rfl)
theorem dX0_gate_87 : decode cX0_gate 87 = .ok (.aload_n 0, 1) := dk_42 (dk_at dksX0_gate_2 23 rfl rfl)
theorem dX0_gate_88 : decode cX0_gate 88 = .ok (.getfield 97, 3) := dk_180 0 97 (dk_at dksX0_gate_3 0 rfl rfl)
theorem dX0_gate_91 : decode cX0_gate 91 = .ok (.invokevirtual 257, 3) := dk_182 1 1 (dk_at dksX0_gate_3 3 rfl rfl)
theorem dX0_gate_94 : decode cX0_gate 94 = .ok (.pop, 1) := dk_87 (dk_at dksX0_gate_3 6 rfl rfl)
theorem dX0_gate_95 : decode cX0_gate 95 = .ok (.aload_n 0, 1) := dk_42 (dk_at dksX0_gate_3 7 rfl rfl)
theorem dX0_gate_96 : decode cX0_gate 96 = .ok (.getfield 97, 3) := dk_180 0 97 (dk_at dksX0_gate_3 8 rfl rfl)
theorem dX0_gate_99 : decode cX0_gate 99 = .ok (.iload_n 1, 1) := dk_27 (dk_at dksX0_gate_3 11 rfl rfl)
theorem dX0_gate_100 : decode cX0_gate 100 = .ok (.iaload, 1) := dk_46 (dk_at dksX0_gate_3 12 rfl rfl)
theorem dX0_gate_101 : decode cX0_gate 101 = .ok (.ireturn, 1) := dk_172 (dk_at dksX0_gate_3 13 rfl rfl)
theorem dX0_gate_102 : decode cX0_gate 102 = .ok (.aload_n 0, 1) := dk_42 (dk_at dksX0_gate_3 14 rfl rfl)
theorem dX0_gate_103 : decode cX0_gate 103 = .ok (.getfield 41, 3) := dk_180 0 41 (dk_at dksX0_gate_3 15 rfl rfl)
theorem dX0_gate_106 : decode cX0_gate 106 = .ok (.iload_n 1, 1) := dk_27 (dk_at dksX0_gate_3 18 rfl rfl)
theorem dX0_gate_107 : decode cX0_gate 107 = .ok (.aload_n 0, 1) := dk_42 (dk_at dksX0_gate_3 19 rfl rfl)
theorem dX0_gate_108 : decode cX0_gate 108 = .ok (.invokevirtual 151, 3) := dk_182 0 151 (dk_at dksX0_gate_3 20 rfl rfl)
theorem dX0_gate_111 : decode cX0_gate 111 = .ok (.invokevirtual 261, 3) := dk_182 1 5 (dk_at dksX0_gate_4 0 rfl rfl)
theorem dX0_gate_114 : decode cX0_gate 114 = .ok (.ireturn, 1) := dk_172 (dk_at dksX0_gate_4 3 rfl rfl)
theorem dX0_gate_115 : decode cX0_gate 115 = .ok (.aload_n 0, 1) := dk_42 (dk_at dksX0_gate_4 4 rfl rfl)
theorem dX0_gate_116 : decode cX0_gate 116 = .ok (.getfield 41, 3) := dk_180 0 41 (dk_at dksX0_gate_4 5 rfl rfl)
theorem dX0_gate_119 : decode cX0_gate 119 = .ok (.iload_n 1, 1) := dk_27 (dk_at dksX0_gate_4 8 rfl rfl)
theorem dX0_gate_120 : decode cX0_gate 120 = .ok (.aload_n 0, 1) := dk_42 (dk_at dksX0_gate_4 9 rfl rfl)
theorem dX0_gate_121 : decode cX0_gate 121 = .ok (.invokevirtual 151, 3) := dk_182 0 151 (dk_at dksX0_gate_4 10 rfl rfl)
theorem dX0_gate_124 : decode cX0_gate 124 = .ok (.invokevirtual 265, 3) := dk_182 1 9 (dk_at dksX0_gate_4 13 rfl rfl)
theorem dX0_gate_127 : decode cX0_gate 127 = .ok (.ireturn, 1) := dk_172 (dk_at dksX0_gate_4 16 rfl rfl)
theorem dX0_gate_128 : decode cX0_gate 128 = .ok (.iconst (-1), 1) := dk_2 (dk_at dksX0_gate_4 17 rfl rfl)
theorem dX0_gate_129 : decode cX0_gate 129 = .ok (.ireturn, 1) := dk_172 (dk_at dksX0_gate_4 18 rfl rfl)
abbrev cX0_made : ByteArray := prog_1_method_22_code
def yX0_made : MethodName := ⟨RX0, "made", "(II)I"⟩
def dkwX0_made_1 : List UInt8 := [180, 0, 41, 27, 28, 182, 1, 12, 167, 0, 4, 2, 172]
abbrev dktX0_made_1 : List UInt8 := dkwX0_made_1 ++ []
def dkwX0_made_0 : List UInt8 := [42, 27, 182, 0, 179, 153, 0, 30, 28, 3, 42, 180, 0, 41, 182, 0, 174, 184, 0, 155, 153, 0, 15, 42]
abbrev dktX0_made_0 : List UInt8 := dkwX0_made_0 ++ dktX0_made_1
theorem dksX0_made_0 : cX0_made.data.toList.drop 0 = dktX0_made_0 := by decide +kernel
theorem dksX0_made_1 : cX0_made.data.toList.drop 24 = dktX0_made_1 := dk_seg dksX0_made_0 24 rfl rfl
theorem dX0_made_0 : decode cX0_made 0 = .ok (.aload_n 0, 1) := dk_42 (dk_at dksX0_made_0 0 rfl rfl)
theorem dX0_made_1 : decode cX0_made 1 = .ok (.iload_n 1, 1) := dk_27 (dk_at dksX0_made_0 1 rfl rfl)
theorem dX0_made_2 : decode cX0_made 2 = .ok (.invokevirtual 179, 3) := dk_182 0 179 (dk_at dksX0_made_0 2 rfl rfl)
theorem dX0_made_5 : decode cX0_made 5 = .ok (.ifCond .eq 30, 3) := dk_153 0 30 (dk_at dksX0_made_0 5 rfl rfl)
theorem dX0_made_8 : decode cX0_made 8 = .ok (.iload_n 2, 1) := dk_28 (dk_at dksX0_made_0 8 rfl rfl)
theorem dX0_made_9 : decode cX0_made 9 = .ok (.iconst 0, 1) := dk_3 (dk_at dksX0_made_0 9 rfl rfl)
theorem dX0_made_10 : decode cX0_made 10 = .ok (.aload_n 0, 1) := dk_42 (dk_at dksX0_made_0 10 rfl rfl)
theorem dX0_made_11 : decode cX0_made 11 = .ok (.getfield 41, 3) := dk_180 0 41 (dk_at dksX0_made_0 11 rfl rfl)
theorem dX0_made_14 : decode cX0_made 14 = .ok (.invokevirtual 174, 3) := dk_182 0 174 (dk_at dksX0_made_0 14 rfl rfl)
theorem dX0_made_17 : decode cX0_made 17 = .ok (.invokestatic 155, 3) := dk_184 0 155 (dk_at dksX0_made_0 17 rfl rfl)
theorem dX0_made_20 : decode cX0_made 20 = .ok (.ifCond .eq 15, 3) := dk_153 0 15 (dk_at dksX0_made_0 20 rfl rfl)
theorem dX0_made_23 : decode cX0_made 23 = .ok (.aload_n 0, 1) := dk_42 (dk_at dksX0_made_0 23 rfl rfl)
theorem dX0_made_24 : decode cX0_made 24 = .ok (.getfield 41, 3) := dk_180 0 41 (dk_at dksX0_made_1 0 rfl rfl)
theorem dX0_made_27 : decode cX0_made 27 = .ok (.iload_n 1, 1) := dk_27 (dk_at dksX0_made_1 3 rfl rfl)
theorem dX0_made_28 : decode cX0_made 28 = .ok (.iload_n 2, 1) := dk_28 (dk_at dksX0_made_1 4 rfl rfl)
theorem dX0_made_29 : decode cX0_made 29 = .ok (.invokevirtual 268, 3) := dk_182 1 12 (dk_at dksX0_made_1 5 rfl rfl)
theorem dX0_made_32 : decode cX0_made 32 = .ok (.goto 4, 3) := dk_167 0 4 (dk_at dksX0_made_1 8 rfl rfl)
theorem dX0_made_35 : decode cX0_made 35 = .ok (.iconst (-1), 1) := dk_2 (dk_at dksX0_made_1 11 rfl rfl)
theorem dX0_made_36 : decode cX0_made 36 = .ok (.ireturn, 1) := dk_172 (dk_at dksX0_made_1 12 rfl rfl)
abbrev cX0_undone : ByteArray := prog_1_method_23_code
def yX0_undone : MethodName := ⟨RX0, "undone", "(I)I"⟩
def dkwX0_undone_1 : List UInt8 := [132, 2, 1, 167, 255, 241, 28, 172]
abbrev dktX0_undone_1 : List UInt8 := dkwX0_undone_1 ++ []
def dkwX0_undone_0 : List UInt8 := [42, 27, 182, 0, 179, 154, 0, 5, 2, 172, 3, 61, 42, 180, 0, 41, 28, 182, 1, 15, 27, 159, 0, 9]
abbrev dktX0_undone_0 : List UInt8 := dkwX0_undone_0 ++ dktX0_undone_1
theorem dksX0_undone_0 : cX0_undone.data.toList.drop 0 = dktX0_undone_0 := by decide +kernel
theorem dksX0_undone_1 : cX0_undone.data.toList.drop 24 = dktX0_undone_1 := dk_seg dksX0_undone_0 24 rfl rfl
theorem dX0_undone_0 : decode cX0_undone 0 = .ok (.aload_n 0, 1) := dk_42 (dk_at dksX0_undone_0 0 rfl rfl)
theorem dX0_undone_1 : decode cX0_undone 1 = .ok (.iload_n 1, 1) := dk_27 (dk_at dksX0_undone_0 1 rfl rfl)
theorem dX0_undone_2 : decode cX0_undone 2 = .ok (.invokevirtual 179, 3) := dk_182 0 179 (dk_at dksX0_undone_0 2 rfl rfl)
theorem dX0_undone_5 : decode cX0_undone 5 = .ok (.ifCond .ne 5, 3) := dk_154 0 5 (dk_at dksX0_undone_0 5 rfl rfl)
theorem dX0_undone_8 : decode cX0_undone 8 = .ok (.iconst (-1), 1) := dk_2 (dk_at dksX0_undone_0 8 rfl rfl)
theorem dX0_undone_9 : decode cX0_undone 9 = .ok (.ireturn, 1) := dk_172 (dk_at dksX0_undone_0 9 rfl rfl)
theorem dX0_undone_10 : decode cX0_undone 10 = .ok (.iconst 0, 1) := dk_3 (dk_at dksX0_undone_0 10 rfl rfl)
theorem dX0_undone_11 : decode cX0_undone 11 = .ok (.istore_n 2, 1) := dk_61 (dk_at dksX0_undone_0 11 rfl rfl)
theorem dX0_undone_12 : decode cX0_undone 12 = .ok (.aload_n 0, 1) := dk_42 (dk_at dksX0_undone_0 12 rfl rfl)
theorem dX0_undone_13 : decode cX0_undone 13 = .ok (.getfield 41, 3) := dk_180 0 41 (dk_at dksX0_undone_0 13 rfl rfl)
theorem dX0_undone_16 : decode cX0_undone 16 = .ok (.iload_n 2, 1) := dk_28 (dk_at dksX0_undone_0 16 rfl rfl)
theorem dX0_undone_17 : decode cX0_undone 17 = .ok (.invokevirtual 271, 3) := dk_182 1 15 (dk_at dksX0_undone_0 17 rfl rfl)
theorem dX0_undone_20 : decode cX0_undone 20 = .ok (.iload_n 1, 1) := dk_27 (dk_at dksX0_undone_0 20 rfl rfl)
theorem dX0_undone_21 : decode cX0_undone 21 = .ok (.if_icmp .eq 9, 3) := dk_159 0 9 (dk_at dksX0_undone_0 21 rfl rfl)
theorem dX0_undone_24 : decode cX0_undone 24 = .ok (.iinc 2 1, 3) := dk_132 2 1 (dk_at dksX0_undone_1 0 rfl rfl)
theorem dX0_undone_27 : decode cX0_undone 27 = .ok (.goto (-15), 3) := dk_167 255 241 (dk_at dksX0_undone_1 3 rfl rfl)
theorem dX0_undone_30 : decode cX0_undone 30 = .ok (.iload_n 2, 1) := dk_28 (dk_at dksX0_undone_1 6 rfl rfl)
theorem dX0_undone_31 : decode cX0_undone 31 = .ok (.ireturn, 1) := dk_172 (dk_at dksX0_undone_1 7 rfl rfl)
abbrev cX0_order : ByteArray := prog_1_method_25_code
def yX0_order : MethodName := ⟨RX0, "order", "(I)I"⟩
def dkwX0_order_8 : List UInt8 := [167, 0, 14, 27, 7, 160, 0, 8, 21, 6, 167, 0, 4, 2, 172]
abbrev dktX0_order_8 : List UInt8 := dkwX0_order_8 ++ []
def dkwX0_order_7 : List UInt8 := [167, 0, 38, 27, 6, 160, 0, 22, 42, 182, 0, 151, 29, 100, 5, 112, 154, 0, 7, 4, 167, 0, 18, 3]
abbrev dktX0_order_7 : List UInt8 := dkwX0_order_7 ++ dktX0_order_8
def dkwX0_order_6 : List UInt8 := [154, 0, 7, 29, 167, 0, 58, 27, 4, 160, 0, 8, 21, 4, 167, 0, 48, 27, 5, 160, 0, 8, 21, 5]
abbrev dktX0_order_6 : List UInt8 := dkwX0_order_6 ++ dktX0_order_7
def dkwX0_order_5 : List UInt8 := [54, 4, 21, 5, 21, 5, 21, 8, 184, 1, 17, 108, 21, 8, 104, 54, 5, 132, 7, 1, 167, 255, 149, 27]
abbrev dktX0_order_5 : List UInt8 := dkwX0_order_5 ++ dktX0_order_6
def dkwX0_order_4 : List UInt8 := [46, 54, 9, 167, 255, 228, 21, 8, 154, 0, 6, 167, 0, 30, 132, 3, 1, 21, 4, 21, 8, 184, 1, 24]
abbrev dktX0_order_4 : List UInt8 := dkwX0_order_4 ++ dktX0_order_5
def dkwX0_order_3 : List UInt8 := [21, 9, 184, 0, 182, 154, 0, 25, 28, 4, 21, 9, 120, 128, 61, 132, 8, 1, 42, 180, 0, 91, 21, 9]
abbrev dktX0_order_3 : List UInt8 := dkwX0_order_3 ++ dktX0_order_4
def dkwX0_order_2 : List UInt8 := [21, 7, 46, 21, 7, 160, 0, 7, 4, 167, 0, 4, 3, 96, 54, 6, 3, 54, 8, 21, 7, 54, 9, 28]
abbrev dktX0_order_2 : List UInt8 := dkwX0_order_2 ++ dktX0_order_3
def dkwX0_order_1 : List UInt8 := [54, 5, 3, 54, 6, 3, 54, 7, 21, 7, 42, 182, 0, 151, 162, 0, 104, 21, 6, 42, 180, 0, 91]
abbrev dktX0_order_1 : List UInt8 := dkwX0_order_1 ++ dktX0_order_2
def dkwX0_order_0 : List UInt8 := [42, 180, 0, 41, 42, 180, 0, 91, 42, 182, 0, 151, 182, 1, 20, 3, 61, 3, 62, 3, 54, 4, 4]
abbrev dktX0_order_0 : List UInt8 := dkwX0_order_0 ++ dktX0_order_1
theorem dksX0_order_0 : cX0_order.data.toList.drop 0 = dktX0_order_0 := by decide +kernel
theorem dksX0_order_1 : cX0_order.data.toList.drop 23 = dktX0_order_1 := dk_seg dksX0_order_0 23 rfl rfl
theorem dksX0_order_2 : cX0_order.data.toList.drop 46 = dktX0_order_2 := dk_seg dksX0_order_1 23 rfl rfl
theorem dksX0_order_3 : cX0_order.data.toList.drop 70 = dktX0_order_3 := dk_seg dksX0_order_2 24 rfl rfl
theorem dksX0_order_4 : cX0_order.data.toList.drop 94 = dktX0_order_4 := dk_seg dksX0_order_3 24 rfl rfl
theorem dksX0_order_5 : cX0_order.data.toList.drop 118 = dktX0_order_5 := dk_seg dksX0_order_4 24 rfl rfl
theorem dksX0_order_6 : cX0_order.data.toList.drop 142 = dktX0_order_6 := dk_seg dksX0_order_5 24 rfl rfl
theorem dksX0_order_7 : cX0_order.data.toList.drop 166 = dktX0_order_7 := dk_seg dksX0_order_6 24 rfl rfl
theorem dksX0_order_8 : cX0_order.data.toList.drop 190 = dktX0_order_8 := dk_seg dksX0_order_7 24 rfl rfl
theorem dX0_order_0 : decode cX0_order 0 = .ok (.aload_n 0, 1) := dk_42 (dk_at dksX0_order_0 0 rfl rfl)
theorem dX0_order_1 : decode cX0_order 1 = .ok (.getfield 41, 3) := dk_180 0 41 (dk_at dksX0_order_0 1 rfl rfl)
theorem dX0_order_4 : decode cX0_order 4 = .ok (.aload_n 0, 1) := dk_42 (dk_at dksX0_order_0 4 rfl rfl)
theorem dX0_order_5 : decode cX0_order 5 = .ok (.getfield 91, 3) := dk_180 0 91 (dk_at dksX0_order_0 5 rfl rfl)
theorem dX0_order_8 : decode cX0_order 8 = .ok (.aload_n 0, 1) := dk_42 (dk_at dksX0_order_0 8 rfl rfl)
theorem dX0_order_9 : decode cX0_order 9 = .ok (.invokevirtual 151, 3) := dk_182 0 151 (dk_at dksX0_order_0 9 rfl rfl)
theorem dX0_order_12 : decode cX0_order 12 = .ok (.invokevirtual 276, 3) := dk_182 1 20 (dk_at dksX0_order_0 12 rfl rfl)
theorem dX0_order_15 : decode cX0_order 15 = .ok (.iconst 0, 1) := dk_3 (dk_at dksX0_order_0 15 rfl rfl)
theorem dX0_order_16 : decode cX0_order 16 = .ok (.istore_n 2, 1) := dk_61 (dk_at dksX0_order_0 16 rfl rfl)
theorem dX0_order_17 : decode cX0_order 17 = .ok (.iconst 0, 1) := dk_3 (dk_at dksX0_order_0 17 rfl rfl)
theorem dX0_order_18 : decode cX0_order 18 = .ok (.istore_n 3, 1) := dk_62 (dk_at dksX0_order_0 18 rfl rfl)
theorem dX0_order_19 : decode cX0_order 19 = .ok (.iconst 0, 1) := dk_3 (dk_at dksX0_order_0 19 rfl rfl)
theorem dX0_order_20 : decode cX0_order 20 = .ok (.istore 4, 2) := dk_54 4 (dk_at dksX0_order_0 20 rfl rfl)
theorem dX0_order_22 : decode cX0_order 22 = .ok (.iconst 1, 1) := dk_4 (dk_at dksX0_order_0 22 rfl rfl)
theorem dX0_order_23 : decode cX0_order 23 = .ok (.istore 5, 2) := dk_54 5 (dk_at dksX0_order_1 0 rfl rfl)
theorem dX0_order_25 : decode cX0_order 25 = .ok (.iconst 0, 1) := dk_3 (dk_at dksX0_order_1 2 rfl rfl)
theorem dX0_order_26 : decode cX0_order 26 = .ok (.istore 6, 2) := dk_54 6 (dk_at dksX0_order_1 3 rfl rfl)
theorem dX0_order_28 : decode cX0_order 28 = .ok (.iconst 0, 1) := dk_3 (dk_at dksX0_order_1 5 rfl rfl)
theorem dX0_order_29 : decode cX0_order 29 = .ok (.istore 7, 2) := dk_54 7 (dk_at dksX0_order_1 6 rfl rfl)
theorem dX0_order_31 : decode cX0_order 31 = .ok (.iload 7, 2) := dk_21 7 (dk_at dksX0_order_1 8 rfl rfl)
theorem dX0_order_33 : decode cX0_order 33 = .ok (.aload_n 0, 1) := dk_42 (dk_at dksX0_order_1 10 rfl rfl)
theorem dX0_order_34 : decode cX0_order 34 = .ok (.invokevirtual 151, 3) := dk_182 0 151 (dk_at dksX0_order_1 11 rfl rfl)
theorem dX0_order_37 : decode cX0_order 37 = .ok (.if_icmp .ge 104, 3) := dk_162 0 104 (dk_at dksX0_order_1 14 rfl rfl)
theorem dX0_order_40 : decode cX0_order 40 = .ok (.iload 6, 2) := dk_21 6 (dk_at dksX0_order_1 17 rfl rfl)
theorem dX0_order_42 : decode cX0_order 42 = .ok (.aload_n 0, 1) := dk_42 (dk_at dksX0_order_1 19 rfl rfl)
theorem dX0_order_43 : decode cX0_order 43 = .ok (.getfield 91, 3) := dk_180 0 91 (dk_at dksX0_order_1 20 rfl rfl)
theorem dX0_order_46 : decode cX0_order 46 = .ok (.iload 7, 2) := dk_21 7 (dk_at dksX0_order_2 0 rfl rfl)
theorem dX0_order_48 : decode cX0_order 48 = .ok (.iaload, 1) := dk_46 (dk_at dksX0_order_2 2 rfl rfl)
theorem dX0_order_49 : decode cX0_order 49 = .ok (.iload 7, 2) := dk_21 7 (dk_at dksX0_order_2 3 rfl rfl)
theorem dX0_order_51 : decode cX0_order 51 = .ok (.if_icmp .ne 7, 3) := dk_160 0 7 (dk_at dksX0_order_2 5 rfl rfl)
theorem dX0_order_54 : decode cX0_order 54 = .ok (.iconst 1, 1) := dk_4 (dk_at dksX0_order_2 8 rfl rfl)
theorem dX0_order_55 : decode cX0_order 55 = .ok (.goto 4, 3) := dk_167 0 4 (dk_at dksX0_order_2 9 rfl rfl)
theorem dX0_order_58 : decode cX0_order 58 = .ok (.iconst 0, 1) := dk_3 (dk_at dksX0_order_2 12 rfl rfl)
theorem dX0_order_59 : decode cX0_order 59 = .ok (.iadd, 1) := dk_96 (dk_at dksX0_order_2 13 rfl rfl)
theorem dX0_order_60 : decode cX0_order 60 = .ok (.istore 6, 2) := dk_54 6 (dk_at dksX0_order_2 14 rfl rfl)
theorem dX0_order_62 : decode cX0_order 62 = .ok (.iconst 0, 1) := dk_3 (dk_at dksX0_order_2 16 rfl rfl)
theorem dX0_order_63 : decode cX0_order 63 = .ok (.istore 8, 2) := dk_54 8 (dk_at dksX0_order_2 17 rfl rfl)
theorem dX0_order_65 : decode cX0_order 65 = .ok (.iload 7, 2) := dk_21 7 (dk_at dksX0_order_2 19 rfl rfl)
theorem dX0_order_67 : decode cX0_order 67 = .ok (.istore 9, 2) := dk_54 9 (dk_at dksX0_order_2 21 rfl rfl)
theorem dX0_order_69 : decode cX0_order 69 = .ok (.iload_n 2, 1) := dk_28 (dk_at dksX0_order_2 23 rfl rfl)
theorem dX0_order_70 : decode cX0_order 70 = .ok (.iload 9, 2) := dk_21 9 (dk_at dksX0_order_3 0 rfl rfl)
theorem dX0_order_72 : decode cX0_order 72 = .ok (.invokestatic 182, 3) := dk_184 0 182 (dk_at dksX0_order_3 2 rfl rfl)
theorem dX0_order_75 : decode cX0_order 75 = .ok (.ifCond .ne 25, 3) := dk_154 0 25 (dk_at dksX0_order_3 5 rfl rfl)
theorem dX0_order_78 : decode cX0_order 78 = .ok (.iload_n 2, 1) := dk_28 (dk_at dksX0_order_3 8 rfl rfl)
theorem dX0_order_79 : decode cX0_order 79 = .ok (.iconst 1, 1) := dk_4 (dk_at dksX0_order_3 9 rfl rfl)
theorem dX0_order_80 : decode cX0_order 80 = .ok (.iload 9, 2) := dk_21 9 (dk_at dksX0_order_3 10 rfl rfl)
theorem dX0_order_82 : decode cX0_order 82 = .ok (.ishl, 1) := dk_120 (dk_at dksX0_order_3 12 rfl rfl)
theorem dX0_order_83 : decode cX0_order 83 = .ok (.ior, 1) := dk_128 (dk_at dksX0_order_3 13 rfl rfl)
theorem dX0_order_84 : decode cX0_order 84 = .ok (.istore_n 2, 1) := dk_61 (dk_at dksX0_order_3 14 rfl rfl)
theorem dX0_order_85 : decode cX0_order 85 = .ok (.iinc 8 1, 3) := dk_132 8 1 (dk_at dksX0_order_3 15 rfl rfl)
theorem dX0_order_88 : decode cX0_order 88 = .ok (.aload_n 0, 1) := dk_42 (dk_at dksX0_order_3 18 rfl rfl)
theorem dX0_order_89 : decode cX0_order 89 = .ok (.getfield 91, 3) := dk_180 0 91 (dk_at dksX0_order_3 19 rfl rfl)
theorem dX0_order_92 : decode cX0_order 92 = .ok (.iload 9, 2) := dk_21 9 (dk_at dksX0_order_3 22 rfl rfl)
theorem dX0_order_94 : decode cX0_order 94 = .ok (.iaload, 1) := dk_46 (dk_at dksX0_order_4 0 rfl rfl)
theorem dX0_order_95 : decode cX0_order 95 = .ok (.istore 9, 2) := dk_54 9 (dk_at dksX0_order_4 1 rfl rfl)
theorem dX0_order_97 : decode cX0_order 97 = .ok (.goto (-28), 3) := dk_167 255 228 (dk_at dksX0_order_4 3 rfl rfl)
theorem dX0_order_100 : decode cX0_order 100 = .ok (.iload 8, 2) := dk_21 8 (dk_at dksX0_order_4 6 rfl rfl)
theorem dX0_order_102 : decode cX0_order 102 = .ok (.ifCond .ne 6, 3) := dk_154 0 6 (dk_at dksX0_order_4 8 rfl rfl)
theorem dX0_order_105 : decode cX0_order 105 = .ok (.goto 30, 3) := dk_167 0 30 (dk_at dksX0_order_4 11 rfl rfl)
theorem dX0_order_108 : decode cX0_order 108 = .ok (.iinc 3 1, 3) := dk_132 3 1 (dk_at dksX0_order_4 14 rfl rfl)
theorem dX0_order_111 : decode cX0_order 111 = .ok (.iload 4, 2) := dk_21 4 (dk_at dksX0_order_4 17 rfl rfl)
theorem dX0_order_113 : decode cX0_order 113 = .ok (.iload 8, 2) := dk_21 8 (dk_at dksX0_order_4 19 rfl rfl)
theorem dX0_order_115 : decode cX0_order 115 = .ok (.invokestatic 280, 3) := dk_184 1 24 (dk_at dksX0_order_4 21 rfl rfl)
theorem dX0_order_118 : decode cX0_order 118 = .ok (.istore 4, 2) := dk_54 4 (dk_at dksX0_order_5 0 rfl rfl)
theorem dX0_order_120 : decode cX0_order 120 = .ok (.iload 5, 2) := dk_21 5 (dk_at dksX0_order_5 2 rfl rfl)
theorem dX0_order_122 : decode cX0_order 122 = .ok (.iload 5, 2) := dk_21 5 (dk_at dksX0_order_5 4 rfl rfl)
theorem dX0_order_124 : decode cX0_order 124 = .ok (.iload 8, 2) := dk_21 8 (dk_at dksX0_order_5 6 rfl rfl)
theorem dX0_order_126 : decode cX0_order 126 = .ok (.invokestatic 273, 3) := dk_184 1 17 (dk_at dksX0_order_5 8 rfl rfl)
theorem dX0_order_129 : decode cX0_order 129 = .ok (.idiv, 1) := dk_108 (dk_at dksX0_order_5 11 rfl rfl)
theorem dX0_order_130 : decode cX0_order 130 = .ok (.iload 8, 2) := dk_21 8 (dk_at dksX0_order_5 12 rfl rfl)
theorem dX0_order_132 : decode cX0_order 132 = .ok (.imul, 1) := dk_104 (dk_at dksX0_order_5 14 rfl rfl)
theorem dX0_order_133 : decode cX0_order 133 = .ok (.istore 5, 2) := dk_54 5 (dk_at dksX0_order_5 15 rfl rfl)
theorem dX0_order_135 : decode cX0_order 135 = .ok (.iinc 7 1, 3) := dk_132 7 1 (dk_at dksX0_order_5 17 rfl rfl)
theorem dX0_order_138 : decode cX0_order 138 = .ok (.goto (-107), 3) := dk_167 255 149 (dk_at dksX0_order_5 20 rfl rfl)
theorem dX0_order_141 : decode cX0_order 141 = .ok (.iload_n 1, 1) := dk_27 (dk_at dksX0_order_5 23 rfl rfl)
theorem dX0_order_142 : decode cX0_order 142 = .ok (.ifCond .ne 7, 3) := dk_154 0 7 (dk_at dksX0_order_6 0 rfl rfl)
theorem dX0_order_145 : decode cX0_order 145 = .ok (.iload_n 3, 1) := dk_29 (dk_at dksX0_order_6 3 rfl rfl)
theorem dX0_order_146 : decode cX0_order 146 = .ok (.goto 58, 3) := dk_167 0 58 (dk_at dksX0_order_6 4 rfl rfl)
theorem dX0_order_149 : decode cX0_order 149 = .ok (.iload_n 1, 1) := dk_27 (dk_at dksX0_order_6 7 rfl rfl)
theorem dX0_order_150 : decode cX0_order 150 = .ok (.iconst 1, 1) := dk_4 (dk_at dksX0_order_6 8 rfl rfl)
theorem dX0_order_151 : decode cX0_order 151 = .ok (.if_icmp .ne 8, 3) := dk_160 0 8 (dk_at dksX0_order_6 9 rfl rfl)
theorem dX0_order_154 : decode cX0_order 154 = .ok (.iload 4, 2) := dk_21 4 (dk_at dksX0_order_6 12 rfl rfl)
theorem dX0_order_156 : decode cX0_order 156 = .ok (.goto 48, 3) := dk_167 0 48 (dk_at dksX0_order_6 14 rfl rfl)
theorem dX0_order_159 : decode cX0_order 159 = .ok (.iload_n 1, 1) := dk_27 (dk_at dksX0_order_6 17 rfl rfl)
theorem dX0_order_160 : decode cX0_order 160 = .ok (.iconst 2, 1) := dk_5 (dk_at dksX0_order_6 18 rfl rfl)
theorem dX0_order_161 : decode cX0_order 161 = .ok (.if_icmp .ne 8, 3) := dk_160 0 8 (dk_at dksX0_order_6 19 rfl rfl)
theorem dX0_order_164 : decode cX0_order 164 = .ok (.iload 5, 2) := dk_21 5 (dk_at dksX0_order_6 22 rfl rfl)
theorem dX0_order_166 : decode cX0_order 166 = .ok (.goto 38, 3) := dk_167 0 38 (dk_at dksX0_order_7 0 rfl rfl)
theorem dX0_order_169 : decode cX0_order 169 = .ok (.iload_n 1, 1) := dk_27 (dk_at dksX0_order_7 3 rfl rfl)
theorem dX0_order_170 : decode cX0_order 170 = .ok (.iconst 3, 1) := dk_6 (dk_at dksX0_order_7 4 rfl rfl)
theorem dX0_order_171 : decode cX0_order 171 = .ok (.if_icmp .ne 22, 3) := dk_160 0 22 (dk_at dksX0_order_7 5 rfl rfl)
theorem dX0_order_174 : decode cX0_order 174 = .ok (.aload_n 0, 1) := dk_42 (dk_at dksX0_order_7 8 rfl rfl)
theorem dX0_order_175 : decode cX0_order 175 = .ok (.invokevirtual 151, 3) := dk_182 0 151 (dk_at dksX0_order_7 9 rfl rfl)
theorem dX0_order_178 : decode cX0_order 178 = .ok (.iload_n 3, 1) := dk_29 (dk_at dksX0_order_7 12 rfl rfl)
theorem dX0_order_179 : decode cX0_order 179 = .ok (.isub, 1) := dk_100 (dk_at dksX0_order_7 13 rfl rfl)
theorem dX0_order_180 : decode cX0_order 180 = .ok (.iconst 2, 1) := dk_5 (dk_at dksX0_order_7 14 rfl rfl)
theorem dX0_order_181 : decode cX0_order 181 = .ok (.irem, 1) := dk_112 (dk_at dksX0_order_7 15 rfl rfl)
theorem dX0_order_182 : decode cX0_order 182 = .ok (.ifCond .ne 7, 3) := dk_154 0 7 (dk_at dksX0_order_7 16 rfl rfl)
theorem dX0_order_185 : decode cX0_order 185 = .ok (.iconst 1, 1) := dk_4 (dk_at dksX0_order_7 19 rfl rfl)
theorem dX0_order_186 : decode cX0_order 186 = .ok (.goto 18, 3) := dk_167 0 18 (dk_at dksX0_order_7 20 rfl rfl)
theorem dX0_order_189 : decode cX0_order 189 = .ok (.iconst 0, 1) := dk_3 (dk_at dksX0_order_7 23 rfl rfl)
theorem dX0_order_190 : decode cX0_order 190 = .ok (.goto 14, 3) := dk_167 0 14 (dk_at dksX0_order_8 0 rfl rfl)
theorem dX0_order_193 : decode cX0_order 193 = .ok (.iload_n 1, 1) := dk_27 (dk_at dksX0_order_8 3 rfl rfl)
theorem dX0_order_194 : decode cX0_order 194 = .ok (.iconst 4, 1) := dk_7 (dk_at dksX0_order_8 4 rfl rfl)
theorem dX0_order_195 : decode cX0_order 195 = .ok (.if_icmp .ne 8, 3) := dk_160 0 8 (dk_at dksX0_order_8 5 rfl rfl)
theorem dX0_order_198 : decode cX0_order 198 = .ok (.iload 6, 2) := dk_21 6 (dk_at dksX0_order_8 8 rfl rfl)
theorem dX0_order_200 : decode cX0_order 200 = .ok (.goto 4, 3) := dk_167 0 4 (dk_at dksX0_order_8 10 rfl rfl)
theorem dX0_order_203 : decode cX0_order 203 = .ok (.iconst (-1), 1) := dk_2 (dk_at dksX0_order_8 13 rfl rfl)
theorem dX0_order_204 : decode cX0_order 204 = .ok (.ireturn, 1) := dk_172 (dk_at dksX0_order_8 14 rfl rfl)
abbrev cX0_divisor : ByteArray := prog_1_method_24_code
def yX0_divisor : MethodName := ⟨RX0, "divisor", "(II)I"⟩
def dkwX0_divisor_0 : List UInt8 := [27, 154, 0, 7, 26, 167, 0, 10, 27, 26, 27, 112, 184, 1, 17, 172]
abbrev dktX0_divisor_0 : List UInt8 := dkwX0_divisor_0 ++ []
theorem dksX0_divisor_0 : cX0_divisor.data.toList.drop 0 = dktX0_divisor_0 := by decide +kernel
theorem dX0_divisor_0 : decode cX0_divisor 0 = .ok (.iload_n 1, 1) := dk_27 (dk_at dksX0_divisor_0 0 rfl rfl)
theorem dX0_divisor_1 : decode cX0_divisor 1 = .ok (.ifCond .ne 7, 3) := dk_154 0 7 (dk_at dksX0_divisor_0 1 rfl rfl)
theorem dX0_divisor_4 : decode cX0_divisor 4 = .ok (.iload_n 0, 1) := dk_26 (dk_at dksX0_divisor_0 4 rfl rfl)
theorem dX0_divisor_5 : decode cX0_divisor 5 = .ok (.goto 10, 3) := dk_167 0 10 (dk_at dksX0_divisor_0 5 rfl rfl)
theorem dX0_divisor_8 : decode cX0_divisor 8 = .ok (.iload_n 1, 1) := dk_27 (dk_at dksX0_divisor_0 8 rfl rfl)
theorem dX0_divisor_9 : decode cX0_divisor 9 = .ok (.iload_n 0, 1) := dk_26 (dk_at dksX0_divisor_0 9 rfl rfl)
theorem dX0_divisor_10 : decode cX0_divisor 10 = .ok (.iload_n 1, 1) := dk_27 (dk_at dksX0_divisor_0 10 rfl rfl)
theorem dX0_divisor_11 : decode cX0_divisor 11 = .ok (.irem, 1) := dk_112 (dk_at dksX0_divisor_0 11 rfl rfl)
theorem dX0_divisor_12 : decode cX0_divisor 12 = .ok (.invokestatic 273, 3) := dk_184 1 17 (dk_at dksX0_divisor_0 12 rfl rfl)
theorem dX0_divisor_15 : decode cX0_divisor 15 = .ok (.ireturn, 1) := dk_172 (dk_at dksX0_divisor_0 15 rfl rfl)
abbrev cX0_agree : ByteArray := prog_1_method_26_code
def yX0_agree : MethodName := ⟨RX0, "agree", "(II)I"⟩
def dkwX0_agree_2 : List UInt8 := [153, 0, 7, 4, 167, 0, 8, 3, 167, 0, 4, 2, 172]
abbrev dktX0_agree_2 : List UInt8 := dkwX0_agree_2 ++ []
def dkwX0_agree_1 : List UInt8 := [180, 0, 41, 27, 182, 0, 247, 42, 180, 0, 41, 28, 182, 0, 247, 42, 182, 0, 151, 182, 1, 29]
abbrev dktX0_agree_1 : List UInt8 := dkwX0_agree_1 ++ dktX0_agree_2
def dkwX0_agree_0 : List UInt8 := [42, 180, 0, 41, 27, 182, 0, 204, 153, 0, 48, 42, 180, 0, 41, 28, 182, 0, 204, 153, 0, 37, 42]
abbrev dktX0_agree_0 : List UInt8 := dkwX0_agree_0 ++ dktX0_agree_1
theorem dksX0_agree_0 : cX0_agree.data.toList.drop 0 = dktX0_agree_0 := by decide +kernel
theorem dksX0_agree_1 : cX0_agree.data.toList.drop 23 = dktX0_agree_1 := dk_seg dksX0_agree_0 23 rfl rfl
theorem dksX0_agree_2 : cX0_agree.data.toList.drop 45 = dktX0_agree_2 := dk_seg dksX0_agree_1 22 rfl rfl
theorem dX0_agree_0 : decode cX0_agree 0 = .ok (.aload_n 0, 1) := dk_42 (dk_at dksX0_agree_0 0 rfl rfl)
theorem dX0_agree_1 : decode cX0_agree 1 = .ok (.getfield 41, 3) := dk_180 0 41 (dk_at dksX0_agree_0 1 rfl rfl)
theorem dX0_agree_4 : decode cX0_agree 4 = .ok (.iload_n 1, 1) := dk_27 (dk_at dksX0_agree_0 4 rfl rfl)
theorem dX0_agree_5 : decode cX0_agree 5 = .ok (.invokevirtual 204, 3) := dk_182 0 204 (dk_at dksX0_agree_0 5 rfl rfl)
theorem dX0_agree_8 : decode cX0_agree 8 = .ok (.ifCond .eq 48, 3) := dk_153 0 48 (dk_at dksX0_agree_0 8 rfl rfl)
theorem dX0_agree_11 : decode cX0_agree 11 = .ok (.aload_n 0, 1) := dk_42 (dk_at dksX0_agree_0 11 rfl rfl)
theorem dX0_agree_12 : decode cX0_agree 12 = .ok (.getfield 41, 3) := dk_180 0 41 (dk_at dksX0_agree_0 12 rfl rfl)
theorem dX0_agree_15 : decode cX0_agree 15 = .ok (.iload_n 2, 1) := dk_28 (dk_at dksX0_agree_0 15 rfl rfl)
theorem dX0_agree_16 : decode cX0_agree 16 = .ok (.invokevirtual 204, 3) := dk_182 0 204 (dk_at dksX0_agree_0 16 rfl rfl)
theorem dX0_agree_19 : decode cX0_agree 19 = .ok (.ifCond .eq 37, 3) := dk_153 0 37 (dk_at dksX0_agree_0 19 rfl rfl)
theorem dX0_agree_22 : decode cX0_agree 22 = .ok (.aload_n 0, 1) := dk_42 (dk_at dksX0_agree_0 22 rfl rfl)
theorem dX0_agree_23 : decode cX0_agree 23 = .ok (.getfield 41, 3) := dk_180 0 41 (dk_at dksX0_agree_1 0 rfl rfl)
theorem dX0_agree_26 : decode cX0_agree 26 = .ok (.iload_n 1, 1) := dk_27 (dk_at dksX0_agree_1 3 rfl rfl)
theorem dX0_agree_27 : decode cX0_agree 27 = .ok (.invokevirtual 247, 3) := dk_182 0 247 (dk_at dksX0_agree_1 4 rfl rfl)
theorem dX0_agree_30 : decode cX0_agree 30 = .ok (.aload_n 0, 1) := dk_42 (dk_at dksX0_agree_1 7 rfl rfl)
theorem dX0_agree_31 : decode cX0_agree 31 = .ok (.getfield 41, 3) := dk_180 0 41 (dk_at dksX0_agree_1 8 rfl rfl)
theorem dX0_agree_34 : decode cX0_agree 34 = .ok (.iload_n 2, 1) := dk_28 (dk_at dksX0_agree_1 11 rfl rfl)
theorem dX0_agree_35 : decode cX0_agree 35 = .ok (.invokevirtual 247, 3) := dk_182 0 247 (dk_at dksX0_agree_1 12 rfl rfl)
theorem dX0_agree_38 : decode cX0_agree 38 = .ok (.aload_n 0, 1) := dk_42 (dk_at dksX0_agree_1 15 rfl rfl)
theorem dX0_agree_39 : decode cX0_agree 39 = .ok (.invokevirtual 151, 3) := dk_182 0 151 (dk_at dksX0_agree_1 16 rfl rfl)
theorem dX0_agree_42 : decode cX0_agree 42 = .ok (.invokevirtual 285, 3) := dk_182 1 29 (dk_at dksX0_agree_1 19 rfl rfl)
theorem dX0_agree_45 : decode cX0_agree 45 = .ok (.ifCond .eq 7, 3) := dk_153 0 7 (dk_at dksX0_agree_2 0 rfl rfl)
theorem dX0_agree_48 : decode cX0_agree 48 = .ok (.iconst 1, 1) := dk_4 (dk_at dksX0_agree_2 3 rfl rfl)
theorem dX0_agree_49 : decode cX0_agree 49 = .ok (.goto 8, 3) := dk_167 0 8 (dk_at dksX0_agree_2 4 rfl rfl)
theorem dX0_agree_52 : decode cX0_agree 52 = .ok (.iconst 0, 1) := dk_3 (dk_at dksX0_agree_2 7 rfl rfl)
theorem dX0_agree_53 : decode cX0_agree 53 = .ok (.goto 4, 3) := dk_167 0 4 (dk_at dksX0_agree_2 8 rfl rfl)
theorem dX0_agree_56 : decode cX0_agree 56 = .ok (.iconst (-1), 1) := dk_2 (dk_at dksX0_agree_2 11 rfl rfl)
theorem dX0_agree_57 : decode cX0_agree 57 = .ok (.ireturn, 1) := dk_172 (dk_at dksX0_agree_2 12 rfl rfl)
abbrev cX0_shrunk : ByteArray := prog_1_method_27_code
def yX0_shrunk : MethodName := ⟨RX0, "shrunk", "(II)I"⟩
def dkwX0_shrunk_2 : List UInt8 := [167, 0, 4, 2, 172]
abbrev dktX0_shrunk_2 : List UInt8 := dkwX0_shrunk_2 ++ []
def dkwX0_shrunk_1 : List UInt8 := [153, 0, 27, 28, 3, 5, 184, 0, 155, 153, 0, 18, 42, 180, 0, 45, 27, 182, 0, 247, 28, 182, 0, 248]
abbrev dktX0_shrunk_1 : List UInt8 := dkwX0_shrunk_1 ++ dktX0_shrunk_2
def dkwX0_shrunk_0 : List UInt8 := [42, 3, 182, 0, 240, 62, 27, 2, 160, 0, 7, 29, 167, 0, 39, 27, 3, 29, 4, 100, 184, 0, 155]
abbrev dktX0_shrunk_0 : List UInt8 := dkwX0_shrunk_0 ++ dktX0_shrunk_1
theorem dksX0_shrunk_0 : cX0_shrunk.data.toList.drop 0 = dktX0_shrunk_0 := by decide +kernel
theorem dksX0_shrunk_1 : cX0_shrunk.data.toList.drop 23 = dktX0_shrunk_1 := dk_seg dksX0_shrunk_0 23 rfl rfl
theorem dksX0_shrunk_2 : cX0_shrunk.data.toList.drop 47 = dktX0_shrunk_2 := dk_seg dksX0_shrunk_1 24 rfl rfl
theorem dX0_shrunk_0 : decode cX0_shrunk 0 = .ok (.aload_n 0, 1) := dk_42 (dk_at dksX0_shrunk_0 0 rfl rfl)
theorem dX0_shrunk_1 : decode cX0_shrunk 1 = .ok (.iconst 0, 1) := dk_3 (dk_at dksX0_shrunk_0 1 rfl rfl)
theorem dX0_shrunk_2 : decode cX0_shrunk 2 = .ok (.invokevirtual 240, 3) := dk_182 0 240 (dk_at dksX0_shrunk_0 2 rfl rfl)
theorem dX0_shrunk_5 : decode cX0_shrunk 5 = .ok (.istore_n 3, 1) := dk_62 (dk_at dksX0_shrunk_0 5 rfl rfl)
theorem dX0_shrunk_6 : decode cX0_shrunk 6 = .ok (.iload_n 1, 1) := dk_27 (dk_at dksX0_shrunk_0 6 rfl rfl)
theorem dX0_shrunk_7 : decode cX0_shrunk 7 = .ok (.iconst (-1), 1) := dk_2 (dk_at dksX0_shrunk_0 7 rfl rfl)
theorem dX0_shrunk_8 : decode cX0_shrunk 8 = .ok (.if_icmp .ne 7, 3) := dk_160 0 7 (dk_at dksX0_shrunk_0 8 rfl rfl)
theorem dX0_shrunk_11 : decode cX0_shrunk 11 = .ok (.iload_n 3, 1) := dk_29 (dk_at dksX0_shrunk_0 11 rfl rfl)
theorem dX0_shrunk_12 : decode cX0_shrunk 12 = .ok (.goto 39, 3) := dk_167 0 39 (dk_at dksX0_shrunk_0 12 rfl rfl)
theorem dX0_shrunk_15 : decode cX0_shrunk 15 = .ok (.iload_n 1, 1) := dk_27 (dk_at dksX0_shrunk_0 15 rfl rfl)
theorem dX0_shrunk_16 : decode cX0_shrunk 16 = .ok (.iconst 0, 1) := dk_3 (dk_at dksX0_shrunk_0 16 rfl rfl)
theorem dX0_shrunk_17 : decode cX0_shrunk 17 = .ok (.iload_n 3, 1) := dk_29 (dk_at dksX0_shrunk_0 17 rfl rfl)
theorem dX0_shrunk_18 : decode cX0_shrunk 18 = .ok (.iconst 1, 1) := dk_4 (dk_at dksX0_shrunk_0 18 rfl rfl)
theorem dX0_shrunk_19 : decode cX0_shrunk 19 = .ok (.isub, 1) := dk_100 (dk_at dksX0_shrunk_0 19 rfl rfl)
theorem dX0_shrunk_20 : decode cX0_shrunk 20 = .ok (.invokestatic 155, 3) := dk_184 0 155 (dk_at dksX0_shrunk_0 20 rfl rfl)
theorem dX0_shrunk_23 : decode cX0_shrunk 23 = .ok (.ifCond .eq 27, 3) := dk_153 0 27 (dk_at dksX0_shrunk_1 0 rfl rfl)
theorem dX0_shrunk_26 : decode cX0_shrunk 26 = .ok (.iload_n 2, 1) := dk_28 (dk_at dksX0_shrunk_1 3 rfl rfl)
theorem dX0_shrunk_27 : decode cX0_shrunk 27 = .ok (.iconst 0, 1) := dk_3 (dk_at dksX0_shrunk_1 4 rfl rfl)
theorem dX0_shrunk_28 : decode cX0_shrunk 28 = .ok (.iconst 2, 1) := dk_5 (dk_at dksX0_shrunk_1 5 rfl rfl)
theorem dX0_shrunk_29 : decode cX0_shrunk 29 = .ok (.invokestatic 155, 3) := dk_184 0 155 (dk_at dksX0_shrunk_1 6 rfl rfl)
theorem dX0_shrunk_32 : decode cX0_shrunk 32 = .ok (.ifCond .eq 18, 3) := dk_153 0 18 (dk_at dksX0_shrunk_1 9 rfl rfl)
theorem dX0_shrunk_35 : decode cX0_shrunk 35 = .ok (.aload_n 0, 1) := dk_42 (dk_at dksX0_shrunk_1 12 rfl rfl)
theorem dX0_shrunk_36 : decode cX0_shrunk 36 = .ok (.getfield 45, 3) := dk_180 0 45 (dk_at dksX0_shrunk_1 13 rfl rfl)
theorem dX0_shrunk_39 : decode cX0_shrunk 39 = .ok (.iload_n 1, 1) := dk_27 (dk_at dksX0_shrunk_1 16 rfl rfl)
theorem dX0_shrunk_40 : decode cX0_shrunk 40 = .ok (.invokevirtual 247, 3) := dk_182 0 247 (dk_at dksX0_shrunk_1 17 rfl rfl)
theorem dX0_shrunk_43 : decode cX0_shrunk 43 = .ok (.iload_n 2, 1) := dk_28 (dk_at dksX0_shrunk_1 20 rfl rfl)
theorem dX0_shrunk_44 : decode cX0_shrunk 44 = .ok (.invokevirtual 248, 3) := dk_182 0 248 (dk_at dksX0_shrunk_1 21 rfl rfl)
theorem dX0_shrunk_47 : decode cX0_shrunk 47 = .ok (.goto 4, 3) := dk_167 0 4 (dk_at dksX0_shrunk_2 0 rfl rfl)
theorem dX0_shrunk_50 : decode cX0_shrunk 50 = .ok (.iconst (-1), 1) := dk_2 (dk_at dksX0_shrunk_2 3 rfl rfl)
theorem dX0_shrunk_51 : decode cX0_shrunk 51 = .ok (.ireturn, 1) := dk_172 (dk_at dksX0_shrunk_2 4 rfl rfl)
abbrev cX0_found : ByteArray := prog_1_method_29_code
def yX0_found : MethodName := ⟨RX0, "found", "(ZII)I"⟩
def dkwX0_found_2 : List UInt8 := [180, 0, 58, 28, 182, 0, 223, 29, 182, 0, 248, 167, 0, 4, 2, 172]
abbrev dktX0_found_2 : List UInt8 := dkwX0_found_2 ++ []
def dkwX0_found_1 : List UInt8 := [180, 0, 58, 182, 0, 222, 4, 100, 184, 0, 155, 153, 0, 27, 29, 3, 4, 184, 0, 155, 153, 0, 18, 42]
abbrev dktX0_found_1 : List UInt8 := dkwX0_found_1 ++ dktX0_found_2
def dkwX0_found_0 : List UInt8 := [42, 27, 182, 0, 217, 28, 2, 160, 0, 13, 42, 180, 0, 58, 182, 0, 222, 167, 0, 45, 28, 3, 42]
abbrev dktX0_found_0 : List UInt8 := dkwX0_found_0 ++ dktX0_found_1
theorem dksX0_found_0 : cX0_found.data.toList.drop 0 = dktX0_found_0 := by decide +kernel
theorem dksX0_found_1 : cX0_found.data.toList.drop 23 = dktX0_found_1 := dk_seg dksX0_found_0 23 rfl rfl
theorem dksX0_found_2 : cX0_found.data.toList.drop 47 = dktX0_found_2 := dk_seg dksX0_found_1 24 rfl rfl
theorem dX0_found_0 : decode cX0_found 0 = .ok (.aload_n 0, 1) := dk_42 (dk_at dksX0_found_0 0 rfl rfl)
theorem dX0_found_1 : decode cX0_found 1 = .ok (.iload_n 1, 1) := dk_27 (dk_at dksX0_found_0 1 rfl rfl)
theorem dX0_found_2 : decode cX0_found 2 = .ok (.invokevirtual 217, 3) := dk_182 0 217 (dk_at dksX0_found_0 2 rfl rfl)
theorem dX0_found_5 : decode cX0_found 5 = .ok (.iload_n 2, 1) := dk_28 (dk_at dksX0_found_0 5 rfl rfl)
theorem dX0_found_6 : decode cX0_found 6 = .ok (.iconst (-1), 1) := dk_2 (dk_at dksX0_found_0 6 rfl rfl)
theorem dX0_found_7 : decode cX0_found 7 = .ok (.if_icmp .ne 13, 3) := dk_160 0 13 (dk_at dksX0_found_0 7 rfl rfl)
theorem dX0_found_10 : decode cX0_found 10 = .ok (.aload_n 0, 1) := dk_42 (dk_at dksX0_found_0 10 rfl rfl)
theorem dX0_found_11 : decode cX0_found 11 = .ok (.getfield 58, 3) := dk_180 0 58 (dk_at dksX0_found_0 11 rfl rfl)
theorem dX0_found_14 : decode cX0_found 14 = .ok (.invokevirtual 222, 3) := dk_182 0 222 (dk_at dksX0_found_0 14 rfl rfl)
theorem dX0_found_17 : decode cX0_found 17 = .ok (.goto 45, 3) := dk_167 0 45 (dk_at dksX0_found_0 17 rfl rfl)
theorem dX0_found_20 : decode cX0_found 20 = .ok (.iload_n 2, 1) := dk_28 (dk_at dksX0_found_0 20 rfl rfl)
theorem dX0_found_21 : decode cX0_found 21 = .ok (.iconst 0, 1) := dk_3 (dk_at dksX0_found_0 21 rfl rfl)
theorem dX0_found_22 : decode cX0_found 22 = .ok (.aload_n 0, 1) := dk_42 (dk_at dksX0_found_0 22 rfl rfl)
theorem dX0_found_23 : decode cX0_found 23 = .ok (.getfield 58, 3) := dk_180 0 58 (dk_at dksX0_found_1 0 rfl rfl)
theorem dX0_found_26 : decode cX0_found 26 = .ok (.invokevirtual 222, 3) := dk_182 0 222 (dk_at dksX0_found_1 3 rfl rfl)
theorem dX0_found_29 : decode cX0_found 29 = .ok (.iconst 1, 1) := dk_4 (dk_at dksX0_found_1 6 rfl rfl)
theorem dX0_found_30 : decode cX0_found 30 = .ok (.isub, 1) := dk_100 (dk_at dksX0_found_1 7 rfl rfl)
theorem dX0_found_31 : decode cX0_found 31 = .ok (.invokestatic 155, 3) := dk_184 0 155 (dk_at dksX0_found_1 8 rfl rfl)
theorem dX0_found_34 : decode cX0_found 34 = .ok (.ifCond .eq 27, 3) := dk_153 0 27 (dk_at dksX0_found_1 11 rfl rfl)
theorem dX0_found_37 : decode cX0_found 37 = .ok (.iload_n 3, 1) := dk_29 (dk_at dksX0_found_1 14 rfl rfl)
theorem dX0_found_38 : decode cX0_found 38 = .ok (.iconst 0, 1) := dk_3 (dk_at dksX0_found_1 15 rfl rfl)
theorem dX0_found_39 : decode cX0_found 39 = .ok (.iconst 1, 1) := dk_4 (dk_at dksX0_found_1 16 rfl rfl)
theorem dX0_found_40 : decode cX0_found 40 = .ok (.invokestatic 155, 3) := dk_184 0 155 (dk_at dksX0_found_1 17 rfl rfl)
theorem dX0_found_43 : decode cX0_found 43 = .ok (.ifCond .eq 18, 3) := dk_153 0 18 (dk_at dksX0_found_1 20 rfl rfl)
theorem dX0_found_46 : decode cX0_found 46 = .ok (.aload_n 0, 1) := dk_42 (dk_at dksX0_found_1 23 rfl rfl)
theorem dX0_found_47 : decode cX0_found 47 = .ok (.getfield 58, 3) := dk_180 0 58 (dk_at dksX0_found_2 0 rfl rfl)
theorem dX0_found_50 : decode cX0_found 50 = .ok (.iload_n 2, 1) := dk_28 (dk_at dksX0_found_2 3 rfl rfl)
theorem dX0_found_51 : decode cX0_found 51 = .ok (.invokevirtual 223, 3) := dk_182 0 223 (dk_at dksX0_found_2 4 rfl rfl)
theorem dX0_found_54 : decode cX0_found 54 = .ok (.iload_n 3, 1) := dk_29 (dk_at dksX0_found_2 7 rfl rfl)
theorem dX0_found_55 : decode cX0_found 55 = .ok (.invokevirtual 248, 3) := dk_182 0 248 (dk_at dksX0_found_2 8 rfl rfl)
theorem dX0_found_58 : decode cX0_found 58 = .ok (.goto 4, 3) := dk_167 0 4 (dk_at dksX0_found_2 11 rfl rfl)
theorem dX0_found_61 : decode cX0_found 61 = .ok (.iconst (-1), 1) := dk_2 (dk_at dksX0_found_2 14 rfl rfl)
theorem dX0_found_62 : decode cX0_found 62 = .ok (.ireturn, 1) := dk_172 (dk_at dksX0_found_2 15 rfl rfl)
abbrev cX0_least : ByteArray := prog_1_method_31_code
def yX0_least : MethodName := ⟨RX0, "least", "(II)I"⟩
def dkwX0_least_4 : List UInt8 := [167, 0, 4, 2, 172]
abbrev dktX0_least_4 : List UInt8 := dkwX0_least_4 ++ []
def dkwX0_least_3 : List UInt8 := [153, 0, 27, 28, 3, 4, 184, 0, 155, 153, 0, 18, 45, 27, 182, 1, 46, 192, 0, 193, 28, 182, 0, 248]
abbrev dktX0_least_3 : List UInt8 := dkwX0_least_3 ++ dktX0_least_4
def dkwX0_least_2 : List UInt8 := [180, 0, 91, 182, 1, 43, 172, 42, 182, 0, 231, 78, 27, 3, 45, 182, 1, 45, 4, 100, 184, 0, 155]
abbrev dktX0_least_2 : List UInt8 := dkwX0_least_2 ++ dktX0_least_3
def dkwX0_least_1 : List UInt8 := [182, 0, 151, 182, 1, 20, 42, 180, 0, 65, 42, 180, 0, 131, 182, 1, 36, 42, 180, 0, 65, 42]
abbrev dktX0_least_1 : List UInt8 := dkwX0_least_1 ++ dktX0_least_2
def dkwX0_least_0 : List UInt8 := [42, 180, 0, 131, 6, 164, 0, 5, 2, 172, 27, 2, 160, 0, 41, 42, 180, 0, 41, 42, 180, 0, 91, 42]
abbrev dktX0_least_0 : List UInt8 := dkwX0_least_0 ++ dktX0_least_1
theorem dksX0_least_0 : cX0_least.data.toList.drop 0 = dktX0_least_0 := by decide +kernel
theorem dksX0_least_1 : cX0_least.data.toList.drop 24 = dktX0_least_1 := dk_seg dksX0_least_0 24 rfl rfl
theorem dksX0_least_2 : cX0_least.data.toList.drop 46 = dktX0_least_2 := dk_seg dksX0_least_1 22 rfl rfl
theorem dksX0_least_3 : cX0_least.data.toList.drop 69 = dktX0_least_3 := dk_seg dksX0_least_2 23 rfl rfl
theorem dksX0_least_4 : cX0_least.data.toList.drop 93 = dktX0_least_4 := dk_seg dksX0_least_3 24 rfl rfl
theorem dX0_least_0 : decode cX0_least 0 = .ok (.aload_n 0, 1) := dk_42 (dk_at dksX0_least_0 0 rfl rfl)
theorem dX0_least_1 : decode cX0_least 1 = .ok (.getfield 131, 3) := dk_180 0 131 (dk_at dksX0_least_0 1 rfl rfl)
theorem dX0_least_4 : decode cX0_least 4 = .ok (.iconst 3, 1) := dk_6 (dk_at dksX0_least_0 4 rfl rfl)
theorem dX0_least_5 : decode cX0_least 5 = .ok (.if_icmp .le 5, 3) := dk_164 0 5 (dk_at dksX0_least_0 5 rfl rfl)
theorem dX0_least_8 : decode cX0_least 8 = .ok (.iconst (-1), 1) := dk_2 (dk_at dksX0_least_0 8 rfl rfl)
theorem dX0_least_9 : decode cX0_least 9 = .ok (.ireturn, 1) := dk_172 (dk_at dksX0_least_0 9 rfl rfl)
theorem dX0_least_10 : decode cX0_least 10 = .ok (.iload_n 1, 1) := dk_27 (dk_at dksX0_least_0 10 rfl rfl)
theorem dX0_least_11 : decode cX0_least 11 = .ok (.iconst (-1), 1) := dk_2 (dk_at dksX0_least_0 11 rfl rfl)
theorem dX0_least_12 : decode cX0_least 12 = .ok (.if_icmp .ne 41, 3) := dk_160 0 41 (dk_at dksX0_least_0 12 rfl rfl)
theorem dX0_least_15 : decode cX0_least 15 = .ok (.aload_n 0, 1) := dk_42 (dk_at dksX0_least_0 15 rfl rfl)
theorem dX0_least_16 : decode cX0_least 16 = .ok (.getfield 41, 3) := dk_180 0 41 (dk_at dksX0_least_0 16 rfl rfl)
theorem dX0_least_19 : decode cX0_least 19 = .ok (.aload_n 0, 1) := dk_42 (dk_at dksX0_least_0 19 rfl rfl)
theorem dX0_least_20 : decode cX0_least 20 = .ok (.getfield 91, 3) := dk_180 0 91 (dk_at dksX0_least_0 20 rfl rfl)
theorem dX0_least_23 : decode cX0_least 23 = .ok (.aload_n 0, 1) := dk_42 (dk_at dksX0_least_0 23 rfl rfl)
theorem dX0_least_24 : decode cX0_least 24 = .ok (.invokevirtual 151, 3) := dk_182 0 151 (dk_at dksX0_least_1 0 rfl rfl)
theorem dX0_least_27 : decode cX0_least 27 = .ok (.invokevirtual 276, 3) := dk_182 1 20 (dk_at dksX0_least_1 3 rfl rfl)
theorem dX0_least_30 : decode cX0_least 30 = .ok (.aload_n 0, 1) := dk_42 (dk_at dksX0_least_1 6 rfl rfl)
theorem dX0_least_31 : decode cX0_least 31 = .ok (.getfield 65, 3) := dk_180 0 65 (dk_at dksX0_least_1 7 rfl rfl)
theorem dX0_least_34 : decode cX0_least 34 = .ok (.aload_n 0, 1) := dk_42 (dk_at dksX0_least_1 10 rfl rfl)
theorem dX0_least_35 : decode cX0_least 35 = .ok (.getfield 131, 3) := dk_180 0 131 (dk_at dksX0_least_1 11 rfl rfl)
theorem dX0_least_38 : decode cX0_least 38 = .ok (.invokevirtual 292, 3) := dk_182 1 36 (dk_at dksX0_least_1 14 rfl rfl)
theorem dX0_least_41 : decode cX0_least 41 = .ok (.aload_n 0, 1) := dk_42 (dk_at dksX0_least_1 17 rfl rfl)
theorem dX0_least_42 : decode cX0_least 42 = .ok (.getfield 65, 3) := dk_180 0 65 (dk_at dksX0_least_1 18 rfl rfl)
theorem dX0_least_45 : decode cX0_least 45 = .ok (.aload_n 0, 1) := dk_42 (dk_at dksX0_least_1 21 rfl rfl)
theorem dX0_least_46 : decode cX0_least 46 = .ok (.getfield 91, 3) := dk_180 0 91 (dk_at dksX0_least_2 0 rfl rfl)
theorem dX0_least_49 : decode cX0_least 49 = .ok (.invokevirtual 299, 3) := dk_182 1 43 (dk_at dksX0_least_2 3 rfl rfl)
theorem dX0_least_52 : decode cX0_least 52 = .ok (.ireturn, 1) := dk_172 (dk_at dksX0_least_2 6 rfl rfl)
theorem dX0_least_53 : decode cX0_least 53 = .ok (.aload_n 0, 1) := dk_42 (dk_at dksX0_least_2 7 rfl rfl)
theorem dX0_least_54 : decode cX0_least 54 = .ok (.invokevirtual 231, 3) := dk_182 0 231 (dk_at dksX0_least_2 8 rfl rfl)
theorem dX0_least_57 : decode cX0_least 57 = .ok (.astore_n 3, 1) := dk_78 (dk_at dksX0_least_2 11 rfl rfl)
theorem dX0_least_58 : decode cX0_least 58 = .ok (.iload_n 1, 1) := dk_27 (dk_at dksX0_least_2 12 rfl rfl)
theorem dX0_least_59 : decode cX0_least 59 = .ok (.iconst 0, 1) := dk_3 (dk_at dksX0_least_2 13 rfl rfl)
theorem dX0_least_60 : decode cX0_least 60 = .ok (.aload_n 3, 1) := dk_45 (dk_at dksX0_least_2 14 rfl rfl)
theorem dX0_least_61 : decode cX0_least 61 = .ok (.invokevirtual 301, 3) := dk_182 1 45 (dk_at dksX0_least_2 15 rfl rfl)
theorem dX0_least_64 : decode cX0_least 64 = .ok (.iconst 1, 1) := dk_4 (dk_at dksX0_least_2 18 rfl rfl)
theorem dX0_least_65 : decode cX0_least 65 = .ok (.isub, 1) := dk_100 (dk_at dksX0_least_2 19 rfl rfl)
theorem dX0_least_66 : decode cX0_least 66 = .ok (.invokestatic 155, 3) := dk_184 0 155 (dk_at dksX0_least_2 20 rfl rfl)
theorem dX0_least_69 : decode cX0_least 69 = .ok (.ifCond .eq 27, 3) := dk_153 0 27 (dk_at dksX0_least_3 0 rfl rfl)
theorem dX0_least_72 : decode cX0_least 72 = .ok (.iload_n 2, 1) := dk_28 (dk_at dksX0_least_3 3 rfl rfl)
theorem dX0_least_73 : decode cX0_least 73 = .ok (.iconst 0, 1) := dk_3 (dk_at dksX0_least_3 4 rfl rfl)
theorem dX0_least_74 : decode cX0_least 74 = .ok (.iconst 1, 1) := dk_4 (dk_at dksX0_least_3 5 rfl rfl)
theorem dX0_least_75 : decode cX0_least 75 = .ok (.invokestatic 155, 3) := dk_184 0 155 (dk_at dksX0_least_3 6 rfl rfl)
theorem dX0_least_78 : decode cX0_least 78 = .ok (.ifCond .eq 18, 3) := dk_153 0 18 (dk_at dksX0_least_3 9 rfl rfl)
theorem dX0_least_81 : decode cX0_least 81 = .ok (.aload_n 3, 1) := dk_45 (dk_at dksX0_least_3 12 rfl rfl)
theorem dX0_least_82 : decode cX0_least 82 = .ok (.iload_n 1, 1) := dk_27 (dk_at dksX0_least_3 13 rfl rfl)
theorem dX0_least_83 : decode cX0_least 83 = .ok (.invokevirtual 302, 3) := dk_182 1 46 (dk_at dksX0_least_3 14 rfl rfl)
theorem dX0_least_86 : decode cX0_least 86 = .ok (.checkcast 193, 3) := dk_192 0 193 (dk_at dksX0_least_3 17 rfl rfl)
theorem dX0_least_89 : decode cX0_least 89 = .ok (.iload_n 2, 1) := dk_28 (dk_at dksX0_least_3 20 rfl rfl)
theorem dX0_least_90 : decode cX0_least 90 = .ok (.invokevirtual 248, 3) := dk_182 0 248 (dk_at dksX0_least_3 21 rfl rfl)
theorem dX0_least_93 : decode cX0_least 93 = .ok (.goto 4, 3) := dk_167 0 4 (dk_at dksX0_least_4 0 rfl rfl)
theorem dX0_least_96 : decode cX0_least 96 = .ok (.iconst (-1), 1) := dk_2 (dk_at dksX0_least_4 3 rfl rfl)
theorem dX0_least_97 : decode cX0_least 97 = .ok (.ireturn, 1) := dk_172 (dk_at dksX0_least_4 4 rfl rfl)
abbrev cX0_stuck : ByteArray := prog_1_method_33_code
def yX0_stuck : MethodName := ⟨RX0, "stuck", "(IIZ)I"⟩
def dkwX0_stuck_1 : List UInt8 := [167, 0, 4, 2, 172]
abbrev dktX0_stuck_1 : List UInt8 := dkwX0_stuck_1 ++ []
def dkwX0_stuck_0 : List UInt8 := [42, 27, 182, 0, 179, 153, 0, 21, 42, 28, 182, 0, 175, 153, 0, 13, 42, 27, 28, 29, 182, 1, 62]
abbrev dktX0_stuck_0 : List UInt8 := dkwX0_stuck_0 ++ dktX0_stuck_1
theorem dksX0_stuck_0 : cX0_stuck.data.toList.drop 0 = dktX0_stuck_0 := by decide +kernel
theorem dksX0_stuck_1 : cX0_stuck.data.toList.drop 23 = dktX0_stuck_1 := dk_seg dksX0_stuck_0 23 rfl rfl
theorem dX0_stuck_0 : decode cX0_stuck 0 = .ok (.aload_n 0, 1) := dk_42 (dk_at dksX0_stuck_0 0 rfl rfl)
theorem dX0_stuck_1 : decode cX0_stuck 1 = .ok (.iload_n 1, 1) := dk_27 (dk_at dksX0_stuck_0 1 rfl rfl)
theorem dX0_stuck_2 : decode cX0_stuck 2 = .ok (.invokevirtual 179, 3) := dk_182 0 179 (dk_at dksX0_stuck_0 2 rfl rfl)
theorem dX0_stuck_5 : decode cX0_stuck 5 = .ok (.ifCond .eq 21, 3) := dk_153 0 21 (dk_at dksX0_stuck_0 5 rfl rfl)
theorem dX0_stuck_8 : decode cX0_stuck 8 = .ok (.aload_n 0, 1) := dk_42 (dk_at dksX0_stuck_0 8 rfl rfl)
theorem dX0_stuck_9 : decode cX0_stuck 9 = .ok (.iload_n 2, 1) := dk_28 (dk_at dksX0_stuck_0 9 rfl rfl)
theorem dX0_stuck_10 : decode cX0_stuck 10 = .ok (.invokevirtual 175, 3) := dk_182 0 175 (dk_at dksX0_stuck_0 10 rfl rfl)
theorem dX0_stuck_13 : decode cX0_stuck 13 = .ok (.ifCond .eq 13, 3) := dk_153 0 13 (dk_at dksX0_stuck_0 13 rfl rfl)
theorem dX0_stuck_16 : decode cX0_stuck 16 = .ok (.aload_n 0, 1) := dk_42 (dk_at dksX0_stuck_0 16 rfl rfl)
theorem dX0_stuck_17 : decode cX0_stuck 17 = .ok (.iload_n 1, 1) := dk_27 (dk_at dksX0_stuck_0 17 rfl rfl)
theorem dX0_stuck_18 : decode cX0_stuck 18 = .ok (.iload_n 2, 1) := dk_28 (dk_at dksX0_stuck_0 18 rfl rfl)
theorem dX0_stuck_19 : decode cX0_stuck 19 = .ok (.iload_n 3, 1) := dk_29 (dk_at dksX0_stuck_0 19 rfl rfl)
theorem dX0_stuck_20 : decode cX0_stuck 20 = .ok (.invokevirtual 318, 3) := dk_182 1 62 (dk_at dksX0_stuck_0 20 rfl rfl)
theorem dX0_stuck_23 : decode cX0_stuck 23 = .ok (.goto 4, 3) := dk_167 0 4 (dk_at dksX0_stuck_1 0 rfl rfl)
theorem dX0_stuck_26 : decode cX0_stuck 26 = .ok (.iconst (-1), 1) := dk_2 (dk_at dksX0_stuck_1 3 rfl rfl)
theorem dX0_stuck_27 : decode cX0_stuck 27 = .ok (.ireturn, 1) := dk_172 (dk_at dksX0_stuck_1 4 rfl rfl)
abbrev cX0_stuckAt : ByteArray := prog_1_method_32_code
def yX0_stuckAt : MethodName := ⟨RX0, "stuckAt", "(IIZ)I"⟩
def dkwX0_stuckAt_3 : List UInt8 := [128, 167, 0, 11, 21, 4, 4, 28, 120, 2, 130, 126, 54, 4, 167, 255, 206, 21, 4, 172]
abbrev dktX0_stuckAt_3 : List UInt8 := dkwX0_stuckAt_3 ++ []
def dkwX0_stuckAt_2 : List UInt8 := [185, 1, 58, 1, 0, 192, 0, 193, 21, 4, 182, 1, 61, 54, 4, 29, 153, 0, 12, 21, 4, 4, 28, 120]
abbrev dktX0_stuckAt_2 : List UInt8 := dkwX0_stuckAt_2 ++ dktX0_stuckAt_3
def dkwX0_stuckAt_1 : List UInt8 := [180, 0, 41, 180, 0, 189, 182, 1, 49, 58, 5, 25, 5, 185, 1, 53, 1, 0, 153, 0, 46, 25, 5]
abbrev dktX0_stuckAt_1 : List UInt8 := dkwX0_stuckAt_1 ++ dktX0_stuckAt_2
def dkwX0_stuckAt_0 : List UInt8 := [29, 153, 0, 11, 27, 4, 28, 120, 128, 167, 0, 10, 27, 4, 28, 120, 2, 130, 126, 54, 4, 42]
abbrev dktX0_stuckAt_0 : List UInt8 := dkwX0_stuckAt_0 ++ dktX0_stuckAt_1
theorem dksX0_stuckAt_0 : cX0_stuckAt.data.toList.drop 0 = dktX0_stuckAt_0 := by decide +kernel
theorem dksX0_stuckAt_1 : cX0_stuckAt.data.toList.drop 22 = dktX0_stuckAt_1 := dk_seg dksX0_stuckAt_0 22 rfl rfl
theorem dksX0_stuckAt_2 : cX0_stuckAt.data.toList.drop 45 = dktX0_stuckAt_2 := dk_seg dksX0_stuckAt_1 23 rfl rfl
theorem dksX0_stuckAt_3 : cX0_stuckAt.data.toList.drop 69 = dktX0_stuckAt_3 := dk_seg dksX0_stuckAt_2 24 rfl rfl
theorem dX0_stuckAt_0 : decode cX0_stuckAt 0 = .ok (.iload_n 3, 1) := dk_29 (dk_at dksX0_stuckAt_0 0 rfl rfl)
theorem dX0_stuckAt_1 : decode cX0_stuckAt 1 = .ok (.ifCond .eq 11, 3) := dk_153 0 11 (dk_at dksX0_stuckAt_0 1 rfl rfl)
theorem dX0_stuckAt_4 : decode cX0_stuckAt 4 = .ok (.iload_n 1, 1) := dk_27 (dk_at dksX0_stuckAt_0 4 rfl rfl)
theorem dX0_stuckAt_5 : decode cX0_stuckAt 5 = .ok (.iconst 1, 1) := dk_4 (dk_at dksX0_stuckAt_0 5 rfl rfl)
theorem dX0_stuckAt_6 : decode cX0_stuckAt 6 = .ok (.iload_n 2, 1) := dk_28 (dk_at dksX0_stuckAt_0 6 rfl rfl)
theorem dX0_stuckAt_7 : decode cX0_stuckAt 7 = .ok (.ishl, 1) := dk_120 (dk_at dksX0_stuckAt_0 7 rfl rfl)
theorem dX0_stuckAt_8 : decode cX0_stuckAt 8 = .ok (.ior, 1) := dk_128 (dk_at dksX0_stuckAt_0 8 rfl rfl)
theorem dX0_stuckAt_9 : decode cX0_stuckAt 9 = .ok (.goto 10, 3) := dk_167 0 10 (dk_at dksX0_stuckAt_0 9 rfl rfl)
theorem dX0_stuckAt_12 : decode cX0_stuckAt 12 = .ok (.iload_n 1, 1) := dk_27 (dk_at dksX0_stuckAt_0 12 rfl rfl)
theorem dX0_stuckAt_13 : decode cX0_stuckAt 13 = .ok (.iconst 1, 1) := dk_4 (dk_at dksX0_stuckAt_0 13 rfl rfl)
theorem dX0_stuckAt_14 : decode cX0_stuckAt 14 = .ok (.iload_n 2, 1) := dk_28 (dk_at dksX0_stuckAt_0 14 rfl rfl)
theorem dX0_stuckAt_15 : decode cX0_stuckAt 15 = .ok (.ishl, 1) := dk_120 (dk_at dksX0_stuckAt_0 15 rfl rfl)
theorem dX0_stuckAt_16 : decode cX0_stuckAt 16 = .ok (.iconst (-1), 1) := dk_2 (dk_at dksX0_stuckAt_0 16 rfl rfl)
theorem dX0_stuckAt_17 : decode cX0_stuckAt 17 = .ok (.ixor, 1) := dk_130 (dk_at dksX0_stuckAt_0 17 rfl rfl)
theorem dX0_stuckAt_18 : decode cX0_stuckAt 18 = .ok (.iand, 1) := dk_126 (dk_at dksX0_stuckAt_0 18 rfl rfl)
theorem dX0_stuckAt_19 : decode cX0_stuckAt 19 = .ok (.istore 4, 2) := dk_54 4 (dk_at dksX0_stuckAt_0 19 rfl rfl)
theorem dX0_stuckAt_21 : decode cX0_stuckAt 21 = .ok (.aload_n 0, 1) := dk_42 (dk_at dksX0_stuckAt_0 21 rfl rfl)
theorem dX0_stuckAt_22 : decode cX0_stuckAt 22 = .ok (.getfield 41, 3) := dk_180 0 41 (dk_at dksX0_stuckAt_1 0 rfl rfl)
theorem dX0_stuckAt_25 : decode cX0_stuckAt 25 = .ok (.getfield 189, 3) := dk_180 0 189 (dk_at dksX0_stuckAt_1 3 rfl rfl)
theorem dX0_stuckAt_28 : decode cX0_stuckAt 28 = .ok (.invokevirtual 305, 3) := dk_182 1 49 (dk_at dksX0_stuckAt_1 6 rfl rfl)
theorem dX0_stuckAt_31 : decode cX0_stuckAt 31 = .ok (.astore 5, 2) := dk_58 5 (dk_at dksX0_stuckAt_1 9 rfl rfl)
theorem dX0_stuckAt_33 : decode cX0_stuckAt 33 = .ok (.aload 5, 2) := dk_25 5 (dk_at dksX0_stuckAt_1 11 rfl rfl)
theorem dX0_stuckAt_35 : decode cX0_stuckAt 35 = .ok (.invokeinterface 309 1, 5) := by decide +kernel
theorem dX0_stuckAt_40 : decode cX0_stuckAt 40 = .ok (.ifCond .eq 46, 3) := dk_153 0 46 (dk_at dksX0_stuckAt_1 18 rfl rfl)
theorem dX0_stuckAt_43 : decode cX0_stuckAt 43 = .ok (.aload 5, 2) := dk_25 5 (dk_at dksX0_stuckAt_1 21 rfl rfl)
theorem dX0_stuckAt_45 : decode cX0_stuckAt 45 = .ok (.invokeinterface 314 1, 5) := by decide +kernel
theorem dX0_stuckAt_50 : decode cX0_stuckAt 50 = .ok (.checkcast 193, 3) := dk_192 0 193 (dk_at dksX0_stuckAt_2 5 rfl rfl)
theorem dX0_stuckAt_53 : decode cX0_stuckAt 53 = .ok (.iload 4, 2) := dk_21 4 (dk_at dksX0_stuckAt_2 8 rfl rfl)
theorem dX0_stuckAt_55 : decode cX0_stuckAt 55 = .ok (.invokevirtual 317, 3) := dk_182 1 61 (dk_at dksX0_stuckAt_2 10 rfl rfl)
theorem dX0_stuckAt_58 : decode cX0_stuckAt 58 = .ok (.istore 4, 2) := dk_54 4 (dk_at dksX0_stuckAt_2 13 rfl rfl)
theorem dX0_stuckAt_60 : decode cX0_stuckAt 60 = .ok (.iload_n 3, 1) := dk_29 (dk_at dksX0_stuckAt_2 15 rfl rfl)
theorem dX0_stuckAt_61 : decode cX0_stuckAt 61 = .ok (.ifCond .eq 12, 3) := dk_153 0 12 (dk_at dksX0_stuckAt_2 16 rfl rfl)
theorem dX0_stuckAt_64 : decode cX0_stuckAt 64 = .ok (.iload 4, 2) := dk_21 4 (dk_at dksX0_stuckAt_2 19 rfl rfl)
theorem dX0_stuckAt_66 : decode cX0_stuckAt 66 = .ok (.iconst 1, 1) := dk_4 (dk_at dksX0_stuckAt_2 21 rfl rfl)
theorem dX0_stuckAt_67 : decode cX0_stuckAt 67 = .ok (.iload_n 2, 1) := dk_28 (dk_at dksX0_stuckAt_2 22 rfl rfl)
theorem dX0_stuckAt_68 : decode cX0_stuckAt 68 = .ok (.ishl, 1) := dk_120 (dk_at dksX0_stuckAt_2 23 rfl rfl)
theorem dX0_stuckAt_69 : decode cX0_stuckAt 69 = .ok (.ior, 1) := dk_128 (dk_at dksX0_stuckAt_3 0 rfl rfl)
theorem dX0_stuckAt_70 : decode cX0_stuckAt 70 = .ok (.goto 11, 3) := dk_167 0 11 (dk_at dksX0_stuckAt_3 1 rfl rfl)
theorem dX0_stuckAt_73 : decode cX0_stuckAt 73 = .ok (.iload 4, 2) := dk_21 4 (dk_at dksX0_stuckAt_3 4 rfl rfl)
theorem dX0_stuckAt_75 : decode cX0_stuckAt 75 = .ok (.iconst 1, 1) := dk_4 (dk_at dksX0_stuckAt_3 6 rfl rfl)
theorem dX0_stuckAt_76 : decode cX0_stuckAt 76 = .ok (.iload_n 2, 1) := dk_28 (dk_at dksX0_stuckAt_3 7 rfl rfl)
theorem dX0_stuckAt_77 : decode cX0_stuckAt 77 = .ok (.ishl, 1) := dk_120 (dk_at dksX0_stuckAt_3 8 rfl rfl)
theorem dX0_stuckAt_78 : decode cX0_stuckAt 78 = .ok (.iconst (-1), 1) := dk_2 (dk_at dksX0_stuckAt_3 9 rfl rfl)
theorem dX0_stuckAt_79 : decode cX0_stuckAt 79 = .ok (.ixor, 1) := dk_130 (dk_at dksX0_stuckAt_3 10 rfl rfl)
theorem dX0_stuckAt_80 : decode cX0_stuckAt 80 = .ok (.iand, 1) := dk_126 (dk_at dksX0_stuckAt_3 11 rfl rfl)
theorem dX0_stuckAt_81 : decode cX0_stuckAt 81 = .ok (.istore 4, 2) := dk_54 4 (dk_at dksX0_stuckAt_3 12 rfl rfl)
theorem dX0_stuckAt_83 : decode cX0_stuckAt 83 = .ok (.goto (-50), 3) := dk_167 255 206 (dk_at dksX0_stuckAt_3 14 rfl rfl)
theorem dX0_stuckAt_86 : decode cX0_stuckAt 86 = .ok (.iload 4, 2) := dk_21 4 (dk_at dksX0_stuckAt_3 17 rfl rfl)
theorem dX0_stuckAt_88 : decode cX0_stuckAt 88 = .ok (.ireturn, 1) := dk_172 (dk_at dksX0_stuckAt_3 19 rfl rfl)
abbrev cX0_test : ByteArray := prog_1_method_35_code
def yX0_test : MethodName := ⟨RX0, "test", "(I)I"⟩
def dkwX0_test_3 : List UInt8 := [42, 180, 0, 72, 27, 182, 1, 77, 167, 0, 4, 2, 172]
abbrev dktX0_test_3 : List UInt8 := dkwX0_test_3 ++ []
def dkwX0_test_2 : List UInt8 := [182, 1, 75, 61, 27, 2, 160, 0, 7, 28, 167, 0, 26, 27, 3, 28, 4, 100, 184, 0, 155, 153, 0, 14]
abbrev dktX0_test_2 : List UInt8 := dkwX0_test_2 ++ dktX0_test_3
def dkwX0_test_1 : List UInt8 := [180, 0, 72, 28, 42, 28, 182, 1, 68, 182, 1, 71, 132, 2, 1, 167, 255, 232, 42, 180, 0, 72]
abbrev dktX0_test_1 : List UInt8 := dkwX0_test_1 ++ dktX0_test_2
def dkwX0_test_0 : List UInt8 := [42, 180, 0, 72, 42, 182, 0, 151, 182, 1, 66, 3, 61, 28, 42, 182, 0, 151, 162, 0, 22, 42]
abbrev dktX0_test_0 : List UInt8 := dkwX0_test_0 ++ dktX0_test_1
theorem dksX0_test_0 : cX0_test.data.toList.drop 0 = dktX0_test_0 := by decide +kernel
theorem dksX0_test_1 : cX0_test.data.toList.drop 22 = dktX0_test_1 := dk_seg dksX0_test_0 22 rfl rfl
theorem dksX0_test_2 : cX0_test.data.toList.drop 44 = dktX0_test_2 := dk_seg dksX0_test_1 22 rfl rfl
theorem dksX0_test_3 : cX0_test.data.toList.drop 68 = dktX0_test_3 := dk_seg dksX0_test_2 24 rfl rfl
theorem dX0_test_0 : decode cX0_test 0 = .ok (.aload_n 0, 1) := dk_42 (dk_at dksX0_test_0 0 rfl rfl)
theorem dX0_test_1 : decode cX0_test 1 = .ok (.getfield 72, 3) := dk_180 0 72 (dk_at dksX0_test_0 1 rfl rfl)
theorem dX0_test_4 : decode cX0_test 4 = .ok (.aload_n 0, 1) := dk_42 (dk_at dksX0_test_0 4 rfl rfl)
theorem dX0_test_5 : decode cX0_test 5 = .ok (.invokevirtual 151, 3) := dk_182 0 151 (dk_at dksX0_test_0 5 rfl rfl)
theorem dX0_test_8 : decode cX0_test 8 = .ok (.invokevirtual 322, 3) := dk_182 1 66 (dk_at dksX0_test_0 8 rfl rfl)
theorem dX0_test_11 : decode cX0_test 11 = .ok (.iconst 0, 1) := dk_3 (dk_at dksX0_test_0 11 rfl rfl)
theorem dX0_test_12 : decode cX0_test 12 = .ok (.istore_n 2, 1) := dk_61 (dk_at dksX0_test_0 12 rfl rfl)
theorem dX0_test_13 : decode cX0_test 13 = .ok (.iload_n 2, 1) := dk_28 (dk_at dksX0_test_0 13 rfl rfl)
theorem dX0_test_14 : decode cX0_test 14 = .ok (.aload_n 0, 1) := dk_42 (dk_at dksX0_test_0 14 rfl rfl)
theorem dX0_test_15 : decode cX0_test 15 = .ok (.invokevirtual 151, 3) := dk_182 0 151 (dk_at dksX0_test_0 15 rfl rfl)
theorem dX0_test_18 : decode cX0_test 18 = .ok (.if_icmp .ge 22, 3) := dk_162 0 22 (dk_at dksX0_test_0 18 rfl rfl)
theorem dX0_test_21 : decode cX0_test 21 = .ok (.aload_n 0, 1) := dk_42 (dk_at dksX0_test_0 21 rfl rfl)
theorem dX0_test_22 : decode cX0_test 22 = .ok (.getfield 72, 3) := dk_180 0 72 (dk_at dksX0_test_1 0 rfl rfl)
theorem dX0_test_25 : decode cX0_test 25 = .ok (.iload_n 2, 1) := dk_28 (dk_at dksX0_test_1 3 rfl rfl)
theorem dX0_test_26 : decode cX0_test 26 = .ok (.aload_n 0, 1) := dk_42 (dk_at dksX0_test_1 4 rfl rfl)
theorem dX0_test_27 : decode cX0_test 27 = .ok (.iload_n 2, 1) := dk_28 (dk_at dksX0_test_1 5 rfl rfl)
theorem dX0_test_28 : decode cX0_test 28 = .ok (.invokevirtual 324, 3) := dk_182 1 68 (dk_at dksX0_test_1 6 rfl rfl)
theorem dX0_test_31 : decode cX0_test 31 = .ok (.invokevirtual 327, 3) := dk_182 1 71 (dk_at dksX0_test_1 9 rfl rfl)
theorem dX0_test_34 : decode cX0_test 34 = .ok (.iinc 2 1, 3) := dk_132 2 1 (dk_at dksX0_test_1 12 rfl rfl)
theorem dX0_test_37 : decode cX0_test 37 = .ok (.goto (-24), 3) := dk_167 255 232 (dk_at dksX0_test_1 15 rfl rfl)
theorem dX0_test_40 : decode cX0_test 40 = .ok (.aload_n 0, 1) := dk_42 (dk_at dksX0_test_1 18 rfl rfl)
theorem dX0_test_41 : decode cX0_test 41 = .ok (.getfield 72, 3) := dk_180 0 72 (dk_at dksX0_test_1 19 rfl rfl)
theorem dX0_test_44 : decode cX0_test 44 = .ok (.invokevirtual 331, 3) := dk_182 1 75 (dk_at dksX0_test_2 0 rfl rfl)
theorem dX0_test_47 : decode cX0_test 47 = .ok (.istore_n 2, 1) := dk_61 (dk_at dksX0_test_2 3 rfl rfl)
theorem dX0_test_48 : decode cX0_test 48 = .ok (.iload_n 1, 1) := dk_27 (dk_at dksX0_test_2 4 rfl rfl)
theorem dX0_test_49 : decode cX0_test 49 = .ok (.iconst (-1), 1) := dk_2 (dk_at dksX0_test_2 5 rfl rfl)
theorem dX0_test_50 : decode cX0_test 50 = .ok (.if_icmp .ne 7, 3) := dk_160 0 7 (dk_at dksX0_test_2 6 rfl rfl)
theorem dX0_test_53 : decode cX0_test 53 = .ok (.iload_n 2, 1) := dk_28 (dk_at dksX0_test_2 9 rfl rfl)
theorem dX0_test_54 : decode cX0_test 54 = .ok (.goto 26, 3) := dk_167 0 26 (dk_at dksX0_test_2 10 rfl rfl)
theorem dX0_test_57 : decode cX0_test 57 = .ok (.iload_n 1, 1) := dk_27 (dk_at dksX0_test_2 13 rfl rfl)
theorem dX0_test_58 : decode cX0_test 58 = .ok (.iconst 0, 1) := dk_3 (dk_at dksX0_test_2 14 rfl rfl)
theorem dX0_test_59 : decode cX0_test 59 = .ok (.iload_n 2, 1) := dk_28 (dk_at dksX0_test_2 15 rfl rfl)
theorem dX0_test_60 : decode cX0_test 60 = .ok (.iconst 1, 1) := dk_4 (dk_at dksX0_test_2 16 rfl rfl)
theorem dX0_test_61 : decode cX0_test 61 = .ok (.isub, 1) := dk_100 (dk_at dksX0_test_2 17 rfl rfl)
theorem dX0_test_62 : decode cX0_test 62 = .ok (.invokestatic 155, 3) := dk_184 0 155 (dk_at dksX0_test_2 18 rfl rfl)
theorem dX0_test_65 : decode cX0_test 65 = .ok (.ifCond .eq 14, 3) := dk_153 0 14 (dk_at dksX0_test_2 21 rfl rfl)
theorem dX0_test_68 : decode cX0_test 68 = .ok (.aload_n 0, 1) := dk_42 (dk_at dksX0_test_3 0 rfl rfl)
theorem dX0_test_69 : decode cX0_test 69 = .ok (.getfield 72, 3) := dk_180 0 72 (dk_at dksX0_test_3 1 rfl rfl)
theorem dX0_test_72 : decode cX0_test 72 = .ok (.iload_n 1, 1) := dk_27 (dk_at dksX0_test_3 4 rfl rfl)
theorem dX0_test_73 : decode cX0_test 73 = .ok (.invokevirtual 333, 3) := dk_182 1 77 (dk_at dksX0_test_3 5 rfl rfl)
theorem dX0_test_76 : decode cX0_test 76 = .ok (.goto 4, 3) := dk_167 0 4 (dk_at dksX0_test_3 8 rfl rfl)
theorem dX0_test_79 : decode cX0_test 79 = .ok (.iconst (-1), 1) := dk_2 (dk_at dksX0_test_3 11 rfl rfl)
theorem dX0_test_80 : decode cX0_test 80 = .ok (.ireturn, 1) := dk_172 (dk_at dksX0_test_3 12 rfl rfl)
abbrev cX0_seen : ByteArray := prog_1_method_34_code
def yX0_seen : MethodName := ⟨RX0, "seen", "(I)I"⟩
def dkwX0_seen_3 : List UInt8 := [172]
abbrev dktX0_seen_3 : List UInt8 := dkwX0_seen_3 ++ []
def dkwX0_seen_2 : List UInt8 := [4, 182, 1, 62, 29, 159, 0, 12, 28, 5, 5, 21, 4, 104, 120, 128, 61, 132, 4, 1, 167, 255, 202, 28]
abbrev dktX0_seen_2 : List UInt8 := dkwX0_seen_2 ++ dktX0_seen_3
def dkwX0_seen_1 : List UInt8 := [27, 21, 4, 3, 182, 1, 62, 29, 159, 0, 12, 28, 4, 5, 21, 4, 104, 120, 128, 61, 42, 27, 21, 4]
abbrev dktX0_seen_1 : List UInt8 := dkwX0_seen_1 ++ dktX0_seen_2
def dkwX0_seen_0 : List UInt8 := [3, 61, 42, 180, 0, 41, 27, 182, 1, 15, 62, 3, 54, 4, 21, 4, 42, 180, 0, 131, 162, 0, 51, 42]
abbrev dktX0_seen_0 : List UInt8 := dkwX0_seen_0 ++ dktX0_seen_1
theorem dksX0_seen_0 : cX0_seen.data.toList.drop 0 = dktX0_seen_0 := by decide +kernel
theorem dksX0_seen_1 : cX0_seen.data.toList.drop 24 = dktX0_seen_1 := dk_seg dksX0_seen_0 24 rfl rfl
theorem dksX0_seen_2 : cX0_seen.data.toList.drop 48 = dktX0_seen_2 := dk_seg dksX0_seen_1 24 rfl rfl
theorem dksX0_seen_3 : cX0_seen.data.toList.drop 72 = dktX0_seen_3 := dk_seg dksX0_seen_2 24 rfl rfl
theorem dX0_seen_0 : decode cX0_seen 0 = .ok (.iconst 0, 1) := dk_3 (dk_at dksX0_seen_0 0 rfl rfl)
theorem dX0_seen_1 : decode cX0_seen 1 = .ok (.istore_n 2, 1) := dk_61 (dk_at dksX0_seen_0 1 rfl rfl)
theorem dX0_seen_2 : decode cX0_seen 2 = .ok (.aload_n 0, 1) := dk_42 (dk_at dksX0_seen_0 2 rfl rfl)
theorem dX0_seen_3 : decode cX0_seen 3 = .ok (.getfield 41, 3) := dk_180 0 41 (dk_at dksX0_seen_0 3 rfl rfl)
theorem dX0_seen_6 : decode cX0_seen 6 = .ok (.iload_n 1, 1) := dk_27 (dk_at dksX0_seen_0 6 rfl rfl)
theorem dX0_seen_7 : decode cX0_seen 7 = .ok (.invokevirtual 271, 3) := dk_182 1 15 (dk_at dksX0_seen_0 7 rfl rfl)
theorem dX0_seen_10 : decode cX0_seen 10 = .ok (.istore_n 3, 1) := dk_62 (dk_at dksX0_seen_0 10 rfl rfl)
theorem dX0_seen_11 : decode cX0_seen 11 = .ok (.iconst 0, 1) := dk_3 (dk_at dksX0_seen_0 11 rfl rfl)
theorem dX0_seen_12 : decode cX0_seen 12 = .ok (.istore 4, 2) := dk_54 4 (dk_at dksX0_seen_0 12 rfl rfl)
theorem dX0_seen_14 : decode cX0_seen 14 = .ok (.iload 4, 2) := dk_21 4 (dk_at dksX0_seen_0 14 rfl rfl)
theorem dX0_seen_16 : decode cX0_seen 16 = .ok (.aload_n 0, 1) := dk_42 (dk_at dksX0_seen_0 16 rfl rfl)
theorem dX0_seen_17 : decode cX0_seen 17 = .ok (.getfield 131, 3) := dk_180 0 131 (dk_at dksX0_seen_0 17 rfl rfl)
theorem dX0_seen_20 : decode cX0_seen 20 = .ok (.if_icmp .ge 51, 3) := dk_162 0 51 (dk_at dksX0_seen_0 20 rfl rfl)
theorem dX0_seen_23 : decode cX0_seen 23 = .ok (.aload_n 0, 1) := dk_42 (dk_at dksX0_seen_0 23 rfl rfl)
theorem dX0_seen_24 : decode cX0_seen 24 = .ok (.iload_n 1, 1) := dk_27 (dk_at dksX0_seen_1 0 rfl rfl)
theorem dX0_seen_25 : decode cX0_seen 25 = .ok (.iload 4, 2) := dk_21 4 (dk_at dksX0_seen_1 1 rfl rfl)
theorem dX0_seen_27 : decode cX0_seen 27 = .ok (.iconst 0, 1) := dk_3 (dk_at dksX0_seen_1 3 rfl rfl)
theorem dX0_seen_28 : decode cX0_seen 28 = .ok (.invokevirtual 318, 3) := dk_182 1 62 (dk_at dksX0_seen_1 4 rfl rfl)
theorem dX0_seen_31 : decode cX0_seen 31 = .ok (.iload_n 3, 1) := dk_29 (dk_at dksX0_seen_1 7 rfl rfl)
theorem dX0_seen_32 : decode cX0_seen 32 = .ok (.if_icmp .eq 12, 3) := dk_159 0 12 (dk_at dksX0_seen_1 8 rfl rfl)
theorem dX0_seen_35 : decode cX0_seen 35 = .ok (.iload_n 2, 1) := dk_28 (dk_at dksX0_seen_1 11 rfl rfl)
theorem dX0_seen_36 : decode cX0_seen 36 = .ok (.iconst 1, 1) := dk_4 (dk_at dksX0_seen_1 12 rfl rfl)
theorem dX0_seen_37 : decode cX0_seen 37 = .ok (.iconst 2, 1) := dk_5 (dk_at dksX0_seen_1 13 rfl rfl)
theorem dX0_seen_38 : decode cX0_seen 38 = .ok (.iload 4, 2) := dk_21 4 (dk_at dksX0_seen_1 14 rfl rfl)
theorem dX0_seen_40 : decode cX0_seen 40 = .ok (.imul, 1) := dk_104 (dk_at dksX0_seen_1 16 rfl rfl)
theorem dX0_seen_41 : decode cX0_seen 41 = .ok (.ishl, 1) := dk_120 (dk_at dksX0_seen_1 17 rfl rfl)
theorem dX0_seen_42 : decode cX0_seen 42 = .ok (.ior, 1) := dk_128 (dk_at dksX0_seen_1 18 rfl rfl)
theorem dX0_seen_43 : decode cX0_seen 43 = .ok (.istore_n 2, 1) := dk_61 (dk_at dksX0_seen_1 19 rfl rfl)
theorem dX0_seen_44 : decode cX0_seen 44 = .ok (.aload_n 0, 1) := dk_42 (dk_at dksX0_seen_1 20 rfl rfl)
theorem dX0_seen_45 : decode cX0_seen 45 = .ok (.iload_n 1, 1) := dk_27 (dk_at dksX0_seen_1 21 rfl rfl)
theorem dX0_seen_46 : decode cX0_seen 46 = .ok (.iload 4, 2) := dk_21 4 (dk_at dksX0_seen_1 22 rfl rfl)
theorem dX0_seen_48 : decode cX0_seen 48 = .ok (.iconst 1, 1) := dk_4 (dk_at dksX0_seen_2 0 rfl rfl)
theorem dX0_seen_49 : decode cX0_seen 49 = .ok (.invokevirtual 318, 3) := dk_182 1 62 (dk_at dksX0_seen_2 1 rfl rfl)
theorem dX0_seen_52 : decode cX0_seen 52 = .ok (.iload_n 3, 1) := dk_29 (dk_at dksX0_seen_2 4 rfl rfl)
theorem dX0_seen_53 : decode cX0_seen 53 = .ok (.if_icmp .eq 12, 3) := dk_159 0 12 (dk_at dksX0_seen_2 5 rfl rfl)
theorem dX0_seen_56 : decode cX0_seen 56 = .ok (.iload_n 2, 1) := dk_28 (dk_at dksX0_seen_2 8 rfl rfl)
theorem dX0_seen_57 : decode cX0_seen 57 = .ok (.iconst 2, 1) := dk_5 (dk_at dksX0_seen_2 9 rfl rfl)
theorem dX0_seen_58 : decode cX0_seen 58 = .ok (.iconst 2, 1) := dk_5 (dk_at dksX0_seen_2 10 rfl rfl)
theorem dX0_seen_59 : decode cX0_seen 59 = .ok (.iload 4, 2) := dk_21 4 (dk_at dksX0_seen_2 11 rfl rfl)
theorem dX0_seen_61 : decode cX0_seen 61 = .ok (.imul, 1) := dk_104 (dk_at dksX0_seen_2 13 rfl rfl)
theorem dX0_seen_62 : decode cX0_seen 62 = .ok (.ishl, 1) := dk_120 (dk_at dksX0_seen_2 14 rfl rfl)
theorem dX0_seen_63 : decode cX0_seen 63 = .ok (.ior, 1) := dk_128 (dk_at dksX0_seen_2 15 rfl rfl)
theorem dX0_seen_64 : decode cX0_seen 64 = .ok (.istore_n 2, 1) := dk_61 (dk_at dksX0_seen_2 16 rfl rfl)
theorem dX0_seen_65 : decode cX0_seen 65 = .ok (.iinc 4 1, 3) := dk_132 4 1 (dk_at dksX0_seen_2 17 rfl rfl)
theorem dX0_seen_68 : decode cX0_seen 68 = .ok (.goto (-54), 3) := dk_167 255 202 (dk_at dksX0_seen_2 20 rfl rfl)
theorem dX0_seen_71 : decode cX0_seen 71 = .ok (.iload_n 2, 1) := dk_28 (dk_at dksX0_seen_2 23 rfl rfl)
theorem dX0_seen_72 : decode cX0_seen 72 = .ok (.ireturn, 1) := dk_172 (dk_at dksX0_seen_3 0 rfl rfl)
abbrev cX0_terms : ByteArray := prog_1_method_36_code
def yX0_terms : MethodName := ⟨RX0, "terms", "(I)I"⟩
def dkwX0_terms_3 : List UInt8 := [29, 120, 128, 61, 132, 3, 1, 167, 255, 193, 28, 172]
abbrev dktX0_terms_3 : List UInt8 := dkwX0_terms_3 ++ []
def dkwX0_terms_2 : List UInt8 := [180, 0, 41, 21, 5, 182, 1, 15, 27, 122, 4, 126, 130, 54, 4, 132, 5, 1, 167, 255, 220, 28, 21, 4]
abbrev dktX0_terms_2 : List UInt8 := dkwX0_terms_2 ++ dktX0_terms_3
def dkwX0_terms_1 : List UInt8 := [54, 4, 3, 54, 5, 21, 5, 29, 163, 0, 36, 21, 5, 29, 2, 130, 126, 154, 0, 21, 21, 4, 42]
abbrev dktX0_terms_1 : List UInt8 := dkwX0_terms_1 ++ dktX0_terms_2
def dkwX0_terms_0 : List UInt8 := [42, 27, 182, 0, 175, 154, 0, 5, 2, 172, 3, 61, 3, 62, 29, 42, 182, 0, 151, 162, 0, 61, 3]
abbrev dktX0_terms_0 : List UInt8 := dkwX0_terms_0 ++ dktX0_terms_1
theorem dksX0_terms_0 : cX0_terms.data.toList.drop 0 = dktX0_terms_0 := by decide +kernel
theorem dksX0_terms_1 : cX0_terms.data.toList.drop 23 = dktX0_terms_1 := dk_seg dksX0_terms_0 23 rfl rfl
theorem dksX0_terms_2 : cX0_terms.data.toList.drop 46 = dktX0_terms_2 := dk_seg dksX0_terms_1 23 rfl rfl
theorem dksX0_terms_3 : cX0_terms.data.toList.drop 70 = dktX0_terms_3 := dk_seg dksX0_terms_2 24 rfl rfl
theorem dX0_terms_0 : decode cX0_terms 0 = .ok (.aload_n 0, 1) := dk_42 (dk_at dksX0_terms_0 0 rfl rfl)
theorem dX0_terms_1 : decode cX0_terms 1 = .ok (.iload_n 1, 1) := dk_27 (dk_at dksX0_terms_0 1 rfl rfl)
theorem dX0_terms_2 : decode cX0_terms 2 = .ok (.invokevirtual 175, 3) := dk_182 0 175 (dk_at dksX0_terms_0 2 rfl rfl)
theorem dX0_terms_5 : decode cX0_terms 5 = .ok (.ifCond .ne 5, 3) := dk_154 0 5 (dk_at dksX0_terms_0 5 rfl rfl)
theorem dX0_terms_8 : decode cX0_terms 8 = .ok (.iconst (-1), 1) := dk_2 (dk_at dksX0_terms_0 8 rfl rfl)
theorem dX0_terms_9 : decode cX0_terms 9 = .ok (.ireturn, 1) := dk_172 (dk_at dksX0_terms_0 9 rfl rfl)
theorem dX0_terms_10 : decode cX0_terms 10 = .ok (.iconst 0, 1) := dk_3 (dk_at dksX0_terms_0 10 rfl rfl)
theorem dX0_terms_11 : decode cX0_terms 11 = .ok (.istore_n 2, 1) := dk_61 (dk_at dksX0_terms_0 11 rfl rfl)
theorem dX0_terms_12 : decode cX0_terms 12 = .ok (.iconst 0, 1) := dk_3 (dk_at dksX0_terms_0 12 rfl rfl)
theorem dX0_terms_13 : decode cX0_terms 13 = .ok (.istore_n 3, 1) := dk_62 (dk_at dksX0_terms_0 13 rfl rfl)
theorem dX0_terms_14 : decode cX0_terms 14 = .ok (.iload_n 3, 1) := dk_29 (dk_at dksX0_terms_0 14 rfl rfl)
theorem dX0_terms_15 : decode cX0_terms 15 = .ok (.aload_n 0, 1) := dk_42 (dk_at dksX0_terms_0 15 rfl rfl)
theorem dX0_terms_16 : decode cX0_terms 16 = .ok (.invokevirtual 151, 3) := dk_182 0 151 (dk_at dksX0_terms_0 16 rfl rfl)
theorem dX0_terms_19 : decode cX0_terms 19 = .ok (.if_icmp .ge 61, 3) := dk_162 0 61 (dk_at dksX0_terms_0 19 rfl rfl)
theorem dX0_terms_22 : decode cX0_terms 22 = .ok (.iconst 0, 1) := dk_3 (dk_at dksX0_terms_0 22 rfl rfl)
theorem dX0_terms_23 : decode cX0_terms 23 = .ok (.istore 4, 2) := dk_54 4 (dk_at dksX0_terms_1 0 rfl rfl)
theorem dX0_terms_25 : decode cX0_terms 25 = .ok (.iconst 0, 1) := dk_3 (dk_at dksX0_terms_1 2 rfl rfl)
theorem dX0_terms_26 : decode cX0_terms 26 = .ok (.istore 5, 2) := dk_54 5 (dk_at dksX0_terms_1 3 rfl rfl)
theorem dX0_terms_28 : decode cX0_terms 28 = .ok (.iload 5, 2) := dk_21 5 (dk_at dksX0_terms_1 5 rfl rfl)
theorem dX0_terms_30 : decode cX0_terms 30 = .ok (.iload_n 3, 1) := dk_29 (dk_at dksX0_terms_1 7 rfl rfl)
theorem dX0_terms_31 : decode cX0_terms 31 = .ok (.if_icmp .gt 36, 3) := dk_163 0 36 (dk_at dksX0_terms_1 8 rfl rfl)
theorem dX0_terms_34 : decode cX0_terms 34 = .ok (.iload 5, 2) := dk_21 5 (dk_at dksX0_terms_1 11 rfl rfl)
theorem dX0_terms_36 : decode cX0_terms 36 = .ok (.iload_n 3, 1) := dk_29 (dk_at dksX0_terms_1 13 rfl rfl)
theorem dX0_terms_37 : decode cX0_terms 37 = .ok (.iconst (-1), 1) := dk_2 (dk_at dksX0_terms_1 14 rfl rfl)
theorem dX0_terms_38 : decode cX0_terms 38 = .ok (.ixor, 1) := dk_130 (dk_at dksX0_terms_1 15 rfl rfl)
theorem dX0_terms_39 : decode cX0_terms 39 = .ok (.iand, 1) := dk_126 (dk_at dksX0_terms_1 16 rfl rfl)
theorem dX0_terms_40 : decode cX0_terms 40 = .ok (.ifCond .ne 21, 3) := dk_154 0 21 (dk_at dksX0_terms_1 17 rfl rfl)
theorem dX0_terms_43 : decode cX0_terms 43 = .ok (.iload 4, 2) := dk_21 4 (dk_at dksX0_terms_1 20 rfl rfl)
theorem dX0_terms_45 : decode cX0_terms 45 = .ok (.aload_n 0, 1) := dk_42 (dk_at dksX0_terms_1 22 rfl rfl)
theorem dX0_terms_46 : decode cX0_terms 46 = .ok (.getfield 41, 3) := dk_180 0 41 (dk_at dksX0_terms_2 0 rfl rfl)
theorem dX0_terms_49 : decode cX0_terms 49 = .ok (.iload 5, 2) := dk_21 5 (dk_at dksX0_terms_2 3 rfl rfl)
theorem dX0_terms_51 : decode cX0_terms 51 = .ok (.invokevirtual 271, 3) := dk_182 1 15 (dk_at dksX0_terms_2 5 rfl rfl)
theorem dX0_terms_54 : decode cX0_terms 54 = .ok (.iload_n 1, 1) := dk_27 (dk_at dksX0_terms_2 8 rfl rfl)
theorem dX0_terms_55 : decode cX0_terms 55 = .ok (.ishr, 1) := dk_122 (dk_at dksX0_terms_2 9 rfl rfl)
theorem dX0_terms_56 : decode cX0_terms 56 = .ok (.iconst 1, 1) := dk_4 (dk_at dksX0_terms_2 10 rfl rfl)
theorem dX0_terms_57 : decode cX0_terms 57 = .ok (.iand, 1) := dk_126 (dk_at dksX0_terms_2 11 rfl rfl)
theorem dX0_terms_58 : decode cX0_terms 58 = .ok (.ixor, 1) := dk_130 (dk_at dksX0_terms_2 12 rfl rfl)
theorem dX0_terms_59 : decode cX0_terms 59 = .ok (.istore 4, 2) := dk_54 4 (dk_at dksX0_terms_2 13 rfl rfl)
theorem dX0_terms_61 : decode cX0_terms 61 = .ok (.iinc 5 1, 3) := dk_132 5 1 (dk_at dksX0_terms_2 15 rfl rfl)
theorem dX0_terms_64 : decode cX0_terms 64 = .ok (.goto (-36), 3) := dk_167 255 220 (dk_at dksX0_terms_2 18 rfl rfl)
theorem dX0_terms_67 : decode cX0_terms 67 = .ok (.iload_n 2, 1) := dk_28 (dk_at dksX0_terms_2 21 rfl rfl)
theorem dX0_terms_68 : decode cX0_terms 68 = .ok (.iload 4, 2) := dk_21 4 (dk_at dksX0_terms_2 22 rfl rfl)
theorem dX0_terms_70 : decode cX0_terms 70 = .ok (.iload_n 3, 1) := dk_29 (dk_at dksX0_terms_3 0 rfl rfl)
theorem dX0_terms_71 : decode cX0_terms 71 = .ok (.ishl, 1) := dk_120 (dk_at dksX0_terms_3 1 rfl rfl)
theorem dX0_terms_72 : decode cX0_terms 72 = .ok (.ior, 1) := dk_128 (dk_at dksX0_terms_3 2 rfl rfl)
theorem dX0_terms_73 : decode cX0_terms 73 = .ok (.istore_n 2, 1) := dk_61 (dk_at dksX0_terms_3 3 rfl rfl)
theorem dX0_terms_74 : decode cX0_terms 74 = .ok (.iinc 3 1, 3) := dk_132 3 1 (dk_at dksX0_terms_3 4 rfl rfl)
theorem dX0_terms_77 : decode cX0_terms 77 = .ok (.goto (-63), 3) := dk_167 255 193 (dk_at dksX0_terms_3 7 rfl rfl)
theorem dX0_terms_80 : decode cX0_terms 80 = .ok (.iload_n 2, 1) := dk_28 (dk_at dksX0_terms_3 10 rfl rfl)
theorem dX0_terms_81 : decode cX0_terms 81 = .ok (.ireturn, 1) := dk_172 (dk_at dksX0_terms_3 11 rfl rfl)
abbrev cX0_idle : ByteArray := prog_1_method_39_code
def yX0_idle : MethodName := ⟨RX0, "idle", "(I)I"⟩
def dkwX0_idle_3 : List UInt8 := [167, 255, 213, 132, 2, 1, 167, 255, 194, 16, 254, 172]
abbrev dktX0_idle_3 : List UInt8 := dkwX0_idle_3 ++ []
def dkwX0_idle_2 : List UInt8 := [182, 1, 83, 153, 0, 17, 27, 154, 0, 7, 29, 167, 0, 8, 29, 28, 96, 4, 100, 172, 132, 3, 1]
abbrev dktX0_idle_2 : List UInt8 := dkwX0_idle_2 ++ dktX0_idle_3
def dkwX0_idle_1 : List UInt8 := [3, 62, 29, 28, 96, 42, 180, 0, 41, 182, 0, 174, 163, 0, 36, 42, 29, 29, 28, 96, 4, 100]
abbrev dktX0_idle_1 : List UInt8 := dkwX0_idle_1 ++ dktX0_idle_2
def dkwX0_idle_0 : List UInt8 := [27, 3, 4, 184, 0, 155, 154, 0, 5, 2, 172, 4, 61, 28, 42, 180, 0, 41, 182, 0, 174, 163, 0, 57]
abbrev dktX0_idle_0 : List UInt8 := dkwX0_idle_0 ++ dktX0_idle_1
theorem dksX0_idle_0 : cX0_idle.data.toList.drop 0 = dktX0_idle_0 := by decide +kernel
theorem dksX0_idle_1 : cX0_idle.data.toList.drop 24 = dktX0_idle_1 := dk_seg dksX0_idle_0 24 rfl rfl
theorem dksX0_idle_2 : cX0_idle.data.toList.drop 46 = dktX0_idle_2 := dk_seg dksX0_idle_1 22 rfl rfl
theorem dksX0_idle_3 : cX0_idle.data.toList.drop 69 = dktX0_idle_3 := dk_seg dksX0_idle_2 23 rfl rfl
theorem dX0_idle_0 : decode cX0_idle 0 = .ok (.iload_n 1, 1) := dk_27 (dk_at dksX0_idle_0 0 rfl rfl)
theorem dX0_idle_1 : decode cX0_idle 1 = .ok (.iconst 0, 1) := dk_3 (dk_at dksX0_idle_0 1 rfl rfl)
theorem dX0_idle_2 : decode cX0_idle 2 = .ok (.iconst 1, 1) := dk_4 (dk_at dksX0_idle_0 2 rfl rfl)
theorem dX0_idle_3 : decode cX0_idle 3 = .ok (.invokestatic 155, 3) := dk_184 0 155 (dk_at dksX0_idle_0 3 rfl rfl)
theorem dX0_idle_6 : decode cX0_idle 6 = .ok (.ifCond .ne 5, 3) := dk_154 0 5 (dk_at dksX0_idle_0 6 rfl rfl)
theorem dX0_idle_9 : decode cX0_idle 9 = .ok (.iconst (-1), 1) := dk_2 (dk_at dksX0_idle_0 9 rfl rfl)
theorem dX0_idle_10 : decode cX0_idle 10 = .ok (.ireturn, 1) := dk_172 (dk_at dksX0_idle_0 10 rfl rfl)
theorem dX0_idle_11 : decode cX0_idle 11 = .ok (.iconst 1, 1) := dk_4 (dk_at dksX0_idle_0 11 rfl rfl)
theorem dX0_idle_12 : decode cX0_idle 12 = .ok (.istore_n 2, 1) := dk_61 (dk_at dksX0_idle_0 12 rfl rfl)
theorem dX0_idle_13 : decode cX0_idle 13 = .ok (.iload_n 2, 1) := dk_28 (dk_at dksX0_idle_0 13 rfl rfl)
theorem dX0_idle_14 : decode cX0_idle 14 = .ok (.aload_n 0, 1) := dk_42 (dk_at dksX0_idle_0 14 rfl rfl)
theorem dX0_idle_15 : decode cX0_idle 15 = .ok (.getfield 41, 3) := dk_180 0 41 (dk_at dksX0_idle_0 15 rfl rfl)
theorem dX0_idle_18 : decode cX0_idle 18 = .ok (.invokevirtual 174, 3) := dk_182 0 174 (dk_at dksX0_idle_0 18 rfl rfl)
theorem dX0_idle_21 : decode cX0_idle 21 = .ok (.if_icmp .gt 57, 3) := dk_163 0 57 (dk_at dksX0_idle_0 21 rfl rfl)
theorem dX0_idle_24 : decode cX0_idle 24 = .ok (.iconst 0, 1) := dk_3 (dk_at dksX0_idle_1 0 rfl rfl)
theorem dX0_idle_25 : decode cX0_idle 25 = .ok (.istore_n 3, 1) := dk_62 (dk_at dksX0_idle_1 1 rfl rfl)
theorem dX0_idle_26 : decode cX0_idle 26 = .ok (.iload_n 3, 1) := dk_29 (dk_at dksX0_idle_1 2 rfl rfl)
theorem dX0_idle_27 : decode cX0_idle 27 = .ok (.iload_n 2, 1) := dk_28 (dk_at dksX0_idle_1 3 rfl rfl)
theorem dX0_idle_28 : decode cX0_idle 28 = .ok (.iadd, 1) := dk_96 (dk_at dksX0_idle_1 4 rfl rfl)
theorem dX0_idle_29 : decode cX0_idle 29 = .ok (.aload_n 0, 1) := dk_42 (dk_at dksX0_idle_1 5 rfl rfl)
theorem dX0_idle_30 : decode cX0_idle 30 = .ok (.getfield 41, 3) := dk_180 0 41 (dk_at dksX0_idle_1 6 rfl rfl)
theorem dX0_idle_33 : decode cX0_idle 33 = .ok (.invokevirtual 174, 3) := dk_182 0 174 (dk_at dksX0_idle_1 9 rfl rfl)
theorem dX0_idle_36 : decode cX0_idle 36 = .ok (.if_icmp .gt 36, 3) := dk_163 0 36 (dk_at dksX0_idle_1 12 rfl rfl)
theorem dX0_idle_39 : decode cX0_idle 39 = .ok (.aload_n 0, 1) := dk_42 (dk_at dksX0_idle_1 15 rfl rfl)
theorem dX0_idle_40 : decode cX0_idle 40 = .ok (.iload_n 3, 1) := dk_29 (dk_at dksX0_idle_1 16 rfl rfl)
theorem dX0_idle_41 : decode cX0_idle 41 = .ok (.iload_n 3, 1) := dk_29 (dk_at dksX0_idle_1 17 rfl rfl)
theorem dX0_idle_42 : decode cX0_idle 42 = .ok (.iload_n 2, 1) := dk_28 (dk_at dksX0_idle_1 18 rfl rfl)
theorem dX0_idle_43 : decode cX0_idle 43 = .ok (.iadd, 1) := dk_96 (dk_at dksX0_idle_1 19 rfl rfl)
theorem dX0_idle_44 : decode cX0_idle 44 = .ok (.iconst 1, 1) := dk_4 (dk_at dksX0_idle_1 20 rfl rfl)
theorem dX0_idle_45 : decode cX0_idle 45 = .ok (.isub, 1) := dk_100 (dk_at dksX0_idle_1 21 rfl rfl)
theorem dX0_idle_46 : decode cX0_idle 46 = .ok (.invokevirtual 339, 3) := dk_182 1 83 (dk_at dksX0_idle_2 0 rfl rfl)
theorem dX0_idle_49 : decode cX0_idle 49 = .ok (.ifCond .eq 17, 3) := dk_153 0 17 (dk_at dksX0_idle_2 3 rfl rfl)
theorem dX0_idle_52 : decode cX0_idle 52 = .ok (.iload_n 1, 1) := dk_27 (dk_at dksX0_idle_2 6 rfl rfl)
theorem dX0_idle_53 : decode cX0_idle 53 = .ok (.ifCond .ne 7, 3) := dk_154 0 7 (dk_at dksX0_idle_2 7 rfl rfl)
theorem dX0_idle_56 : decode cX0_idle 56 = .ok (.iload_n 3, 1) := dk_29 (dk_at dksX0_idle_2 10 rfl rfl)
theorem dX0_idle_57 : decode cX0_idle 57 = .ok (.goto 8, 3) := dk_167 0 8 (dk_at dksX0_idle_2 11 rfl rfl)
theorem dX0_idle_60 : decode cX0_idle 60 = .ok (.iload_n 3, 1) := dk_29 (dk_at dksX0_idle_2 14 rfl rfl)
theorem dX0_idle_61 : decode cX0_idle 61 = .ok (.iload_n 2, 1) := dk_28 (dk_at dksX0_idle_2 15 rfl rfl)
theorem dX0_idle_62 : decode cX0_idle 62 = .ok (.iadd, 1) := dk_96 (dk_at dksX0_idle_2 16 rfl rfl)
theorem dX0_idle_63 : decode cX0_idle 63 = .ok (.iconst 1, 1) := dk_4 (dk_at dksX0_idle_2 17 rfl rfl)
theorem dX0_idle_64 : decode cX0_idle 64 = .ok (.isub, 1) := dk_100 (dk_at dksX0_idle_2 18 rfl rfl)
theorem dX0_idle_65 : decode cX0_idle 65 = .ok (.ireturn, 1) := dk_172 (dk_at dksX0_idle_2 19 rfl rfl)
theorem dX0_idle_66 : decode cX0_idle 66 = .ok (.iinc 3 1, 3) := dk_132 3 1 (dk_at dksX0_idle_2 20 rfl rfl)
theorem dX0_idle_69 : decode cX0_idle 69 = .ok (.goto (-43), 3) := dk_167 255 213 (dk_at dksX0_idle_3 0 rfl rfl)
theorem dX0_idle_72 : decode cX0_idle 72 = .ok (.iinc 2 1, 3) := dk_132 2 1 (dk_at dksX0_idle_3 3 rfl rfl)
theorem dX0_idle_75 : decode cX0_idle 75 = .ok (.goto (-62), 3) := dk_167 255 194 (dk_at dksX0_idle_3 6 rfl rfl)
theorem dX0_idle_78 : decode cX0_idle 78 = .ok (.bipush (-2), 2) := dk_16 254 (dk_at dksX0_idle_3 9 rfl rfl)
theorem dX0_idle_80 : decode cX0_idle 80 = .ok (.ireturn, 1) := dk_172 (dk_at dksX0_idle_3 11 rfl rfl)
abbrev cX0_isIdle : ByteArray := prog_1_method_38_code
def yX0_isIdle : MethodName := ⟨RX0, "isIdle", "(II)Z"⟩
def dkwX0_isIdle_2 : List UInt8 := [159, 0, 5, 3, 172, 132, 3, 1, 167, 255, 203, 4, 172]
abbrev dktX0_isIdle_2 : List UInt8 := dkwX0_isIdle_2 ++ []
def dkwX0_isIdle_1 : List UInt8 := [180, 0, 41, 21, 5, 182, 0, 247, 21, 4, 182, 1, 61, 54, 4, 132, 5, 1, 167, 255, 231, 21, 4, 29]
abbrev dktX0_isIdle_1 : List UInt8 := dkwX0_isIdle_1 ++ dktX0_isIdle_2
def dkwX0_isIdle_0 : List UInt8 := [3, 62, 29, 42, 182, 0, 151, 162, 0, 51, 29, 54, 4, 27, 54, 5, 21, 5, 28, 163, 0, 25, 42]
abbrev dktX0_isIdle_0 : List UInt8 := dkwX0_isIdle_0 ++ dktX0_isIdle_1
theorem dksX0_isIdle_0 : cX0_isIdle.data.toList.drop 0 = dktX0_isIdle_0 := by decide +kernel
theorem dksX0_isIdle_1 : cX0_isIdle.data.toList.drop 23 = dktX0_isIdle_1 := dk_seg dksX0_isIdle_0 23 rfl rfl
theorem dksX0_isIdle_2 : cX0_isIdle.data.toList.drop 47 = dktX0_isIdle_2 := dk_seg dksX0_isIdle_1 24 rfl rfl
theorem dX0_isIdle_0 : decode cX0_isIdle 0 = .ok (.iconst 0, 1) := dk_3 (dk_at dksX0_isIdle_0 0 rfl rfl)
theorem dX0_isIdle_1 : decode cX0_isIdle 1 = .ok (.istore_n 3, 1) := dk_62 (dk_at dksX0_isIdle_0 1 rfl rfl)
theorem dX0_isIdle_2 : decode cX0_isIdle 2 = .ok (.iload_n 3, 1) := dk_29 (dk_at dksX0_isIdle_0 2 rfl rfl)
theorem dX0_isIdle_3 : decode cX0_isIdle 3 = .ok (.aload_n 0, 1) := dk_42 (dk_at dksX0_isIdle_0 3 rfl rfl)
theorem dX0_isIdle_4 : decode cX0_isIdle 4 = .ok (.invokevirtual 151, 3) := dk_182 0 151 (dk_at dksX0_isIdle_0 4 rfl rfl)
theorem dX0_isIdle_7 : decode cX0_isIdle 7 = .ok (.if_icmp .ge 51, 3) := dk_162 0 51 (dk_at dksX0_isIdle_0 7 rfl rfl)
theorem dX0_isIdle_10 : decode cX0_isIdle 10 = .ok (.iload_n 3, 1) := dk_29 (dk_at dksX0_isIdle_0 10 rfl rfl)
theorem dX0_isIdle_11 : decode cX0_isIdle 11 = .ok (.istore 4, 2) := dk_54 4 (dk_at dksX0_isIdle_0 11 rfl rfl)
theorem dX0_isIdle_13 : decode cX0_isIdle 13 = .ok (.iload_n 1, 1) := dk_27 (dk_at dksX0_isIdle_0 13 rfl rfl)
theorem dX0_isIdle_14 : decode cX0_isIdle 14 = .ok (.istore 5, 2) := dk_54 5 (dk_at dksX0_isIdle_0 14 rfl rfl)
theorem dX0_isIdle_16 : decode cX0_isIdle 16 = .ok (.iload 5, 2) := dk_21 5 (dk_at dksX0_isIdle_0 16 rfl rfl)
theorem dX0_isIdle_18 : decode cX0_isIdle 18 = .ok (.iload_n 2, 1) := dk_28 (dk_at dksX0_isIdle_0 18 rfl rfl)
theorem dX0_isIdle_19 : decode cX0_isIdle 19 = .ok (.if_icmp .gt 25, 3) := dk_163 0 25 (dk_at dksX0_isIdle_0 19 rfl rfl)
theorem dX0_isIdle_22 : decode cX0_isIdle 22 = .ok (.aload_n 0, 1) := dk_42 (dk_at dksX0_isIdle_0 22 rfl rfl)
theorem dX0_isIdle_23 : decode cX0_isIdle 23 = .ok (.getfield 41, 3) := dk_180 0 41 (dk_at dksX0_isIdle_1 0 rfl rfl)
theorem dX0_isIdle_26 : decode cX0_isIdle 26 = .ok (.iload 5, 2) := dk_21 5 (dk_at dksX0_isIdle_1 3 rfl rfl)
theorem dX0_isIdle_28 : decode cX0_isIdle 28 = .ok (.invokevirtual 247, 3) := dk_182 0 247 (dk_at dksX0_isIdle_1 5 rfl rfl)
theorem dX0_isIdle_31 : decode cX0_isIdle 31 = .ok (.iload 4, 2) := dk_21 4 (dk_at dksX0_isIdle_1 8 rfl rfl)
theorem dX0_isIdle_33 : decode cX0_isIdle 33 = .ok (.invokevirtual 317, 3) := dk_182 1 61 (dk_at dksX0_isIdle_1 10 rfl rfl)
theorem dX0_isIdle_36 : decode cX0_isIdle 36 = .ok (.istore 4, 2) := dk_54 4 (dk_at dksX0_isIdle_1 13 rfl rfl)
theorem dX0_isIdle_38 : decode cX0_isIdle 38 = .ok (.iinc 5 1, 3) := dk_132 5 1 (dk_at dksX0_isIdle_1 15 rfl rfl)
theorem dX0_isIdle_41 : decode cX0_isIdle 41 = .ok (.goto (-25), 3) := dk_167 255 231 (dk_at dksX0_isIdle_1 18 rfl rfl)
theorem dX0_isIdle_44 : decode cX0_isIdle 44 = .ok (.iload 4, 2) := dk_21 4 (dk_at dksX0_isIdle_1 21 rfl rfl)
theorem dX0_isIdle_46 : decode cX0_isIdle 46 = .ok (.iload_n 3, 1) := dk_29 (dk_at dksX0_isIdle_1 23 rfl rfl)
theorem dX0_isIdle_47 : decode cX0_isIdle 47 = .ok (.if_icmp .eq 5, 3) := dk_159 0 5 (dk_at dksX0_isIdle_2 0 rfl rfl)
theorem dX0_isIdle_50 : decode cX0_isIdle 50 = .ok (.iconst 0, 1) := dk_3 (dk_at dksX0_isIdle_2 3 rfl rfl)
theorem dX0_isIdle_51 : decode cX0_isIdle 51 = .ok (.ireturn, 1) := dk_172 (dk_at dksX0_isIdle_2 4 rfl rfl)
theorem dX0_isIdle_52 : decode cX0_isIdle 52 = .ok (.iinc 3 1, 3) := dk_132 3 1 (dk_at dksX0_isIdle_2 5 rfl rfl)
theorem dX0_isIdle_55 : decode cX0_isIdle 55 = .ok (.goto (-53), 3) := dk_167 255 203 (dk_at dksX0_isIdle_2 8 rfl rfl)
theorem dX0_isIdle_58 : decode cX0_isIdle 58 = .ok (.iconst 1, 1) := dk_4 (dk_at dksX0_isIdle_2 11 rfl rfl)
theorem dX0_isIdle_59 : decode cX0_isIdle 59 = .ok (.ireturn, 1) := dk_172 (dk_at dksX0_isIdle_2 12 rfl rfl)
abbrev cX0_table : ByteArray := prog_1_method_40_code
def yX0_table : MethodName := ⟨RX0, "table", "(I)I"⟩
def dkwX0_table_6 : List UInt8 := [182, 1, 33, 42, 180, 0, 58, 182, 0, 222, 172, 2, 172]
abbrev dktX0_table_6 : List UInt8 := dkwX0_table_6 ++ []
def dkwX0_table_5 : List UInt8 := [180, 0, 91, 4, 42, 180, 0, 51, 182, 1, 101, 120, 27, 16, 7, 160, 0, 7, 4, 167, 0, 4, 3]
abbrev dktX0_table_5 : List UInt8 := dkwX0_table_5 ++ dktX0_table_6
def dkwX0_table_4 : List UInt8 := [180, 0, 51, 180, 1, 89, 100, 172, 42, 180, 0, 51, 42, 180, 0, 91, 182, 1, 104, 42, 180, 0, 58, 42]
abbrev dktX0_table_4 : List UInt8 := dkwX0_table_4 ++ dktX0_table_5
def dkwX0_table_3 : List UInt8 := [42, 180, 0, 51, 182, 1, 98, 172, 42, 180, 0, 51, 182, 1, 101, 172, 42, 180, 0, 51, 182, 1, 101, 42]
abbrev dktX0_table_3 : List UInt8 := dkwX0_table_3 ++ dktX0_table_4
def dkwX0_table_2 : List UInt8 := [42, 180, 0, 51, 180, 1, 89, 172, 42, 180, 0, 51, 180, 1, 92, 172, 42, 180, 0, 51, 182, 1, 95, 172]
abbrev dktX0_table_2 : List UInt8 := dkwX0_table_2 ++ dktX0_table_3
def dkwX0_table_1 : List UInt8 := [170, 0, 0, 0, 0, 0, 153, 0, 0, 0, 0, 0, 0, 0, 7, 0, 0, 0, 47, 0, 0, 0, 55, 0, 0, 0, 63, 0, 0, 0, 71, 0, 0, 0, 79, 0, 0, 0, 87, 0, 0, 0, 103, 0, 0, 0, 103]
abbrev dktX0_table_1 : List UInt8 := dkwX0_table_1 ++ dktX0_table_2
def dkwX0_table_0 : List UInt8 := [42, 180, 0, 51, 182, 1, 86, 154, 0, 5, 2, 172, 27]
abbrev dktX0_table_0 : List UInt8 := dkwX0_table_0 ++ dktX0_table_1
theorem dksX0_table_0 : cX0_table.data.toList.drop 0 = dktX0_table_0 := by decide +kernel
theorem dksX0_table_1 : cX0_table.data.toList.drop 13 = dktX0_table_1 := dk_seg dksX0_table_0 13 rfl rfl
theorem dksX0_table_2 : cX0_table.data.toList.drop 60 = dktX0_table_2 := dk_seg dksX0_table_1 47 rfl rfl
theorem dksX0_table_3 : cX0_table.data.toList.drop 84 = dktX0_table_3 := dk_seg dksX0_table_2 24 rfl rfl
theorem dksX0_table_4 : cX0_table.data.toList.drop 108 = dktX0_table_4 := dk_seg dksX0_table_3 24 rfl rfl
theorem dksX0_table_5 : cX0_table.data.toList.drop 132 = dktX0_table_5 := dk_seg dksX0_table_4 24 rfl rfl
theorem dksX0_table_6 : cX0_table.data.toList.drop 155 = dktX0_table_6 := dk_seg dksX0_table_5 23 rfl rfl
theorem dX0_table_0 : decode cX0_table 0 = .ok (.aload_n 0, 1) := dk_42 (dk_at dksX0_table_0 0 rfl rfl)
theorem dX0_table_1 : decode cX0_table 1 = .ok (.getfield 51, 3) := dk_180 0 51 (dk_at dksX0_table_0 1 rfl rfl)
theorem dX0_table_4 : decode cX0_table 4 = .ok (.invokevirtual 342, 3) := dk_182 1 86 (dk_at dksX0_table_0 4 rfl rfl)
theorem dX0_table_7 : decode cX0_table 7 = .ok (.ifCond .ne 5, 3) := dk_154 0 5 (dk_at dksX0_table_0 7 rfl rfl)
theorem dX0_table_10 : decode cX0_table 10 = .ok (.iconst (-1), 1) := dk_2 (dk_at dksX0_table_0 10 rfl rfl)
theorem dX0_table_11 : decode cX0_table 11 = .ok (.ireturn, 1) := dk_172 (dk_at dksX0_table_0 11 rfl rfl)
theorem dX0_table_12 : decode cX0_table 12 = .ok (.iload_n 1, 1) := dk_27 (dk_at dksX0_table_0 12 rfl rfl)
theorem dX0_table_13 : decode cX0_table 13 = .ok (.tableswitch 153 0 7 #[47, 55, 63, 71, 79, 87, 103, 103], 47) := by decide +kernel
theorem dX0_table_60 : decode cX0_table 60 = .ok (.aload_n 0, 1) := dk_42 (dk_at dksX0_table_2 0 rfl rfl)
theorem dX0_table_61 : decode cX0_table 61 = .ok (.getfield 51, 3) := dk_180 0 51 (dk_at dksX0_table_2 1 rfl rfl)
theorem dX0_table_64 : decode cX0_table 64 = .ok (.getfield 345, 3) := dk_180 1 89 (dk_at dksX0_table_2 4 rfl rfl)
theorem dX0_table_67 : decode cX0_table 67 = .ok (.ireturn, 1) := dk_172 (dk_at dksX0_table_2 7 rfl rfl)
theorem dX0_table_68 : decode cX0_table 68 = .ok (.aload_n 0, 1) := dk_42 (dk_at dksX0_table_2 8 rfl rfl)
theorem dX0_table_69 : decode cX0_table 69 = .ok (.getfield 51, 3) := dk_180 0 51 (dk_at dksX0_table_2 9 rfl rfl)
theorem dX0_table_72 : decode cX0_table 72 = .ok (.getfield 348, 3) := dk_180 1 92 (dk_at dksX0_table_2 12 rfl rfl)
theorem dX0_table_75 : decode cX0_table 75 = .ok (.ireturn, 1) := dk_172 (dk_at dksX0_table_2 15 rfl rfl)
theorem dX0_table_76 : decode cX0_table 76 = .ok (.aload_n 0, 1) := dk_42 (dk_at dksX0_table_2 16 rfl rfl)
theorem dX0_table_77 : decode cX0_table 77 = .ok (.getfield 51, 3) := dk_180 0 51 (dk_at dksX0_table_2 17 rfl rfl)
theorem dX0_table_80 : decode cX0_table 80 = .ok (.invokevirtual 351, 3) := dk_182 1 95 (dk_at dksX0_table_2 20 rfl rfl)
theorem dX0_table_83 : decode cX0_table 83 = .ok (.ireturn, 1) := dk_172 (dk_at dksX0_table_2 23 rfl rfl)
theorem dX0_table_84 : decode cX0_table 84 = .ok (.aload_n 0, 1) := dk_42 (dk_at dksX0_table_3 0 rfl rfl)
theorem dX0_table_85 : decode cX0_table 85 = .ok (.getfield 51, 3) := dk_180 0 51 (dk_at dksX0_table_3 1 rfl rfl)
theorem dX0_table_88 : decode cX0_table 88 = .ok (.invokevirtual 354, 3) := dk_182 1 98 (dk_at dksX0_table_3 4 rfl rfl)
theorem dX0_table_91 : decode cX0_table 91 = .ok (.ireturn, 1) := dk_172 (dk_at dksX0_table_3 7 rfl rfl)
theorem dX0_table_92 : decode cX0_table 92 = .ok (.aload_n 0, 1) := dk_42 (dk_at dksX0_table_3 8 rfl rfl)
theorem dX0_table_93 : decode cX0_table 93 = .ok (.getfield 51, 3) := dk_180 0 51 (dk_at dksX0_table_3 9 rfl rfl)
theorem dX0_table_96 : decode cX0_table 96 = .ok (.invokevirtual 357, 3) := dk_182 1 101 (dk_at dksX0_table_3 12 rfl rfl)
theorem dX0_table_99 : decode cX0_table 99 = .ok (.ireturn, 1) := dk_172 (dk_at dksX0_table_3 15 rfl rfl)
theorem dX0_table_100 : decode cX0_table 100 = .ok (.aload_n 0, 1) := dk_42 (dk_at dksX0_table_3 16 rfl rfl)
theorem dX0_table_101 : decode cX0_table 101 = .ok (.getfield 51, 3) := dk_180 0 51 (dk_at dksX0_table_3 17 rfl rfl)
theorem dX0_table_104 : decode cX0_table 104 = .ok (.invokevirtual 357, 3) := dk_182 1 101 (dk_at dksX0_table_3 20 rfl rfl)
theorem dX0_table_107 : decode cX0_table 107 = .ok (.aload_n 0, 1) := dk_42 (dk_at dksX0_table_3 23 rfl rfl)
theorem dX0_table_108 : decode cX0_table 108 = .ok (.getfield 51, 3) := dk_180 0 51 (dk_at dksX0_table_4 0 rfl rfl)
theorem dX0_table_111 : decode cX0_table 111 = .ok (.getfield 345, 3) := dk_180 1 89 (dk_at dksX0_table_4 3 rfl rfl)
theorem dX0_table_114 : decode cX0_table 114 = .ok (.isub, 1) := dk_100 (dk_at dksX0_table_4 6 rfl rfl)
theorem dX0_table_115 : decode cX0_table 115 = .ok (.ireturn, 1) := dk_172 (dk_at dksX0_table_4 7 rfl rfl)
theorem dX0_table_116 : decode cX0_table 116 = .ok (.aload_n 0, 1) := dk_42 (dk_at dksX0_table_4 8 rfl rfl)
theorem dX0_table_117 : decode cX0_table 117 = .ok (.getfield 51, 3) := dk_180 0 51 (dk_at dksX0_table_4 9 rfl rfl)
theorem dX0_table_120 : decode cX0_table 120 = .ok (.aload_n 0, 1) := dk_42 (dk_at dksX0_table_4 12 rfl rfl)
theorem dX0_table_121 : decode cX0_table 121 = .ok (.getfield 91, 3) := dk_180 0 91 (dk_at dksX0_table_4 13 rfl rfl)
theorem dX0_table_124 : decode cX0_table 124 = .ok (.invokevirtual 360, 3) := dk_182 1 104 (dk_at dksX0_table_4 16 rfl rfl)
theorem dX0_table_127 : decode cX0_table 127 = .ok (.aload_n 0, 1) := dk_42 (dk_at dksX0_table_4 19 rfl rfl)
theorem dX0_table_128 : decode cX0_table 128 = .ok (.getfield 58, 3) := dk_180 0 58 (dk_at dksX0_table_4 20 rfl rfl)
theorem dX0_table_131 : decode cX0_table 131 = .ok (.aload_n 0, 1) := dk_42 (dk_at dksX0_table_4 23 rfl rfl)
theorem dX0_table_132 : decode cX0_table 132 = .ok (.getfield 91, 3) := dk_180 0 91 (dk_at dksX0_table_5 0 rfl rfl)
theorem dX0_table_135 : decode cX0_table 135 = .ok (.iconst 1, 1) := dk_4 (dk_at dksX0_table_5 3 rfl rfl)
theorem dX0_table_136 : decode cX0_table 136 = .ok (.aload_n 0, 1) := dk_42 (dk_at dksX0_table_5 4 rfl rfl)
theorem dX0_table_137 : decode cX0_table 137 = .ok (.getfield 51, 3) := dk_180 0 51 (dk_at dksX0_table_5 5 rfl rfl)
theorem dX0_table_140 : decode cX0_table 140 = .ok (.invokevirtual 357, 3) := dk_182 1 101 (dk_at dksX0_table_5 8 rfl rfl)
theorem dX0_table_143 : decode cX0_table 143 = .ok (.ishl, 1) := dk_120 (dk_at dksX0_table_5 11 rfl rfl)
theorem dX0_table_144 : decode cX0_table 144 = .ok (.iload_n 1, 1) := dk_27 (dk_at dksX0_table_5 12 rfl rfl)
theorem dX0_table_145 : decode cX0_table 145 = .ok (.bipush 7, 2) := dk_16 7 (dk_at dksX0_table_5 13 rfl rfl)
theorem dX0_table_147 : decode cX0_table 147 = .ok (.if_icmp .ne 7, 3) := dk_160 0 7 (dk_at dksX0_table_5 15 rfl rfl)
theorem dX0_table_150 : decode cX0_table 150 = .ok (.iconst 1, 1) := dk_4 (dk_at dksX0_table_5 18 rfl rfl)
theorem dX0_table_151 : decode cX0_table 151 = .ok (.goto 4, 3) := dk_167 0 4 (dk_at dksX0_table_5 19 rfl rfl)
theorem dX0_table_154 : decode cX0_table 154 = .ok (.iconst 0, 1) := dk_3 (dk_at dksX0_table_5 22 rfl rfl)
theorem dX0_table_155 : decode cX0_table 155 = .ok (.invokevirtual 289, 3) := dk_182 1 33 (dk_at dksX0_table_6 0 rfl rfl)
theorem dX0_table_158 : decode cX0_table 158 = .ok (.aload_n 0, 1) := dk_42 (dk_at dksX0_table_6 3 rfl rfl)
theorem dX0_table_159 : decode cX0_table 159 = .ok (.getfield 58, 3) := dk_180 0 58 (dk_at dksX0_table_6 4 rfl rfl)
theorem dX0_table_162 : decode cX0_table 162 = .ok (.invokevirtual 222, 3) := dk_182 0 222 (dk_at dksX0_table_6 7 rfl rfl)
theorem dX0_table_165 : decode cX0_table 165 = .ok (.ireturn, 1) := dk_172 (dk_at dksX0_table_6 10 rfl rfl)
theorem dX0_table_166 : decode cX0_table 166 = .ok (.iconst (-1), 1) := dk_2 (dk_at dksX0_table_6 11 rfl rfl)
theorem dX0_table_167 : decode cX0_table 167 = .ok (.ireturn, 1) := dk_172 (dk_at dksX0_table_6 12 rfl rfl)
abbrev cX0_laid : ByteArray := prog_1_method_41_code
def yX0_laid : MethodName := ⟨RX0, "laid", "(I)I"⟩
def dkwX0_laid_2 : List UInt8 := [46, 172]
abbrev dktX0_laid_2 : List UInt8 := dkwX0_laid_2 ++ []
def dkwX0_laid_1 : List UInt8 := [184, 0, 155, 154, 0, 5, 2, 172, 42, 180, 0, 51, 42, 180, 0, 91, 182, 1, 104, 42, 180, 0, 91, 27]
abbrev dktX0_laid_1 : List UInt8 := dkwX0_laid_1 ++ dktX0_laid_2
def dkwX0_laid_0 : List UInt8 := [42, 180, 0, 51, 182, 1, 86, 153, 0, 22, 27, 3, 4, 42, 180, 0, 51, 182, 1, 101, 120, 4, 100]
abbrev dktX0_laid_0 : List UInt8 := dkwX0_laid_0 ++ dktX0_laid_1
theorem dksX0_laid_0 : cX0_laid.data.toList.drop 0 = dktX0_laid_0 := by decide +kernel
theorem dksX0_laid_1 : cX0_laid.data.toList.drop 23 = dktX0_laid_1 := dk_seg dksX0_laid_0 23 rfl rfl
theorem dksX0_laid_2 : cX0_laid.data.toList.drop 47 = dktX0_laid_2 := dk_seg dksX0_laid_1 24 rfl rfl
theorem dX0_laid_0 : decode cX0_laid 0 = .ok (.aload_n 0, 1) := dk_42 (dk_at dksX0_laid_0 0 rfl rfl)
theorem dX0_laid_1 : decode cX0_laid 1 = .ok (.getfield 51, 3) := dk_180 0 51 (dk_at dksX0_laid_0 1 rfl rfl)
theorem dX0_laid_4 : decode cX0_laid 4 = .ok (.invokevirtual 342, 3) := dk_182 1 86 (dk_at dksX0_laid_0 4 rfl rfl)
theorem dX0_laid_7 : decode cX0_laid 7 = .ok (.ifCond .eq 22, 3) := dk_153 0 22 (dk_at dksX0_laid_0 7 rfl rfl)
theorem dX0_laid_10 : decode cX0_laid 10 = .ok (.iload_n 1, 1) := dk_27 (dk_at dksX0_laid_0 10 rfl rfl)
theorem dX0_laid_11 : decode cX0_laid 11 = .ok (.iconst 0, 1) := dk_3 (dk_at dksX0_laid_0 11 rfl rfl)
theorem dX0_laid_12 : decode cX0_laid 12 = .ok (.iconst 1, 1) := dk_4 (dk_at dksX0_laid_0 12 rfl rfl)
theorem dX0_laid_13 : decode cX0_laid 13 = .ok (.aload_n 0, 1) := dk_42 (dk_at dksX0_laid_0 13 rfl rfl)
theorem dX0_laid_14 : decode cX0_laid 14 = .ok (.getfield 51, 3) := dk_180 0 51 (dk_at dksX0_laid_0 14 rfl rfl)
theorem dX0_laid_17 : decode cX0_laid 17 = .ok (.invokevirtual 357, 3) := dk_182 1 101 (dk_at dksX0_laid_0 17 rfl rfl)
theorem dX0_laid_20 : decode cX0_laid 20 = .ok (.ishl, 1) := dk_120 (dk_at dksX0_laid_0 20 rfl rfl)
theorem dX0_laid_21 : decode cX0_laid 21 = .ok (.iconst 1, 1) := dk_4 (dk_at dksX0_laid_0 21 rfl rfl)
theorem dX0_laid_22 : decode cX0_laid 22 = .ok (.isub, 1) := dk_100 (dk_at dksX0_laid_0 22 rfl rfl)
theorem dX0_laid_23 : decode cX0_laid 23 = .ok (.invokestatic 155, 3) := dk_184 0 155 (dk_at dksX0_laid_1 0 rfl rfl)
theorem dX0_laid_26 : decode cX0_laid 26 = .ok (.ifCond .ne 5, 3) := dk_154 0 5 (dk_at dksX0_laid_1 3 rfl rfl)
theorem dX0_laid_29 : decode cX0_laid 29 = .ok (.iconst (-1), 1) := dk_2 (dk_at dksX0_laid_1 6 rfl rfl)
theorem dX0_laid_30 : decode cX0_laid 30 = .ok (.ireturn, 1) := dk_172 (dk_at dksX0_laid_1 7 rfl rfl)
theorem dX0_laid_31 : decode cX0_laid 31 = .ok (.aload_n 0, 1) := dk_42 (dk_at dksX0_laid_1 8 rfl rfl)
theorem dX0_laid_32 : decode cX0_laid 32 = .ok (.getfield 51, 3) := dk_180 0 51 (dk_at dksX0_laid_1 9 rfl rfl)
theorem dX0_laid_35 : decode cX0_laid 35 = .ok (.aload_n 0, 1) := dk_42 (dk_at dksX0_laid_1 12 rfl rfl)
theorem dX0_laid_36 : decode cX0_laid 36 = .ok (.getfield 91, 3) := dk_180 0 91 (dk_at dksX0_laid_1 13 rfl rfl)
theorem dX0_laid_39 : decode cX0_laid 39 = .ok (.invokevirtual 360, 3) := dk_182 1 104 (dk_at dksX0_laid_1 16 rfl rfl)
theorem dX0_laid_42 : decode cX0_laid 42 = .ok (.aload_n 0, 1) := dk_42 (dk_at dksX0_laid_1 19 rfl rfl)
theorem dX0_laid_43 : decode cX0_laid 43 = .ok (.getfield 91, 3) := dk_180 0 91 (dk_at dksX0_laid_1 20 rfl rfl)
theorem dX0_laid_46 : decode cX0_laid 46 = .ok (.iload_n 1, 1) := dk_27 (dk_at dksX0_laid_1 23 rfl rfl)
theorem dX0_laid_47 : decode cX0_laid 47 = .ok (.iaload, 1) := dk_46 (dk_at dksX0_laid_2 0 rfl rfl)
theorem dX0_laid_48 : decode cX0_laid 48 = .ok (.ireturn, 1) := dk_172 (dk_at dksX0_laid_2 1 rfl rfl)
abbrev cX0_off : ByteArray := prog_1_method_43_code
def yX0_off : MethodName := ⟨RX0, "off", "(I)I"⟩
def dkwX0_off_3 : List UInt8 := [180, 0, 65, 42, 180, 0, 91, 182, 1, 43, 172]
abbrev dktX0_off_3 : List UInt8 := dkwX0_off_3 ++ []
def dkwX0_off_2 : List UInt8 := [28, 182, 1, 15, 79, 132, 2, 1, 167, 255, 222, 42, 180, 0, 65, 42, 180, 0, 131, 182, 1, 36, 42]
abbrev dktX0_off_2 : List UInt8 := dkwX0_off_2 ++ dktX0_off_3
def dkwX0_off_1 : List UInt8 := [182, 0, 151, 162, 0, 32, 42, 180, 0, 91, 42, 180, 0, 41, 28, 182, 1, 15, 42, 180, 0, 83, 27, 50]
abbrev dktX0_off_1 : List UInt8 := dkwX0_off_1 ++ dktX0_off_2
def dkwX0_off_0 : List UInt8 := [42, 27, 182, 1, 107, 153, 0, 11, 42, 180, 0, 131, 6, 164, 0, 5, 2, 172, 3, 61, 28, 42]
abbrev dktX0_off_0 : List UInt8 := dkwX0_off_0 ++ dktX0_off_1
theorem dksX0_off_0 : cX0_off.data.toList.drop 0 = dktX0_off_0 := by decide +kernel
theorem dksX0_off_1 : cX0_off.data.toList.drop 22 = dktX0_off_1 := dk_seg dksX0_off_0 22 rfl rfl
theorem dksX0_off_2 : cX0_off.data.toList.drop 46 = dktX0_off_2 := dk_seg dksX0_off_1 24 rfl rfl
theorem dksX0_off_3 : cX0_off.data.toList.drop 69 = dktX0_off_3 := dk_seg dksX0_off_2 23 rfl rfl
theorem dX0_off_0 : decode cX0_off 0 = .ok (.aload_n 0, 1) := dk_42 (dk_at dksX0_off_0 0 rfl rfl)
theorem dX0_off_1 : decode cX0_off 1 = .ok (.iload_n 1, 1) := dk_27 (dk_at dksX0_off_0 1 rfl rfl)
theorem dX0_off_2 : decode cX0_off 2 = .ok (.invokevirtual 363, 3) := dk_182 1 107 (dk_at dksX0_off_0 2 rfl rfl)
theorem dX0_off_5 : decode cX0_off 5 = .ok (.ifCond .eq 11, 3) := dk_153 0 11 (dk_at dksX0_off_0 5 rfl rfl)
theorem dX0_off_8 : decode cX0_off 8 = .ok (.aload_n 0, 1) := dk_42 (dk_at dksX0_off_0 8 rfl rfl)
theorem dX0_off_9 : decode cX0_off 9 = .ok (.getfield 131, 3) := dk_180 0 131 (dk_at dksX0_off_0 9 rfl rfl)
theorem dX0_off_12 : decode cX0_off 12 = .ok (.iconst 3, 1) := dk_6 (dk_at dksX0_off_0 12 rfl rfl)
theorem dX0_off_13 : decode cX0_off 13 = .ok (.if_icmp .le 5, 3) := dk_164 0 5 (dk_at dksX0_off_0 13 rfl rfl)
theorem dX0_off_16 : decode cX0_off 16 = .ok (.iconst (-1), 1) := dk_2 (dk_at dksX0_off_0 16 rfl rfl)
theorem dX0_off_17 : decode cX0_off 17 = .ok (.ireturn, 1) := dk_172 (dk_at dksX0_off_0 17 rfl rfl)
theorem dX0_off_18 : decode cX0_off 18 = .ok (.iconst 0, 1) := dk_3 (dk_at dksX0_off_0 18 rfl rfl)
theorem dX0_off_19 : decode cX0_off 19 = .ok (.istore_n 2, 1) := dk_61 (dk_at dksX0_off_0 19 rfl rfl)
theorem dX0_off_20 : decode cX0_off 20 = .ok (.iload_n 2, 1) := dk_28 (dk_at dksX0_off_0 20 rfl rfl)
theorem dX0_off_21 : decode cX0_off 21 = .ok (.aload_n 0, 1) := dk_42 (dk_at dksX0_off_0 21 rfl rfl)
theorem dX0_off_22 : decode cX0_off 22 = .ok (.invokevirtual 151, 3) := dk_182 0 151 (dk_at dksX0_off_1 0 rfl rfl)
theorem dX0_off_25 : decode cX0_off 25 = .ok (.if_icmp .ge 32, 3) := dk_162 0 32 (dk_at dksX0_off_1 3 rfl rfl)
theorem dX0_off_28 : decode cX0_off 28 = .ok (.aload_n 0, 1) := dk_42 (dk_at dksX0_off_1 6 rfl rfl)
theorem dX0_off_29 : decode cX0_off 29 = .ok (.getfield 91, 3) := dk_180 0 91 (dk_at dksX0_off_1 7 rfl rfl)
theorem dX0_off_32 : decode cX0_off 32 = .ok (.aload_n 0, 1) := dk_42 (dk_at dksX0_off_1 10 rfl rfl)
theorem dX0_off_33 : decode cX0_off 33 = .ok (.getfield 41, 3) := dk_180 0 41 (dk_at dksX0_off_1 11 rfl rfl)
theorem dX0_off_36 : decode cX0_off 36 = .ok (.iload_n 2, 1) := dk_28 (dk_at dksX0_off_1 14 rfl rfl)
theorem dX0_off_37 : decode cX0_off 37 = .ok (.invokevirtual 271, 3) := dk_182 1 15 (dk_at dksX0_off_1 15 rfl rfl)
theorem dX0_off_40 : decode cX0_off 40 = .ok (.aload_n 0, 1) := dk_42 (dk_at dksX0_off_1 18 rfl rfl)
theorem dX0_off_41 : decode cX0_off 41 = .ok (.getfield 83, 3) := dk_180 0 83 (dk_at dksX0_off_1 19 rfl rfl)
theorem dX0_off_44 : decode cX0_off 44 = .ok (.iload_n 1, 1) := dk_27 (dk_at dksX0_off_1 22 rfl rfl)
theorem dX0_off_45 : decode cX0_off 45 = .ok (.aaload, 1) := dk_50 (dk_at dksX0_off_1 23 rfl rfl)
theorem dX0_off_46 : decode cX0_off 46 = .ok (.iload_n 2, 1) := dk_28 (dk_at dksX0_off_2 0 rfl rfl)
theorem dX0_off_47 : decode cX0_off 47 = .ok (.invokevirtual 271, 3) := dk_182 1 15 (dk_at dksX0_off_2 1 rfl rfl)
theorem dX0_off_50 : decode cX0_off 50 = .ok (.iastore, 1) := dk_79 (dk_at dksX0_off_2 4 rfl rfl)
theorem dX0_off_51 : decode cX0_off 51 = .ok (.iinc 2 1, 3) := dk_132 2 1 (dk_at dksX0_off_2 5 rfl rfl)
theorem dX0_off_54 : decode cX0_off 54 = .ok (.goto (-34), 3) := dk_167 255 222 (dk_at dksX0_off_2 8 rfl rfl)
theorem dX0_off_57 : decode cX0_off 57 = .ok (.aload_n 0, 1) := dk_42 (dk_at dksX0_off_2 11 rfl rfl)
theorem dX0_off_58 : decode cX0_off 58 = .ok (.getfield 65, 3) := dk_180 0 65 (dk_at dksX0_off_2 12 rfl rfl)
theorem dX0_off_61 : decode cX0_off 61 = .ok (.aload_n 0, 1) := dk_42 (dk_at dksX0_off_2 15 rfl rfl)
theorem dX0_off_62 : decode cX0_off 62 = .ok (.getfield 131, 3) := dk_180 0 131 (dk_at dksX0_off_2 16 rfl rfl)
theorem dX0_off_65 : decode cX0_off 65 = .ok (.invokevirtual 292, 3) := dk_182 1 36 (dk_at dksX0_off_2 19 rfl rfl)
theorem dX0_off_68 : decode cX0_off 68 = .ok (.aload_n 0, 1) := dk_42 (dk_at dksX0_off_2 22 rfl rfl)
theorem dX0_off_69 : decode cX0_off 69 = .ok (.getfield 65, 3) := dk_180 0 65 (dk_at dksX0_off_3 0 rfl rfl)
theorem dX0_off_72 : decode cX0_off 72 = .ok (.aload_n 0, 1) := dk_42 (dk_at dksX0_off_3 3 rfl rfl)
theorem dX0_off_73 : decode cX0_off 73 = .ok (.getfield 91, 3) := dk_180 0 91 (dk_at dksX0_off_3 4 rfl rfl)
theorem dX0_off_76 : decode cX0_off 76 = .ok (.invokevirtual 299, 3) := dk_182 1 43 (dk_at dksX0_off_3 7 rfl rfl)
theorem dX0_off_79 : decode cX0_off 79 = .ok (.ireturn, 1) := dk_172 (dk_at dksX0_off_3 10 rfl rfl)
abbrev cX0_isHeld : ByteArray := prog_1_method_42_code
def yX0_isHeld : MethodName := ⟨RX0, "isHeld", "(I)Z"⟩
def dkwX0_isHeld_0 : List UInt8 := [27, 3, 5, 184, 0, 155, 153, 0, 16, 42, 180, 0, 83, 27, 50, 198, 0, 7, 4, 167, 0, 4, 3, 172]
abbrev dktX0_isHeld_0 : List UInt8 := dkwX0_isHeld_0 ++ []
theorem dksX0_isHeld_0 : cX0_isHeld.data.toList.drop 0 = dktX0_isHeld_0 := by decide +kernel
theorem dX0_isHeld_0 : decode cX0_isHeld 0 = .ok (.iload_n 1, 1) := dk_27 (dk_at dksX0_isHeld_0 0 rfl rfl)
theorem dX0_isHeld_1 : decode cX0_isHeld 1 = .ok (.iconst 0, 1) := dk_3 (dk_at dksX0_isHeld_0 1 rfl rfl)
theorem dX0_isHeld_2 : decode cX0_isHeld 2 = .ok (.iconst 2, 1) := dk_5 (dk_at dksX0_isHeld_0 2 rfl rfl)
theorem dX0_isHeld_3 : decode cX0_isHeld 3 = .ok (.invokestatic 155, 3) := dk_184 0 155 (dk_at dksX0_isHeld_0 3 rfl rfl)
theorem dX0_isHeld_6 : decode cX0_isHeld 6 = .ok (.ifCond .eq 16, 3) := dk_153 0 16 (dk_at dksX0_isHeld_0 6 rfl rfl)
theorem dX0_isHeld_9 : decode cX0_isHeld 9 = .ok (.aload_n 0, 1) := dk_42 (dk_at dksX0_isHeld_0 9 rfl rfl)
theorem dX0_isHeld_10 : decode cX0_isHeld 10 = .ok (.getfield 83, 3) := dk_180 0 83 (dk_at dksX0_isHeld_0 10 rfl rfl)
theorem dX0_isHeld_13 : decode cX0_isHeld 13 = .ok (.iload_n 1, 1) := dk_27 (dk_at dksX0_isHeld_0 13 rfl rfl)
theorem dX0_isHeld_14 : decode cX0_isHeld 14 = .ok (.aaload, 1) := dk_50 (dk_at dksX0_isHeld_0 14 rfl rfl)
theorem dX0_isHeld_15 : decode cX0_isHeld 15 = .ok (.ifnull 7, 3) := dk_198 0 7 (dk_at dksX0_isHeld_0 15 rfl rfl)
theorem dX0_isHeld_18 : decode cX0_isHeld 18 = .ok (.iconst 1, 1) := dk_4 (dk_at dksX0_isHeld_0 18 rfl rfl)
theorem dX0_isHeld_19 : decode cX0_isHeld 19 = .ok (.goto 4, 3) := dk_167 0 4 (dk_at dksX0_isHeld_0 19 rfl rfl)
theorem dX0_isHeld_22 : decode cX0_isHeld 22 = .ok (.iconst 0, 1) := dk_3 (dk_at dksX0_isHeld_0 22 rfl rfl)
theorem dX0_isHeld_23 : decode cX0_isHeld 23 = .ok (.ireturn, 1) := dk_172 (dk_at dksX0_isHeld_0 23 rfl rfl)
abbrev cX0_like : ByteArray := prog_1_method_46_code
def yX0_like : MethodName := ⟨RX0, "like", "(I)I"⟩
def dkwX0_like_0 : List UInt8 := [42, 27, 182, 1, 107, 153, 0, 13, 42, 27, 3, 3, 182, 1, 113, 167, 0, 4, 2, 172]
abbrev dktX0_like_0 : List UInt8 := dkwX0_like_0 ++ []
theorem dksX0_like_0 : cX0_like.data.toList.drop 0 = dktX0_like_0 := by decide +kernel
theorem dX0_like_0 : decode cX0_like 0 = .ok (.aload_n 0, 1) := dk_42 (dk_at dksX0_like_0 0 rfl rfl)
theorem dX0_like_1 : decode cX0_like 1 = .ok (.iload_n 1, 1) := dk_27 (dk_at dksX0_like_0 1 rfl rfl)
theorem dX0_like_2 : decode cX0_like 2 = .ok (.invokevirtual 363, 3) := dk_182 1 107 (dk_at dksX0_like_0 2 rfl rfl)
theorem dX0_like_5 : decode cX0_like 5 = .ok (.ifCond .eq 13, 3) := dk_153 0 13 (dk_at dksX0_like_0 5 rfl rfl)
theorem dX0_like_8 : decode cX0_like 8 = .ok (.aload_n 0, 1) := dk_42 (dk_at dksX0_like_0 8 rfl rfl)
theorem dX0_like_9 : decode cX0_like 9 = .ok (.iload_n 1, 1) := dk_27 (dk_at dksX0_like_0 9 rfl rfl)
theorem dX0_like_10 : decode cX0_like 10 = .ok (.iconst 0, 1) := dk_3 (dk_at dksX0_like_0 10 rfl rfl)
theorem dX0_like_11 : decode cX0_like 11 = .ok (.iconst 0, 1) := dk_3 (dk_at dksX0_like_0 11 rfl rfl)
theorem dX0_like_12 : decode cX0_like 12 = .ok (.invokevirtual 369, 3) := dk_182 1 113 (dk_at dksX0_like_0 12 rfl rfl)
theorem dX0_like_15 : decode cX0_like 15 = .ok (.goto 4, 3) := dk_167 0 4 (dk_at dksX0_like_0 15 rfl rfl)
theorem dX0_like_18 : decode cX0_like 18 = .ok (.iconst (-1), 1) := dk_2 (dk_at dksX0_like_0 18 rfl rfl)
theorem dX0_like_19 : decode cX0_like 19 = .ok (.ireturn, 1) := dk_172 (dk_at dksX0_like_0 19 rfl rfl)
abbrev cX0_renames : ByteArray := prog_1_method_45_code
def yX0_renames : MethodName := ⟨RX0, "renames", "(III)I"⟩
def dkwX0_renames_5 : List UInt8 := [132, 5, 1, 167, 255, 205, 21, 4, 172]
abbrev dktX0_renames_5 : List UInt8 := dkwX0_renames_5 ++ []
def dkwX0_renames_4 : List UInt8 := [21, 5, 79, 21, 4, 42, 27, 28, 4, 96, 29, 4, 21, 5, 120, 128, 182, 1, 113, 96, 54, 4]
abbrev dktX0_renames_4 : List UInt8 := dkwX0_renames_4 ++ dktX0_renames_5
def dkwX0_renames_3 : List UInt8 := [180, 0, 131, 162, 0, 48, 29, 21, 5, 184, 0, 182, 153, 0, 6, 167, 0, 30, 42, 180, 0, 104, 28]
abbrev dktX0_renames_3 : List UInt8 := dkwX0_renames_3 ++ dktX0_renames_4
def dkwX0_renames_2 : List UInt8 := [159, 0, 5, 3, 172, 132, 4, 1, 167, 255, 211, 4, 172, 3, 54, 4, 3, 54, 5, 21, 5, 42]
abbrev dktX0_renames_2 : List UInt8 := dkwX0_renames_2 ++ dktX0_renames_3
def dkwX0_renames_1 : List UInt8 := [27, 50, 42, 21, 4, 182, 1, 110, 182, 1, 15, 42, 42, 180, 0, 41, 21, 4, 182, 1, 15, 182, 1, 110]
abbrev dktX0_renames_1 : List UInt8 := dkwX0_renames_1 ++ dktX0_renames_2
def dkwX0_renames_0 : List UInt8 := [28, 42, 180, 0, 131, 160, 0, 56, 3, 54, 4, 21, 4, 42, 182, 0, 151, 162, 0, 42, 42, 180, 0, 83]
abbrev dktX0_renames_0 : List UInt8 := dkwX0_renames_0 ++ dktX0_renames_1
theorem dksX0_renames_0 : cX0_renames.data.toList.drop 0 = dktX0_renames_0 := by decide +kernel
theorem dksX0_renames_1 : cX0_renames.data.toList.drop 24 = dktX0_renames_1 := dk_seg dksX0_renames_0 24 rfl rfl
theorem dksX0_renames_2 : cX0_renames.data.toList.drop 48 = dktX0_renames_2 := dk_seg dksX0_renames_1 24 rfl rfl
theorem dksX0_renames_3 : cX0_renames.data.toList.drop 70 = dktX0_renames_3 := dk_seg dksX0_renames_2 22 rfl rfl
theorem dksX0_renames_4 : cX0_renames.data.toList.drop 93 = dktX0_renames_4 := dk_seg dksX0_renames_3 23 rfl rfl
theorem dksX0_renames_5 : cX0_renames.data.toList.drop 115 = dktX0_renames_5 := dk_seg dksX0_renames_4 22 rfl rfl
theorem dX0_renames_0 : decode cX0_renames 0 = .ok (.iload_n 2, 1) := dk_28 (dk_at dksX0_renames_0 0 rfl rfl)
theorem dX0_renames_1 : decode cX0_renames 1 = .ok (.aload_n 0, 1) := dk_42 (dk_at dksX0_renames_0 1 rfl rfl)
theorem dX0_renames_2 : decode cX0_renames 2 = .ok (.getfield 131, 3) := dk_180 0 131 (dk_at dksX0_renames_0 2 rfl rfl)
theorem dX0_renames_5 : decode cX0_renames 5 = .ok (.if_icmp .ne 56, 3) := dk_160 0 56 (dk_at dksX0_renames_0 5 rfl rfl)
theorem dX0_renames_8 : decode cX0_renames 8 = .ok (.iconst 0, 1) := dk_3 (dk_at dksX0_renames_0 8 rfl rfl)
theorem dX0_renames_9 : decode cX0_renames 9 = .ok (.istore 4, 2) := dk_54 4 (dk_at dksX0_renames_0 9 rfl rfl)
theorem dX0_renames_11 : decode cX0_renames 11 = .ok (.iload 4, 2) := dk_21 4 (dk_at dksX0_renames_0 11 rfl rfl)
theorem dX0_renames_13 : decode cX0_renames 13 = .ok (.aload_n 0, 1) := dk_42 (dk_at dksX0_renames_0 13 rfl rfl)
theorem dX0_renames_14 : decode cX0_renames 14 = .ok (.invokevirtual 151, 3) := dk_182 0 151 (dk_at dksX0_renames_0 14 rfl rfl)
theorem dX0_renames_17 : decode cX0_renames 17 = .ok (.if_icmp .ge 42, 3) := dk_162 0 42 (dk_at dksX0_renames_0 17 rfl rfl)
theorem dX0_renames_20 : decode cX0_renames 20 = .ok (.aload_n 0, 1) := dk_42 (dk_at dksX0_renames_0 20 rfl rfl)
theorem dX0_renames_21 : decode cX0_renames 21 = .ok (.getfield 83, 3) := dk_180 0 83 (dk_at dksX0_renames_0 21 rfl rfl)
theorem dX0_renames_24 : decode cX0_renames 24 = .ok (.iload_n 1, 1) := dk_27 (dk_at dksX0_renames_1 0 rfl rfl)
theorem dX0_renames_25 : decode cX0_renames 25 = .ok (.aaload, 1) := dk_50 (dk_at dksX0_renames_1 1 rfl rfl)
theorem dX0_renames_26 : decode cX0_renames 26 = .ok (.aload_n 0, 1) := dk_42 (dk_at dksX0_renames_1 2 rfl rfl)
theorem dX0_renames_27 : decode cX0_renames 27 = .ok (.iload 4, 2) := dk_21 4 (dk_at dksX0_renames_1 3 rfl rfl)
theorem dX0_renames_29 : decode cX0_renames 29 = .ok (.invokevirtual 366, 3) := dk_182 1 110 (dk_at dksX0_renames_1 5 rfl rfl)
theorem dX0_renames_32 : decode cX0_renames 32 = .ok (.invokevirtual 271, 3) := dk_182 1 15 (dk_at dksX0_renames_1 8 rfl rfl)
theorem dX0_renames_35 : decode cX0_renames 35 = .ok (.aload_n 0, 1) := dk_42 (dk_at dksX0_renames_1 11 rfl rfl)
theorem dX0_renames_36 : decode cX0_renames 36 = .ok (.aload_n 0, 1) := dk_42 (dk_at dksX0_renames_1 12 rfl rfl)
theorem dX0_renames_37 : decode cX0_renames 37 = .ok (.getfield 41, 3) := dk_180 0 41 (dk_at dksX0_renames_1 13 rfl rfl)
theorem dX0_renames_40 : decode cX0_renames 40 = .ok (.iload 4, 2) := dk_21 4 (dk_at dksX0_renames_1 16 rfl rfl)
theorem dX0_renames_42 : decode cX0_renames 42 = .ok (.invokevirtual 271, 3) := dk_182 1 15 (dk_at dksX0_renames_1 18 rfl rfl)
theorem dX0_renames_45 : decode cX0_renames 45 = .ok (.invokevirtual 366, 3) := dk_182 1 110 (dk_at dksX0_renames_1 21 rfl rfl)
theorem dX0_renames_48 : decode cX0_renames 48 = .ok (.if_icmp .eq 5, 3) := dk_159 0 5 (dk_at dksX0_renames_2 0 rfl rfl)
theorem dX0_renames_51 : decode cX0_renames 51 = .ok (.iconst 0, 1) := dk_3 (dk_at dksX0_renames_2 3 rfl rfl)
theorem dX0_renames_52 : decode cX0_renames 52 = .ok (.ireturn, 1) := dk_172 (dk_at dksX0_renames_2 4 rfl rfl)
theorem dX0_renames_53 : decode cX0_renames 53 = .ok (.iinc 4 1, 3) := dk_132 4 1 (dk_at dksX0_renames_2 5 rfl rfl)
theorem dX0_renames_56 : decode cX0_renames 56 = .ok (.goto (-45), 3) := dk_167 255 211 (dk_at dksX0_renames_2 8 rfl rfl)
theorem dX0_renames_59 : decode cX0_renames 59 = .ok (.iconst 1, 1) := dk_4 (dk_at dksX0_renames_2 11 rfl rfl)
theorem dX0_renames_60 : decode cX0_renames 60 = .ok (.ireturn, 1) := dk_172 (dk_at dksX0_renames_2 12 rfl rfl)
theorem dX0_renames_61 : decode cX0_renames 61 = .ok (.iconst 0, 1) := dk_3 (dk_at dksX0_renames_2 13 rfl rfl)
theorem dX0_renames_62 : decode cX0_renames 62 = .ok (.istore 4, 2) := dk_54 4 (dk_at dksX0_renames_2 14 rfl rfl)
theorem dX0_renames_64 : decode cX0_renames 64 = .ok (.iconst 0, 1) := dk_3 (dk_at dksX0_renames_2 16 rfl rfl)
theorem dX0_renames_65 : decode cX0_renames 65 = .ok (.istore 5, 2) := dk_54 5 (dk_at dksX0_renames_2 17 rfl rfl)
theorem dX0_renames_67 : decode cX0_renames 67 = .ok (.iload 5, 2) := dk_21 5 (dk_at dksX0_renames_2 19 rfl rfl)
theorem dX0_renames_69 : decode cX0_renames 69 = .ok (.aload_n 0, 1) := dk_42 (dk_at dksX0_renames_2 21 rfl rfl)
theorem dX0_renames_70 : decode cX0_renames 70 = .ok (.getfield 131, 3) := dk_180 0 131 (dk_at dksX0_renames_3 0 rfl rfl)
theorem dX0_renames_73 : decode cX0_renames 73 = .ok (.if_icmp .ge 48, 3) := dk_162 0 48 (dk_at dksX0_renames_3 3 rfl rfl)
theorem dX0_renames_76 : decode cX0_renames 76 = .ok (.iload_n 3, 1) := dk_29 (dk_at dksX0_renames_3 6 rfl rfl)
theorem dX0_renames_77 : decode cX0_renames 77 = .ok (.iload 5, 2) := dk_21 5 (dk_at dksX0_renames_3 7 rfl rfl)
theorem dX0_renames_79 : decode cX0_renames 79 = .ok (.invokestatic 182, 3) := dk_184 0 182 (dk_at dksX0_renames_3 9 rfl rfl)
theorem dX0_renames_82 : decode cX0_renames 82 = .ok (.ifCond .eq 6, 3) := dk_153 0 6 (dk_at dksX0_renames_3 12 rfl rfl)
theorem dX0_renames_85 : decode cX0_renames 85 = .ok (.goto 30, 3) := dk_167 0 30 (dk_at dksX0_renames_3 15 rfl rfl)
theorem dX0_renames_88 : decode cX0_renames 88 = .ok (.aload_n 0, 1) := dk_42 (dk_at dksX0_renames_3 18 rfl rfl)
theorem dX0_renames_89 : decode cX0_renames 89 = .ok (.getfield 104, 3) := dk_180 0 104 (dk_at dksX0_renames_3 19 rfl rfl)
theorem dX0_renames_92 : decode cX0_renames 92 = .ok (.iload_n 2, 1) := dk_28 (dk_at dksX0_renames_3 22 rfl rfl)
theorem dX0_renames_93 : decode cX0_renames 93 = .ok (.iload 5, 2) := dk_21 5 (dk_at dksX0_renames_4 0 rfl rfl)
theorem dX0_renames_95 : decode cX0_renames 95 = .ok (.iastore, 1) := dk_79 (dk_at dksX0_renames_4 2 rfl rfl)
theorem dX0_renames_96 : decode cX0_renames 96 = .ok (.iload 4, 2) := dk_21 4 (dk_at dksX0_renames_4 3 rfl rfl)
theorem dX0_renames_98 : decode cX0_renames 98 = .ok (.aload_n 0, 1) := dk_42 (dk_at dksX0_renames_4 5 rfl rfl)
theorem dX0_renames_99 : decode cX0_renames 99 = .ok (.iload_n 1, 1) := dk_27 (dk_at dksX0_renames_4 6 rfl rfl)
theorem dX0_renames_100 : decode cX0_renames 100 = .ok (.iload_n 2, 1) := dk_28 (dk_at dksX0_renames_4 7 rfl rfl)
theorem dX0_renames_101 : decode cX0_renames 101 = .ok (.iconst 1, 1) := dk_4 (dk_at dksX0_renames_4 8 rfl rfl)
theorem dX0_renames_102 : decode cX0_renames 102 = .ok (.iadd, 1) := dk_96 (dk_at dksX0_renames_4 9 rfl rfl)
theorem dX0_renames_103 : decode cX0_renames 103 = .ok (.iload_n 3, 1) := dk_29 (dk_at dksX0_renames_4 10 rfl rfl)
theorem dX0_renames_104 : decode cX0_renames 104 = .ok (.iconst 1, 1) := dk_4 (dk_at dksX0_renames_4 11 rfl rfl)
theorem dX0_renames_105 : decode cX0_renames 105 = .ok (.iload 5, 2) := dk_21 5 (dk_at dksX0_renames_4 12 rfl rfl)
theorem dX0_renames_107 : decode cX0_renames 107 = .ok (.ishl, 1) := dk_120 (dk_at dksX0_renames_4 14 rfl rfl)
theorem dX0_renames_108 : decode cX0_renames 108 = .ok (.ior, 1) := dk_128 (dk_at dksX0_renames_4 15 rfl rfl)
theorem dX0_renames_109 : decode cX0_renames 109 = .ok (.invokevirtual 369, 3) := dk_182 1 113 (dk_at dksX0_renames_4 16 rfl rfl)
theorem dX0_renames_112 : decode cX0_renames 112 = .ok (.iadd, 1) := dk_96 (dk_at dksX0_renames_4 19 rfl rfl)
theorem dX0_renames_113 : decode cX0_renames 113 = .ok (.istore 4, 2) := dk_54 4 (dk_at dksX0_renames_4 20 rfl rfl)
theorem dX0_renames_115 : decode cX0_renames 115 = .ok (.iinc 5 1, 3) := dk_132 5 1 (dk_at dksX0_renames_5 0 rfl rfl)
theorem dX0_renames_118 : decode cX0_renames 118 = .ok (.goto (-51), 3) := dk_167 255 205 (dk_at dksX0_renames_5 3 rfl rfl)
theorem dX0_renames_121 : decode cX0_renames 121 = .ok (.iload 4, 2) := dk_21 4 (dk_at dksX0_renames_5 6 rfl rfl)
theorem dX0_renames_123 : decode cX0_renames 123 = .ok (.ireturn, 1) := dk_172 (dk_at dksX0_renames_5 8 rfl rfl)
abbrev cX0_renamed : ByteArray := prog_1_method_44_code
def yX0_renamed : MethodName := ⟨RX0, "renamed", "(I)I"⟩
def dkwX0_renamed_1 : List UInt8 := [120, 128, 61, 132, 3, 1, 167, 255, 230, 28, 172]
abbrev dktX0_renamed_1 : List UInt8 := dkwX0_renamed_1 ++ []
def dkwX0_renamed_0 : List UInt8 := [3, 61, 3, 62, 29, 42, 180, 0, 131, 162, 0, 24, 28, 27, 29, 122, 4, 126, 42, 180, 0, 104, 29, 46]
abbrev dktX0_renamed_0 : List UInt8 := dkwX0_renamed_0 ++ dktX0_renamed_1
theorem dksX0_renamed_0 : cX0_renamed.data.toList.drop 0 = dktX0_renamed_0 := by decide +kernel
theorem dksX0_renamed_1 : cX0_renamed.data.toList.drop 24 = dktX0_renamed_1 := dk_seg dksX0_renamed_0 24 rfl rfl
theorem dX0_renamed_0 : decode cX0_renamed 0 = .ok (.iconst 0, 1) := dk_3 (dk_at dksX0_renamed_0 0 rfl rfl)
theorem dX0_renamed_1 : decode cX0_renamed 1 = .ok (.istore_n 2, 1) := dk_61 (dk_at dksX0_renamed_0 1 rfl rfl)
theorem dX0_renamed_2 : decode cX0_renamed 2 = .ok (.iconst 0, 1) := dk_3 (dk_at dksX0_renamed_0 2 rfl rfl)
theorem dX0_renamed_3 : decode cX0_renamed 3 = .ok (.istore_n 3, 1) := dk_62 (dk_at dksX0_renamed_0 3 rfl rfl)
theorem dX0_renamed_4 : decode cX0_renamed 4 = .ok (.iload_n 3, 1) := dk_29 (dk_at dksX0_renamed_0 4 rfl rfl)
theorem dX0_renamed_5 : decode cX0_renamed 5 = .ok (.aload_n 0, 1) := dk_42 (dk_at dksX0_renamed_0 5 rfl rfl)
theorem dX0_renamed_6 : decode cX0_renamed 6 = .ok (.getfield 131, 3) := dk_180 0 131 (dk_at dksX0_renamed_0 6 rfl rfl)
theorem dX0_renamed_9 : decode cX0_renamed 9 = .ok (.if_icmp .ge 24, 3) := dk_162 0 24 (dk_at dksX0_renamed_0 9 rfl rfl)
theorem dX0_renamed_12 : decode cX0_renamed 12 = .ok (.iload_n 2, 1) := dk_28 (dk_at dksX0_renamed_0 12 rfl rfl)
theorem dX0_renamed_13 : decode cX0_renamed 13 = .ok (.iload_n 1, 1) := dk_27 (dk_at dksX0_renamed_0 13 rfl rfl)
theorem dX0_renamed_14 : decode cX0_renamed 14 = .ok (.iload_n 3, 1) := dk_29 (dk_at dksX0_renamed_0 14 rfl rfl)
theorem dX0_renamed_15 : decode cX0_renamed 15 = .ok (.ishr, 1) := dk_122 (dk_at dksX0_renamed_0 15 rfl rfl)
theorem dX0_renamed_16 : decode cX0_renamed 16 = .ok (.iconst 1, 1) := dk_4 (dk_at dksX0_renamed_0 16 rfl rfl)
theorem dX0_renamed_17 : decode cX0_renamed 17 = .ok (.iand, 1) := dk_126 (dk_at dksX0_renamed_0 17 rfl rfl)
theorem dX0_renamed_18 : decode cX0_renamed 18 = .ok (.aload_n 0, 1) := dk_42 (dk_at dksX0_renamed_0 18 rfl rfl)
theorem dX0_renamed_19 : decode cX0_renamed 19 = .ok (.getfield 104, 3) := dk_180 0 104 (dk_at dksX0_renamed_0 19 rfl rfl)
theorem dX0_renamed_22 : decode cX0_renamed 22 = .ok (.iload_n 3, 1) := dk_29 (dk_at dksX0_renamed_0 22 rfl rfl)
theorem dX0_renamed_23 : decode cX0_renamed 23 = .ok (.iaload, 1) := dk_46 (dk_at dksX0_renamed_0 23 rfl rfl)
theorem dX0_renamed_24 : decode cX0_renamed 24 = .ok (.ishl, 1) := dk_120 (dk_at dksX0_renamed_1 0 rfl rfl)
theorem dX0_renamed_25 : decode cX0_renamed 25 = .ok (.ior, 1) := dk_128 (dk_at dksX0_renamed_1 1 rfl rfl)
theorem dX0_renamed_26 : decode cX0_renamed 26 = .ok (.istore_n 2, 1) := dk_61 (dk_at dksX0_renamed_1 2 rfl rfl)
theorem dX0_renamed_27 : decode cX0_renamed 27 = .ok (.iinc 3 1, 3) := dk_132 3 1 (dk_at dksX0_renamed_1 3 rfl rfl)
theorem dX0_renamed_30 : decode cX0_renamed 30 = .ok (.goto (-26), 3) := dk_167 255 230 (dk_at dksX0_renamed_1 6 rfl rfl)
theorem dX0_renamed_33 : decode cX0_renamed 33 = .ok (.iload_n 2, 1) := dk_28 (dk_at dksX0_renamed_1 9 rfl rfl)
theorem dX0_renamed_34 : decode cX0_renamed 34 = .ok (.ireturn, 1) := dk_172 (dk_at dksX0_renamed_1 10 rfl rfl)
abbrev cX0_hold : ByteArray := prog_1_method_47_code
def yX0_hold : MethodName := ⟨RX0, "hold", "(I)Z"⟩
def dkwX0_hold_1 : List UInt8 := [4, 172]
abbrev dktX0_hold_1 : List UInt8 := dkwX0_hold_1 ++ []
def dkwX0_hold_0 : List UInt8 := [27, 3, 5, 184, 0, 155, 154, 0, 5, 3, 172, 42, 180, 0, 83, 27, 42, 180, 0, 41, 182, 0, 166, 83]
abbrev dktX0_hold_0 : List UInt8 := dkwX0_hold_0 ++ dktX0_hold_1
theorem dksX0_hold_0 : cX0_hold.data.toList.drop 0 = dktX0_hold_0 := by decide +kernel
theorem dksX0_hold_1 : cX0_hold.data.toList.drop 24 = dktX0_hold_1 := dk_seg dksX0_hold_0 24 rfl rfl
theorem dX0_hold_0 : decode cX0_hold 0 = .ok (.iload_n 1, 1) := dk_27 (dk_at dksX0_hold_0 0 rfl rfl)
theorem dX0_hold_1 : decode cX0_hold 1 = .ok (.iconst 0, 1) := dk_3 (dk_at dksX0_hold_0 1 rfl rfl)
theorem dX0_hold_2 : decode cX0_hold 2 = .ok (.iconst 2, 1) := dk_5 (dk_at dksX0_hold_0 2 rfl rfl)
theorem dX0_hold_3 : decode cX0_hold 3 = .ok (.invokestatic 155, 3) := dk_184 0 155 (dk_at dksX0_hold_0 3 rfl rfl)
theorem dX0_hold_6 : decode cX0_hold 6 = .ok (.ifCond .ne 5, 3) := dk_154 0 5 (dk_at dksX0_hold_0 6 rfl rfl)
theorem dX0_hold_9 : decode cX0_hold 9 = .ok (.iconst 0, 1) := dk_3 (dk_at dksX0_hold_0 9 rfl rfl)
theorem dX0_hold_10 : decode cX0_hold 10 = .ok (.ireturn, 1) := dk_172 (dk_at dksX0_hold_0 10 rfl rfl)
theorem dX0_hold_11 : decode cX0_hold 11 = .ok (.aload_n 0, 1) := dk_42 (dk_at dksX0_hold_0 11 rfl rfl)
theorem dX0_hold_12 : decode cX0_hold 12 = .ok (.getfield 83, 3) := dk_180 0 83 (dk_at dksX0_hold_0 12 rfl rfl)
theorem dX0_hold_15 : decode cX0_hold 15 = .ok (.iload_n 1, 1) := dk_27 (dk_at dksX0_hold_0 15 rfl rfl)
theorem dX0_hold_16 : decode cX0_hold 16 = .ok (.aload_n 0, 1) := dk_42 (dk_at dksX0_hold_0 16 rfl rfl)
theorem dX0_hold_17 : decode cX0_hold 17 = .ok (.getfield 41, 3) := dk_180 0 41 (dk_at dksX0_hold_0 17 rfl rfl)
theorem dX0_hold_20 : decode cX0_hold 20 = .ok (.invokevirtual 166, 3) := dk_182 0 166 (dk_at dksX0_hold_0 20 rfl rfl)
theorem dX0_hold_23 : decode cX0_hold 23 = .ok (.aastore, 1) := dk_83 (dk_at dksX0_hold_0 23 rfl rfl)
theorem dX0_hold_24 : decode cX0_hold 24 = .ok (.iconst 1, 1) := dk_4 (dk_at dksX0_hold_1 0 rfl rfl)
theorem dX0_hold_25 : decode cX0_hold 25 = .ok (.ireturn, 1) := dk_172 (dk_at dksX0_hold_1 1 rfl rfl)
abbrev cX0_restore : ByteArray := prog_1_method_48_code
def yX0_restore : MethodName := ⟨RX0, "restore", "(I)Z"⟩
def dkwX0_restore_1 : List UInt8 := [180, 0, 79, 182, 0, 148, 4, 172]
abbrev dktX0_restore_1 : List UInt8 := dkwX0_restore_1 ++ []
def dkwX0_restore_0 : List UInt8 := [42, 27, 182, 1, 107, 154, 0, 5, 3, 172, 42, 180, 0, 41, 42, 180, 0, 83, 27, 50, 182, 0, 133, 42]
abbrev dktX0_restore_0 : List UInt8 := dkwX0_restore_0 ++ dktX0_restore_1
theorem dksX0_restore_0 : cX0_restore.data.toList.drop 0 = dktX0_restore_0 := by decide +kernel
theorem dksX0_restore_1 : cX0_restore.data.toList.drop 24 = dktX0_restore_1 := dk_seg dksX0_restore_0 24 rfl rfl
theorem dX0_restore_0 : decode cX0_restore 0 = .ok (.aload_n 0, 1) := dk_42 (dk_at dksX0_restore_0 0 rfl rfl)
theorem dX0_restore_1 : decode cX0_restore 1 = .ok (.iload_n 1, 1) := dk_27 (dk_at dksX0_restore_0 1 rfl rfl)
theorem dX0_restore_2 : decode cX0_restore 2 = .ok (.invokevirtual 363, 3) := dk_182 1 107 (dk_at dksX0_restore_0 2 rfl rfl)
theorem dX0_restore_5 : decode cX0_restore 5 = .ok (.ifCond .ne 5, 3) := dk_154 0 5 (dk_at dksX0_restore_0 5 rfl rfl)
theorem dX0_restore_8 : decode cX0_restore 8 = .ok (.iconst 0, 1) := dk_3 (dk_at dksX0_restore_0 8 rfl rfl)
theorem dX0_restore_9 : decode cX0_restore 9 = .ok (.ireturn, 1) := dk_172 (dk_at dksX0_restore_0 9 rfl rfl)
theorem dX0_restore_10 : decode cX0_restore 10 = .ok (.aload_n 0, 1) := dk_42 (dk_at dksX0_restore_0 10 rfl rfl)
theorem dX0_restore_11 : decode cX0_restore 11 = .ok (.getfield 41, 3) := dk_180 0 41 (dk_at dksX0_restore_0 11 rfl rfl)
theorem dX0_restore_14 : decode cX0_restore 14 = .ok (.aload_n 0, 1) := dk_42 (dk_at dksX0_restore_0 14 rfl rfl)
theorem dX0_restore_15 : decode cX0_restore 15 = .ok (.getfield 83, 3) := dk_180 0 83 (dk_at dksX0_restore_0 15 rfl rfl)
theorem dX0_restore_18 : decode cX0_restore 18 = .ok (.iload_n 1, 1) := dk_27 (dk_at dksX0_restore_0 18 rfl rfl)
theorem dX0_restore_19 : decode cX0_restore 19 = .ok (.aaload, 1) := dk_50 (dk_at dksX0_restore_0 19 rfl rfl)
theorem dX0_restore_20 : decode cX0_restore 20 = .ok (.invokevirtual 133, 3) := dk_182 0 133 (dk_at dksX0_restore_0 20 rfl rfl)
theorem dX0_restore_23 : decode cX0_restore 23 = .ok (.aload_n 0, 1) := dk_42 (dk_at dksX0_restore_0 23 rfl rfl)
theorem dX0_restore_24 : decode cX0_restore 24 = .ok (.getfield 79, 3) := dk_180 0 79 (dk_at dksX0_restore_1 0 rfl rfl)
theorem dX0_restore_27 : decode cX0_restore 27 = .ok (.invokevirtual 148, 3) := dk_182 0 148 (dk_at dksX0_restore_1 3 rfl rfl)
theorem dX0_restore_30 : decode cX0_restore 30 = .ok (.iconst 1, 1) := dk_4 (dk_at dksX0_restore_1 6 rfl rfl)
theorem dX0_restore_31 : decode cX0_restore 31 = .ok (.ireturn, 1) := dk_172 (dk_at dksX0_restore_1 7 rfl rfl)
abbrev cX0_count : ByteArray := prog_1_method_54_code
def yX0_count : MethodName := ⟨RX0, "count", "(I)I"⟩
def dkwX0_count_6 : List UInt8 := [182, 1, 138, 172, 2, 172]
abbrev dktX0_count_6 : List UInt8 := dkwX0_count_6 ++ []
def dkwX0_count_5 : List UInt8 := [100, 46, 172, 42, 4, 182, 1, 125, 172, 42, 182, 1, 132, 172, 42, 182, 1, 135, 172, 42, 180, 0, 41]
abbrev dktX0_count_5 : List UInt8 := dkwX0_count_5 ++ dktX0_count_6
def dkwX0_count_4 : List UInt8 := [180, 0, 107, 172, 42, 180, 0, 79, 182, 0, 159, 172, 42, 182, 1, 129, 172, 42, 180, 0, 87, 27, 16, 9]
abbrev dktX0_count_4 : List UInt8 := dkwX0_count_4 ++ dktX0_count_5
def dkwX0_count_3 : List UInt8 := [180, 0, 97, 182, 1, 1, 172, 42, 182, 1, 122, 172, 42, 3, 182, 1, 125, 172, 42, 180, 0, 25]
abbrev dktX0_count_3 : List UInt8 := dkwX0_count_3 ++ dktX0_count_4
def dkwX0_count_2 : List UInt8 := [42, 180, 0, 131, 172, 42, 180, 0, 41, 182, 0, 174, 172, 42, 182, 1, 119, 172, 42, 180, 0, 41, 42]
abbrev dktX0_count_2 : List UInt8 := dkwX0_count_2 ++ dktX0_count_3
def dkwX0_count_1 : List UInt8 := [170, 0, 0, 0, 0, 0, 179, 0, 0, 0, 0, 0, 0, 0, 16, 0, 0, 0, 83, 0, 0, 0, 88, 0, 0, 0, 96, 0, 0, 0, 101, 0, 0, 0, 113, 0, 0, 0, 118, 0, 0, 0, 124, 0, 0, 0, 132, 0, 0, 0, 140, 0, 0, 0, 145, 0, 0, 0, 145, 0, 0, 0, 145, 0, 0, 0, 145, 0, 0, 0, 155, 0, 0, 0, 161, 0, 0, 0, 166, 0, 0, 0, 171]
abbrev dktX0_count_1 : List UInt8 := dkwX0_count_1 ++ dktX0_count_2
def dkwX0_count_0 : List UInt8 := [27]
abbrev dktX0_count_0 : List UInt8 := dkwX0_count_0 ++ dktX0_count_1
theorem dksX0_count_0 : cX0_count.data.toList.drop 0 = dktX0_count_0 := by decide +kernel
theorem dksX0_count_1 : cX0_count.data.toList.drop 1 = dktX0_count_1 := dk_seg dksX0_count_0 1 rfl rfl
theorem dksX0_count_2 : cX0_count.data.toList.drop 84 = dktX0_count_2 := dk_seg dksX0_count_1 83 rfl rfl
theorem dksX0_count_3 : cX0_count.data.toList.drop 107 = dktX0_count_3 := dk_seg dksX0_count_2 23 rfl rfl
theorem dksX0_count_4 : cX0_count.data.toList.drop 129 = dktX0_count_4 := dk_seg dksX0_count_3 22 rfl rfl
theorem dksX0_count_5 : cX0_count.data.toList.drop 153 = dktX0_count_5 := dk_seg dksX0_count_4 24 rfl rfl
theorem dksX0_count_6 : cX0_count.data.toList.drop 176 = dktX0_count_6 := dk_seg dksX0_count_5 23 rfl rfl
theorem dX0_count_0 : decode cX0_count 0 = .ok (.iload_n 1, 1) := dk_27 (dk_at dksX0_count_0 0 rfl rfl)
theorem dX0_count_1 : decode cX0_count 1 = .ok (.tableswitch 179 0 16 #[83, 88, 96, 101, 113, 118, 124, 132, 140, 145, 145, 145, 145, 155, 161, 166, 171], 83) := by decide +kernel
theorem dX0_count_84 : decode cX0_count 84 = .ok (.aload_n 0, 1) := dk_42 (dk_at dksX0_count_2 0 rfl rfl)
theorem dX0_count_85 : decode cX0_count 85 = .ok (.getfield 131, 3) := dk_180 0 131 (dk_at dksX0_count_2 1 rfl rfl)
theorem dX0_count_88 : decode cX0_count 88 = .ok (.ireturn, 1) := dk_172 (dk_at dksX0_count_2 4 rfl rfl)
theorem dX0_count_89 : decode cX0_count 89 = .ok (.aload_n 0, 1) := dk_42 (dk_at dksX0_count_2 5 rfl rfl)
theorem dX0_count_90 : decode cX0_count 90 = .ok (.getfield 41, 3) := dk_180 0 41 (dk_at dksX0_count_2 6 rfl rfl)
theorem dX0_count_93 : decode cX0_count 93 = .ok (.invokevirtual 174, 3) := dk_182 0 174 (dk_at dksX0_count_2 9 rfl rfl)
theorem dX0_count_96 : decode cX0_count 96 = .ok (.ireturn, 1) := dk_172 (dk_at dksX0_count_2 12 rfl rfl)
theorem dX0_count_97 : decode cX0_count 97 = .ok (.aload_n 0, 1) := dk_42 (dk_at dksX0_count_2 13 rfl rfl)
theorem dX0_count_98 : decode cX0_count 98 = .ok (.invokevirtual 375, 3) := dk_182 1 119 (dk_at dksX0_count_2 14 rfl rfl)
theorem dX0_count_101 : decode cX0_count 101 = .ok (.ireturn, 1) := dk_172 (dk_at dksX0_count_2 17 rfl rfl)
theorem dX0_count_102 : decode cX0_count 102 = .ok (.aload_n 0, 1) := dk_42 (dk_at dksX0_count_2 18 rfl rfl)
theorem dX0_count_103 : decode cX0_count 103 = .ok (.getfield 41, 3) := dk_180 0 41 (dk_at dksX0_count_2 19 rfl rfl)
theorem dX0_count_106 : decode cX0_count 106 = .ok (.aload_n 0, 1) := dk_42 (dk_at dksX0_count_2 22 rfl rfl)
theorem dX0_count_107 : decode cX0_count 107 = .ok (.getfield 97, 3) := dk_180 0 97 (dk_at dksX0_count_3 0 rfl rfl)
theorem dX0_count_110 : decode cX0_count 110 = .ok (.invokevirtual 257, 3) := dk_182 1 1 (dk_at dksX0_count_3 3 rfl rfl)
theorem dX0_count_113 : decode cX0_count 113 = .ok (.ireturn, 1) := dk_172 (dk_at dksX0_count_3 6 rfl rfl)
theorem dX0_count_114 : decode cX0_count 114 = .ok (.aload_n 0, 1) := dk_42 (dk_at dksX0_count_3 7 rfl rfl)
theorem dX0_count_115 : decode cX0_count 115 = .ok (.invokevirtual 378, 3) := dk_182 1 122 (dk_at dksX0_count_3 8 rfl rfl)
theorem dX0_count_118 : decode cX0_count 118 = .ok (.ireturn, 1) := dk_172 (dk_at dksX0_count_3 11 rfl rfl)
theorem dX0_count_119 : decode cX0_count 119 = .ok (.aload_n 0, 1) := dk_42 (dk_at dksX0_count_3 12 rfl rfl)
theorem dX0_count_120 : decode cX0_count 120 = .ok (.iconst 0, 1) := dk_3 (dk_at dksX0_count_3 13 rfl rfl)
theorem dX0_count_121 : decode cX0_count 121 = .ok (.invokevirtual 381, 3) := dk_182 1 125 (dk_at dksX0_count_3 14 rfl rfl)
theorem dX0_count_124 : decode cX0_count 124 = .ok (.ireturn, 1) := dk_172 (dk_at dksX0_count_3 17 rfl rfl)
theorem dX0_count_125 : decode cX0_count 125 = .ok (.aload_n 0, 1) := dk_42 (dk_at dksX0_count_3 18 rfl rfl)
theorem dX0_count_126 : decode cX0_count 126 = .ok (.getfield 25, 3) := dk_180 0 25 (dk_at dksX0_count_3 19 rfl rfl)
theorem dX0_count_129 : decode cX0_count 129 = .ok (.getfield 107, 3) := dk_180 0 107 (dk_at dksX0_count_4 0 rfl rfl)
theorem dX0_count_132 : decode cX0_count 132 = .ok (.ireturn, 1) := dk_172 (dk_at dksX0_count_4 3 rfl rfl)
theorem dX0_count_133 : decode cX0_count 133 = .ok (.aload_n 0, 1) := dk_42 (dk_at dksX0_count_4 4 rfl rfl)
theorem dX0_count_134 : decode cX0_count 134 = .ok (.getfield 79, 3) := dk_180 0 79 (dk_at dksX0_count_4 5 rfl rfl)
theorem dX0_count_137 : decode cX0_count 137 = .ok (.invokevirtual 159, 3) := dk_182 0 159 (dk_at dksX0_count_4 8 rfl rfl)
theorem dX0_count_140 : decode cX0_count 140 = .ok (.ireturn, 1) := dk_172 (dk_at dksX0_count_4 11 rfl rfl)
theorem dX0_count_141 : decode cX0_count 141 = .ok (.aload_n 0, 1) := dk_42 (dk_at dksX0_count_4 12 rfl rfl)
theorem dX0_count_142 : decode cX0_count 142 = .ok (.invokevirtual 385, 3) := dk_182 1 129 (dk_at dksX0_count_4 13 rfl rfl)
theorem dX0_count_145 : decode cX0_count 145 = .ok (.ireturn, 1) := dk_172 (dk_at dksX0_count_4 16 rfl rfl)
theorem dX0_count_146 : decode cX0_count 146 = .ok (.aload_n 0, 1) := dk_42 (dk_at dksX0_count_4 17 rfl rfl)
theorem dX0_count_147 : decode cX0_count 147 = .ok (.getfield 87, 3) := dk_180 0 87 (dk_at dksX0_count_4 18 rfl rfl)
theorem dX0_count_150 : decode cX0_count 150 = .ok (.iload_n 1, 1) := dk_27 (dk_at dksX0_count_4 21 rfl rfl)
theorem dX0_count_151 : decode cX0_count 151 = .ok (.bipush 9, 2) := dk_16 9 (dk_at dksX0_count_4 22 rfl rfl)
theorem dX0_count_153 : decode cX0_count 153 = .ok (.isub, 1) := dk_100 (dk_at dksX0_count_5 0 rfl rfl)
theorem dX0_count_154 : decode cX0_count 154 = .ok (.iaload, 1) := dk_46 (dk_at dksX0_count_5 1 rfl rfl)
theorem dX0_count_155 : decode cX0_count 155 = .ok (.ireturn, 1) := dk_172 (dk_at dksX0_count_5 2 rfl rfl)
theorem dX0_count_156 : decode cX0_count 156 = .ok (.aload_n 0, 1) := dk_42 (dk_at dksX0_count_5 3 rfl rfl)
theorem dX0_count_157 : decode cX0_count 157 = .ok (.iconst 1, 1) := dk_4 (dk_at dksX0_count_5 4 rfl rfl)
theorem dX0_count_158 : decode cX0_count 158 = .ok (.invokevirtual 381, 3) := dk_182 1 125 (dk_at dksX0_count_5 5 rfl rfl)
theorem dX0_count_161 : decode cX0_count 161 = .ok (.ireturn, 1) := dk_172 (dk_at dksX0_count_5 8 rfl rfl)
theorem dX0_count_162 : decode cX0_count 162 = .ok (.aload_n 0, 1) := dk_42 (dk_at dksX0_count_5 9 rfl rfl)
theorem dX0_count_163 : decode cX0_count 163 = .ok (.invokevirtual 388, 3) := dk_182 1 132 (dk_at dksX0_count_5 10 rfl rfl)
theorem dX0_count_166 : decode cX0_count 166 = .ok (.ireturn, 1) := dk_172 (dk_at dksX0_count_5 13 rfl rfl)
theorem dX0_count_167 : decode cX0_count 167 = .ok (.aload_n 0, 1) := dk_42 (dk_at dksX0_count_5 14 rfl rfl)
theorem dX0_count_168 : decode cX0_count 168 = .ok (.invokevirtual 391, 3) := dk_182 1 135 (dk_at dksX0_count_5 15 rfl rfl)
theorem dX0_count_171 : decode cX0_count 171 = .ok (.ireturn, 1) := dk_172 (dk_at dksX0_count_5 18 rfl rfl)
theorem dX0_count_172 : decode cX0_count 172 = .ok (.aload_n 0, 1) := dk_42 (dk_at dksX0_count_5 19 rfl rfl)
theorem dX0_count_173 : decode cX0_count 173 = .ok (.getfield 41, 3) := dk_180 0 41 (dk_at dksX0_count_5 20 rfl rfl)
theorem dX0_count_176 : decode cX0_count 176 = .ok (.invokevirtual 394, 3) := dk_182 1 138 (dk_at dksX0_count_6 0 rfl rfl)
theorem dX0_count_179 : decode cX0_count 179 = .ok (.ireturn, 1) := dk_172 (dk_at dksX0_count_6 3 rfl rfl)
theorem dX0_count_180 : decode cX0_count 180 = .ok (.iconst (-1), 1) := dk_2 (dk_at dksX0_count_6 4 rfl rfl)
theorem dX0_count_181 : decode cX0_count 181 = .ok (.ireturn, 1) := dk_172 (dk_at dksX0_count_6 5 rfl rfl)
abbrev cX0_cost : ByteArray := prog_1_method_49_code
def yX0_cost : MethodName := ⟨RX0, "cost", "()I"⟩
def dkwX0_cost_1 : List UInt8 := [28, 182, 0, 247, 182, 0, 251, 184, 0, 254, 46, 96, 60, 132, 2, 1, 167, 255, 220, 27, 172]
abbrev dktX0_cost_1 : List UInt8 := dkwX0_cost_1 ++ []
def dkwX0_cost_0 : List UInt8 := [3, 60, 3, 61, 28, 42, 180, 0, 41, 182, 0, 174, 162, 0, 31, 27, 42, 180, 0, 87, 42, 180, 0, 41]
abbrev dktX0_cost_0 : List UInt8 := dkwX0_cost_0 ++ dktX0_cost_1
theorem dksX0_cost_0 : cX0_cost.data.toList.drop 0 = dktX0_cost_0 := by decide +kernel
theorem dksX0_cost_1 : cX0_cost.data.toList.drop 24 = dktX0_cost_1 := dk_seg dksX0_cost_0 24 rfl rfl
theorem dX0_cost_0 : decode cX0_cost 0 = .ok (.iconst 0, 1) := dk_3 (dk_at dksX0_cost_0 0 rfl rfl)
theorem dX0_cost_1 : decode cX0_cost 1 = .ok (.istore_n 1, 1) := dk_60 (dk_at dksX0_cost_0 1 rfl rfl)
theorem dX0_cost_2 : decode cX0_cost 2 = .ok (.iconst 0, 1) := dk_3 (dk_at dksX0_cost_0 2 rfl rfl)
theorem dX0_cost_3 : decode cX0_cost 3 = .ok (.istore_n 2, 1) := dk_61 (dk_at dksX0_cost_0 3 rfl rfl)
theorem dX0_cost_4 : decode cX0_cost 4 = .ok (.iload_n 2, 1) := dk_28 (dk_at dksX0_cost_0 4 rfl rfl)
theorem dX0_cost_5 : decode cX0_cost 5 = .ok (.aload_n 0, 1) := dk_42 (dk_at dksX0_cost_0 5 rfl rfl)
theorem dX0_cost_6 : decode cX0_cost 6 = .ok (.getfield 41, 3) := dk_180 0 41 (dk_at dksX0_cost_0 6 rfl rfl)
theorem dX0_cost_9 : decode cX0_cost 9 = .ok (.invokevirtual 174, 3) := dk_182 0 174 (dk_at dksX0_cost_0 9 rfl rfl)
theorem dX0_cost_12 : decode cX0_cost 12 = .ok (.if_icmp .ge 31, 3) := dk_162 0 31 (dk_at dksX0_cost_0 12 rfl rfl)
theorem dX0_cost_15 : decode cX0_cost 15 = .ok (.iload_n 1, 1) := dk_27 (dk_at dksX0_cost_0 15 rfl rfl)
theorem dX0_cost_16 : decode cX0_cost 16 = .ok (.aload_n 0, 1) := dk_42 (dk_at dksX0_cost_0 16 rfl rfl)
theorem dX0_cost_17 : decode cX0_cost 17 = .ok (.getfield 87, 3) := dk_180 0 87 (dk_at dksX0_cost_0 17 rfl rfl)
theorem dX0_cost_20 : decode cX0_cost 20 = .ok (.aload_n 0, 1) := dk_42 (dk_at dksX0_cost_0 20 rfl rfl)
theorem dX0_cost_21 : decode cX0_cost 21 = .ok (.getfield 41, 3) := dk_180 0 41 (dk_at dksX0_cost_0 21 rfl rfl)
theorem dX0_cost_24 : decode cX0_cost 24 = .ok (.iload_n 2, 1) := dk_28 (dk_at dksX0_cost_1 0 rfl rfl)
theorem dX0_cost_25 : decode cX0_cost 25 = .ok (.invokevirtual 247, 3) := dk_182 0 247 (dk_at dksX0_cost_1 1 rfl rfl)
theorem dX0_cost_28 : decode cX0_cost 28 = .ok (.invokevirtual 251, 3) := dk_182 0 251 (dk_at dksX0_cost_1 4 rfl rfl)
theorem dX0_cost_31 : decode cX0_cost 31 = .ok (.invokestatic 254, 3) := dk_184 0 254 (dk_at dksX0_cost_1 7 rfl rfl)
theorem dX0_cost_34 : decode cX0_cost 34 = .ok (.iaload, 1) := dk_46 (dk_at dksX0_cost_1 10 rfl rfl)
theorem dX0_cost_35 : decode cX0_cost 35 = .ok (.iadd, 1) := dk_96 (dk_at dksX0_cost_1 11 rfl rfl)
theorem dX0_cost_36 : decode cX0_cost 36 = .ok (.istore_n 1, 1) := dk_60 (dk_at dksX0_cost_1 12 rfl rfl)
theorem dX0_cost_37 : decode cX0_cost 37 = .ok (.iinc 2 1, 3) := dk_132 2 1 (dk_at dksX0_cost_1 13 rfl rfl)
theorem dX0_cost_40 : decode cX0_cost 40 = .ok (.goto (-36), 3) := dk_167 255 220 (dk_at dksX0_cost_1 16 rfl rfl)
theorem dX0_cost_43 : decode cX0_cost 43 = .ok (.iload_n 1, 1) := dk_27 (dk_at dksX0_cost_1 19 rfl rfl)
theorem dX0_cost_44 : decode cX0_cost 44 = .ok (.ireturn, 1) := dk_172 (dk_at dksX0_cost_1 20 rfl rfl)
abbrev cX0_agreeing : ByteArray := prog_1_method_50_code
def yX0_agreeing : MethodName := ⟨RX0, "agreeing", "()I"⟩
def dkwX0_agreeing_3 : List UInt8 := [153, 0, 9, 4, 28, 120, 167, 0, 4, 3, 128, 60, 132, 2, 1, 167, 255, 176, 27, 172]
abbrev dktX0_agreeing_3 : List UInt8 := dkwX0_agreeing_3 ++ []
def dkwX0_agreeing_2 : List UInt8 := [180, 0, 41, 21, 4, 182, 0, 247, 42, 182, 0, 151, 182, 1, 29, 62, 132, 4, 1, 167, 255, 212, 27, 29]
abbrev dktX0_agreeing_2 : List UInt8 := dkwX0_agreeing_2 ++ dktX0_agreeing_3
def dkwX0_agreeing_1 : List UInt8 := [180, 0, 41, 182, 0, 174, 162, 0, 38, 29, 153, 0, 34, 42, 180, 0, 41, 28, 182, 0, 247, 42]
abbrev dktX0_agreeing_1 : List UInt8 := dkwX0_agreeing_1 ++ dktX0_agreeing_2
def dkwX0_agreeing_0 : List UInt8 := [3, 60, 3, 61, 28, 42, 180, 0, 41, 182, 0, 174, 162, 0, 75, 4, 62, 3, 54, 4, 21, 4, 42]
abbrev dktX0_agreeing_0 : List UInt8 := dkwX0_agreeing_0 ++ dktX0_agreeing_1
theorem dksX0_agreeing_0 : cX0_agreeing.data.toList.drop 0 = dktX0_agreeing_0 := by decide +kernel
theorem dksX0_agreeing_1 : cX0_agreeing.data.toList.drop 23 = dktX0_agreeing_1 := dk_seg dksX0_agreeing_0 23 rfl rfl
theorem dksX0_agreeing_2 : cX0_agreeing.data.toList.drop 45 = dktX0_agreeing_2 := dk_seg dksX0_agreeing_1 22 rfl rfl
theorem dksX0_agreeing_3 : cX0_agreeing.data.toList.drop 69 = dktX0_agreeing_3 := dk_seg dksX0_agreeing_2 24 rfl rfl
theorem dX0_agreeing_0 : decode cX0_agreeing 0 = .ok (.iconst 0, 1) := dk_3 (dk_at dksX0_agreeing_0 0 rfl rfl)
theorem dX0_agreeing_1 : decode cX0_agreeing 1 = .ok (.istore_n 1, 1) := dk_60 (dk_at dksX0_agreeing_0 1 rfl rfl)
theorem dX0_agreeing_2 : decode cX0_agreeing 2 = .ok (.iconst 0, 1) := dk_3 (dk_at dksX0_agreeing_0 2 rfl rfl)
theorem dX0_agreeing_3 : decode cX0_agreeing 3 = .ok (.istore_n 2, 1) := dk_61 (dk_at dksX0_agreeing_0 3 rfl rfl)
theorem dX0_agreeing_4 : decode cX0_agreeing 4 = .ok (.iload_n 2, 1) := dk_28 (dk_at dksX0_agreeing_0 4 rfl rfl)
theorem dX0_agreeing_5 : decode cX0_agreeing 5 = .ok (.aload_n 0, 1) := dk_42 (dk_at dksX0_agreeing_0 5 rfl rfl)
theorem dX0_agreeing_6 : decode cX0_agreeing 6 = .ok (.getfield 41, 3) := dk_180 0 41 (dk_at dksX0_agreeing_0 6 rfl rfl)
theorem dX0_agreeing_9 : decode cX0_agreeing 9 = .ok (.invokevirtual 174, 3) := dk_182 0 174 (dk_at dksX0_agreeing_0 9 rfl rfl)
theorem dX0_agreeing_12 : decode cX0_agreeing 12 = .ok (.if_icmp .ge 75, 3) := dk_162 0 75 (dk_at dksX0_agreeing_0 12 rfl rfl)
theorem dX0_agreeing_15 : decode cX0_agreeing 15 = .ok (.iconst 1, 1) := dk_4 (dk_at dksX0_agreeing_0 15 rfl rfl)
theorem dX0_agreeing_16 : decode cX0_agreeing 16 = .ok (.istore_n 3, 1) := dk_62 (dk_at dksX0_agreeing_0 16 rfl rfl)
theorem dX0_agreeing_17 : decode cX0_agreeing 17 = .ok (.iconst 0, 1) := dk_3 (dk_at dksX0_agreeing_0 17 rfl rfl)
theorem dX0_agreeing_18 : decode cX0_agreeing 18 = .ok (.istore 4, 2) := dk_54 4 (dk_at dksX0_agreeing_0 18 rfl rfl)
theorem dX0_agreeing_20 : decode cX0_agreeing 20 = .ok (.iload 4, 2) := dk_21 4 (dk_at dksX0_agreeing_0 20 rfl rfl)
theorem dX0_agreeing_22 : decode cX0_agreeing 22 = .ok (.aload_n 0, 1) := dk_42 (dk_at dksX0_agreeing_0 22 rfl rfl)
theorem dX0_agreeing_23 : decode cX0_agreeing 23 = .ok (.getfield 41, 3) := dk_180 0 41 (dk_at dksX0_agreeing_1 0 rfl rfl)
theorem dX0_agreeing_26 : decode cX0_agreeing 26 = .ok (.invokevirtual 174, 3) := dk_182 0 174 (dk_at dksX0_agreeing_1 3 rfl rfl)
theorem dX0_agreeing_29 : decode cX0_agreeing 29 = .ok (.if_icmp .ge 38, 3) := dk_162 0 38 (dk_at dksX0_agreeing_1 6 rfl rfl)
theorem dX0_agreeing_32 : decode cX0_agreeing 32 = .ok (.iload_n 3, 1) := dk_29 (dk_at dksX0_agreeing_1 9 rfl rfl)
theorem dX0_agreeing_33 : decode cX0_agreeing 33 = .ok (.ifCond .eq 34, 3) := dk_153 0 34 (dk_at dksX0_agreeing_1 10 rfl rfl)
theorem dX0_agreeing_36 : decode cX0_agreeing 36 = .ok (.aload_n 0, 1) := dk_42 (dk_at dksX0_agreeing_1 13 rfl rfl)
theorem dX0_agreeing_37 : decode cX0_agreeing 37 = .ok (.getfield 41, 3) := dk_180 0 41 (dk_at dksX0_agreeing_1 14 rfl rfl)
theorem dX0_agreeing_40 : decode cX0_agreeing 40 = .ok (.iload_n 2, 1) := dk_28 (dk_at dksX0_agreeing_1 17 rfl rfl)
theorem dX0_agreeing_41 : decode cX0_agreeing 41 = .ok (.invokevirtual 247, 3) := dk_182 0 247 (dk_at dksX0_agreeing_1 18 rfl rfl)
theorem dX0_agreeing_44 : decode cX0_agreeing 44 = .ok (.aload_n 0, 1) := dk_42 (dk_at dksX0_agreeing_1 21 rfl rfl)
theorem dX0_agreeing_45 : decode cX0_agreeing 45 = .ok (.getfield 41, 3) := dk_180 0 41 (dk_at dksX0_agreeing_2 0 rfl rfl)
theorem dX0_agreeing_48 : decode cX0_agreeing 48 = .ok (.iload 4, 2) := dk_21 4 (dk_at dksX0_agreeing_2 3 rfl rfl)
theorem dX0_agreeing_50 : decode cX0_agreeing 50 = .ok (.invokevirtual 247, 3) := dk_182 0 247 (dk_at dksX0_agreeing_2 5 rfl rfl)
theorem dX0_agreeing_53 : decode cX0_agreeing 53 = .ok (.aload_n 0, 1) := dk_42 (dk_at dksX0_agreeing_2 8 rfl rfl)
theorem dX0_agreeing_54 : decode cX0_agreeing 54 = .ok (.invokevirtual 151, 3) := dk_182 0 151 (dk_at dksX0_agreeing_2 9 rfl rfl)
theorem dX0_agreeing_57 : decode cX0_agreeing 57 = .ok (.invokevirtual 285, 3) := dk_182 1 29 (dk_at dksX0_agreeing_2 12 rfl rfl)
theorem dX0_agreeing_60 : decode cX0_agreeing 60 = .ok (.istore_n 3, 1) := dk_62 (dk_at dksX0_agreeing_2 15 rfl rfl)
theorem dX0_agreeing_61 : decode cX0_agreeing 61 = .ok (.iinc 4 1, 3) := dk_132 4 1 (dk_at dksX0_agreeing_2 16 rfl rfl)
theorem dX0_agreeing_64 : decode cX0_agreeing 64 = .ok (.goto (-44), 3) := dk_167 255 212 (dk_at dksX0_agreeing_2 19 rfl rfl)
theorem dX0_agreeing_67 : decode cX0_agreeing 67 = .ok (.iload_n 1, 1) := dk_27 (dk_at dksX0_agreeing_2 22 rfl rfl)
theorem dX0_agreeing_68 : decode cX0_agreeing 68 = .ok (.iload_n 3, 1) := dk_29 (dk_at dksX0_agreeing_2 23 rfl rfl)
theorem dX0_agreeing_69 : decode cX0_agreeing 69 = .ok (.ifCond .eq 9, 3) := dk_153 0 9 (dk_at dksX0_agreeing_3 0 rfl rfl)
theorem dX0_agreeing_72 : decode cX0_agreeing 72 = .ok (.iconst 1, 1) := dk_4 (dk_at dksX0_agreeing_3 3 rfl rfl)
theorem dX0_agreeing_73 : decode cX0_agreeing 73 = .ok (.iload_n 2, 1) := dk_28 (dk_at dksX0_agreeing_3 4 rfl rfl)
theorem dX0_agreeing_74 : decode cX0_agreeing 74 = .ok (.ishl, 1) := dk_120 (dk_at dksX0_agreeing_3 5 rfl rfl)
theorem dX0_agreeing_75 : decode cX0_agreeing 75 = .ok (.goto 4, 3) := dk_167 0 4 (dk_at dksX0_agreeing_3 6 rfl rfl)
theorem dX0_agreeing_78 : decode cX0_agreeing 78 = .ok (.iconst 0, 1) := dk_3 (dk_at dksX0_agreeing_3 9 rfl rfl)
theorem dX0_agreeing_79 : decode cX0_agreeing 79 = .ok (.ior, 1) := dk_128 (dk_at dksX0_agreeing_3 10 rfl rfl)
theorem dX0_agreeing_80 : decode cX0_agreeing 80 = .ok (.istore_n 1, 1) := dk_60 (dk_at dksX0_agreeing_3 11 rfl rfl)
theorem dX0_agreeing_81 : decode cX0_agreeing 81 = .ok (.iinc 2 1, 3) := dk_132 2 1 (dk_at dksX0_agreeing_3 12 rfl rfl)
theorem dX0_agreeing_84 : decode cX0_agreeing 84 = .ok (.goto (-80), 3) := dk_167 255 176 (dk_at dksX0_agreeing_3 15 rfl rfl)
theorem dX0_agreeing_87 : decode cX0_agreeing 87 = .ok (.iload_n 1, 1) := dk_27 (dk_at dksX0_agreeing_3 18 rfl rfl)
theorem dX0_agreeing_88 : decode cX0_agreeing 88 = .ok (.ireturn, 1) := dk_172 (dk_at dksX0_agreeing_3 19 rfl rfl)
abbrev cX0_sum : ByteArray := prog_1_method_51_code
def yX0_sum : MethodName := ⟨RX0, "sum", "(Z)I"⟩
def dkwX0_sum_2 : List UInt8 := [184, 0, 254, 96, 62, 132, 4, 1, 167, 255, 208, 27, 153, 0, 7, 29, 167, 0, 4, 28, 172]
abbrev dktX0_sum_2 : List UInt8 := dkwX0_sum_2 ++ []
def dkwX0_sum_1 : List UInt8 := [21, 4, 182, 0, 247, 182, 1, 117, 128, 61, 29, 42, 180, 0, 41, 21, 4, 182, 0, 247, 182, 0, 251]
abbrev dktX0_sum_1 : List UInt8 := dkwX0_sum_1 ++ dktX0_sum_2
def dkwX0_sum_0 : List UInt8 := [3, 61, 3, 62, 3, 54, 4, 21, 4, 42, 180, 0, 41, 182, 0, 174, 162, 0, 42, 28, 42, 180, 0, 41]
abbrev dktX0_sum_0 : List UInt8 := dkwX0_sum_0 ++ dktX0_sum_1
theorem dksX0_sum_0 : cX0_sum.data.toList.drop 0 = dktX0_sum_0 := by decide +kernel
theorem dksX0_sum_1 : cX0_sum.data.toList.drop 24 = dktX0_sum_1 := dk_seg dksX0_sum_0 24 rfl rfl
theorem dksX0_sum_2 : cX0_sum.data.toList.drop 47 = dktX0_sum_2 := dk_seg dksX0_sum_1 23 rfl rfl
theorem dX0_sum_0 : decode cX0_sum 0 = .ok (.iconst 0, 1) := dk_3 (dk_at dksX0_sum_0 0 rfl rfl)
theorem dX0_sum_1 : decode cX0_sum 1 = .ok (.istore_n 2, 1) := dk_61 (dk_at dksX0_sum_0 1 rfl rfl)
theorem dX0_sum_2 : decode cX0_sum 2 = .ok (.iconst 0, 1) := dk_3 (dk_at dksX0_sum_0 2 rfl rfl)
theorem dX0_sum_3 : decode cX0_sum 3 = .ok (.istore_n 3, 1) := dk_62 (dk_at dksX0_sum_0 3 rfl rfl)
theorem dX0_sum_4 : decode cX0_sum 4 = .ok (.iconst 0, 1) := dk_3 (dk_at dksX0_sum_0 4 rfl rfl)
theorem dX0_sum_5 : decode cX0_sum 5 = .ok (.istore 4, 2) := dk_54 4 (dk_at dksX0_sum_0 5 rfl rfl)
theorem dX0_sum_7 : decode cX0_sum 7 = .ok (.iload 4, 2) := dk_21 4 (dk_at dksX0_sum_0 7 rfl rfl)
theorem dX0_sum_9 : decode cX0_sum 9 = .ok (.aload_n 0, 1) := dk_42 (dk_at dksX0_sum_0 9 rfl rfl)
theorem dX0_sum_10 : decode cX0_sum 10 = .ok (.getfield 41, 3) := dk_180 0 41 (dk_at dksX0_sum_0 10 rfl rfl)
theorem dX0_sum_13 : decode cX0_sum 13 = .ok (.invokevirtual 174, 3) := dk_182 0 174 (dk_at dksX0_sum_0 13 rfl rfl)
theorem dX0_sum_16 : decode cX0_sum 16 = .ok (.if_icmp .ge 42, 3) := dk_162 0 42 (dk_at dksX0_sum_0 16 rfl rfl)
theorem dX0_sum_19 : decode cX0_sum 19 = .ok (.iload_n 2, 1) := dk_28 (dk_at dksX0_sum_0 19 rfl rfl)
theorem dX0_sum_20 : decode cX0_sum 20 = .ok (.aload_n 0, 1) := dk_42 (dk_at dksX0_sum_0 20 rfl rfl)
theorem dX0_sum_21 : decode cX0_sum 21 = .ok (.getfield 41, 3) := dk_180 0 41 (dk_at dksX0_sum_0 21 rfl rfl)
theorem dX0_sum_24 : decode cX0_sum 24 = .ok (.iload 4, 2) := dk_21 4 (dk_at dksX0_sum_1 0 rfl rfl)
theorem dX0_sum_26 : decode cX0_sum 26 = .ok (.invokevirtual 247, 3) := dk_182 0 247 (dk_at dksX0_sum_1 2 rfl rfl)
theorem dX0_sum_29 : decode cX0_sum 29 = .ok (.invokevirtual 373, 3) := dk_182 1 117 (dk_at dksX0_sum_1 5 rfl rfl)
theorem dX0_sum_32 : decode cX0_sum 32 = .ok (.ior, 1) := dk_128 (dk_at dksX0_sum_1 8 rfl rfl)
theorem dX0_sum_33 : decode cX0_sum 33 = .ok (.istore_n 2, 1) := dk_61 (dk_at dksX0_sum_1 9 rfl rfl)
theorem dX0_sum_34 : decode cX0_sum 34 = .ok (.iload_n 3, 1) := dk_29 (dk_at dksX0_sum_1 10 rfl rfl)
theorem dX0_sum_35 : decode cX0_sum 35 = .ok (.aload_n 0, 1) := dk_42 (dk_at dksX0_sum_1 11 rfl rfl)
theorem dX0_sum_36 : decode cX0_sum 36 = .ok (.getfield 41, 3) := dk_180 0 41 (dk_at dksX0_sum_1 12 rfl rfl)
theorem dX0_sum_39 : decode cX0_sum 39 = .ok (.iload 4, 2) := dk_21 4 (dk_at dksX0_sum_1 15 rfl rfl)
theorem dX0_sum_41 : decode cX0_sum 41 = .ok (.invokevirtual 247, 3) := dk_182 0 247 (dk_at dksX0_sum_1 17 rfl rfl)
theorem dX0_sum_44 : decode cX0_sum 44 = .ok (.invokevirtual 251, 3) := dk_182 0 251 (dk_at dksX0_sum_1 20 rfl rfl)
theorem dX0_sum_47 : decode cX0_sum 47 = .ok (.invokestatic 254, 3) := dk_184 0 254 (dk_at dksX0_sum_2 0 rfl rfl)
theorem dX0_sum_50 : decode cX0_sum 50 = .ok (.iadd, 1) := dk_96 (dk_at dksX0_sum_2 3 rfl rfl)
theorem dX0_sum_51 : decode cX0_sum 51 = .ok (.istore_n 3, 1) := dk_62 (dk_at dksX0_sum_2 4 rfl rfl)
theorem dX0_sum_52 : decode cX0_sum 52 = .ok (.iinc 4 1, 3) := dk_132 4 1 (dk_at dksX0_sum_2 5 rfl rfl)
theorem dX0_sum_55 : decode cX0_sum 55 = .ok (.goto (-48), 3) := dk_167 255 208 (dk_at dksX0_sum_2 8 rfl rfl)
theorem dX0_sum_58 : decode cX0_sum 58 = .ok (.iload_n 1, 1) := dk_27 (dk_at dksX0_sum_2 11 rfl rfl)
theorem dX0_sum_59 : decode cX0_sum 59 = .ok (.ifCond .eq 7, 3) := dk_153 0 7 (dk_at dksX0_sum_2 12 rfl rfl)
theorem dX0_sum_62 : decode cX0_sum 62 = .ok (.iload_n 3, 1) := dk_29 (dk_at dksX0_sum_2 15 rfl rfl)
theorem dX0_sum_63 : decode cX0_sum 63 = .ok (.goto 4, 3) := dk_167 0 4 (dk_at dksX0_sum_2 16 rfl rfl)
theorem dX0_sum_66 : decode cX0_sum 66 = .ok (.iload_n 2, 1) := dk_28 (dk_at dksX0_sum_2 19 rfl rfl)
theorem dX0_sum_67 : decode cX0_sum 67 = .ok (.ireturn, 1) := dk_172 (dk_at dksX0_sum_2 20 rfl rfl)
abbrev cX0_heldMany : ByteArray := prog_1_method_53_code
def yX0_heldMany : MethodName := ⟨RX0, "heldMany", "()I"⟩
def dkwX0_heldMany_1 : List UInt8 := [96, 60, 132, 2, 1, 167, 255, 231, 27, 172]
abbrev dktX0_heldMany_1 : List UInt8 := dkwX0_heldMany_1 ++ []
def dkwX0_heldMany_0 : List UInt8 := [3, 60, 3, 61, 28, 6, 162, 0, 26, 27, 42, 180, 0, 83, 28, 50, 198, 0, 7, 4, 167, 0, 4, 3]
abbrev dktX0_heldMany_0 : List UInt8 := dkwX0_heldMany_0 ++ dktX0_heldMany_1
theorem dksX0_heldMany_0 : cX0_heldMany.data.toList.drop 0 = dktX0_heldMany_0 := by decide +kernel
theorem dksX0_heldMany_1 : cX0_heldMany.data.toList.drop 24 = dktX0_heldMany_1 := dk_seg dksX0_heldMany_0 24 rfl rfl
theorem dX0_heldMany_0 : decode cX0_heldMany 0 = .ok (.iconst 0, 1) := dk_3 (dk_at dksX0_heldMany_0 0 rfl rfl)
theorem dX0_heldMany_1 : decode cX0_heldMany 1 = .ok (.istore_n 1, 1) := dk_60 (dk_at dksX0_heldMany_0 1 rfl rfl)
theorem dX0_heldMany_2 : decode cX0_heldMany 2 = .ok (.iconst 0, 1) := dk_3 (dk_at dksX0_heldMany_0 2 rfl rfl)
theorem dX0_heldMany_3 : decode cX0_heldMany 3 = .ok (.istore_n 2, 1) := dk_61 (dk_at dksX0_heldMany_0 3 rfl rfl)
theorem dX0_heldMany_4 : decode cX0_heldMany 4 = .ok (.iload_n 2, 1) := dk_28 (dk_at dksX0_heldMany_0 4 rfl rfl)
theorem dX0_heldMany_5 : decode cX0_heldMany 5 = .ok (.iconst 3, 1) := dk_6 (dk_at dksX0_heldMany_0 5 rfl rfl)
theorem dX0_heldMany_6 : decode cX0_heldMany 6 = .ok (.if_icmp .ge 26, 3) := dk_162 0 26 (dk_at dksX0_heldMany_0 6 rfl rfl)
theorem dX0_heldMany_9 : decode cX0_heldMany 9 = .ok (.iload_n 1, 1) := dk_27 (dk_at dksX0_heldMany_0 9 rfl rfl)
theorem dX0_heldMany_10 : decode cX0_heldMany 10 = .ok (.aload_n 0, 1) := dk_42 (dk_at dksX0_heldMany_0 10 rfl rfl)
theorem dX0_heldMany_11 : decode cX0_heldMany 11 = .ok (.getfield 83, 3) := dk_180 0 83 (dk_at dksX0_heldMany_0 11 rfl rfl)
theorem dX0_heldMany_14 : decode cX0_heldMany 14 = .ok (.iload_n 2, 1) := dk_28 (dk_at dksX0_heldMany_0 14 rfl rfl)
theorem dX0_heldMany_15 : decode cX0_heldMany 15 = .ok (.aaload, 1) := dk_50 (dk_at dksX0_heldMany_0 15 rfl rfl)
theorem dX0_heldMany_16 : decode cX0_heldMany 16 = .ok (.ifnull 7, 3) := dk_198 0 7 (dk_at dksX0_heldMany_0 16 rfl rfl)
theorem dX0_heldMany_19 : decode cX0_heldMany 19 = .ok (.iconst 1, 1) := dk_4 (dk_at dksX0_heldMany_0 19 rfl rfl)
theorem dX0_heldMany_20 : decode cX0_heldMany 20 = .ok (.goto 4, 3) := dk_167 0 4 (dk_at dksX0_heldMany_0 20 rfl rfl)
theorem dX0_heldMany_23 : decode cX0_heldMany 23 = .ok (.iconst 0, 1) := dk_3 (dk_at dksX0_heldMany_0 23 rfl rfl)
theorem dX0_heldMany_24 : decode cX0_heldMany 24 = .ok (.iadd, 1) := dk_96 (dk_at dksX0_heldMany_1 0 rfl rfl)
theorem dX0_heldMany_25 : decode cX0_heldMany 25 = .ok (.istore_n 1, 1) := dk_60 (dk_at dksX0_heldMany_1 1 rfl rfl)
theorem dX0_heldMany_26 : decode cX0_heldMany 26 = .ok (.iinc 2 1, 3) := dk_132 2 1 (dk_at dksX0_heldMany_1 2 rfl rfl)
theorem dX0_heldMany_29 : decode cX0_heldMany 29 = .ok (.goto (-25), 3) := dk_167 255 231 (dk_at dksX0_heldMany_1 5 rfl rfl)
theorem dX0_heldMany_32 : decode cX0_heldMany 32 = .ok (.iload_n 1, 1) := dk_27 (dk_at dksX0_heldMany_1 8 rfl rfl)
theorem dX0_heldMany_33 : decode cX0_heldMany 33 = .ok (.ireturn, 1) := dk_172 (dk_at dksX0_heldMany_1 9 rfl rfl)
abbrev cX0_touched : ByteArray := prog_1_method_52_code
def yX0_touched : MethodName := ⟨RX0, "touched", "()I"⟩
def dkwX0_touched_3 : List UInt8 := [132, 2, 1, 167, 255, 187, 27, 172]
abbrev dktX0_touched_3 : List UInt8 := dkwX0_touched_3 ++ []
def dkwX0_touched_2 : List UInt8 := [180, 0, 41, 28, 182, 1, 15, 159, 0, 9, 27, 4, 28, 120, 128, 60, 132, 3, 1, 167, 255, 203]
abbrev dktX0_touched_2 : List UInt8 := dkwX0_touched_2 ++ dktX0_touched_3
def dkwX0_touched_1 : List UInt8 := [29, 3, 182, 1, 62, 42, 180, 0, 41, 28, 182, 1, 15, 160, 0, 21, 42, 28, 29, 4, 182, 1, 62, 42]
abbrev dktX0_touched_1 : List UInt8 := dkwX0_touched_1 ++ dktX0_touched_2
def dkwX0_touched_0 : List UInt8 := [3, 60, 3, 61, 28, 42, 182, 0, 151, 162, 0, 67, 3, 62, 29, 42, 180, 0, 131, 162, 0, 51, 42, 28]
abbrev dktX0_touched_0 : List UInt8 := dkwX0_touched_0 ++ dktX0_touched_1
theorem dksX0_touched_0 : cX0_touched.data.toList.drop 0 = dktX0_touched_0 := by decide +kernel
theorem dksX0_touched_1 : cX0_touched.data.toList.drop 24 = dktX0_touched_1 := dk_seg dksX0_touched_0 24 rfl rfl
theorem dksX0_touched_2 : cX0_touched.data.toList.drop 48 = dktX0_touched_2 := dk_seg dksX0_touched_1 24 rfl rfl
theorem dksX0_touched_3 : cX0_touched.data.toList.drop 70 = dktX0_touched_3 := dk_seg dksX0_touched_2 22 rfl rfl
theorem dX0_touched_0 : decode cX0_touched 0 = .ok (.iconst 0, 1) := dk_3 (dk_at dksX0_touched_0 0 rfl rfl)
theorem dX0_touched_1 : decode cX0_touched 1 = .ok (.istore_n 1, 1) := dk_60 (dk_at dksX0_touched_0 1 rfl rfl)
theorem dX0_touched_2 : decode cX0_touched 2 = .ok (.iconst 0, 1) := dk_3 (dk_at dksX0_touched_0 2 rfl rfl)
theorem dX0_touched_3 : decode cX0_touched 3 = .ok (.istore_n 2, 1) := dk_61 (dk_at dksX0_touched_0 3 rfl rfl)
theorem dX0_touched_4 : decode cX0_touched 4 = .ok (.iload_n 2, 1) := dk_28 (dk_at dksX0_touched_0 4 rfl rfl)
theorem dX0_touched_5 : decode cX0_touched 5 = .ok (.aload_n 0, 1) := dk_42 (dk_at dksX0_touched_0 5 rfl rfl)
theorem dX0_touched_6 : decode cX0_touched 6 = .ok (.invokevirtual 151, 3) := dk_182 0 151 (dk_at dksX0_touched_0 6 rfl rfl)
theorem dX0_touched_9 : decode cX0_touched 9 = .ok (.if_icmp .ge 67, 3) := dk_162 0 67 (dk_at dksX0_touched_0 9 rfl rfl)
theorem dX0_touched_12 : decode cX0_touched 12 = .ok (.iconst 0, 1) := dk_3 (dk_at dksX0_touched_0 12 rfl rfl)
theorem dX0_touched_13 : decode cX0_touched 13 = .ok (.istore_n 3, 1) := dk_62 (dk_at dksX0_touched_0 13 rfl rfl)
theorem dX0_touched_14 : decode cX0_touched 14 = .ok (.iload_n 3, 1) := dk_29 (dk_at dksX0_touched_0 14 rfl rfl)
theorem dX0_touched_15 : decode cX0_touched 15 = .ok (.aload_n 0, 1) := dk_42 (dk_at dksX0_touched_0 15 rfl rfl)
theorem dX0_touched_16 : decode cX0_touched 16 = .ok (.getfield 131, 3) := dk_180 0 131 (dk_at dksX0_touched_0 16 rfl rfl)
theorem dX0_touched_19 : decode cX0_touched 19 = .ok (.if_icmp .ge 51, 3) := dk_162 0 51 (dk_at dksX0_touched_0 19 rfl rfl)
theorem dX0_touched_22 : decode cX0_touched 22 = .ok (.aload_n 0, 1) := dk_42 (dk_at dksX0_touched_0 22 rfl rfl)
theorem dX0_touched_23 : decode cX0_touched 23 = .ok (.iload_n 2, 1) := dk_28 (dk_at dksX0_touched_0 23 rfl rfl)
theorem dX0_touched_24 : decode cX0_touched 24 = .ok (.iload_n 3, 1) := dk_29 (dk_at dksX0_touched_1 0 rfl rfl)
theorem dX0_touched_25 : decode cX0_touched 25 = .ok (.iconst 0, 1) := dk_3 (dk_at dksX0_touched_1 1 rfl rfl)
theorem dX0_touched_26 : decode cX0_touched 26 = .ok (.invokevirtual 318, 3) := dk_182 1 62 (dk_at dksX0_touched_1 2 rfl rfl)
theorem dX0_touched_29 : decode cX0_touched 29 = .ok (.aload_n 0, 1) := dk_42 (dk_at dksX0_touched_1 5 rfl rfl)
theorem dX0_touched_30 : decode cX0_touched 30 = .ok (.getfield 41, 3) := dk_180 0 41 (dk_at dksX0_touched_1 6 rfl rfl)
theorem dX0_touched_33 : decode cX0_touched 33 = .ok (.iload_n 2, 1) := dk_28 (dk_at dksX0_touched_1 9 rfl rfl)
theorem dX0_touched_34 : decode cX0_touched 34 = .ok (.invokevirtual 271, 3) := dk_182 1 15 (dk_at dksX0_touched_1 10 rfl rfl)
theorem dX0_touched_37 : decode cX0_touched 37 = .ok (.if_icmp .ne 21, 3) := dk_160 0 21 (dk_at dksX0_touched_1 13 rfl rfl)
theorem dX0_touched_40 : decode cX0_touched 40 = .ok (.aload_n 0, 1) := dk_42 (dk_at dksX0_touched_1 16 rfl rfl)
theorem dX0_touched_41 : decode cX0_touched 41 = .ok (.iload_n 2, 1) := dk_28 (dk_at dksX0_touched_1 17 rfl rfl)
theorem dX0_touched_42 : decode cX0_touched 42 = .ok (.iload_n 3, 1) := dk_29 (dk_at dksX0_touched_1 18 rfl rfl)
theorem dX0_touched_43 : decode cX0_touched 43 = .ok (.iconst 1, 1) := dk_4 (dk_at dksX0_touched_1 19 rfl rfl)
theorem dX0_touched_44 : decode cX0_touched 44 = .ok (.invokevirtual 318, 3) := dk_182 1 62 (dk_at dksX0_touched_1 20 rfl rfl)
theorem dX0_touched_47 : decode cX0_touched 47 = .ok (.aload_n 0, 1) := dk_42 (dk_at dksX0_touched_1 23 rfl rfl)
theorem dX0_touched_48 : decode cX0_touched 48 = .ok (.getfield 41, 3) := dk_180 0 41 (dk_at dksX0_touched_2 0 rfl rfl)
theorem dX0_touched_51 : decode cX0_touched 51 = .ok (.iload_n 2, 1) := dk_28 (dk_at dksX0_touched_2 3 rfl rfl)
theorem dX0_touched_52 : decode cX0_touched 52 = .ok (.invokevirtual 271, 3) := dk_182 1 15 (dk_at dksX0_touched_2 4 rfl rfl)
theorem dX0_touched_55 : decode cX0_touched 55 = .ok (.if_icmp .eq 9, 3) := dk_159 0 9 (dk_at dksX0_touched_2 7 rfl rfl)
theorem dX0_touched_58 : decode cX0_touched 58 = .ok (.iload_n 1, 1) := dk_27 (dk_at dksX0_touched_2 10 rfl rfl)
theorem dX0_touched_59 : decode cX0_touched 59 = .ok (.iconst 1, 1) := dk_4 (dk_at dksX0_touched_2 11 rfl rfl)
theorem dX0_touched_60 : decode cX0_touched 60 = .ok (.iload_n 2, 1) := dk_28 (dk_at dksX0_touched_2 12 rfl rfl)
theorem dX0_touched_61 : decode cX0_touched 61 = .ok (.ishl, 1) := dk_120 (dk_at dksX0_touched_2 13 rfl rfl)
theorem dX0_touched_62 : decode cX0_touched 62 = .ok (.ior, 1) := dk_128 (dk_at dksX0_touched_2 14 rfl rfl)
theorem dX0_touched_63 : decode cX0_touched 63 = .ok (.istore_n 1, 1) := dk_60 (dk_at dksX0_touched_2 15 rfl rfl)
theorem dX0_touched_64 : decode cX0_touched 64 = .ok (.iinc 3 1, 3) := dk_132 3 1 (dk_at dksX0_touched_2 16 rfl rfl)
theorem dX0_touched_67 : decode cX0_touched 67 = .ok (.goto (-53), 3) := dk_167 255 203 (dk_at dksX0_touched_2 19 rfl rfl)
theorem dX0_touched_70 : decode cX0_touched 70 = .ok (.iinc 2 1, 3) := dk_132 2 1 (dk_at dksX0_touched_3 0 rfl rfl)
theorem dX0_touched_73 : decode cX0_touched 73 = .ok (.goto (-69), 3) := dk_167 255 187 (dk_at dksX0_touched_3 3 rfl rfl)
theorem dX0_touched_76 : decode cX0_touched 76 = .ok (.iload_n 1, 1) := dk_27 (dk_at dksX0_touched_3 6 rfl rfl)
theorem dX0_touched_77 : decode cX0_touched 77 = .ok (.ireturn, 1) := dk_172 (dk_at dksX0_touched_3 7 rfl rfl)
abbrev cX0_degree : ByteArray := prog_1_method_37_code
def yX0_degree : MethodName := ⟨RX0, "degree", "()I"⟩
def dkwX0_degree_2 : List UInt8 := [167, 255, 224, 132, 2, 1, 167, 255, 208, 27, 172]
abbrev dktX0_degree_2 : List UInt8 := dkwX0_degree_2 ++ []
def dkwX0_degree_1 : List UInt8 := [182, 1, 80, 29, 184, 0, 182, 153, 0, 12, 27, 29, 184, 0, 254, 184, 1, 24, 60, 132, 3, 1]
abbrev dktX0_degree_1 : List UInt8 := dkwX0_degree_1 ++ dktX0_degree_2
def dkwX0_degree_0 : List UInt8 := [3, 60, 3, 61, 28, 42, 180, 0, 131, 162, 0, 46, 3, 62, 29, 42, 182, 0, 151, 162, 0, 30, 42, 28]
abbrev dktX0_degree_0 : List UInt8 := dkwX0_degree_0 ++ dktX0_degree_1
theorem dksX0_degree_0 : cX0_degree.data.toList.drop 0 = dktX0_degree_0 := by decide +kernel
theorem dksX0_degree_1 : cX0_degree.data.toList.drop 24 = dktX0_degree_1 := dk_seg dksX0_degree_0 24 rfl rfl
theorem dksX0_degree_2 : cX0_degree.data.toList.drop 46 = dktX0_degree_2 := dk_seg dksX0_degree_1 22 rfl rfl
theorem dX0_degree_0 : decode cX0_degree 0 = .ok (.iconst 0, 1) := dk_3 (dk_at dksX0_degree_0 0 rfl rfl)
theorem dX0_degree_1 : decode cX0_degree 1 = .ok (.istore_n 1, 1) := dk_60 (dk_at dksX0_degree_0 1 rfl rfl)
theorem dX0_degree_2 : decode cX0_degree 2 = .ok (.iconst 0, 1) := dk_3 (dk_at dksX0_degree_0 2 rfl rfl)
theorem dX0_degree_3 : decode cX0_degree 3 = .ok (.istore_n 2, 1) := dk_61 (dk_at dksX0_degree_0 3 rfl rfl)
theorem dX0_degree_4 : decode cX0_degree 4 = .ok (.iload_n 2, 1) := dk_28 (dk_at dksX0_degree_0 4 rfl rfl)
theorem dX0_degree_5 : decode cX0_degree 5 = .ok (.aload_n 0, 1) := dk_42 (dk_at dksX0_degree_0 5 rfl rfl)
theorem dX0_degree_6 : decode cX0_degree 6 = .ok (.getfield 131, 3) := dk_180 0 131 (dk_at dksX0_degree_0 6 rfl rfl)
theorem dX0_degree_9 : decode cX0_degree 9 = .ok (.if_icmp .ge 46, 3) := dk_162 0 46 (dk_at dksX0_degree_0 9 rfl rfl)
theorem dX0_degree_12 : decode cX0_degree 12 = .ok (.iconst 0, 1) := dk_3 (dk_at dksX0_degree_0 12 rfl rfl)
theorem dX0_degree_13 : decode cX0_degree 13 = .ok (.istore_n 3, 1) := dk_62 (dk_at dksX0_degree_0 13 rfl rfl)
theorem dX0_degree_14 : decode cX0_degree 14 = .ok (.iload_n 3, 1) := dk_29 (dk_at dksX0_degree_0 14 rfl rfl)
theorem dX0_degree_15 : decode cX0_degree 15 = .ok (.aload_n 0, 1) := dk_42 (dk_at dksX0_degree_0 15 rfl rfl)
theorem dX0_degree_16 : decode cX0_degree 16 = .ok (.invokevirtual 151, 3) := dk_182 0 151 (dk_at dksX0_degree_0 16 rfl rfl)
theorem dX0_degree_19 : decode cX0_degree 19 = .ok (.if_icmp .ge 30, 3) := dk_162 0 30 (dk_at dksX0_degree_0 19 rfl rfl)
theorem dX0_degree_22 : decode cX0_degree 22 = .ok (.aload_n 0, 1) := dk_42 (dk_at dksX0_degree_0 22 rfl rfl)
theorem dX0_degree_23 : decode cX0_degree 23 = .ok (.iload_n 2, 1) := dk_28 (dk_at dksX0_degree_0 23 rfl rfl)
theorem dX0_degree_24 : decode cX0_degree 24 = .ok (.invokevirtual 336, 3) := dk_182 1 80 (dk_at dksX0_degree_1 0 rfl rfl)
theorem dX0_degree_27 : decode cX0_degree 27 = .ok (.iload_n 3, 1) := dk_29 (dk_at dksX0_degree_1 3 rfl rfl)
theorem dX0_degree_28 : decode cX0_degree 28 = .ok (.invokestatic 182, 3) := dk_184 0 182 (dk_at dksX0_degree_1 4 rfl rfl)
theorem dX0_degree_31 : decode cX0_degree 31 = .ok (.ifCond .eq 12, 3) := dk_153 0 12 (dk_at dksX0_degree_1 7 rfl rfl)
theorem dX0_degree_34 : decode cX0_degree 34 = .ok (.iload_n 1, 1) := dk_27 (dk_at dksX0_degree_1 10 rfl rfl)
theorem dX0_degree_35 : decode cX0_degree 35 = .ok (.iload_n 3, 1) := dk_29 (dk_at dksX0_degree_1 11 rfl rfl)
theorem dX0_degree_36 : decode cX0_degree 36 = .ok (.invokestatic 254, 3) := dk_184 0 254 (dk_at dksX0_degree_1 12 rfl rfl)
theorem dX0_degree_39 : decode cX0_degree 39 = .ok (.invokestatic 280, 3) := dk_184 1 24 (dk_at dksX0_degree_1 15 rfl rfl)
theorem dX0_degree_42 : decode cX0_degree 42 = .ok (.istore_n 1, 1) := dk_60 (dk_at dksX0_degree_1 18 rfl rfl)
theorem dX0_degree_43 : decode cX0_degree 43 = .ok (.iinc 3 1, 3) := dk_132 3 1 (dk_at dksX0_degree_1 19 rfl rfl)
theorem dX0_degree_46 : decode cX0_degree 46 = .ok (.goto (-32), 3) := dk_167 255 224 (dk_at dksX0_degree_2 0 rfl rfl)
theorem dX0_degree_49 : decode cX0_degree 49 = .ok (.iinc 2 1, 3) := dk_132 2 1 (dk_at dksX0_degree_2 3 rfl rfl)
theorem dX0_degree_52 : decode cX0_degree 52 = .ok (.goto (-48), 3) := dk_167 255 208 (dk_at dksX0_degree_2 6 rfl rfl)
theorem dX0_degree_55 : decode cX0_degree 55 = .ok (.iload_n 1, 1) := dk_27 (dk_at dksX0_degree_2 9 rfl rfl)
theorem dX0_degree_56 : decode cX0_degree 56 = .ok (.ireturn, 1) := dk_172 (dk_at dksX0_degree_2 10 rfl rfl)
theorem q130 : (Jvm.Cond.initialized "BackLogic") ∈ lw_all := lw_g (lw_at lw_m1 1 rfl) rfl
theorem q181 : (Jvm.Cond.instantiable "BackLogic" (18 : Nat)) ∈ lw_all := lw_g (lw_at lw_m1 52 rfl) rfl
theorem q183 : (Jvm.Cond.instanceMethod ({ cls := "BackLogic", name := "<init>", desc := "()V" } : Jvm.MethodName)) ∈ lw_all := lw_g (lw_at lw_m1 54 rfl) rfl
theorem q184 : (Jvm.Cond.code ({ cls := "BackLogic", name := "<init>", desc := "()V" } : Jvm.MethodName) prog_1_method_4_code (1 : Nat) (Option.none : Option Jvm.ClassFile.FieldType)) ∈ lw_all := lw_g (lw_at lw_m1 55 rfl) rfl
theorem q185 : (Jvm.Cond.methodLink "BackLogic" (7 : Nat) ({ cls := "java/lang/Object", name := "<init>", desc := "()V" } : Jvm.MethodName)) ∈ lw_all := lw_g (lw_at lw_m1 56 rfl) rfl
theorem q188 : (Jvm.Cond.classLink "BackLogic" (13 : Nat) "BackLogic$Fault") ∈ lw_all := lw_g (lw_at lw_m1 59 rfl) rfl
theorem q228 : (Jvm.Cond.methodLink "BackLogic" (15 : Nat) ({ cls := "BackLogic$Fault", name := "<init>", desc := "()V" } : Jvm.MethodName)) ∈ lw_all := lw_g (lw_at lw_m1 99 rfl) rfl
theorem q242 : (Jvm.Cond.fieldLink "BackLogic" (124 : Nat) "BackLogic$Fault" "number" "I") ∈ lw_all := lw_g (lw_at lw_m1 113 rfl) rfl
theorem q244 : (Jvm.Cond.fieldLink "BackLogic" (127 : Nat) "BackLogic$Fault" "place" "I") ∈ lw_all := lw_g (lw_at lw_m1 115 rfl) rfl
theorem q263 : (Jvm.Cond.classLink "BackLogic" (22 : Nat) "BackLogic$Tokens") ∈ lw_all := lw_g (lw_at lw_m1 134 rfl) rfl
theorem q265 : (Jvm.Cond.methodLinkNest "BackLogic" (24 : Nat) ({ cls := "BackLogic$Tokens", name := "<init>", desc := "()V" } : Jvm.MethodName) "BackLogic") ∈ lw_tbl := lw_at lw_m1 136 rfl
theorem q286 : (Jvm.Cond.selects "BackLogic" ({ cls := "java/lang/Object", name := "getClass", desc := "()Ljava/lang/Class;" } : Jvm.MethodName) ({ cls := "java/lang/Object", name := "getClass", desc := "()Ljava/lang/Class;" } : Jvm.MethodName)) ∈ lw_all := lw_g (lw_at lw_m1 157 rfl) rfl
theorem q362 : (Jvm.Cond.fieldLink "BackLogic" (114 : Nat) "BackLogic$Tokens" "tape" "[B") ∈ lw_all := lw_g (lw_at lw_m1 233 rfl) rfl
theorem q364 : (Jvm.Cond.fieldLink "BackLogic" (107 : Nat) "BackLogic$Tokens" "taped" "I") ∈ lw_all := lw_g (lw_at lw_m1 235 rfl) rfl
theorem q391 : (Jvm.Cond.classLink "BackLogic" (29 : Nat) "BackLogic$Parser") ∈ lw_all := lw_g (lw_at lw_m2 22 rfl) rfl
theorem q393 : (Jvm.Cond.methodLink "BackLogic" (31 : Nat) ({ cls := "BackLogic$Parser", name := "<init>", desc := "(LBackLogic$Tokens;LBackLogic$Fault;)V" } : Jvm.MethodName)) ∈ lw_all := lw_g (lw_at lw_m2 24 rfl) rfl
theorem q438 : (Jvm.Cond.fieldLink "BackLogic" (189 : Nat) "BackLogic$Cascade" "gates" "Ljava/util/LinkedList;") ∈ lw_all := lw_g (lw_at lw_m2 69 rfl) rfl
theorem q450 : (Jvm.Cond.fieldLink "BackLogic" (345 : Nat) "BackLogic$Table" "inputs" "I") ∈ lw_all := lw_g (lw_at lw_m2 81 rfl) rfl
theorem q453 : (Jvm.Cond.fieldLink "BackLogic" (348 : Nat) "BackLogic$Table" "outputs" "I") ∈ lw_all := lw_g (lw_at lw_m2 84 rfl) rfl
theorem q485 : (Jvm.Cond.fieldLink "BackLogic" (132 : Nat) "BackLogic$Parser" "cascade" "LBackLogic$Cascade;") ∈ lw_all := lw_g (lw_at lw_m2 116 rfl) rfl
theorem q487 : (Jvm.Cond.fieldLink "BackLogic" (137 : Nat) "BackLogic$Parser" "table" "LBackLogic$Table;") ∈ lw_all := lw_g (lw_at lw_m2 118 rfl) rfl
theorem q489 : (Jvm.Cond.fieldLink "BackLogic" (141 : Nat) "BackLogic$Parser" "price" "[I") ∈ lw_all := lw_g (lw_at lw_m2 120 rfl) rfl
theorem q490 : (Jvm.Cond.fieldLink "BackLogic" (128 : Nat) "BackLogic$Parser" "wires" "I") ∈ lw_all := lw_g (lw_at lw_m2 121 rfl) rfl
theorem q523 : (Jvm.Cond.classLink "BackLogic" (38 : Nat) "BackLogic$Cascade") ∈ lw_all := lw_g (lw_at lw_m2 154 rfl) rfl
theorem q524 : (Jvm.Cond.methodLinkNest "BackLogic" (40 : Nat) ({ cls := "BackLogic$Cascade", name := "<init>", desc := "()V" } : Jvm.MethodName) "BackLogic") ∈ lw_tbl := lw_at lw_m2 155 rfl
theorem q525 : (Jvm.Cond.classLink "BackLogic" (48 : Nat) "BackLogic$Table") ∈ lw_all := lw_g (lw_at lw_m2 156 rfl) rfl
theorem q526 : (Jvm.Cond.methodLinkNest "BackLogic" (50 : Nat) ({ cls := "BackLogic$Table", name := "<init>", desc := "()V" } : Jvm.MethodName) "BackLogic") ∈ lw_tbl := lw_at lw_m2 157 rfl
theorem q527 : (Jvm.Cond.classLink "BackLogic" (55 : Nat) "BackLogic$Finder") ∈ lw_all := lw_g (lw_at lw_m2 158 rfl) rfl
theorem q529 : (Jvm.Cond.methodLinkNest "BackLogic" (57 : Nat) ({ cls := "BackLogic$Finder", name := "<init>", desc := "()V" } : Jvm.MethodName) "BackLogic") ∈ lw_tbl := lw_at lw_m2 160 rfl
theorem q554 : (Jvm.Cond.classLink "BackLogic" (62 : Nat) "BackLogic$Shortest") ∈ lw_all := lw_g (lw_at lw_m2 185 rfl) rfl
theorem q556 : (Jvm.Cond.methodLinkNest "BackLogic" (64 : Nat) ({ cls := "BackLogic$Shortest", name := "<init>", desc := "()V" } : Jvm.MethodName) "BackLogic") ∈ lw_tbl := lw_at lw_m2 187 rfl
theorem q619 : (Jvm.Cond.classLink "BackLogic" (69 : Nat) "BackLogic$Tests") ∈ lw_all := lw_g (lw_at lw_m3 10 rfl) rfl
theorem q621 : (Jvm.Cond.methodLinkNest "BackLogic" (71 : Nat) ({ cls := "BackLogic$Tests", name := "<init>", desc := "()V" } : Jvm.MethodName) "BackLogic") ∈ lw_tbl := lw_at lw_m3 12 rfl
theorem q641 : (Jvm.Cond.classLink "BackLogic" (76 : Nat) "java/util/ArrayDeque") ∈ lw_all := lw_g (lw_at lw_m3 32 rfl) rfl
theorem q643 : (Jvm.Cond.methodLink "BackLogic" (78 : Nat) ({ cls := "java/util/ArrayDeque", name := "<init>", desc := "()V" } : Jvm.MethodName)) ∈ lw_all := lw_g (lw_at lw_m3 34 rfl) rfl
theorem q659 : (Jvm.Cond.fieldLink "BackLogic" (16 : Nat) "BackLogic" "fault" "LBackLogic$Fault;") ∈ lw_all := lw_g (lw_at lw_m3 50 rfl) rfl
theorem q660 : (Jvm.Cond.fieldLink "BackLogic" (25 : Nat) "BackLogic" "tokens" "LBackLogic$Tokens;") ∈ lw_all := lw_g (lw_at lw_m3 51 rfl) rfl
theorem q661 : (Jvm.Cond.fieldLink "BackLogic" (34 : Nat) "BackLogic" "parser" "LBackLogic$Parser;") ∈ lw_all := lw_g (lw_at lw_m3 52 rfl) rfl
theorem q662 : (Jvm.Cond.fieldLink "BackLogic" (41 : Nat) "BackLogic" "cascade" "LBackLogic$Cascade;") ∈ lw_all := lw_g (lw_at lw_m3 53 rfl) rfl
theorem q663 : (Jvm.Cond.fieldLink "BackLogic" (45 : Nat) "BackLogic" "trial" "LBackLogic$Cascade;") ∈ lw_all := lw_g (lw_at lw_m3 54 rfl) rfl
theorem q664 : (Jvm.Cond.fieldLink "BackLogic" (51 : Nat) "BackLogic" "table" "LBackLogic$Table;") ∈ lw_all := lw_g (lw_at lw_m3 55 rfl) rfl
theorem q665 : (Jvm.Cond.fieldLink "BackLogic" (58 : Nat) "BackLogic" "finder" "LBackLogic$Finder;") ∈ lw_all := lw_g (lw_at lw_m3 56 rfl) rfl
theorem q666 : (Jvm.Cond.fieldLink "BackLogic" (65 : Nat) "BackLogic" "shortest" "LBackLogic$Shortest;") ∈ lw_all := lw_g (lw_at lw_m3 57 rfl) rfl
theorem q667 : (Jvm.Cond.fieldLink "BackLogic" (72 : Nat) "BackLogic" "tests" "LBackLogic$Tests;") ∈ lw_all := lw_g (lw_at lw_m3 58 rfl) rfl
theorem q668 : (Jvm.Cond.fieldLink "BackLogic" (79 : Nat) "BackLogic" "past" "Ljava/util/ArrayDeque;") ∈ lw_all := lw_g (lw_at lw_m3 59 rfl) rfl
theorem q669 : (Jvm.Cond.fieldLink "BackLogic" (83 : Nat) "BackLogic" "slots" "[LBackLogic$Cascade;") ∈ lw_all := lw_g (lw_at lw_m3 60 rfl) rfl
theorem q670 : (Jvm.Cond.fieldLink "BackLogic" (87 : Nat) "BackLogic" "price" "[I") ∈ lw_all := lw_g (lw_at lw_m3 61 rfl) rfl
theorem q671 : (Jvm.Cond.fieldLink "BackLogic" (91 : Nat) "BackLogic" "order" "[I") ∈ lw_all := lw_g (lw_at lw_m3 62 rfl) rfl
theorem q672 : (Jvm.Cond.fieldLink "BackLogic" (94 : Nat) "BackLogic" "other" "[I") ∈ lw_all := lw_g (lw_at lw_m3 63 rfl) rfl
theorem q673 : (Jvm.Cond.fieldLink "BackLogic" (97 : Nat) "BackLogic" "level" "[I") ∈ lw_all := lw_g (lw_at lw_m3 64 rfl) rfl
theorem q674 : (Jvm.Cond.fieldLink "BackLogic" (100 : Nat) "BackLogic" "place" "I") ∈ lw_all := lw_g (lw_at lw_m3 65 rfl) rfl
theorem q675 : (Jvm.Cond.fieldLink "BackLogic" (131 : Nat) "BackLogic" "wires" "I") ∈ lw_all := lw_g (lw_at lw_m3 66 rfl) rfl
theorem q676 : (Jvm.Cond.fieldLink "BackLogic" (104 : Nat) "BackLogic" "goes" "[I") ∈ lw_all := lw_g (lw_at lw_m3 67 rfl) rfl
theorem q677 : (Jvm.Cond.laysFinal "BackLogic" "BackLogic" "fault" "LBackLogic$Fault;") ∈ lw_all := lw_g (lw_at lw_m3 68 rfl) rfl
theorem q678 : (Jvm.Cond.soleField "BackLogic" "fault") ∈ lw_all := lw_g (lw_at lw_m3 69 rfl) rfl
theorem q679 : (Jvm.Cond.laysFinal "BackLogic" "BackLogic" "tokens" "LBackLogic$Tokens;") ∈ lw_all := lw_g (lw_at lw_m3 70 rfl) rfl
theorem q680 : (Jvm.Cond.soleField "BackLogic" "tokens") ∈ lw_all := lw_g (lw_at lw_m3 71 rfl) rfl
theorem q681 : (Jvm.Cond.laysFinal "BackLogic" "BackLogic" "parser" "LBackLogic$Parser;") ∈ lw_all := lw_g (lw_at lw_m3 72 rfl) rfl
theorem q682 : (Jvm.Cond.soleField "BackLogic" "parser") ∈ lw_all := lw_g (lw_at lw_m3 73 rfl) rfl
theorem q683 : (Jvm.Cond.laysFinal "BackLogic" "BackLogic" "cascade" "LBackLogic$Cascade;") ∈ lw_all := lw_g (lw_at lw_m3 74 rfl) rfl
theorem q684 : (Jvm.Cond.soleField "BackLogic" "cascade") ∈ lw_all := lw_g (lw_at lw_m3 75 rfl) rfl
theorem q685 : (Jvm.Cond.laysFinal "BackLogic" "BackLogic" "trial" "LBackLogic$Cascade;") ∈ lw_all := lw_g (lw_at lw_m3 76 rfl) rfl
theorem q686 : (Jvm.Cond.soleField "BackLogic" "trial") ∈ lw_all := lw_g (lw_at lw_m3 77 rfl) rfl
theorem q687 : (Jvm.Cond.laysFinal "BackLogic" "BackLogic" "table" "LBackLogic$Table;") ∈ lw_all := lw_g (lw_at lw_m3 78 rfl) rfl
theorem q688 : (Jvm.Cond.soleField "BackLogic" "table") ∈ lw_all := lw_g (lw_at lw_m3 79 rfl) rfl
theorem q689 : (Jvm.Cond.laysFinal "BackLogic" "BackLogic" "finder" "LBackLogic$Finder;") ∈ lw_all := lw_g (lw_at lw_m3 80 rfl) rfl
theorem q690 : (Jvm.Cond.soleField "BackLogic" "finder") ∈ lw_all := lw_g (lw_at lw_m3 81 rfl) rfl
theorem q691 : (Jvm.Cond.laysFinal "BackLogic" "BackLogic" "shortest" "LBackLogic$Shortest;") ∈ lw_all := lw_g (lw_at lw_m3 82 rfl) rfl
theorem q692 : (Jvm.Cond.soleField "BackLogic" "shortest") ∈ lw_all := lw_g (lw_at lw_m3 83 rfl) rfl
theorem q693 : (Jvm.Cond.laysFinal "BackLogic" "BackLogic" "tests" "LBackLogic$Tests;") ∈ lw_all := lw_g (lw_at lw_m3 84 rfl) rfl
theorem q694 : (Jvm.Cond.soleField "BackLogic" "tests") ∈ lw_all := lw_g (lw_at lw_m3 85 rfl) rfl
theorem q695 : (Jvm.Cond.laysFinal "BackLogic" "BackLogic" "past" "Ljava/util/ArrayDeque;") ∈ lw_all := lw_g (lw_at lw_m3 86 rfl) rfl
theorem q696 : (Jvm.Cond.soleField "BackLogic" "past") ∈ lw_all := lw_g (lw_at lw_m3 87 rfl) rfl
theorem q697 : (Jvm.Cond.laysFinal "BackLogic" "BackLogic" "slots" "[LBackLogic$Cascade;") ∈ lw_all := lw_g (lw_at lw_m3 88 rfl) rfl
theorem q698 : (Jvm.Cond.soleField "BackLogic" "slots") ∈ lw_all := lw_g (lw_at lw_m3 89 rfl) rfl
theorem q699 : (Jvm.Cond.laysFinal "BackLogic" "BackLogic" "price" "[I") ∈ lw_all := lw_g (lw_at lw_m3 90 rfl) rfl
theorem q700 : (Jvm.Cond.soleField "BackLogic" "price") ∈ lw_all := lw_g (lw_at lw_m3 91 rfl) rfl
theorem q701 : (Jvm.Cond.laysFinal "BackLogic" "BackLogic" "order" "[I") ∈ lw_all := lw_g (lw_at lw_m3 92 rfl) rfl
theorem q702 : (Jvm.Cond.soleField "BackLogic" "order") ∈ lw_all := lw_g (lw_at lw_m3 93 rfl) rfl
theorem q703 : (Jvm.Cond.laysFinal "BackLogic" "BackLogic" "other" "[I") ∈ lw_all := lw_g (lw_at lw_m3 94 rfl) rfl
theorem q704 : (Jvm.Cond.soleField "BackLogic" "other") ∈ lw_all := lw_g (lw_at lw_m3 95 rfl) rfl
theorem q705 : (Jvm.Cond.laysFinal "BackLogic" "BackLogic" "level" "[I") ∈ lw_all := lw_g (lw_at lw_m3 96 rfl) rfl
theorem q706 : (Jvm.Cond.soleField "BackLogic" "level") ∈ lw_all := lw_g (lw_at lw_m3 97 rfl) rfl
theorem q707 : (Jvm.Cond.lays "BackLogic" "BackLogic" "place" "I") ∈ lw_all := lw_g (lw_at lw_m3 98 rfl) rfl
theorem q708 : (Jvm.Cond.soleField "BackLogic" "place") ∈ lw_all := lw_g (lw_at lw_m3 99 rfl) rfl
theorem q709 : (Jvm.Cond.lays "BackLogic" "BackLogic" "wires" "I") ∈ lw_all := lw_g (lw_at lw_m3 100 rfl) rfl
theorem q710 : (Jvm.Cond.soleField "BackLogic" "wires") ∈ lw_all := lw_g (lw_at lw_m3 101 rfl) rfl
theorem q711 : (Jvm.Cond.laysFinal "BackLogic" "BackLogic" "goes" "[I") ∈ lw_all := lw_g (lw_at lw_m3 102 rfl) rfl
theorem q712 : (Jvm.Cond.soleField "BackLogic" "goes") ∈ lw_all := lw_g (lw_at lw_m3 103 rfl) rfl
theorem q713 : (Jvm.Cond.superclass "BackLogic" "java/lang/Object") ∈ lw_all := lw_g (lw_at lw_m3 104 rfl) rfl
theorem q715 : (Jvm.Cond.instanceMethod ({ cls := "BackLogic", name := "feed", desc := "(IIIII)I" } : Jvm.MethodName)) ∈ lw_all := lw_g (lw_at lw_m3 106 rfl) rfl
theorem q716 : (Jvm.Cond.selects "BackLogic" ({ cls := "BackLogic", name := "feed", desc := "(IIIII)I" } : Jvm.MethodName) ({ cls := "BackLogic", name := "feed", desc := "(IIIII)I" } : Jvm.MethodName)) ∈ lw_all := lw_g (lw_at lw_m3 107 rfl) rfl
theorem q717 : (Jvm.Cond.code ({ cls := "BackLogic", name := "feed", desc := "(IIIII)I" } : Jvm.MethodName) prog_1_method_5_code (6 : Nat) (Option.some Jvm.ClassFile.FieldType.int)) ∈ lw_all := lw_g (lw_at lw_m3 108 rfl) rfl
theorem q718 : (Jvm.Cond.methodLink "BackLogic" (110 : Nat) ({ cls := "BackLogic", name := "typed", desc := "(I)V" } : Jvm.MethodName)) ∈ lw_all := lw_g (lw_at lw_m3 109 rfl) rfl
theorem q719 : (Jvm.Cond.privateMethod ({ cls := "BackLogic", name := "typed", desc := "(I)V" } : Jvm.MethodName)) ∈ lw_tbl := lw_at lw_m3 110 rfl
theorem q720 : (Jvm.Cond.instanceMethod ({ cls := "BackLogic", name := "typed", desc := "(I)V" } : Jvm.MethodName)) ∈ lw_all := lw_g (lw_at lw_m3 111 rfl) rfl
theorem q721 : (Jvm.Cond.code ({ cls := "BackLogic", name := "typed", desc := "(I)V" } : Jvm.MethodName) prog_1_method_6_code (3 : Nat) (Option.none : Option Jvm.ClassFile.FieldType)) ∈ lw_all := lw_g (lw_at lw_m3 112 rfl) rfl
theorem q723 : (Jvm.Cond.instanceMethod ({ cls := "BackLogic", name := "back", desc := "(I)I" } : Jvm.MethodName)) ∈ lw_all := lw_g (lw_at lw_m3 114 rfl) rfl
theorem q724 : (Jvm.Cond.selects "BackLogic" ({ cls := "BackLogic", name := "back", desc := "(I)I" } : Jvm.MethodName) ({ cls := "BackLogic", name := "back", desc := "(I)I" } : Jvm.MethodName)) ∈ lw_all := lw_g (lw_at lw_m3 115 rfl) rfl
theorem q725 : (Jvm.Cond.code ({ cls := "BackLogic", name := "back", desc := "(I)I" } : Jvm.MethodName) prog_1_method_7_code (2 : Nat) (Option.some Jvm.ClassFile.FieldType.int)) ∈ lw_all := lw_g (lw_at lw_m3 116 rfl) rfl
theorem q727 : (Jvm.Cond.instanceMethod ({ cls := "BackLogic", name := "read", desc := "()I" } : Jvm.MethodName)) ∈ lw_all := lw_g (lw_at lw_m3 118 rfl) rfl
theorem q728 : (Jvm.Cond.selects "BackLogic" ({ cls := "BackLogic", name := "read", desc := "()I" } : Jvm.MethodName) ({ cls := "BackLogic", name := "read", desc := "()I" } : Jvm.MethodName)) ∈ lw_all := lw_g (lw_at lw_m3 119 rfl) rfl
theorem q729 : (Jvm.Cond.codeWith ({ cls := "BackLogic", name := "read", desc := "()I" } : Jvm.MethodName) prog_1_method_8_code (3 : Nat) (Option.some Jvm.ClassFile.FieldType.int) [((7 : Nat), (18 : Nat), (21 : Nat), (13 : Nat))]) ∈ lw_all := lw_g (lw_at lw_m3 120 rfl) rfl
theorem q730 : (Jvm.Cond.methodLink "BackLogic" (118 : Nat) ({ cls := "BackLogic$Parser", name := "read", desc := "()V" } : Jvm.MethodName)) ∈ lw_all := lw_g (lw_at lw_m3 121 rfl) rfl
theorem q1006 : (Jvm.Cond.static ({ cls := "BackLogic", name := "isIn", desc := "(III)Z" } : Jvm.MethodName)) ∈ lw_all := lw_g (lw_at lw_m4 157 rfl) rfl
theorem q1007 : (Jvm.Cond.code ({ cls := "BackLogic", name := "isIn", desc := "(III)Z" } : Jvm.MethodName) prog_1_method_1_code (3 : Nat) (Option.some Jvm.ClassFile.FieldType.boolean)) ∈ lw_all := lw_g (lw_at lw_m4 158 rfl) rfl
theorem q1064 : (Jvm.Cond.methodLink "BackLogic" (121 : Nat) ({ cls := "BackLogic", name := "begins", desc := "()V" } : Jvm.MethodName)) ∈ lw_all := lw_g (lw_at lw_m4 215 rfl) rfl
theorem q1065 : (Jvm.Cond.privateMethod ({ cls := "BackLogic", name := "begins", desc := "()V" } : Jvm.MethodName)) ∈ lw_tbl := lw_at lw_m4 216 rfl
theorem q1066 : (Jvm.Cond.instanceMethod ({ cls := "BackLogic", name := "begins", desc := "()V" } : Jvm.MethodName)) ∈ lw_all := lw_g (lw_at lw_m4 217 rfl) rfl
theorem q1067 : (Jvm.Cond.code ({ cls := "BackLogic", name := "begins", desc := "()V" } : Jvm.MethodName) prog_1_method_9_code (2 : Nat) (Option.none : Option Jvm.ClassFile.FieldType)) ∈ lw_all := lw_g (lw_at lw_m4 218 rfl) rfl
theorem q1068 : (Jvm.Cond.methodLink "BackLogic" (133 : Nat) ({ cls := "BackLogic$Cascade", name := "becomes", desc := "(LBackLogic$Cascade;)V" } : Jvm.MethodName)) ∈ lw_all := lw_g (lw_at lw_m4 219 rfl) rfl
theorem q1441 : (Jvm.Cond.methodLink "BackLogic" (138 : Nat) ({ cls := "BackLogic$Table", name := "becomes", desc := "(LBackLogic$Table;)V" } : Jvm.MethodName)) ∈ lw_all := lw_g (lw_at lw_m6 112 rfl) rfl
theorem q1446 : (Jvm.Cond.methodLink "BackLogic" (142 : Nat) ({ cls := "java/lang/System", name := "arraycopy", desc := "(Ljava/lang/Object;ILjava/lang/Object;II)V" } : Jvm.MethodName)) ∈ lw_all := lw_g (lw_at lw_m6 117 rfl) rfl
theorem q1447 : (Jvm.Cond.methodLink "BackLogic" (148 : Nat) ({ cls := "java/util/ArrayDeque", name := "clear", desc := "()V" } : Jvm.MethodName)) ∈ lw_all := lw_g (lw_at lw_m6 118 rfl) rfl
theorem q1455 : (Jvm.Cond.instanceMethod ({ cls := "BackLogic", name := "place", desc := "()I" } : Jvm.MethodName)) ∈ lw_all := lw_g (lw_at lw_m6 126 rfl) rfl
theorem q1456 : (Jvm.Cond.selects "BackLogic" ({ cls := "BackLogic", name := "place", desc := "()I" } : Jvm.MethodName) ({ cls := "BackLogic", name := "place", desc := "()I" } : Jvm.MethodName)) ∈ lw_all := lw_g (lw_at lw_m6 127 rfl) rfl
theorem q1457 : (Jvm.Cond.code ({ cls := "BackLogic", name := "place", desc := "()I" } : Jvm.MethodName) prog_1_method_10_code (1 : Nat) (Option.some Jvm.ClassFile.FieldType.int)) ∈ lw_all := lw_g (lw_at lw_m6 128 rfl) rfl
theorem q1459 : (Jvm.Cond.instanceMethod ({ cls := "BackLogic", name := "put", desc := "(IIII)Z" } : Jvm.MethodName)) ∈ lw_all := lw_g (lw_at lw_m6 130 rfl) rfl
theorem q1460 : (Jvm.Cond.selects "BackLogic" ({ cls := "BackLogic", name := "put", desc := "(IIII)Z" } : Jvm.MethodName) ({ cls := "BackLogic", name := "put", desc := "(IIII)Z" } : Jvm.MethodName)) ∈ lw_all := lw_g (lw_at lw_m6 131 rfl) rfl
theorem q1461 : (Jvm.Cond.code ({ cls := "BackLogic", name := "put", desc := "(IIII)Z" } : Jvm.MethodName) prog_1_method_15_code (5 : Nat) (Option.some Jvm.ClassFile.FieldType.boolean)) ∈ lw_all := lw_g (lw_at lw_m6 132 rfl) rfl
theorem q1462 : (Jvm.Cond.methodLink "BackLogic" (174 : Nat) ({ cls := "BackLogic$Cascade", name := "size", desc := "()I" } : Jvm.MethodName)) ∈ lw_all := lw_g (lw_at lw_m6 133 rfl) rfl
theorem q1467 : (Jvm.Cond.methodLink "BackLogic" (155 : Nat) ({ cls := "BackLogic", name := "isIn", desc := "(III)Z" } : Jvm.MethodName)) ∈ lw_all := lw_g (lw_at lw_m6 138 rfl) rfl
theorem q1468 : (Jvm.Cond.methodLink "BackLogic" (175 : Nat) ({ cls := "BackLogic", name := "isWire", desc := "(I)Z" } : Jvm.MethodName)) ∈ lw_all := lw_g (lw_at lw_m6 139 rfl) rfl
theorem q1469 : (Jvm.Cond.privateMethod ({ cls := "BackLogic", name := "isWire", desc := "(I)Z" } : Jvm.MethodName)) ∈ lw_tbl := lw_at lw_m6 140 rfl
theorem q1470 : (Jvm.Cond.instanceMethod ({ cls := "BackLogic", name := "isWire", desc := "(I)Z" } : Jvm.MethodName)) ∈ lw_all := lw_g (lw_at lw_m6 141 rfl) rfl
theorem q1471 : (Jvm.Cond.code ({ cls := "BackLogic", name := "isWire", desc := "(I)Z" } : Jvm.MethodName) prog_1_method_13_code (2 : Nat) (Option.some Jvm.ClassFile.FieldType.boolean)) ∈ lw_all := lw_g (lw_at lw_m6 142 rfl) rfl
theorem q1472 : (Jvm.Cond.methodLink "BackLogic" (179 : Nat) ({ cls := "BackLogic", name := "isRow", desc := "(I)Z" } : Jvm.MethodName)) ∈ lw_all := lw_g (lw_at lw_m6 143 rfl) rfl
theorem q1473 : (Jvm.Cond.privateMethod ({ cls := "BackLogic", name := "isRow", desc := "(I)Z" } : Jvm.MethodName)) ∈ lw_tbl := lw_at lw_m6 144 rfl
theorem q1474 : (Jvm.Cond.instanceMethod ({ cls := "BackLogic", name := "isRow", desc := "(I)Z" } : Jvm.MethodName)) ∈ lw_all := lw_g (lw_at lw_m6 145 rfl) rfl
theorem q1475 : (Jvm.Cond.code ({ cls := "BackLogic", name := "isRow", desc := "(I)Z" } : Jvm.MethodName) prog_1_method_12_code (2 : Nat) (Option.some Jvm.ClassFile.FieldType.boolean)) ∈ lw_all := lw_g (lw_at lw_m6 146 rfl) rfl
theorem q1476 : (Jvm.Cond.methodLink "BackLogic" (151 : Nat) ({ cls := "BackLogic", name := "rows", desc := "()I" } : Jvm.MethodName)) ∈ lw_all := lw_g (lw_at lw_m6 147 rfl) rfl
theorem q1477 : (Jvm.Cond.privateMethod ({ cls := "BackLogic", name := "rows", desc := "()I" } : Jvm.MethodName)) ∈ lw_tbl := lw_at lw_m6 148 rfl
theorem q1478 : (Jvm.Cond.instanceMethod ({ cls := "BackLogic", name := "rows", desc := "()I" } : Jvm.MethodName)) ∈ lw_all := lw_g (lw_at lw_m6 149 rfl) rfl
theorem q1479 : (Jvm.Cond.code ({ cls := "BackLogic", name := "rows", desc := "()I" } : Jvm.MethodName) prog_1_method_11_code (1 : Nat) (Option.some Jvm.ClassFile.FieldType.int)) ∈ lw_all := lw_g (lw_at lw_m6 150 rfl) rfl
theorem q1480 : (Jvm.Cond.methodLink "BackLogic" (182 : Nat) ({ cls := "BackLogic", name := "has", desc := "(II)Z" } : Jvm.MethodName)) ∈ lw_all := lw_g (lw_at lw_m6 151 rfl) rfl
theorem q1481 : (Jvm.Cond.static ({ cls := "BackLogic", name := "has", desc := "(II)Z" } : Jvm.MethodName)) ∈ lw_all := lw_g (lw_at lw_m6 152 rfl) rfl
theorem q1482 : (Jvm.Cond.code ({ cls := "BackLogic", name := "has", desc := "(II)Z" } : Jvm.MethodName) prog_1_method_2_code (2 : Nat) (Option.some Jvm.ClassFile.FieldType.boolean)) ∈ lw_all := lw_g (lw_at lw_m6 153 rfl) rfl
theorem q1483 : (Jvm.Cond.methodLink "BackLogic" (186 : Nat) ({ cls := "BackLogic", name := "keeps", desc := "()V" } : Jvm.MethodName)) ∈ lw_all := lw_g (lw_at lw_m6 154 rfl) rfl
theorem q1484 : (Jvm.Cond.privateMethod ({ cls := "BackLogic", name := "keeps", desc := "()V" } : Jvm.MethodName)) ∈ lw_tbl := lw_at lw_m6 155 rfl
theorem q1485 : (Jvm.Cond.instanceMethod ({ cls := "BackLogic", name := "keeps", desc := "()V" } : Jvm.MethodName)) ∈ lw_all := lw_g (lw_at lw_m6 156 rfl) rfl
theorem q1486 : (Jvm.Cond.code ({ cls := "BackLogic", name := "keeps", desc := "()V" } : Jvm.MethodName) prog_1_method_14_code (1 : Nat) (Option.none : Option Jvm.ClassFile.FieldType)) ∈ lw_all := lw_g (lw_at lw_m6 157 rfl) rfl
theorem q1487 : (Jvm.Cond.methodLink "BackLogic" (159 : Nat) ({ cls := "java/util/ArrayDeque", name := "size", desc := "()I" } : Jvm.MethodName)) ∈ lw_all := lw_g (lw_at lw_m6 158 rfl) rfl
theorem q1494 : (Jvm.Cond.methodLink "BackLogic" (162 : Nat) ({ cls := "java/util/ArrayDeque", name := "pollFirst", desc := "()Ljava/lang/Object;" } : Jvm.MethodName)) ∈ lw_all := lw_g (lw_at lw_m6 165 rfl) rfl
theorem q1504 : (Jvm.Cond.methodLink "BackLogic" (166 : Nat) ({ cls := "BackLogic$Cascade", name := "copy", desc := "()LBackLogic$Cascade;" } : Jvm.MethodName)) ∈ lw_all := lw_g (lw_at lw_m6 175 rfl) rfl
theorem q1511 : (Jvm.Cond.methodLink "BackLogic" (170 : Nat) ({ cls := "java/util/ArrayDeque", name := "addLast", desc := "(Ljava/lang/Object;)V" } : Jvm.MethodName)) ∈ lw_all := lw_g (lw_at lw_m6 182 rfl) rfl
theorem q1527 : (Jvm.Cond.classLink "BackLogic" (193 : Nat) "BackLogic$Gate") ∈ lw_all := lw_g (lw_at lw_m6 198 rfl) rfl
theorem q1528 : (Jvm.Cond.methodLink "BackLogic" (195 : Nat) ({ cls := "BackLogic$Gate", name := "<init>", desc := "(III)V" } : Jvm.MethodName)) ∈ lw_all := lw_g (lw_at lw_m6 199 rfl) rfl
theorem q1529 : (Jvm.Cond.methodLink "BackLogic" (198 : Nat) ({ cls := "java/util/LinkedList", name := "add", desc := "(ILjava/lang/Object;)V" } : Jvm.MethodName)) ∈ lw_all := lw_g (lw_at lw_m6 200 rfl) rfl
theorem q1538 : (Jvm.Cond.instanceMethod ({ cls := "BackLogic", name := "take", desc := "(I)Z" } : Jvm.MethodName)) ∈ lw_all := lw_g (lw_at lw_m6 209 rfl) rfl
theorem q1539 : (Jvm.Cond.selects "BackLogic" ({ cls := "BackLogic", name := "take", desc := "(I)Z" } : Jvm.MethodName) ({ cls := "BackLogic", name := "take", desc := "(I)Z" } : Jvm.MethodName)) ∈ lw_all := lw_g (lw_at lw_m6 210 rfl) rfl
theorem q1540 : (Jvm.Cond.code ({ cls := "BackLogic", name := "take", desc := "(I)Z" } : Jvm.MethodName) prog_1_method_16_code (2 : Nat) (Option.some Jvm.ClassFile.FieldType.boolean)) ∈ lw_all := lw_g (lw_at lw_m6 211 rfl) rfl
theorem q1541 : (Jvm.Cond.methodLink "BackLogic" (204 : Nat) ({ cls := "BackLogic$Cascade", name := "isGate", desc := "(I)Z" } : Jvm.MethodName)) ∈ lw_all := lw_g (lw_at lw_m6 212 rfl) rfl
theorem q1546 : (Jvm.Cond.methodLink "BackLogic" (207 : Nat) ({ cls := "java/util/LinkedList", name := "remove", desc := "(I)Ljava/lang/Object;" } : Jvm.MethodName)) ∈ lw_all := lw_g (lw_at lw_m6 217 rfl) rfl
theorem q1555 : (Jvm.Cond.instanceMethod ({ cls := "BackLogic", name := "swap", desc := "(I)Z" } : Jvm.MethodName)) ∈ lw_all := lw_g (lw_at lw_m6 226 rfl) rfl
theorem q1556 : (Jvm.Cond.selects "BackLogic" ({ cls := "BackLogic", name := "swap", desc := "(I)Z" } : Jvm.MethodName) ({ cls := "BackLogic", name := "swap", desc := "(I)Z" } : Jvm.MethodName)) ∈ lw_all := lw_g (lw_at lw_m6 227 rfl) rfl
theorem q1557 : (Jvm.Cond.code ({ cls := "BackLogic", name := "swap", desc := "(I)Z" } : Jvm.MethodName) prog_1_method_17_code (2 : Nat) (Option.some Jvm.ClassFile.FieldType.boolean)) ∈ lw_all := lw_g (lw_at lw_m6 228 rfl) rfl
theorem q1558 : (Jvm.Cond.methodLink "BackLogic" (211 : Nat) ({ cls := "BackLogic$Cascade", name := "swaps", desc := "(I)V" } : Jvm.MethodName)) ∈ lw_all := lw_g (lw_at lw_m6 229 rfl) rfl
theorem q1565 : (Jvm.Cond.instanceMethod ({ cls := "BackLogic", name := "become", desc := "(I)I" } : Jvm.MethodName)) ∈ lw_all := lw_g (lw_at lw_m6 236 rfl) rfl
theorem q1566 : (Jvm.Cond.selects "BackLogic" ({ cls := "BackLogic", name := "become", desc := "(I)I" } : Jvm.MethodName) ({ cls := "BackLogic", name := "become", desc := "(I)I" } : Jvm.MethodName)) ∈ lw_all := lw_g (lw_at lw_m6 237 rfl) rfl
theorem q1567 : (Jvm.Cond.code ({ cls := "BackLogic", name := "become", desc := "(I)I" } : Jvm.MethodName) prog_1_method_19_code (3 : Nat) (Option.some Jvm.ClassFile.FieldType.int)) ∈ lw_all := lw_g (lw_at lw_m6 238 rfl) rfl
theorem q1568 : (Jvm.Cond.methodLink "BackLogic" (240 : Nat) ({ cls := "BackLogic", name := "tries", desc := "(I)I" } : Jvm.MethodName)) ∈ lw_all := lw_g (lw_at lw_m6 239 rfl) rfl
theorem q1569 : (Jvm.Cond.privateMethod ({ cls := "BackLogic", name := "tries", desc := "(I)I" } : Jvm.MethodName)) ∈ lw_tbl := lw_at lw_m7 0 rfl
theorem q1570 : (Jvm.Cond.instanceMethod ({ cls := "BackLogic", name := "tries", desc := "(I)I" } : Jvm.MethodName)) ∈ lw_all := lw_g (lw_at lw_m7 1 rfl) rfl
theorem q1571 : (Jvm.Cond.code ({ cls := "BackLogic", name := "tries", desc := "(I)I" } : Jvm.MethodName) prog_1_method_18_code (3 : Nat) (Option.some Jvm.ClassFile.FieldType.int)) ∈ lw_all := lw_g (lw_at lw_m7 2 rfl) rfl
theorem q1572 : (Jvm.Cond.methodLink "BackLogic" (214 : Nat) ({ cls := "BackLogic$Cascade", name := "shrinks", desc := "(I)V" } : Jvm.MethodName)) ∈ lw_all := lw_g (lw_at lw_m7 3 rfl) rfl
theorem q1602 : (Jvm.Cond.static ({ cls := "BackLogic", name := "many", desc := "(I)I" } : Jvm.MethodName)) ∈ lw_all := lw_g (lw_at lw_m7 33 rfl) rfl
theorem q1603 : (Jvm.Cond.code ({ cls := "BackLogic", name := "many", desc := "(I)I" } : Jvm.MethodName) prog_1_method_3_code (1 : Nat) (Option.some Jvm.ClassFile.FieldType.int)) ∈ lw_all := lw_g (lw_at lw_m7 34 rfl) rfl
theorem q1604 : (Jvm.Cond.methodLink "BackLogic" (1 : Nat) ({ cls := "java/lang/Integer", name := "bitCount", desc := "(I)I" } : Jvm.MethodName)) ∈ lw_all := lw_g (lw_at lw_m7 35 rfl) rfl
theorem q1628 : (Jvm.Cond.methodLink "BackLogic" (217 : Nat) ({ cls := "BackLogic", name := "finds", desc := "(Z)V" } : Jvm.MethodName)) ∈ lw_all := lw_g (lw_at lw_m7 59 rfl) rfl
theorem q1629 : (Jvm.Cond.privateMethod ({ cls := "BackLogic", name := "finds", desc := "(Z)V" } : Jvm.MethodName)) ∈ lw_tbl := lw_at lw_m7 60 rfl
theorem q1630 : (Jvm.Cond.instanceMethod ({ cls := "BackLogic", name := "finds", desc := "(Z)V" } : Jvm.MethodName)) ∈ lw_all := lw_g (lw_at lw_m7 61 rfl) rfl
theorem q1631 : (Jvm.Cond.code ({ cls := "BackLogic", name := "finds", desc := "(Z)V" } : Jvm.MethodName) prog_1_method_28_code (2 : Nat) (Option.none : Option Jvm.ClassFile.FieldType)) ∈ lw_all := lw_g (lw_at lw_m7 62 rfl) rfl
theorem q1632 : (Jvm.Cond.methodLink "BackLogic" (276 : Nat) ({ cls := "BackLogic$Cascade", name := "orders", desc := "([II)V" } : Jvm.MethodName)) ∈ lw_all := lw_g (lw_at lw_m7 63 rfl) rfl
theorem q1645 : (Jvm.Cond.methodLink "BackLogic" (289 : Nat) ({ cls := "BackLogic$Finder", name := "finds", desc := "([IIZ)V" } : Jvm.MethodName)) ∈ lw_all := lw_g (lw_at lw_m7 76 rfl) rfl
theorem q1681 : (Jvm.Cond.methodLink "BackLogic" (221 : Nat) ({ cls := "java/util/LinkedList", name := "clear", desc := "()V" } : Jvm.MethodName)) ∈ lw_all := lw_g (lw_at lw_m7 112 rfl) rfl
theorem q1682 : (Jvm.Cond.methodLink "BackLogic" (222 : Nat) ({ cls := "BackLogic$Finder", name := "size", desc := "()I" } : Jvm.MethodName)) ∈ lw_all := lw_g (lw_at lw_m7 113 rfl) rfl
theorem q1687 : (Jvm.Cond.methodLink "BackLogic" (223 : Nat) ({ cls := "BackLogic$Finder", name := "at", desc := "(I)LBackLogic$Gate;" } : Jvm.MethodName)) ∈ lw_all := lw_g (lw_at lw_m7 118 rfl) rfl
theorem q1692 : (Jvm.Cond.methodLink "BackLogic" (227 : Nat) ({ cls := "java/util/LinkedList", name := "addLast", desc := "(Ljava/lang/Object;)V" } : Jvm.MethodName)) ∈ lw_all := lw_g (lw_at lw_m7 123 rfl) rfl
theorem q1693 : (Jvm.Cond.methodLink "BackLogic" (228 : Nat) ({ cls := "BackLogic$Cascade", name := "turns", desc := "()V" } : Jvm.MethodName)) ∈ lw_all := lw_g (lw_at lw_m7 124 rfl) rfl
theorem q1713 : (Jvm.Cond.methodLink "BackLogic" (231 : Nat) ({ cls := "BackLogic", name := "leastRow", desc := "()Ljava/util/LinkedList;" } : Jvm.MethodName)) ∈ lw_all := lw_g (lw_at lw_m7 144 rfl) rfl
theorem q1714 : (Jvm.Cond.privateMethod ({ cls := "BackLogic", name := "leastRow", desc := "()Ljava/util/LinkedList;" } : Jvm.MethodName)) ∈ lw_tbl := lw_at lw_m7 145 rfl
theorem q1715 : (Jvm.Cond.instanceMethod ({ cls := "BackLogic", name := "leastRow", desc := "()Ljava/util/LinkedList;" } : Jvm.MethodName)) ∈ lw_all := lw_g (lw_at lw_m7 146 rfl) rfl
theorem q1716 : (Jvm.Cond.code ({ cls := "BackLogic", name := "leastRow", desc := "()Ljava/util/LinkedList;" } : Jvm.MethodName) prog_1_method_30_code (1 : Nat) (Option.some (Jvm.ClassFile.FieldType.object "java/util/LinkedList"))) ∈ lw_all := lw_g (lw_at lw_m7 147 rfl) rfl
theorem q1717 : (Jvm.Cond.methodLink "BackLogic" (292 : Nat) ({ cls := "BackLogic$Shortest", name := "lays", desc := "(I)V" } : Jvm.MethodName)) ∈ lw_all := lw_g (lw_at lw_m7 148 rfl) rfl
theorem q1799 : (Jvm.Cond.methodLink "BackLogic" (295 : Nat) ({ cls := "BackLogic$Shortest", name := "first", desc := "([I)Ljava/util/LinkedList;" } : Jvm.MethodName)) ∈ lw_all := lw_g (lw_at lw_m7 230 rfl) rfl
theorem q1827 : (Jvm.Cond.methodLink "BackLogic" (235 : Nat) ({ cls := "java/util/LinkedList", name := "isEmpty", desc := "()Z" } : Jvm.MethodName)) ∈ lw_all := lw_g (lw_at lw_m8 18 rfl) rfl
theorem q1828 : (Jvm.Cond.methodLink "BackLogic" (239 : Nat) ({ cls := "java/util/LinkedList", name := "pollFirst", desc := "()Ljava/lang/Object;" } : Jvm.MethodName)) ∈ lw_all := lw_g (lw_at lw_m8 19 rfl) rfl
theorem q1830 : (Jvm.Cond.instanceMethod ({ cls := "BackLogic", name := "undo", desc := "()Z" } : Jvm.MethodName)) ∈ lw_all := lw_g (lw_at lw_m8 21 rfl) rfl
theorem q1831 : (Jvm.Cond.selects "BackLogic" ({ cls := "BackLogic", name := "undo", desc := "()Z" } : Jvm.MethodName) ({ cls := "BackLogic", name := "undo", desc := "()Z" } : Jvm.MethodName)) ∈ lw_all := lw_g (lw_at lw_m8 22 rfl) rfl
theorem q1832 : (Jvm.Cond.code ({ cls := "BackLogic", name := "undo", desc := "()Z" } : Jvm.MethodName) prog_1_method_20_code (1 : Nat) (Option.some Jvm.ClassFile.FieldType.boolean)) ∈ lw_all := lw_g (lw_at lw_m8 23 rfl) rfl
theorem q1833 : (Jvm.Cond.methodLink "BackLogic" (243 : Nat) ({ cls := "java/util/ArrayDeque", name := "isEmpty", desc := "()Z" } : Jvm.MethodName)) ∈ lw_all := lw_g (lw_at lw_m8 24 rfl) rfl
theorem q1837 : (Jvm.Cond.methodLink "BackLogic" (244 : Nat) ({ cls := "java/util/ArrayDeque", name := "pollLast", desc := "()Ljava/lang/Object;" } : Jvm.MethodName)) ∈ lw_all := lw_g (lw_at lw_m8 28 rfl) rfl
theorem q1845 : (Jvm.Cond.instanceMethod ({ cls := "BackLogic", name := "gate", desc := "(II)I" } : Jvm.MethodName)) ∈ lw_all := lw_g (lw_at lw_m8 36 rfl) rfl
theorem q1846 : (Jvm.Cond.selects "BackLogic" ({ cls := "BackLogic", name := "gate", desc := "(II)I" } : Jvm.MethodName) ({ cls := "BackLogic", name := "gate", desc := "(II)I" } : Jvm.MethodName)) ∈ lw_all := lw_g (lw_at lw_m8 37 rfl) rfl
theorem q1847 : (Jvm.Cond.code ({ cls := "BackLogic", name := "gate", desc := "(II)I" } : Jvm.MethodName) prog_1_method_21_code (4 : Nat) (Option.some Jvm.ClassFile.FieldType.int)) ∈ lw_all := lw_g (lw_at lw_m8 38 rfl) rfl
theorem q1848 : (Jvm.Cond.methodLink "BackLogic" (247 : Nat) ({ cls := "BackLogic$Cascade", name := "at", desc := "(I)LBackLogic$Gate;" } : Jvm.MethodName)) ∈ lw_all := lw_g (lw_at lw_m8 39 rfl) rfl
theorem q1849 : (Jvm.Cond.methodLink "BackLogic" (248 : Nat) ({ cls := "BackLogic$Gate", name := "told", desc := "(I)I" } : Jvm.MethodName)) ∈ lw_all := lw_g (lw_at lw_m8 40 rfl) rfl
theorem q1853 : (Jvm.Cond.methodLink "BackLogic" (251 : Nat) ({ cls := "BackLogic$Gate", name := "controls", desc := "()I" } : Jvm.MethodName)) ∈ lw_all := lw_g (lw_at lw_m8 44 rfl) rfl
theorem q1854 : (Jvm.Cond.methodLink "BackLogic" (254 : Nat) ({ cls := "BackLogic", name := "many", desc := "(I)I" } : Jvm.MethodName)) ∈ lw_all := lw_g (lw_at lw_m8 45 rfl) rfl
theorem q1855 : (Jvm.Cond.methodLink "BackLogic" (257 : Nat) ({ cls := "BackLogic$Cascade", name := "levels", desc := "([I)I" } : Jvm.MethodName)) ∈ lw_all := lw_g (lw_at lw_m8 46 rfl) rfl
theorem q1864 : (Jvm.Cond.methodLink "BackLogic" (261 : Nat) ({ cls := "BackLogic$Cascade", name := "free", desc := "(II)I" } : Jvm.MethodName)) ∈ lw_all := lw_g (lw_at lw_m8 55 rfl) rfl
theorem q1868 : (Jvm.Cond.methodLink "BackLogic" (265 : Nat) ({ cls := "BackLogic$Cascade", name := "freeBehind", desc := "(II)I" } : Jvm.MethodName)) ∈ lw_all := lw_g (lw_at lw_m8 59 rfl) rfl
theorem q1873 : (Jvm.Cond.instanceMethod ({ cls := "BackLogic", name := "made", desc := "(II)I" } : Jvm.MethodName)) ∈ lw_all := lw_g (lw_at lw_m8 64 rfl) rfl
theorem q1874 : (Jvm.Cond.selects "BackLogic" ({ cls := "BackLogic", name := "made", desc := "(II)I" } : Jvm.MethodName) ({ cls := "BackLogic", name := "made", desc := "(II)I" } : Jvm.MethodName)) ∈ lw_all := lw_g (lw_at lw_m8 65 rfl) rfl
theorem q1875 : (Jvm.Cond.code ({ cls := "BackLogic", name := "made", desc := "(II)I" } : Jvm.MethodName) prog_1_method_22_code (3 : Nat) (Option.some Jvm.ClassFile.FieldType.int)) ∈ lw_all := lw_g (lw_at lw_m8 66 rfl) rfl
theorem q1876 : (Jvm.Cond.methodLink "BackLogic" (268 : Nat) ({ cls := "BackLogic$Cascade", name := "made", desc := "(II)I" } : Jvm.MethodName)) ∈ lw_all := lw_g (lw_at lw_m8 67 rfl) rfl
theorem q1878 : (Jvm.Cond.instanceMethod ({ cls := "BackLogic", name := "undone", desc := "(I)I" } : Jvm.MethodName)) ∈ lw_all := lw_g (lw_at lw_m8 69 rfl) rfl
theorem q1879 : (Jvm.Cond.selects "BackLogic" ({ cls := "BackLogic", name := "undone", desc := "(I)I" } : Jvm.MethodName) ({ cls := "BackLogic", name := "undone", desc := "(I)I" } : Jvm.MethodName)) ∈ lw_all := lw_g (lw_at lw_m8 70 rfl) rfl
theorem q1880 : (Jvm.Cond.code ({ cls := "BackLogic", name := "undone", desc := "(I)I" } : Jvm.MethodName) prog_1_method_23_code (3 : Nat) (Option.some Jvm.ClassFile.FieldType.int)) ∈ lw_all := lw_g (lw_at lw_m8 71 rfl) rfl
theorem q1881 : (Jvm.Cond.methodLink "BackLogic" (271 : Nat) ({ cls := "BackLogic$Cascade", name := "made", desc := "(I)I" } : Jvm.MethodName)) ∈ lw_all := lw_g (lw_at lw_m8 72 rfl) rfl
theorem q1883 : (Jvm.Cond.instanceMethod ({ cls := "BackLogic", name := "order", desc := "(I)I" } : Jvm.MethodName)) ∈ lw_all := lw_g (lw_at lw_m8 74 rfl) rfl
theorem q1884 : (Jvm.Cond.selects "BackLogic" ({ cls := "BackLogic", name := "order", desc := "(I)I" } : Jvm.MethodName) ({ cls := "BackLogic", name := "order", desc := "(I)I" } : Jvm.MethodName)) ∈ lw_all := lw_g (lw_at lw_m8 75 rfl) rfl
theorem q1885 : (Jvm.Cond.code ({ cls := "BackLogic", name := "order", desc := "(I)I" } : Jvm.MethodName) prog_1_method_25_code (10 : Nat) (Option.some Jvm.ClassFile.FieldType.int)) ∈ lw_all := lw_g (lw_at lw_m8 76 rfl) rfl
theorem q1886 : (Jvm.Cond.methodLink "BackLogic" (280 : Nat) ({ cls := "java/lang/Math", name := "max", desc := "(II)I" } : Jvm.MethodName)) ∈ lw_all := lw_g (lw_at lw_m8 77 rfl) rfl
theorem q1887 : (Jvm.Cond.methodLink "BackLogic" (273 : Nat) ({ cls := "BackLogic", name := "divisor", desc := "(II)I" } : Jvm.MethodName)) ∈ lw_all := lw_g (lw_at lw_m8 78 rfl) rfl
theorem q1888 : (Jvm.Cond.static ({ cls := "BackLogic", name := "divisor", desc := "(II)I" } : Jvm.MethodName)) ∈ lw_all := lw_g (lw_at lw_m8 79 rfl) rfl
theorem q1889 : (Jvm.Cond.code ({ cls := "BackLogic", name := "divisor", desc := "(II)I" } : Jvm.MethodName) prog_1_method_24_code (2 : Nat) (Option.some Jvm.ClassFile.FieldType.int)) ∈ lw_all := lw_g (lw_at lw_m8 80 rfl) rfl
theorem q1891 : (Jvm.Cond.instanceMethod ({ cls := "BackLogic", name := "agree", desc := "(II)I" } : Jvm.MethodName)) ∈ lw_all := lw_g (lw_at lw_m8 82 rfl) rfl
theorem q1892 : (Jvm.Cond.selects "BackLogic" ({ cls := "BackLogic", name := "agree", desc := "(II)I" } : Jvm.MethodName) ({ cls := "BackLogic", name := "agree", desc := "(II)I" } : Jvm.MethodName)) ∈ lw_all := lw_g (lw_at lw_m8 83 rfl) rfl
theorem q1893 : (Jvm.Cond.code ({ cls := "BackLogic", name := "agree", desc := "(II)I" } : Jvm.MethodName) prog_1_method_26_code (3 : Nat) (Option.some Jvm.ClassFile.FieldType.int)) ∈ lw_all := lw_g (lw_at lw_m8 84 rfl) rfl
theorem q1894 : (Jvm.Cond.methodLink "BackLogic" (285 : Nat) ({ cls := "BackLogic$Gate", name := "agrees", desc := "(LBackLogic$Gate;I)Z" } : Jvm.MethodName)) ∈ lw_all := lw_g (lw_at lw_m8 85 rfl) rfl
theorem q1896 : (Jvm.Cond.instanceMethod ({ cls := "BackLogic", name := "shrunk", desc := "(II)I" } : Jvm.MethodName)) ∈ lw_all := lw_g (lw_at lw_m8 87 rfl) rfl
theorem q1897 : (Jvm.Cond.selects "BackLogic" ({ cls := "BackLogic", name := "shrunk", desc := "(II)I" } : Jvm.MethodName) ({ cls := "BackLogic", name := "shrunk", desc := "(II)I" } : Jvm.MethodName)) ∈ lw_all := lw_g (lw_at lw_m8 88 rfl) rfl
theorem q1898 : (Jvm.Cond.code ({ cls := "BackLogic", name := "shrunk", desc := "(II)I" } : Jvm.MethodName) prog_1_method_27_code (4 : Nat) (Option.some Jvm.ClassFile.FieldType.int)) ∈ lw_all := lw_g (lw_at lw_m8 89 rfl) rfl
theorem q1900 : (Jvm.Cond.instanceMethod ({ cls := "BackLogic", name := "found", desc := "(ZII)I" } : Jvm.MethodName)) ∈ lw_all := lw_g (lw_at lw_m8 91 rfl) rfl
theorem q1901 : (Jvm.Cond.selects "BackLogic" ({ cls := "BackLogic", name := "found", desc := "(ZII)I" } : Jvm.MethodName) ({ cls := "BackLogic", name := "found", desc := "(ZII)I" } : Jvm.MethodName)) ∈ lw_all := lw_g (lw_at lw_m8 92 rfl) rfl
theorem q1902 : (Jvm.Cond.code ({ cls := "BackLogic", name := "found", desc := "(ZII)I" } : Jvm.MethodName) prog_1_method_29_code (4 : Nat) (Option.some Jvm.ClassFile.FieldType.int)) ∈ lw_all := lw_g (lw_at lw_m8 93 rfl) rfl
theorem q1904 : (Jvm.Cond.instanceMethod ({ cls := "BackLogic", name := "least", desc := "(II)I" } : Jvm.MethodName)) ∈ lw_all := lw_g (lw_at lw_m8 95 rfl) rfl
theorem q1905 : (Jvm.Cond.selects "BackLogic" ({ cls := "BackLogic", name := "least", desc := "(II)I" } : Jvm.MethodName) ({ cls := "BackLogic", name := "least", desc := "(II)I" } : Jvm.MethodName)) ∈ lw_all := lw_g (lw_at lw_m8 96 rfl) rfl
theorem q1906 : (Jvm.Cond.code ({ cls := "BackLogic", name := "least", desc := "(II)I" } : Jvm.MethodName) prog_1_method_31_code (4 : Nat) (Option.some Jvm.ClassFile.FieldType.int)) ∈ lw_all := lw_g (lw_at lw_m8 97 rfl) rfl
theorem q1907 : (Jvm.Cond.methodLink "BackLogic" (299 : Nat) ({ cls := "BackLogic$Shortest", name := "many", desc := "([I)I" } : Jvm.MethodName)) ∈ lw_all := lw_g (lw_at lw_m8 98 rfl) rfl
theorem q1908 : (Jvm.Cond.methodLink "BackLogic" (301 : Nat) ({ cls := "java/util/LinkedList", name := "size", desc := "()I" } : Jvm.MethodName)) ∈ lw_all := lw_g (lw_at lw_m8 99 rfl) rfl
theorem q1909 : (Jvm.Cond.methodLink "BackLogic" (302 : Nat) ({ cls := "java/util/LinkedList", name := "get", desc := "(I)Ljava/lang/Object;" } : Jvm.MethodName)) ∈ lw_all := lw_g (lw_at lw_m8 100 rfl) rfl
theorem q1911 : (Jvm.Cond.instanceMethod ({ cls := "BackLogic", name := "stuck", desc := "(IIZ)I" } : Jvm.MethodName)) ∈ lw_all := lw_g (lw_at lw_m8 102 rfl) rfl
theorem q1912 : (Jvm.Cond.selects "BackLogic" ({ cls := "BackLogic", name := "stuck", desc := "(IIZ)I" } : Jvm.MethodName) ({ cls := "BackLogic", name := "stuck", desc := "(IIZ)I" } : Jvm.MethodName)) ∈ lw_all := lw_g (lw_at lw_m8 103 rfl) rfl
theorem q1913 : (Jvm.Cond.code ({ cls := "BackLogic", name := "stuck", desc := "(IIZ)I" } : Jvm.MethodName) prog_1_method_33_code (4 : Nat) (Option.some Jvm.ClassFile.FieldType.int)) ∈ lw_all := lw_g (lw_at lw_m8 104 rfl) rfl
theorem q1914 : (Jvm.Cond.methodLink "BackLogic" (318 : Nat) ({ cls := "BackLogic", name := "stuckAt", desc := "(IIZ)I" } : Jvm.MethodName)) ∈ lw_all := lw_g (lw_at lw_m8 105 rfl) rfl
theorem q1915 : (Jvm.Cond.privateMethod ({ cls := "BackLogic", name := "stuckAt", desc := "(IIZ)I" } : Jvm.MethodName)) ∈ lw_tbl := lw_at lw_m8 106 rfl
theorem q1916 : (Jvm.Cond.instanceMethod ({ cls := "BackLogic", name := "stuckAt", desc := "(IIZ)I" } : Jvm.MethodName)) ∈ lw_all := lw_g (lw_at lw_m8 107 rfl) rfl
theorem q1917 : (Jvm.Cond.code ({ cls := "BackLogic", name := "stuckAt", desc := "(IIZ)I" } : Jvm.MethodName) prog_1_method_32_code (6 : Nat) (Option.some Jvm.ClassFile.FieldType.int)) ∈ lw_all := lw_g (lw_at lw_m8 108 rfl) rfl
theorem q1918 : (Jvm.Cond.methodLink "BackLogic" (305 : Nat) ({ cls := "java/util/LinkedList", name := "iterator", desc := "()Ljava/util/Iterator;" } : Jvm.MethodName)) ∈ lw_all := lw_g (lw_at lw_m8 109 rfl) rfl
theorem q1919 : (Jvm.Cond.interfaceEntry "BackLogic" (309 : Nat)) ∈ lw_tbl := lw_at lw_m8 110 rfl
theorem q1920 : (Jvm.Cond.methodLink "BackLogic" (309 : Nat) ({ cls := "java/util/Iterator", name := "hasNext", desc := "()Z" } : Jvm.MethodName)) ∈ lw_all := lw_g (lw_at lw_m8 111 rfl) rfl
theorem q1921 : (Jvm.Cond.interfaceEntry "BackLogic" (314 : Nat)) ∈ lw_tbl := lw_at lw_m8 112 rfl
theorem q1922 : (Jvm.Cond.methodLink "BackLogic" (314 : Nat) ({ cls := "java/util/Iterator", name := "next", desc := "()Ljava/lang/Object;" } : Jvm.MethodName)) ∈ lw_all := lw_g (lw_at lw_m8 113 rfl) rfl
theorem q1923 : (Jvm.Cond.methodLink "BackLogic" (317 : Nat) ({ cls := "BackLogic$Gate", name := "made", desc := "(I)I" } : Jvm.MethodName)) ∈ lw_all := lw_g (lw_at lw_m8 114 rfl) rfl
theorem q1925 : (Jvm.Cond.instanceMethod ({ cls := "BackLogic", name := "test", desc := "(I)I" } : Jvm.MethodName)) ∈ lw_all := lw_g (lw_at lw_m8 116 rfl) rfl
theorem q1926 : (Jvm.Cond.selects "BackLogic" ({ cls := "BackLogic", name := "test", desc := "(I)I" } : Jvm.MethodName) ({ cls := "BackLogic", name := "test", desc := "(I)I" } : Jvm.MethodName)) ∈ lw_all := lw_g (lw_at lw_m8 117 rfl) rfl
theorem q1927 : (Jvm.Cond.code ({ cls := "BackLogic", name := "test", desc := "(I)I" } : Jvm.MethodName) prog_1_method_35_code (3 : Nat) (Option.some Jvm.ClassFile.FieldType.int)) ∈ lw_all := lw_g (lw_at lw_m8 118 rfl) rfl
theorem q1928 : (Jvm.Cond.methodLink "BackLogic" (322 : Nat) ({ cls := "BackLogic$Tests", name := "begins", desc := "(I)V" } : Jvm.MethodName)) ∈ lw_all := lw_g (lw_at lw_m8 119 rfl) rfl
theorem q1932 : (Jvm.Cond.methodLink "BackLogic" (324 : Nat) ({ cls := "BackLogic", name := "seen", desc := "(I)I" } : Jvm.MethodName)) ∈ lw_all := lw_g (lw_at lw_m8 123 rfl) rfl
theorem q1933 : (Jvm.Cond.privateMethod ({ cls := "BackLogic", name := "seen", desc := "(I)I" } : Jvm.MethodName)) ∈ lw_tbl := lw_at lw_m8 124 rfl
theorem q1934 : (Jvm.Cond.instanceMethod ({ cls := "BackLogic", name := "seen", desc := "(I)I" } : Jvm.MethodName)) ∈ lw_all := lw_g (lw_at lw_m8 125 rfl) rfl
theorem q1935 : (Jvm.Cond.code ({ cls := "BackLogic", name := "seen", desc := "(I)I" } : Jvm.MethodName) prog_1_method_34_code (5 : Nat) (Option.some Jvm.ClassFile.FieldType.int)) ∈ lw_all := lw_g (lw_at lw_m8 126 rfl) rfl
theorem q1936 : (Jvm.Cond.methodLink "BackLogic" (327 : Nat) ({ cls := "BackLogic$Tests", name := "adds", desc := "(II)V" } : Jvm.MethodName)) ∈ lw_all := lw_g (lw_at lw_m8 127 rfl) rfl
theorem q1940 : (Jvm.Cond.methodLink "BackLogic" (331 : Nat) ({ cls := "BackLogic$Tests", name := "lays", desc := "()I" } : Jvm.MethodName)) ∈ lw_all := lw_g (lw_at lw_m8 131 rfl) rfl
theorem q1948 : (Jvm.Cond.methodLink "BackLogic" (333 : Nat) ({ cls := "BackLogic$Tests", name := "chosen", desc := "(I)I" } : Jvm.MethodName)) ∈ lw_all := lw_g (lw_at lw_m8 139 rfl) rfl
theorem q1953 : (Jvm.Cond.instanceMethod ({ cls := "BackLogic", name := "terms", desc := "(I)I" } : Jvm.MethodName)) ∈ lw_all := lw_g (lw_at lw_m8 144 rfl) rfl
theorem q1954 : (Jvm.Cond.selects "BackLogic" ({ cls := "BackLogic", name := "terms", desc := "(I)I" } : Jvm.MethodName) ({ cls := "BackLogic", name := "terms", desc := "(I)I" } : Jvm.MethodName)) ∈ lw_all := lw_g (lw_at lw_m8 145 rfl) rfl
theorem q1955 : (Jvm.Cond.code ({ cls := "BackLogic", name := "terms", desc := "(I)I" } : Jvm.MethodName) prog_1_method_36_code (6 : Nat) (Option.some Jvm.ClassFile.FieldType.int)) ∈ lw_all := lw_g (lw_at lw_m8 146 rfl) rfl
theorem q1957 : (Jvm.Cond.instanceMethod ({ cls := "BackLogic", name := "idle", desc := "(I)I" } : Jvm.MethodName)) ∈ lw_all := lw_g (lw_at lw_m8 148 rfl) rfl
theorem q1958 : (Jvm.Cond.selects "BackLogic" ({ cls := "BackLogic", name := "idle", desc := "(I)I" } : Jvm.MethodName) ({ cls := "BackLogic", name := "idle", desc := "(I)I" } : Jvm.MethodName)) ∈ lw_all := lw_g (lw_at lw_m8 149 rfl) rfl
theorem q1959 : (Jvm.Cond.code ({ cls := "BackLogic", name := "idle", desc := "(I)I" } : Jvm.MethodName) prog_1_method_39_code (4 : Nat) (Option.some Jvm.ClassFile.FieldType.int)) ∈ lw_all := lw_g (lw_at lw_m8 150 rfl) rfl
theorem q1960 : (Jvm.Cond.methodLink "BackLogic" (339 : Nat) ({ cls := "BackLogic", name := "isIdle", desc := "(II)Z" } : Jvm.MethodName)) ∈ lw_all := lw_g (lw_at lw_m8 151 rfl) rfl
theorem q1961 : (Jvm.Cond.privateMethod ({ cls := "BackLogic", name := "isIdle", desc := "(II)Z" } : Jvm.MethodName)) ∈ lw_tbl := lw_at lw_m8 152 rfl
theorem q1962 : (Jvm.Cond.instanceMethod ({ cls := "BackLogic", name := "isIdle", desc := "(II)Z" } : Jvm.MethodName)) ∈ lw_all := lw_g (lw_at lw_m8 153 rfl) rfl
theorem q1963 : (Jvm.Cond.code ({ cls := "BackLogic", name := "isIdle", desc := "(II)Z" } : Jvm.MethodName) prog_1_method_38_code (6 : Nat) (Option.some Jvm.ClassFile.FieldType.boolean)) ∈ lw_all := lw_g (lw_at lw_m8 154 rfl) rfl
theorem q1965 : (Jvm.Cond.instanceMethod ({ cls := "BackLogic", name := "table", desc := "(I)I" } : Jvm.MethodName)) ∈ lw_all := lw_g (lw_at lw_m8 156 rfl) rfl
theorem q1966 : (Jvm.Cond.selects "BackLogic" ({ cls := "BackLogic", name := "table", desc := "(I)I" } : Jvm.MethodName) ({ cls := "BackLogic", name := "table", desc := "(I)I" } : Jvm.MethodName)) ∈ lw_all := lw_g (lw_at lw_m8 157 rfl) rfl
theorem q1967 : (Jvm.Cond.code ({ cls := "BackLogic", name := "table", desc := "(I)I" } : Jvm.MethodName) prog_1_method_40_code (2 : Nat) (Option.some Jvm.ClassFile.FieldType.int)) ∈ lw_all := lw_g (lw_at lw_m8 158 rfl) rfl
theorem q1968 : (Jvm.Cond.methodLink "BackLogic" (342 : Nat) ({ cls := "BackLogic$Table", name := "isThere", desc := "()Z" } : Jvm.MethodName)) ∈ lw_all := lw_g (lw_at lw_m8 159 rfl) rfl
theorem q1972 : (Jvm.Cond.methodLink "BackLogic" (351 : Nat) ({ cls := "BackLogic$Table", name := "copies", desc := "()I" } : Jvm.MethodName)) ∈ lw_all := lw_g (lw_at lw_m8 163 rfl) rfl
theorem q1985 : (Jvm.Cond.methodLink "BackLogic" (354 : Nat) ({ cls := "BackLogic$Table", name := "garbage", desc := "()I" } : Jvm.MethodName)) ∈ lw_all := lw_g (lw_at lw_m8 176 rfl) rfl
theorem q1990 : (Jvm.Cond.methodLink "BackLogic" (357 : Nat) ({ cls := "BackLogic$Table", name := "lines", desc := "()I" } : Jvm.MethodName)) ∈ lw_all := lw_g (lw_at lw_m8 181 rfl) rfl
theorem q1995 : (Jvm.Cond.methodLink "BackLogic" (360 : Nat) ({ cls := "BackLogic$Table", name := "lays", desc := "([I)V" } : Jvm.MethodName)) ∈ lw_all := lw_g (lw_at lw_m8 186 rfl) rfl
theorem q2027 : (Jvm.Cond.instanceMethod ({ cls := "BackLogic", name := "laid", desc := "(I)I" } : Jvm.MethodName)) ∈ lw_all := lw_g (lw_at lw_m8 218 rfl) rfl
theorem q2028 : (Jvm.Cond.selects "BackLogic" ({ cls := "BackLogic", name := "laid", desc := "(I)I" } : Jvm.MethodName) ({ cls := "BackLogic", name := "laid", desc := "(I)I" } : Jvm.MethodName)) ∈ lw_all := lw_g (lw_at lw_m8 219 rfl) rfl
theorem q2029 : (Jvm.Cond.code ({ cls := "BackLogic", name := "laid", desc := "(I)I" } : Jvm.MethodName) prog_1_method_41_code (2 : Nat) (Option.some Jvm.ClassFile.FieldType.int)) ∈ lw_all := lw_g (lw_at lw_m8 220 rfl) rfl
theorem q2031 : (Jvm.Cond.instanceMethod ({ cls := "BackLogic", name := "off", desc := "(I)I" } : Jvm.MethodName)) ∈ lw_all := lw_g (lw_at lw_m8 222 rfl) rfl
theorem q2032 : (Jvm.Cond.selects "BackLogic" ({ cls := "BackLogic", name := "off", desc := "(I)I" } : Jvm.MethodName) ({ cls := "BackLogic", name := "off", desc := "(I)I" } : Jvm.MethodName)) ∈ lw_all := lw_g (lw_at lw_m8 223 rfl) rfl
theorem q2033 : (Jvm.Cond.code ({ cls := "BackLogic", name := "off", desc := "(I)I" } : Jvm.MethodName) prog_1_method_43_code (3 : Nat) (Option.some Jvm.ClassFile.FieldType.int)) ∈ lw_all := lw_g (lw_at lw_m8 224 rfl) rfl
theorem q2034 : (Jvm.Cond.methodLink "BackLogic" (363 : Nat) ({ cls := "BackLogic", name := "isHeld", desc := "(I)Z" } : Jvm.MethodName)) ∈ lw_all := lw_g (lw_at lw_m8 225 rfl) rfl
theorem q2035 : (Jvm.Cond.privateMethod ({ cls := "BackLogic", name := "isHeld", desc := "(I)Z" } : Jvm.MethodName)) ∈ lw_tbl := lw_at lw_m8 226 rfl
theorem q2036 : (Jvm.Cond.instanceMethod ({ cls := "BackLogic", name := "isHeld", desc := "(I)Z" } : Jvm.MethodName)) ∈ lw_all := lw_g (lw_at lw_m8 227 rfl) rfl
theorem q2037 : (Jvm.Cond.code ({ cls := "BackLogic", name := "isHeld", desc := "(I)Z" } : Jvm.MethodName) prog_1_method_42_code (2 : Nat) (Option.some Jvm.ClassFile.FieldType.boolean)) ∈ lw_all := lw_g (lw_at lw_m8 228 rfl) rfl
theorem q2039 : (Jvm.Cond.instanceMethod ({ cls := "BackLogic", name := "like", desc := "(I)I" } : Jvm.MethodName)) ∈ lw_all := lw_g (lw_at lw_m8 230 rfl) rfl
theorem q2040 : (Jvm.Cond.selects "BackLogic" ({ cls := "BackLogic", name := "like", desc := "(I)I" } : Jvm.MethodName) ({ cls := "BackLogic", name := "like", desc := "(I)I" } : Jvm.MethodName)) ∈ lw_all := lw_g (lw_at lw_m8 231 rfl) rfl
theorem q2041 : (Jvm.Cond.code ({ cls := "BackLogic", name := "like", desc := "(I)I" } : Jvm.MethodName) prog_1_method_46_code (2 : Nat) (Option.some Jvm.ClassFile.FieldType.int)) ∈ lw_all := lw_g (lw_at lw_m8 232 rfl) rfl
theorem q2042 : (Jvm.Cond.methodLink "BackLogic" (369 : Nat) ({ cls := "BackLogic", name := "renames", desc := "(III)I" } : Jvm.MethodName)) ∈ lw_all := lw_g (lw_at lw_m8 233 rfl) rfl
theorem q2043 : (Jvm.Cond.privateMethod ({ cls := "BackLogic", name := "renames", desc := "(III)I" } : Jvm.MethodName)) ∈ lw_tbl := lw_at lw_m8 234 rfl
theorem q2044 : (Jvm.Cond.instanceMethod ({ cls := "BackLogic", name := "renames", desc := "(III)I" } : Jvm.MethodName)) ∈ lw_all := lw_g (lw_at lw_m8 235 rfl) rfl
theorem q2045 : (Jvm.Cond.code ({ cls := "BackLogic", name := "renames", desc := "(III)I" } : Jvm.MethodName) prog_1_method_45_code (6 : Nat) (Option.some Jvm.ClassFile.FieldType.int)) ∈ lw_all := lw_g (lw_at lw_m8 236 rfl) rfl
theorem q2046 : (Jvm.Cond.methodLink "BackLogic" (366 : Nat) ({ cls := "BackLogic", name := "renamed", desc := "(I)I" } : Jvm.MethodName)) ∈ lw_all := lw_g (lw_at lw_m8 237 rfl) rfl
theorem q2047 : (Jvm.Cond.privateMethod ({ cls := "BackLogic", name := "renamed", desc := "(I)I" } : Jvm.MethodName)) ∈ lw_tbl := lw_at lw_m8 238 rfl
theorem q2048 : (Jvm.Cond.instanceMethod ({ cls := "BackLogic", name := "renamed", desc := "(I)I" } : Jvm.MethodName)) ∈ lw_all := lw_g (lw_at lw_m8 239 rfl) rfl
theorem q2049 : (Jvm.Cond.code ({ cls := "BackLogic", name := "renamed", desc := "(I)I" } : Jvm.MethodName) prog_1_method_44_code (4 : Nat) (Option.some Jvm.ClassFile.FieldType.int)) ∈ lw_all := lw_g (lw_at lw_m9 0 rfl) rfl
theorem q2051 : (Jvm.Cond.instanceMethod ({ cls := "BackLogic", name := "hold", desc := "(I)Z" } : Jvm.MethodName)) ∈ lw_all := lw_g (lw_at lw_m9 2 rfl) rfl
theorem q2052 : (Jvm.Cond.selects "BackLogic" ({ cls := "BackLogic", name := "hold", desc := "(I)Z" } : Jvm.MethodName) ({ cls := "BackLogic", name := "hold", desc := "(I)Z" } : Jvm.MethodName)) ∈ lw_all := lw_g (lw_at lw_m9 3 rfl) rfl
theorem q2053 : (Jvm.Cond.code ({ cls := "BackLogic", name := "hold", desc := "(I)Z" } : Jvm.MethodName) prog_1_method_47_code (2 : Nat) (Option.some Jvm.ClassFile.FieldType.boolean)) ∈ lw_all := lw_g (lw_at lw_m9 4 rfl) rfl
theorem q2055 : (Jvm.Cond.instanceMethod ({ cls := "BackLogic", name := "restore", desc := "(I)Z" } : Jvm.MethodName)) ∈ lw_all := lw_g (lw_at lw_m9 6 rfl) rfl
theorem q2056 : (Jvm.Cond.selects "BackLogic" ({ cls := "BackLogic", name := "restore", desc := "(I)Z" } : Jvm.MethodName) ({ cls := "BackLogic", name := "restore", desc := "(I)Z" } : Jvm.MethodName)) ∈ lw_all := lw_g (lw_at lw_m9 7 rfl) rfl
theorem q2057 : (Jvm.Cond.code ({ cls := "BackLogic", name := "restore", desc := "(I)Z" } : Jvm.MethodName) prog_1_method_48_code (2 : Nat) (Option.some Jvm.ClassFile.FieldType.boolean)) ∈ lw_all := lw_g (lw_at lw_m9 8 rfl) rfl
theorem q2059 : (Jvm.Cond.instanceMethod ({ cls := "BackLogic", name := "count", desc := "(I)I" } : Jvm.MethodName)) ∈ lw_all := lw_g (lw_at lw_m9 10 rfl) rfl
theorem q2060 : (Jvm.Cond.selects "BackLogic" ({ cls := "BackLogic", name := "count", desc := "(I)I" } : Jvm.MethodName) ({ cls := "BackLogic", name := "count", desc := "(I)I" } : Jvm.MethodName)) ∈ lw_all := lw_g (lw_at lw_m9 11 rfl) rfl
theorem q2061 : (Jvm.Cond.code ({ cls := "BackLogic", name := "count", desc := "(I)I" } : Jvm.MethodName) prog_1_method_54_code (2 : Nat) (Option.some Jvm.ClassFile.FieldType.int)) ∈ lw_all := lw_g (lw_at lw_m9 12 rfl) rfl
theorem q2062 : (Jvm.Cond.methodLink "BackLogic" (375 : Nat) ({ cls := "BackLogic", name := "cost", desc := "()I" } : Jvm.MethodName)) ∈ lw_all := lw_g (lw_at lw_m9 13 rfl) rfl
theorem q2063 : (Jvm.Cond.privateMethod ({ cls := "BackLogic", name := "cost", desc := "()I" } : Jvm.MethodName)) ∈ lw_tbl := lw_at lw_m9 14 rfl
theorem q2064 : (Jvm.Cond.instanceMethod ({ cls := "BackLogic", name := "cost", desc := "()I" } : Jvm.MethodName)) ∈ lw_all := lw_g (lw_at lw_m9 15 rfl) rfl
theorem q2065 : (Jvm.Cond.code ({ cls := "BackLogic", name := "cost", desc := "()I" } : Jvm.MethodName) prog_1_method_49_code (3 : Nat) (Option.some Jvm.ClassFile.FieldType.int)) ∈ lw_all := lw_g (lw_at lw_m9 16 rfl) rfl
theorem q2066 : (Jvm.Cond.methodLink "BackLogic" (378 : Nat) ({ cls := "BackLogic", name := "agreeing", desc := "()I" } : Jvm.MethodName)) ∈ lw_all := lw_g (lw_at lw_m9 17 rfl) rfl
theorem q2067 : (Jvm.Cond.privateMethod ({ cls := "BackLogic", name := "agreeing", desc := "()I" } : Jvm.MethodName)) ∈ lw_tbl := lw_at lw_m9 18 rfl
theorem q2068 : (Jvm.Cond.instanceMethod ({ cls := "BackLogic", name := "agreeing", desc := "()I" } : Jvm.MethodName)) ∈ lw_all := lw_g (lw_at lw_m9 19 rfl) rfl
theorem q2069 : (Jvm.Cond.code ({ cls := "BackLogic", name := "agreeing", desc := "()I" } : Jvm.MethodName) prog_1_method_50_code (5 : Nat) (Option.some Jvm.ClassFile.FieldType.int)) ∈ lw_all := lw_g (lw_at lw_m9 20 rfl) rfl
theorem q2070 : (Jvm.Cond.methodLink "BackLogic" (381 : Nat) ({ cls := "BackLogic", name := "sum", desc := "(Z)I" } : Jvm.MethodName)) ∈ lw_all := lw_g (lw_at lw_m9 21 rfl) rfl
theorem q2071 : (Jvm.Cond.privateMethod ({ cls := "BackLogic", name := "sum", desc := "(Z)I" } : Jvm.MethodName)) ∈ lw_tbl := lw_at lw_m9 22 rfl
theorem q2072 : (Jvm.Cond.instanceMethod ({ cls := "BackLogic", name := "sum", desc := "(Z)I" } : Jvm.MethodName)) ∈ lw_all := lw_g (lw_at lw_m9 23 rfl) rfl
theorem q2073 : (Jvm.Cond.code ({ cls := "BackLogic", name := "sum", desc := "(Z)I" } : Jvm.MethodName) prog_1_method_51_code (5 : Nat) (Option.some Jvm.ClassFile.FieldType.int)) ∈ lw_all := lw_g (lw_at lw_m9 24 rfl) rfl
theorem q2074 : (Jvm.Cond.methodLink "BackLogic" (373 : Nat) ({ cls := "BackLogic$Gate", name := "wires", desc := "()I" } : Jvm.MethodName)) ∈ lw_all := lw_g (lw_at lw_m9 25 rfl) rfl
theorem q2075 : (Jvm.Cond.methodLink "BackLogic" (385 : Nat) ({ cls := "BackLogic", name := "heldMany", desc := "()I" } : Jvm.MethodName)) ∈ lw_all := lw_g (lw_at lw_m9 26 rfl) rfl
theorem q2076 : (Jvm.Cond.privateMethod ({ cls := "BackLogic", name := "heldMany", desc := "()I" } : Jvm.MethodName)) ∈ lw_tbl := lw_at lw_m9 27 rfl
theorem q2077 : (Jvm.Cond.instanceMethod ({ cls := "BackLogic", name := "heldMany", desc := "()I" } : Jvm.MethodName)) ∈ lw_all := lw_g (lw_at lw_m9 28 rfl) rfl
theorem q2078 : (Jvm.Cond.code ({ cls := "BackLogic", name := "heldMany", desc := "()I" } : Jvm.MethodName) prog_1_method_53_code (3 : Nat) (Option.some Jvm.ClassFile.FieldType.int)) ∈ lw_all := lw_g (lw_at lw_m9 29 rfl) rfl
theorem q2079 : (Jvm.Cond.methodLink "BackLogic" (388 : Nat) ({ cls := "BackLogic", name := "touched", desc := "()I" } : Jvm.MethodName)) ∈ lw_all := lw_g (lw_at lw_m9 30 rfl) rfl
theorem q2080 : (Jvm.Cond.privateMethod ({ cls := "BackLogic", name := "touched", desc := "()I" } : Jvm.MethodName)) ∈ lw_tbl := lw_at lw_m9 31 rfl
theorem q2081 : (Jvm.Cond.instanceMethod ({ cls := "BackLogic", name := "touched", desc := "()I" } : Jvm.MethodName)) ∈ lw_all := lw_g (lw_at lw_m9 32 rfl) rfl
theorem q2082 : (Jvm.Cond.code ({ cls := "BackLogic", name := "touched", desc := "()I" } : Jvm.MethodName) prog_1_method_52_code (4 : Nat) (Option.some Jvm.ClassFile.FieldType.int)) ∈ lw_all := lw_g (lw_at lw_m9 33 rfl) rfl
theorem q2083 : (Jvm.Cond.methodLink "BackLogic" (391 : Nat) ({ cls := "BackLogic", name := "degree", desc := "()I" } : Jvm.MethodName)) ∈ lw_all := lw_g (lw_at lw_m9 34 rfl) rfl
theorem q2084 : (Jvm.Cond.privateMethod ({ cls := "BackLogic", name := "degree", desc := "()I" } : Jvm.MethodName)) ∈ lw_tbl := lw_at lw_m9 35 rfl
theorem q2085 : (Jvm.Cond.instanceMethod ({ cls := "BackLogic", name := "degree", desc := "()I" } : Jvm.MethodName)) ∈ lw_all := lw_g (lw_at lw_m9 36 rfl) rfl
theorem q2086 : (Jvm.Cond.code ({ cls := "BackLogic", name := "degree", desc := "()I" } : Jvm.MethodName) prog_1_method_37_code (4 : Nat) (Option.some Jvm.ClassFile.FieldType.int)) ∈ lw_all := lw_g (lw_at lw_m9 37 rfl) rfl
theorem q2087 : (Jvm.Cond.methodLink "BackLogic" (336 : Nat) ({ cls := "BackLogic", name := "terms", desc := "(I)I" } : Jvm.MethodName)) ∈ lw_all := lw_g (lw_at lw_m9 38 rfl) rfl
theorem q2088 : (Jvm.Cond.methodLink "BackLogic" (394 : Nat) ({ cls := "BackLogic$Cascade", name := "unlike", desc := "()I" } : Jvm.MethodName)) ∈ lw_all := lw_g (lw_at lw_m9 39 rfl) rfl
theorem q2683 : (Jvm.Cond.castable "BackLogic" "java/lang/Object") ∈ lw_tbl := lw_at lw_m11 154 rfl
theorem in_X0 : ∀ w ∈ wsX00, w ∈ lw_all := lw_in wsX00 [677, 679, 681, 683, 685, 687, 689, 691, 693, 695, 697, 699, 701, 703, 705, 707, 709, 711] (by decide +kernel) (by decide +kernel)
/-! the law's own entry -/
set_option maxRecDepth 100000
abbrev cL_law : ByteArray := code
def dkwL_law_37 : List UInt8 := [182, 0, 133, 159, 0, 5, 3, 172, 132, 3, 6, 167, 252, 73, 4, 172]
abbrev dktL_law_37 : List UInt8 := dkwL_law_37 ++ []
def dkwL_law_36 : List UInt8 := [182, 0, 129, 159, 0, 28, 3, 172, 43, 42, 29, 4, 96, 46, 182, 0, 130, 44, 42, 29, 4, 96, 46]
abbrev dktL_law_36 : List UInt8 := dkwL_law_36 ++ dktL_law_37
def dkwL_law_35 : List UInt8 := [182, 0, 125, 159, 0, 51, 3, 172, 43, 42, 29, 4, 96, 46, 182, 0, 126, 44, 42, 29, 4, 96, 46]
abbrev dktL_law_35 : List UInt8 := dkwL_law_35 ++ dktL_law_36
def dkwL_law_34 : List UInt8 := [182, 0, 121, 159, 0, 74, 3, 172, 43, 42, 29, 4, 96, 46, 182, 0, 122, 44, 42, 29, 4, 96, 46]
abbrev dktL_law_34 : List UInt8 := dkwL_law_34 ++ dktL_law_35
def dkwL_law_33 : List UInt8 := [182, 0, 117, 159, 0, 97, 3, 172, 43, 42, 29, 4, 96, 46, 182, 0, 118, 44, 42, 29, 4, 96, 46]
abbrev dktL_law_33 : List UInt8 := dkwL_law_33 ++ dktL_law_34
def dkwL_law_32 : List UInt8 := [182, 0, 113, 159, 0, 120, 3, 172, 43, 42, 29, 4, 96, 46, 182, 0, 114, 44, 42, 29, 4, 96, 46]
abbrev dktL_law_32 : List UInt8 := dkwL_law_32 ++ dktL_law_33
def dkwL_law_31 : List UInt8 := [182, 0, 109, 159, 0, 143, 3, 172, 43, 42, 29, 4, 96, 46, 182, 0, 110, 44, 42, 29, 4, 96, 46]
abbrev dktL_law_31 : List UInt8 := dkwL_law_31 ++ dktL_law_32
def dkwL_law_30 : List UInt8 := [46, 182, 0, 105, 159, 0, 166, 3, 172, 43, 42, 29, 4, 96, 46, 182, 0, 106, 44, 42, 29, 4, 96, 46]
abbrev dktL_law_30 : List UInt8 := dkwL_law_30 ++ dktL_law_31
def dkwL_law_29 : List UInt8 := [96, 46, 182, 0, 101, 159, 0, 189, 3, 172, 43, 42, 29, 4, 96, 46, 182, 0, 102, 44, 42, 29, 4, 96]
abbrev dktL_law_29 : List UInt8 := dkwL_law_29 ++ dktL_law_30
def dkwL_law_28 : List UInt8 := [4, 96, 46, 182, 0, 97, 159, 0, 212, 3, 172, 43, 42, 29, 4, 96, 46, 182, 0, 98, 44, 42, 29, 4]
abbrev dktL_law_28 : List UInt8 := dkwL_law_28 ++ dktL_law_29
def dkwL_law_27 : List UInt8 := [167, 0, 4, 3, 182, 0, 93, 159, 0, 235, 3, 172, 43, 42, 29, 4, 96, 46, 182, 0, 94, 44, 42, 29]
abbrev dktL_law_27 : List UInt8 := dkwL_law_27 ++ dktL_law_28
def dkwL_law_26 : List UInt8 := [182, 0, 89, 44, 42, 29, 4, 96, 46, 42, 29, 5, 96, 46, 42, 29, 6, 96, 46, 153, 0, 7, 4]
abbrev dktL_law_26 : List UInt8 := dkwL_law_26 ++ dktL_law_27
def dkwL_law_25 : List UInt8 := [29, 4, 96, 46, 42, 29, 5, 96, 46, 42, 29, 6, 96, 46, 153, 0, 7, 4, 167, 0, 4, 3]
abbrev dktL_law_25 : List UInt8 := dkwL_law_25 ++ dktL_law_26
def dkwL_law_24 : List UInt8 := [182, 0, 85, 44, 42, 29, 4, 96, 46, 42, 29, 5, 96, 46, 182, 0, 88, 159, 1, 38, 3, 172, 43, 42]
abbrev dktL_law_24 : List UInt8 := dkwL_law_24 ++ dktL_law_25
def dkwL_law_23 : List UInt8 := [6, 96, 46, 182, 0, 84, 159, 1, 71, 3, 172, 43, 42, 29, 4, 96, 46, 42, 29, 5, 96, 46]
abbrev dktL_law_23 : List UInt8 := dkwL_law_23 ++ dktL_law_24
def dkwL_law_22 : List UInt8 := [182, 0, 80, 44, 42, 29, 4, 96, 46, 153, 0, 7, 4, 167, 0, 4, 3, 42, 29, 5, 96, 46, 42, 29]
abbrev dktL_law_22 : List UInt8 := dkwL_law_22 ++ dktL_law_23
def dkwL_law_21 : List UInt8 := [42, 29, 4, 96, 46, 153, 0, 7, 4, 167, 0, 4, 3, 42, 29, 5, 96, 46, 42, 29, 6, 96, 46]
abbrev dktL_law_21 : List UInt8 := dkwL_law_21 ++ dktL_law_22
def dkwL_law_20 : List UInt8 := [46, 182, 0, 76, 44, 42, 29, 4, 96, 46, 42, 29, 5, 96, 46, 182, 0, 79, 159, 1, 130, 3, 172, 43]
abbrev dktL_law_20 : List UInt8 := dkwL_law_20 ++ dktL_law_21
def dkwL_law_19 : List UInt8 := [46, 42, 29, 5, 96, 46, 182, 0, 75, 159, 1, 163, 3, 172, 43, 42, 29, 4, 96, 46, 42, 29, 5, 96]
abbrev dktL_law_19 : List UInt8 := dkwL_law_19 ++ dktL_law_20
def dkwL_law_18 : List UInt8 := [159, 1, 196, 3, 172, 43, 42, 29, 4, 96, 46, 42, 29, 5, 96, 46, 182, 0, 72, 44, 42, 29, 4, 96]
abbrev dktL_law_18 : List UInt8 := dkwL_law_18 ++ dktL_law_19
def dkwL_law_17 : List UInt8 := [159, 1, 219, 3, 172, 43, 42, 29, 4, 96, 46, 182, 0, 68, 44, 42, 29, 4, 96, 46, 182, 0, 71]
abbrev dktL_law_17 : List UInt8 := dkwL_law_17 ++ dktL_law_18
def dkwL_law_16 : List UInt8 := [159, 1, 242, 3, 172, 43, 42, 29, 4, 96, 46, 182, 0, 64, 44, 42, 29, 4, 96, 46, 182, 0, 67]
abbrev dktL_law_16 : List UInt8 := dkwL_law_16 ++ dktL_law_17
def dkwL_law_15 : List UInt8 := [42, 29, 5, 96, 46, 182, 0, 60, 44, 42, 29, 4, 96, 46, 42, 29, 5, 96, 46, 182, 0, 63]
abbrev dktL_law_15 : List UInt8 := dkwL_law_15 ++ dktL_law_16
def dkwL_law_14 : List UInt8 := [42, 29, 4, 96, 46, 42, 29, 5, 96, 46, 182, 0, 59, 159, 2, 19, 3, 172, 43, 42, 29, 4, 96, 46]
abbrev dktL_law_14 : List UInt8 := dkwL_law_14 ++ dktL_law_15
def dkwL_law_13 : List UInt8 := [44, 182, 0, 54, 159, 2, 52, 3, 172, 43, 42, 29, 4, 96, 46, 42, 29, 5, 96, 46, 182, 0, 55, 44]
abbrev dktL_law_13 : List UInt8 := dkwL_law_13 ++ dktL_law_14
def dkwL_law_12 : List UInt8 := [4, 96, 46, 182, 0, 46, 44, 42, 29, 4, 96, 46, 182, 0, 49, 159, 2, 65, 3, 172, 43, 182, 0, 50]
abbrev dktL_law_12 : List UInt8 := dkwL_law_12 ++ dktL_law_13
def dkwL_law_11 : List UInt8 := [29, 4, 96, 46, 182, 0, 42, 44, 42, 29, 4, 96, 46, 182, 0, 45, 159, 2, 88, 3, 172, 43, 42, 29]
abbrev dktL_law_11 : List UInt8 := dkwL_law_11 ++ dktL_law_12
def dkwL_law_10 : List UInt8 := [42, 29, 4, 96, 46, 182, 0, 37, 44, 42, 29, 4, 96, 46, 182, 0, 41, 159, 2, 111, 3, 172, 43, 42]
abbrev dktL_law_10 : List UInt8 := dkwL_law_10 ++ dktL_law_11
def dkwL_law_9 : List UInt8 := [42, 29, 5, 96, 46, 42, 29, 6, 96, 46, 42, 29, 7, 96, 46, 182, 0, 36, 159, 2, 134, 3, 172, 43]
abbrev dktL_law_9 : List UInt8 := dkwL_law_9 ++ dktL_law_10
def dkwL_law_8 : List UInt8 := [42, 29, 5, 96, 46, 42, 29, 6, 96, 46, 42, 29, 7, 96, 46, 182, 0, 32, 44, 42, 29, 4, 96, 46]
abbrev dktL_law_8 : List UInt8 := dkwL_law_8 ++ dktL_law_9
def dkwL_law_7 : List UInt8 := [159, 2, 200, 3, 172, 43, 182, 0, 28, 44, 182, 0, 31, 159, 2, 187, 3, 172, 43, 42, 29, 4, 96, 46]
abbrev dktL_law_7 : List UInt8 := dkwL_law_7 ++ dktL_law_8
def dkwL_law_6 : List UInt8 := [44, 42, 29, 4, 96, 46, 182, 0, 22, 159, 2, 213, 3, 172, 43, 182, 0, 23, 44, 182, 0, 27]
abbrev dktL_law_6 : List UInt8 := dkwL_law_6 ++ dktL_law_7
def dkwL_law_5 : List UInt8 := [96, 46, 42, 29, 8, 96, 46, 182, 0, 17, 159, 2, 236, 3, 172, 43, 42, 29, 4, 96, 46, 182, 0, 18]
abbrev dktL_law_5 : List UInt8 := dkwL_law_5 ++ dktL_law_6
def dkwL_law_4 : List UInt8 := [96, 46, 182, 0, 13, 44, 42, 29, 4, 96, 46, 42, 29, 5, 96, 46, 42, 29, 6, 96, 46, 42, 29, 7]
abbrev dktL_law_4 : List UInt8 := dkwL_law_4 ++ dktL_law_5
def dkwL_law_3 : List UInt8 := [43, 42, 29, 4, 96, 46, 42, 29, 5, 96, 46, 42, 29, 6, 96, 46, 42, 29, 7, 96, 46, 42, 29, 8]
abbrev dktL_law_3 : List UInt8 := dkwL_law_3 ++ dktL_law_4
def dkwL_law_2 : List UInt8 := [170, 0, 0, 0, 0, 3, 165, 0, 0, 0, 0, 0, 0, 0, 27, 0, 0, 0, 127, 0, 0, 0, 190, 0, 0, 0, 213, 0, 0, 0, 226, 0, 0, 0, 239, 0, 0, 1, 36, 0, 0, 1, 59, 0, 0, 1, 82, 0, 0, 1, 105, 0, 0, 1, 118, 0, 0, 1, 151, 0, 0, 1, 184, 0, 0, 1, 207, 0, 0, 1, 230, 0, 0, 2, 7, 0, 0, 2, 40, 0, 0, 2, 99, 0, 0, 2, 132, 0, 0, 2, 191, 0, 0, 2, 214, 0, 0, 2, 237, 0, 0, 3, 4, 0, 0, 3, 27, 0, 0, 3, 50, 0, 0, 3, 73, 0, 0, 3, 96, 0, 0, 3, 119, 0, 0, 3, 142]
abbrev dktL_law_2 : List UInt8 := dkwL_law_2 ++ dktL_law_3
def dkwL_law_1 : List UInt8 := [163, 3, 180, 42, 29, 46, 16, 31, 126]
abbrev dktL_law_1 : List UInt8 := dkwL_law_1 ++ dktL_law_2
def dkwL_law_0 : List UInt8 := [187, 0, 7, 89, 183, 0, 9, 76, 187, 0, 10, 89, 183, 0, 12, 77, 3, 62, 29, 42, 190, 16, 6, 100]
abbrev dktL_law_0 : List UInt8 := dkwL_law_0 ++ dktL_law_1
theorem dksL_law_0 : cL_law.data.toList.drop 0 = dktL_law_0 := by decide +kernel
theorem dksL_law_1 : cL_law.data.toList.drop 24 = dktL_law_1 := dk_seg dksL_law_0 24 rfl rfl
theorem dksL_law_2 : cL_law.data.toList.drop 33 = dktL_law_2 := dk_seg dksL_law_1 9 rfl rfl
theorem dksL_law_3 : cL_law.data.toList.drop 160 = dktL_law_3 := dk_seg dksL_law_2 127 rfl rfl
theorem dksL_law_4 : cL_law.data.toList.drop 184 = dktL_law_4 := dk_seg dksL_law_3 24 rfl rfl
theorem dksL_law_5 : cL_law.data.toList.drop 208 = dktL_law_5 := dk_seg dksL_law_4 24 rfl rfl
theorem dksL_law_6 : cL_law.data.toList.drop 232 = dktL_law_6 := dk_seg dksL_law_5 24 rfl rfl
theorem dksL_law_7 : cL_law.data.toList.drop 254 = dktL_law_7 := dk_seg dksL_law_6 22 rfl rfl
theorem dksL_law_8 : cL_law.data.toList.drop 278 = dktL_law_8 := dk_seg dksL_law_7 24 rfl rfl
theorem dksL_law_9 : cL_law.data.toList.drop 302 = dktL_law_9 := dk_seg dksL_law_8 24 rfl rfl
theorem dksL_law_10 : cL_law.data.toList.drop 326 = dktL_law_10 := dk_seg dksL_law_9 24 rfl rfl
theorem dksL_law_11 : cL_law.data.toList.drop 350 = dktL_law_11 := dk_seg dksL_law_10 24 rfl rfl
theorem dksL_law_12 : cL_law.data.toList.drop 374 = dktL_law_12 := dk_seg dksL_law_11 24 rfl rfl
theorem dksL_law_13 : cL_law.data.toList.drop 398 = dktL_law_13 := dk_seg dksL_law_12 24 rfl rfl
theorem dksL_law_14 : cL_law.data.toList.drop 422 = dktL_law_14 := dk_seg dksL_law_13 24 rfl rfl
theorem dksL_law_15 : cL_law.data.toList.drop 446 = dktL_law_15 := dk_seg dksL_law_14 24 rfl rfl
theorem dksL_law_16 : cL_law.data.toList.drop 468 = dktL_law_16 := dk_seg dksL_law_15 22 rfl rfl
theorem dksL_law_17 : cL_law.data.toList.drop 491 = dktL_law_17 := dk_seg dksL_law_16 23 rfl rfl
theorem dksL_law_18 : cL_law.data.toList.drop 514 = dktL_law_18 := dk_seg dksL_law_17 23 rfl rfl
theorem dksL_law_19 : cL_law.data.toList.drop 538 = dktL_law_19 := dk_seg dksL_law_18 24 rfl rfl
theorem dksL_law_20 : cL_law.data.toList.drop 562 = dktL_law_20 := dk_seg dksL_law_19 24 rfl rfl
theorem dksL_law_21 : cL_law.data.toList.drop 586 = dktL_law_21 := dk_seg dksL_law_20 24 rfl rfl
theorem dksL_law_22 : cL_law.data.toList.drop 609 = dktL_law_22 := dk_seg dksL_law_21 23 rfl rfl
theorem dksL_law_23 : cL_law.data.toList.drop 633 = dktL_law_23 := dk_seg dksL_law_22 24 rfl rfl
theorem dksL_law_24 : cL_law.data.toList.drop 655 = dktL_law_24 := dk_seg dksL_law_23 22 rfl rfl
theorem dksL_law_25 : cL_law.data.toList.drop 679 = dktL_law_25 := dk_seg dksL_law_24 24 rfl rfl
theorem dksL_law_26 : cL_law.data.toList.drop 701 = dktL_law_26 := dk_seg dksL_law_25 22 rfl rfl
theorem dksL_law_27 : cL_law.data.toList.drop 724 = dktL_law_27 := dk_seg dksL_law_26 23 rfl rfl
theorem dksL_law_28 : cL_law.data.toList.drop 748 = dktL_law_28 := dk_seg dksL_law_27 24 rfl rfl
theorem dksL_law_29 : cL_law.data.toList.drop 772 = dktL_law_29 := dk_seg dksL_law_28 24 rfl rfl
theorem dksL_law_30 : cL_law.data.toList.drop 796 = dktL_law_30 := dk_seg dksL_law_29 24 rfl rfl
theorem dksL_law_31 : cL_law.data.toList.drop 820 = dktL_law_31 := dk_seg dksL_law_30 24 rfl rfl
theorem dksL_law_32 : cL_law.data.toList.drop 843 = dktL_law_32 := dk_seg dksL_law_31 23 rfl rfl
theorem dksL_law_33 : cL_law.data.toList.drop 866 = dktL_law_33 := dk_seg dksL_law_32 23 rfl rfl
theorem dksL_law_34 : cL_law.data.toList.drop 889 = dktL_law_34 := dk_seg dksL_law_33 23 rfl rfl
theorem dksL_law_35 : cL_law.data.toList.drop 912 = dktL_law_35 := dk_seg dksL_law_34 23 rfl rfl
theorem dksL_law_36 : cL_law.data.toList.drop 935 = dktL_law_36 := dk_seg dksL_law_35 23 rfl rfl
theorem dksL_law_37 : cL_law.data.toList.drop 958 = dktL_law_37 := dk_seg dksL_law_36 23 rfl rfl
theorem dL_law_0 : decode cL_law 0 = .ok (.new 7, 3) := dk_187 0 7 (dk_at dksL_law_0 0 rfl rfl)
theorem dL_law_3 : decode cL_law 3 = .ok (.dup, 1) := dk_89 (dk_at dksL_law_0 3 rfl rfl)
theorem dL_law_4 : decode cL_law 4 = .ok (.invokespecial 9, 3) := dk_183 0 9 (dk_at dksL_law_0 4 rfl rfl)
theorem dL_law_7 : decode cL_law 7 = .ok (.astore_n 1, 1) := dk_76 (dk_at dksL_law_0 7 rfl rfl)
theorem dL_law_8 : decode cL_law 8 = .ok (.new 10, 3) := dk_187 0 10 (dk_at dksL_law_0 8 rfl rfl)
theorem dL_law_11 : decode cL_law 11 = .ok (.dup, 1) := dk_89 (dk_at dksL_law_0 11 rfl rfl)
theorem dL_law_12 : decode cL_law 12 = .ok (.invokespecial 12, 3) := dk_183 0 12 (dk_at dksL_law_0 12 rfl rfl)
theorem dL_law_15 : decode cL_law 15 = .ok (.astore_n 2, 1) := dk_77 (dk_at dksL_law_0 15 rfl rfl)
theorem dL_law_16 : decode cL_law 16 = .ok (.iconst 0, 1) := dk_3 (dk_at dksL_law_0 16 rfl rfl)
theorem dL_law_17 : decode cL_law 17 = .ok (.istore_n 3, 1) := dk_62 (dk_at dksL_law_0 17 rfl rfl)
theorem dL_law_18 : decode cL_law 18 = .ok (.iload_n 3, 1) := dk_29 (dk_at dksL_law_0 18 rfl rfl)
theorem dL_law_19 : decode cL_law 19 = .ok (.aload_n 0, 1) := dk_42 (dk_at dksL_law_0 19 rfl rfl)
theorem dL_law_20 : decode cL_law 20 = .ok (.arraylength, 1) := dk_190 (dk_at dksL_law_0 20 rfl rfl)
theorem dL_law_21 : decode cL_law 21 = .ok (.bipush 6, 2) := dk_16 6 (dk_at dksL_law_0 21 rfl rfl)
theorem dL_law_23 : decode cL_law 23 = .ok (.isub, 1) := dk_100 (dk_at dksL_law_0 23 rfl rfl)
theorem dL_law_24 : decode cL_law 24 = .ok (.if_icmp .gt 948, 3) := dk_163 3 180 (dk_at dksL_law_1 0 rfl rfl)
theorem dL_law_27 : decode cL_law 27 = .ok (.aload_n 0, 1) := dk_42 (dk_at dksL_law_1 3 rfl rfl)
theorem dL_law_28 : decode cL_law 28 = .ok (.iload_n 3, 1) := dk_29 (dk_at dksL_law_1 4 rfl rfl)
theorem dL_law_29 : decode cL_law 29 = .ok (.iaload, 1) := dk_46 (dk_at dksL_law_1 5 rfl rfl)
theorem dL_law_30 : decode cL_law 30 = .ok (.bipush 31, 2) := dk_16 31 (dk_at dksL_law_1 6 rfl rfl)
theorem dL_law_32 : decode cL_law 32 = .ok (.iand, 1) := dk_126 (dk_at dksL_law_1 8 rfl rfl)
theorem dL_law_33 : decode cL_law 33 = .ok (.tableswitch 933 0 27 #[127, 190, 213, 226, 239, 292, 315, 338, 361, 374, 407, 440, 463, 486, 519, 552, 611, 644, 703, 726, 749, 772, 795, 818, 841, 864, 887, 910], 127) := by decide +kernel
theorem dL_law_160 : decode cL_law 160 = .ok (.aload_n 1, 1) := dk_43 (dk_at dksL_law_3 0 rfl rfl)
theorem dL_law_161 : decode cL_law 161 = .ok (.aload_n 0, 1) := dk_42 (dk_at dksL_law_3 1 rfl rfl)
theorem dL_law_162 : decode cL_law 162 = .ok (.iload_n 3, 1) := dk_29 (dk_at dksL_law_3 2 rfl rfl)
theorem dL_law_163 : decode cL_law 163 = .ok (.iconst 1, 1) := dk_4 (dk_at dksL_law_3 3 rfl rfl)
theorem dL_law_164 : decode cL_law 164 = .ok (.iadd, 1) := dk_96 (dk_at dksL_law_3 4 rfl rfl)
theorem dL_law_165 : decode cL_law 165 = .ok (.iaload, 1) := dk_46 (dk_at dksL_law_3 5 rfl rfl)
theorem dL_law_166 : decode cL_law 166 = .ok (.aload_n 0, 1) := dk_42 (dk_at dksL_law_3 6 rfl rfl)
theorem dL_law_167 : decode cL_law 167 = .ok (.iload_n 3, 1) := dk_29 (dk_at dksL_law_3 7 rfl rfl)
theorem dL_law_168 : decode cL_law 168 = .ok (.iconst 2, 1) := dk_5 (dk_at dksL_law_3 8 rfl rfl)
theorem dL_law_169 : decode cL_law 169 = .ok (.iadd, 1) := dk_96 (dk_at dksL_law_3 9 rfl rfl)
theorem dL_law_170 : decode cL_law 170 = .ok (.iaload, 1) := dk_46 (dk_at dksL_law_3 10 rfl rfl)
theorem dL_law_171 : decode cL_law 171 = .ok (.aload_n 0, 1) := dk_42 (dk_at dksL_law_3 11 rfl rfl)
theorem dL_law_172 : decode cL_law 172 = .ok (.iload_n 3, 1) := dk_29 (dk_at dksL_law_3 12 rfl rfl)
theorem dL_law_173 : decode cL_law 173 = .ok (.iconst 3, 1) := dk_6 (dk_at dksL_law_3 13 rfl rfl)
theorem dL_law_174 : decode cL_law 174 = .ok (.iadd, 1) := dk_96 (dk_at dksL_law_3 14 rfl rfl)
theorem dL_law_175 : decode cL_law 175 = .ok (.iaload, 1) := dk_46 (dk_at dksL_law_3 15 rfl rfl)
theorem dL_law_176 : decode cL_law 176 = .ok (.aload_n 0, 1) := dk_42 (dk_at dksL_law_3 16 rfl rfl)
theorem dL_law_177 : decode cL_law 177 = .ok (.iload_n 3, 1) := dk_29 (dk_at dksL_law_3 17 rfl rfl)
theorem dL_law_178 : decode cL_law 178 = .ok (.iconst 4, 1) := dk_7 (dk_at dksL_law_3 18 rfl rfl)
theorem dL_law_179 : decode cL_law 179 = .ok (.iadd, 1) := dk_96 (dk_at dksL_law_3 19 rfl rfl)
theorem dL_law_180 : decode cL_law 180 = .ok (.iaload, 1) := dk_46 (dk_at dksL_law_3 20 rfl rfl)
theorem dL_law_181 : decode cL_law 181 = .ok (.aload_n 0, 1) := dk_42 (dk_at dksL_law_3 21 rfl rfl)
theorem dL_law_182 : decode cL_law 182 = .ok (.iload_n 3, 1) := dk_29 (dk_at dksL_law_3 22 rfl rfl)
theorem dL_law_183 : decode cL_law 183 = .ok (.iconst 5, 1) := dk_8 (dk_at dksL_law_3 23 rfl rfl)
theorem dL_law_184 : decode cL_law 184 = .ok (.iadd, 1) := dk_96 (dk_at dksL_law_4 0 rfl rfl)
theorem dL_law_185 : decode cL_law 185 = .ok (.iaload, 1) := dk_46 (dk_at dksL_law_4 1 rfl rfl)
theorem dL_law_186 : decode cL_law 186 = .ok (.invokevirtual 13, 3) := dk_182 0 13 (dk_at dksL_law_4 2 rfl rfl)
theorem dL_law_189 : decode cL_law 189 = .ok (.aload_n 2, 1) := dk_44 (dk_at dksL_law_4 5 rfl rfl)
theorem dL_law_190 : decode cL_law 190 = .ok (.aload_n 0, 1) := dk_42 (dk_at dksL_law_4 6 rfl rfl)
theorem dL_law_191 : decode cL_law 191 = .ok (.iload_n 3, 1) := dk_29 (dk_at dksL_law_4 7 rfl rfl)
theorem dL_law_192 : decode cL_law 192 = .ok (.iconst 1, 1) := dk_4 (dk_at dksL_law_4 8 rfl rfl)
theorem dL_law_193 : decode cL_law 193 = .ok (.iadd, 1) := dk_96 (dk_at dksL_law_4 9 rfl rfl)
theorem dL_law_194 : decode cL_law 194 = .ok (.iaload, 1) := dk_46 (dk_at dksL_law_4 10 rfl rfl)
theorem dL_law_195 : decode cL_law 195 = .ok (.aload_n 0, 1) := dk_42 (dk_at dksL_law_4 11 rfl rfl)
theorem dL_law_196 : decode cL_law 196 = .ok (.iload_n 3, 1) := dk_29 (dk_at dksL_law_4 12 rfl rfl)
theorem dL_law_197 : decode cL_law 197 = .ok (.iconst 2, 1) := dk_5 (dk_at dksL_law_4 13 rfl rfl)
theorem dL_law_198 : decode cL_law 198 = .ok (.iadd, 1) := dk_96 (dk_at dksL_law_4 14 rfl rfl)
theorem dL_law_199 : decode cL_law 199 = .ok (.iaload, 1) := dk_46 (dk_at dksL_law_4 15 rfl rfl)
theorem dL_law_200 : decode cL_law 200 = .ok (.aload_n 0, 1) := dk_42 (dk_at dksL_law_4 16 rfl rfl)
theorem dL_law_201 : decode cL_law 201 = .ok (.iload_n 3, 1) := dk_29 (dk_at dksL_law_4 17 rfl rfl)
theorem dL_law_202 : decode cL_law 202 = .ok (.iconst 3, 1) := dk_6 (dk_at dksL_law_4 18 rfl rfl)
theorem dL_law_203 : decode cL_law 203 = .ok (.iadd, 1) := dk_96 (dk_at dksL_law_4 19 rfl rfl)
theorem dL_law_204 : decode cL_law 204 = .ok (.iaload, 1) := dk_46 (dk_at dksL_law_4 20 rfl rfl)
theorem dL_law_205 : decode cL_law 205 = .ok (.aload_n 0, 1) := dk_42 (dk_at dksL_law_4 21 rfl rfl)
theorem dL_law_206 : decode cL_law 206 = .ok (.iload_n 3, 1) := dk_29 (dk_at dksL_law_4 22 rfl rfl)
theorem dL_law_207 : decode cL_law 207 = .ok (.iconst 4, 1) := dk_7 (dk_at dksL_law_4 23 rfl rfl)
theorem dL_law_208 : decode cL_law 208 = .ok (.iadd, 1) := dk_96 (dk_at dksL_law_5 0 rfl rfl)
theorem dL_law_209 : decode cL_law 209 = .ok (.iaload, 1) := dk_46 (dk_at dksL_law_5 1 rfl rfl)
theorem dL_law_210 : decode cL_law 210 = .ok (.aload_n 0, 1) := dk_42 (dk_at dksL_law_5 2 rfl rfl)
theorem dL_law_211 : decode cL_law 211 = .ok (.iload_n 3, 1) := dk_29 (dk_at dksL_law_5 3 rfl rfl)
theorem dL_law_212 : decode cL_law 212 = .ok (.iconst 5, 1) := dk_8 (dk_at dksL_law_5 4 rfl rfl)
theorem dL_law_213 : decode cL_law 213 = .ok (.iadd, 1) := dk_96 (dk_at dksL_law_5 5 rfl rfl)
theorem dL_law_214 : decode cL_law 214 = .ok (.iaload, 1) := dk_46 (dk_at dksL_law_5 6 rfl rfl)
theorem dL_law_215 : decode cL_law 215 = .ok (.invokevirtual 17, 3) := dk_182 0 17 (dk_at dksL_law_5 7 rfl rfl)
theorem dL_law_218 : decode cL_law 218 = .ok (.if_icmp .eq 748, 3) := dk_159 2 236 (dk_at dksL_law_5 10 rfl rfl)
theorem dL_law_221 : decode cL_law 221 = .ok (.iconst 0, 1) := dk_3 (dk_at dksL_law_5 13 rfl rfl)
theorem dL_law_222 : decode cL_law 222 = .ok (.ireturn, 1) := dk_172 (dk_at dksL_law_5 14 rfl rfl)
theorem dL_law_223 : decode cL_law 223 = .ok (.aload_n 1, 1) := dk_43 (dk_at dksL_law_5 15 rfl rfl)
theorem dL_law_224 : decode cL_law 224 = .ok (.aload_n 0, 1) := dk_42 (dk_at dksL_law_5 16 rfl rfl)
theorem dL_law_225 : decode cL_law 225 = .ok (.iload_n 3, 1) := dk_29 (dk_at dksL_law_5 17 rfl rfl)
theorem dL_law_226 : decode cL_law 226 = .ok (.iconst 1, 1) := dk_4 (dk_at dksL_law_5 18 rfl rfl)
theorem dL_law_227 : decode cL_law 227 = .ok (.iadd, 1) := dk_96 (dk_at dksL_law_5 19 rfl rfl)
theorem dL_law_228 : decode cL_law 228 = .ok (.iaload, 1) := dk_46 (dk_at dksL_law_5 20 rfl rfl)
theorem dL_law_229 : decode cL_law 229 = .ok (.invokevirtual 18, 3) := dk_182 0 18 (dk_at dksL_law_5 21 rfl rfl)
theorem dL_law_232 : decode cL_law 232 = .ok (.aload_n 2, 1) := dk_44 (dk_at dksL_law_6 0 rfl rfl)
theorem dL_law_233 : decode cL_law 233 = .ok (.aload_n 0, 1) := dk_42 (dk_at dksL_law_6 1 rfl rfl)
theorem dL_law_234 : decode cL_law 234 = .ok (.iload_n 3, 1) := dk_29 (dk_at dksL_law_6 2 rfl rfl)
theorem dL_law_235 : decode cL_law 235 = .ok (.iconst 1, 1) := dk_4 (dk_at dksL_law_6 3 rfl rfl)
theorem dL_law_236 : decode cL_law 236 = .ok (.iadd, 1) := dk_96 (dk_at dksL_law_6 4 rfl rfl)
theorem dL_law_237 : decode cL_law 237 = .ok (.iaload, 1) := dk_46 (dk_at dksL_law_6 5 rfl rfl)
theorem dL_law_238 : decode cL_law 238 = .ok (.invokevirtual 22, 3) := dk_182 0 22 (dk_at dksL_law_6 6 rfl rfl)
theorem dL_law_241 : decode cL_law 241 = .ok (.if_icmp .eq 725, 3) := dk_159 2 213 (dk_at dksL_law_6 9 rfl rfl)
theorem dL_law_244 : decode cL_law 244 = .ok (.iconst 0, 1) := dk_3 (dk_at dksL_law_6 12 rfl rfl)
theorem dL_law_245 : decode cL_law 245 = .ok (.ireturn, 1) := dk_172 (dk_at dksL_law_6 13 rfl rfl)
theorem dL_law_246 : decode cL_law 246 = .ok (.aload_n 1, 1) := dk_43 (dk_at dksL_law_6 14 rfl rfl)
theorem dL_law_247 : decode cL_law 247 = .ok (.invokevirtual 23, 3) := dk_182 0 23 (dk_at dksL_law_6 15 rfl rfl)
theorem dL_law_250 : decode cL_law 250 = .ok (.aload_n 2, 1) := dk_44 (dk_at dksL_law_6 18 rfl rfl)
theorem dL_law_251 : decode cL_law 251 = .ok (.invokevirtual 27, 3) := dk_182 0 27 (dk_at dksL_law_6 19 rfl rfl)
theorem dL_law_254 : decode cL_law 254 = .ok (.if_icmp .eq 712, 3) := dk_159 2 200 (dk_at dksL_law_7 0 rfl rfl)
theorem dL_law_257 : decode cL_law 257 = .ok (.iconst 0, 1) := dk_3 (dk_at dksL_law_7 3 rfl rfl)
theorem dL_law_258 : decode cL_law 258 = .ok (.ireturn, 1) := dk_172 (dk_at dksL_law_7 4 rfl rfl)
theorem dL_law_259 : decode cL_law 259 = .ok (.aload_n 1, 1) := dk_43 (dk_at dksL_law_7 5 rfl rfl)
theorem dL_law_260 : decode cL_law 260 = .ok (.invokevirtual 28, 3) := dk_182 0 28 (dk_at dksL_law_7 6 rfl rfl)
theorem dL_law_263 : decode cL_law 263 = .ok (.aload_n 2, 1) := dk_44 (dk_at dksL_law_7 9 rfl rfl)
theorem dL_law_264 : decode cL_law 264 = .ok (.invokevirtual 31, 3) := dk_182 0 31 (dk_at dksL_law_7 10 rfl rfl)
theorem dL_law_267 : decode cL_law 267 = .ok (.if_icmp .eq 699, 3) := dk_159 2 187 (dk_at dksL_law_7 13 rfl rfl)
theorem dL_law_270 : decode cL_law 270 = .ok (.iconst 0, 1) := dk_3 (dk_at dksL_law_7 16 rfl rfl)
theorem dL_law_271 : decode cL_law 271 = .ok (.ireturn, 1) := dk_172 (dk_at dksL_law_7 17 rfl rfl)
theorem dL_law_272 : decode cL_law 272 = .ok (.aload_n 1, 1) := dk_43 (dk_at dksL_law_7 18 rfl rfl)
theorem dL_law_273 : decode cL_law 273 = .ok (.aload_n 0, 1) := dk_42 (dk_at dksL_law_7 19 rfl rfl)
theorem dL_law_274 : decode cL_law 274 = .ok (.iload_n 3, 1) := dk_29 (dk_at dksL_law_7 20 rfl rfl)
theorem dL_law_275 : decode cL_law 275 = .ok (.iconst 1, 1) := dk_4 (dk_at dksL_law_7 21 rfl rfl)
theorem dL_law_276 : decode cL_law 276 = .ok (.iadd, 1) := dk_96 (dk_at dksL_law_7 22 rfl rfl)
theorem dL_law_277 : decode cL_law 277 = .ok (.iaload, 1) := dk_46 (dk_at dksL_law_7 23 rfl rfl)
theorem dL_law_278 : decode cL_law 278 = .ok (.aload_n 0, 1) := dk_42 (dk_at dksL_law_8 0 rfl rfl)
theorem dL_law_279 : decode cL_law 279 = .ok (.iload_n 3, 1) := dk_29 (dk_at dksL_law_8 1 rfl rfl)
theorem dL_law_280 : decode cL_law 280 = .ok (.iconst 2, 1) := dk_5 (dk_at dksL_law_8 2 rfl rfl)
theorem dL_law_281 : decode cL_law 281 = .ok (.iadd, 1) := dk_96 (dk_at dksL_law_8 3 rfl rfl)
theorem dL_law_282 : decode cL_law 282 = .ok (.iaload, 1) := dk_46 (dk_at dksL_law_8 4 rfl rfl)
theorem dL_law_283 : decode cL_law 283 = .ok (.aload_n 0, 1) := dk_42 (dk_at dksL_law_8 5 rfl rfl)
theorem dL_law_284 : decode cL_law 284 = .ok (.iload_n 3, 1) := dk_29 (dk_at dksL_law_8 6 rfl rfl)
theorem dL_law_285 : decode cL_law 285 = .ok (.iconst 3, 1) := dk_6 (dk_at dksL_law_8 7 rfl rfl)
theorem dL_law_286 : decode cL_law 286 = .ok (.iadd, 1) := dk_96 (dk_at dksL_law_8 8 rfl rfl)
theorem dL_law_287 : decode cL_law 287 = .ok (.iaload, 1) := dk_46 (dk_at dksL_law_8 9 rfl rfl)
theorem dL_law_288 : decode cL_law 288 = .ok (.aload_n 0, 1) := dk_42 (dk_at dksL_law_8 10 rfl rfl)
theorem dL_law_289 : decode cL_law 289 = .ok (.iload_n 3, 1) := dk_29 (dk_at dksL_law_8 11 rfl rfl)
theorem dL_law_290 : decode cL_law 290 = .ok (.iconst 4, 1) := dk_7 (dk_at dksL_law_8 12 rfl rfl)
theorem dL_law_291 : decode cL_law 291 = .ok (.iadd, 1) := dk_96 (dk_at dksL_law_8 13 rfl rfl)
theorem dL_law_292 : decode cL_law 292 = .ok (.iaload, 1) := dk_46 (dk_at dksL_law_8 14 rfl rfl)
theorem dL_law_293 : decode cL_law 293 = .ok (.invokevirtual 32, 3) := dk_182 0 32 (dk_at dksL_law_8 15 rfl rfl)
theorem dL_law_296 : decode cL_law 296 = .ok (.aload_n 2, 1) := dk_44 (dk_at dksL_law_8 18 rfl rfl)
theorem dL_law_297 : decode cL_law 297 = .ok (.aload_n 0, 1) := dk_42 (dk_at dksL_law_8 19 rfl rfl)
theorem dL_law_298 : decode cL_law 298 = .ok (.iload_n 3, 1) := dk_29 (dk_at dksL_law_8 20 rfl rfl)
theorem dL_law_299 : decode cL_law 299 = .ok (.iconst 1, 1) := dk_4 (dk_at dksL_law_8 21 rfl rfl)
theorem dL_law_300 : decode cL_law 300 = .ok (.iadd, 1) := dk_96 (dk_at dksL_law_8 22 rfl rfl)
theorem dL_law_301 : decode cL_law 301 = .ok (.iaload, 1) := dk_46 (dk_at dksL_law_8 23 rfl rfl)
theorem dL_law_302 : decode cL_law 302 = .ok (.aload_n 0, 1) := dk_42 (dk_at dksL_law_9 0 rfl rfl)
theorem dL_law_303 : decode cL_law 303 = .ok (.iload_n 3, 1) := dk_29 (dk_at dksL_law_9 1 rfl rfl)
theorem dL_law_304 : decode cL_law 304 = .ok (.iconst 2, 1) := dk_5 (dk_at dksL_law_9 2 rfl rfl)
theorem dL_law_305 : decode cL_law 305 = .ok (.iadd, 1) := dk_96 (dk_at dksL_law_9 3 rfl rfl)
theorem dL_law_306 : decode cL_law 306 = .ok (.iaload, 1) := dk_46 (dk_at dksL_law_9 4 rfl rfl)
theorem dL_law_307 : decode cL_law 307 = .ok (.aload_n 0, 1) := dk_42 (dk_at dksL_law_9 5 rfl rfl)
theorem dL_law_308 : decode cL_law 308 = .ok (.iload_n 3, 1) := dk_29 (dk_at dksL_law_9 6 rfl rfl)
theorem dL_law_309 : decode cL_law 309 = .ok (.iconst 3, 1) := dk_6 (dk_at dksL_law_9 7 rfl rfl)
theorem dL_law_310 : decode cL_law 310 = .ok (.iadd, 1) := dk_96 (dk_at dksL_law_9 8 rfl rfl)
theorem dL_law_311 : decode cL_law 311 = .ok (.iaload, 1) := dk_46 (dk_at dksL_law_9 9 rfl rfl)
theorem dL_law_312 : decode cL_law 312 = .ok (.aload_n 0, 1) := dk_42 (dk_at dksL_law_9 10 rfl rfl)
theorem dL_law_313 : decode cL_law 313 = .ok (.iload_n 3, 1) := dk_29 (dk_at dksL_law_9 11 rfl rfl)
theorem dL_law_314 : decode cL_law 314 = .ok (.iconst 4, 1) := dk_7 (dk_at dksL_law_9 12 rfl rfl)
theorem dL_law_315 : decode cL_law 315 = .ok (.iadd, 1) := dk_96 (dk_at dksL_law_9 13 rfl rfl)
theorem dL_law_316 : decode cL_law 316 = .ok (.iaload, 1) := dk_46 (dk_at dksL_law_9 14 rfl rfl)
theorem dL_law_317 : decode cL_law 317 = .ok (.invokevirtual 36, 3) := dk_182 0 36 (dk_at dksL_law_9 15 rfl rfl)
theorem dL_law_320 : decode cL_law 320 = .ok (.if_icmp .eq 646, 3) := dk_159 2 134 (dk_at dksL_law_9 18 rfl rfl)
theorem dL_law_323 : decode cL_law 323 = .ok (.iconst 0, 1) := dk_3 (dk_at dksL_law_9 21 rfl rfl)
theorem dL_law_324 : decode cL_law 324 = .ok (.ireturn, 1) := dk_172 (dk_at dksL_law_9 22 rfl rfl)
theorem dL_law_325 : decode cL_law 325 = .ok (.aload_n 1, 1) := dk_43 (dk_at dksL_law_9 23 rfl rfl)
theorem dL_law_326 : decode cL_law 326 = .ok (.aload_n 0, 1) := dk_42 (dk_at dksL_law_10 0 rfl rfl)
theorem dL_law_327 : decode cL_law 327 = .ok (.iload_n 3, 1) := dk_29 (dk_at dksL_law_10 1 rfl rfl)
theorem dL_law_328 : decode cL_law 328 = .ok (.iconst 1, 1) := dk_4 (dk_at dksL_law_10 2 rfl rfl)
theorem dL_law_329 : decode cL_law 329 = .ok (.iadd, 1) := dk_96 (dk_at dksL_law_10 3 rfl rfl)
theorem dL_law_330 : decode cL_law 330 = .ok (.iaload, 1) := dk_46 (dk_at dksL_law_10 4 rfl rfl)
theorem dL_law_331 : decode cL_law 331 = .ok (.invokevirtual 37, 3) := dk_182 0 37 (dk_at dksL_law_10 5 rfl rfl)
theorem dL_law_334 : decode cL_law 334 = .ok (.aload_n 2, 1) := dk_44 (dk_at dksL_law_10 8 rfl rfl)
theorem dL_law_335 : decode cL_law 335 = .ok (.aload_n 0, 1) := dk_42 (dk_at dksL_law_10 9 rfl rfl)
theorem dL_law_336 : decode cL_law 336 = .ok (.iload_n 3, 1) := dk_29 (dk_at dksL_law_10 10 rfl rfl)
theorem dL_law_337 : decode cL_law 337 = .ok (.iconst 1, 1) := dk_4 (dk_at dksL_law_10 11 rfl rfl)
theorem dL_law_338 : decode cL_law 338 = .ok (.iadd, 1) := dk_96 (dk_at dksL_law_10 12 rfl rfl)
theorem dL_law_339 : decode cL_law 339 = .ok (.iaload, 1) := dk_46 (dk_at dksL_law_10 13 rfl rfl)
theorem dL_law_340 : decode cL_law 340 = .ok (.invokevirtual 41, 3) := dk_182 0 41 (dk_at dksL_law_10 14 rfl rfl)
theorem dL_law_343 : decode cL_law 343 = .ok (.if_icmp .eq 623, 3) := dk_159 2 111 (dk_at dksL_law_10 17 rfl rfl)
theorem dL_law_346 : decode cL_law 346 = .ok (.iconst 0, 1) := dk_3 (dk_at dksL_law_10 20 rfl rfl)
theorem dL_law_347 : decode cL_law 347 = .ok (.ireturn, 1) := dk_172 (dk_at dksL_law_10 21 rfl rfl)
theorem dL_law_348 : decode cL_law 348 = .ok (.aload_n 1, 1) := dk_43 (dk_at dksL_law_10 22 rfl rfl)
theorem dL_law_349 : decode cL_law 349 = .ok (.aload_n 0, 1) := dk_42 (dk_at dksL_law_10 23 rfl rfl)
theorem dL_law_350 : decode cL_law 350 = .ok (.iload_n 3, 1) := dk_29 (dk_at dksL_law_11 0 rfl rfl)
theorem dL_law_351 : decode cL_law 351 = .ok (.iconst 1, 1) := dk_4 (dk_at dksL_law_11 1 rfl rfl)
theorem dL_law_352 : decode cL_law 352 = .ok (.iadd, 1) := dk_96 (dk_at dksL_law_11 2 rfl rfl)
theorem dL_law_353 : decode cL_law 353 = .ok (.iaload, 1) := dk_46 (dk_at dksL_law_11 3 rfl rfl)
theorem dL_law_354 : decode cL_law 354 = .ok (.invokevirtual 42, 3) := dk_182 0 42 (dk_at dksL_law_11 4 rfl rfl)
theorem dL_law_357 : decode cL_law 357 = .ok (.aload_n 2, 1) := dk_44 (dk_at dksL_law_11 7 rfl rfl)
theorem dL_law_358 : decode cL_law 358 = .ok (.aload_n 0, 1) := dk_42 (dk_at dksL_law_11 8 rfl rfl)
theorem dL_law_359 : decode cL_law 359 = .ok (.iload_n 3, 1) := dk_29 (dk_at dksL_law_11 9 rfl rfl)
theorem dL_law_360 : decode cL_law 360 = .ok (.iconst 1, 1) := dk_4 (dk_at dksL_law_11 10 rfl rfl)
theorem dL_law_361 : decode cL_law 361 = .ok (.iadd, 1) := dk_96 (dk_at dksL_law_11 11 rfl rfl)
theorem dL_law_362 : decode cL_law 362 = .ok (.iaload, 1) := dk_46 (dk_at dksL_law_11 12 rfl rfl)
theorem dL_law_363 : decode cL_law 363 = .ok (.invokevirtual 45, 3) := dk_182 0 45 (dk_at dksL_law_11 13 rfl rfl)
theorem dL_law_366 : decode cL_law 366 = .ok (.if_icmp .eq 600, 3) := dk_159 2 88 (dk_at dksL_law_11 16 rfl rfl)
theorem dL_law_369 : decode cL_law 369 = .ok (.iconst 0, 1) := dk_3 (dk_at dksL_law_11 19 rfl rfl)
theorem dL_law_370 : decode cL_law 370 = .ok (.ireturn, 1) := dk_172 (dk_at dksL_law_11 20 rfl rfl)
theorem dL_law_371 : decode cL_law 371 = .ok (.aload_n 1, 1) := dk_43 (dk_at dksL_law_11 21 rfl rfl)
theorem dL_law_372 : decode cL_law 372 = .ok (.aload_n 0, 1) := dk_42 (dk_at dksL_law_11 22 rfl rfl)
theorem dL_law_373 : decode cL_law 373 = .ok (.iload_n 3, 1) := dk_29 (dk_at dksL_law_11 23 rfl rfl)
theorem dL_law_374 : decode cL_law 374 = .ok (.iconst 1, 1) := dk_4 (dk_at dksL_law_12 0 rfl rfl)
theorem dL_law_375 : decode cL_law 375 = .ok (.iadd, 1) := dk_96 (dk_at dksL_law_12 1 rfl rfl)
theorem dL_law_376 : decode cL_law 376 = .ok (.iaload, 1) := dk_46 (dk_at dksL_law_12 2 rfl rfl)
theorem dL_law_377 : decode cL_law 377 = .ok (.invokevirtual 46, 3) := dk_182 0 46 (dk_at dksL_law_12 3 rfl rfl)
theorem dL_law_380 : decode cL_law 380 = .ok (.aload_n 2, 1) := dk_44 (dk_at dksL_law_12 6 rfl rfl)
theorem dL_law_381 : decode cL_law 381 = .ok (.aload_n 0, 1) := dk_42 (dk_at dksL_law_12 7 rfl rfl)
theorem dL_law_382 : decode cL_law 382 = .ok (.iload_n 3, 1) := dk_29 (dk_at dksL_law_12 8 rfl rfl)
theorem dL_law_383 : decode cL_law 383 = .ok (.iconst 1, 1) := dk_4 (dk_at dksL_law_12 9 rfl rfl)
theorem dL_law_384 : decode cL_law 384 = .ok (.iadd, 1) := dk_96 (dk_at dksL_law_12 10 rfl rfl)
theorem dL_law_385 : decode cL_law 385 = .ok (.iaload, 1) := dk_46 (dk_at dksL_law_12 11 rfl rfl)
theorem dL_law_386 : decode cL_law 386 = .ok (.invokevirtual 49, 3) := dk_182 0 49 (dk_at dksL_law_12 12 rfl rfl)
theorem dL_law_389 : decode cL_law 389 = .ok (.if_icmp .eq 577, 3) := dk_159 2 65 (dk_at dksL_law_12 15 rfl rfl)
theorem dL_law_392 : decode cL_law 392 = .ok (.iconst 0, 1) := dk_3 (dk_at dksL_law_12 18 rfl rfl)
theorem dL_law_393 : decode cL_law 393 = .ok (.ireturn, 1) := dk_172 (dk_at dksL_law_12 19 rfl rfl)
theorem dL_law_394 : decode cL_law 394 = .ok (.aload_n 1, 1) := dk_43 (dk_at dksL_law_12 20 rfl rfl)
theorem dL_law_395 : decode cL_law 395 = .ok (.invokevirtual 50, 3) := dk_182 0 50 (dk_at dksL_law_12 21 rfl rfl)
theorem dL_law_398 : decode cL_law 398 = .ok (.aload_n 2, 1) := dk_44 (dk_at dksL_law_13 0 rfl rfl)
theorem dL_law_399 : decode cL_law 399 = .ok (.invokevirtual 54, 3) := dk_182 0 54 (dk_at dksL_law_13 1 rfl rfl)
theorem dL_law_402 : decode cL_law 402 = .ok (.if_icmp .eq 564, 3) := dk_159 2 52 (dk_at dksL_law_13 4 rfl rfl)
theorem dL_law_405 : decode cL_law 405 = .ok (.iconst 0, 1) := dk_3 (dk_at dksL_law_13 7 rfl rfl)
theorem dL_law_406 : decode cL_law 406 = .ok (.ireturn, 1) := dk_172 (dk_at dksL_law_13 8 rfl rfl)
theorem dL_law_407 : decode cL_law 407 = .ok (.aload_n 1, 1) := dk_43 (dk_at dksL_law_13 9 rfl rfl)
theorem dL_law_408 : decode cL_law 408 = .ok (.aload_n 0, 1) := dk_42 (dk_at dksL_law_13 10 rfl rfl)
theorem dL_law_409 : decode cL_law 409 = .ok (.iload_n 3, 1) := dk_29 (dk_at dksL_law_13 11 rfl rfl)
theorem dL_law_410 : decode cL_law 410 = .ok (.iconst 1, 1) := dk_4 (dk_at dksL_law_13 12 rfl rfl)
theorem dL_law_411 : decode cL_law 411 = .ok (.iadd, 1) := dk_96 (dk_at dksL_law_13 13 rfl rfl)
theorem dL_law_412 : decode cL_law 412 = .ok (.iaload, 1) := dk_46 (dk_at dksL_law_13 14 rfl rfl)
theorem dL_law_413 : decode cL_law 413 = .ok (.aload_n 0, 1) := dk_42 (dk_at dksL_law_13 15 rfl rfl)
theorem dL_law_414 : decode cL_law 414 = .ok (.iload_n 3, 1) := dk_29 (dk_at dksL_law_13 16 rfl rfl)
theorem dL_law_415 : decode cL_law 415 = .ok (.iconst 2, 1) := dk_5 (dk_at dksL_law_13 17 rfl rfl)
theorem dL_law_416 : decode cL_law 416 = .ok (.iadd, 1) := dk_96 (dk_at dksL_law_13 18 rfl rfl)
theorem dL_law_417 : decode cL_law 417 = .ok (.iaload, 1) := dk_46 (dk_at dksL_law_13 19 rfl rfl)
theorem dL_law_418 : decode cL_law 418 = .ok (.invokevirtual 55, 3) := dk_182 0 55 (dk_at dksL_law_13 20 rfl rfl)
theorem dL_law_421 : decode cL_law 421 = .ok (.aload_n 2, 1) := dk_44 (dk_at dksL_law_13 23 rfl rfl)
theorem dL_law_422 : decode cL_law 422 = .ok (.aload_n 0, 1) := dk_42 (dk_at dksL_law_14 0 rfl rfl)
theorem dL_law_423 : decode cL_law 423 = .ok (.iload_n 3, 1) := dk_29 (dk_at dksL_law_14 1 rfl rfl)
theorem dL_law_424 : decode cL_law 424 = .ok (.iconst 1, 1) := dk_4 (dk_at dksL_law_14 2 rfl rfl)
theorem dL_law_425 : decode cL_law 425 = .ok (.iadd, 1) := dk_96 (dk_at dksL_law_14 3 rfl rfl)
theorem dL_law_426 : decode cL_law 426 = .ok (.iaload, 1) := dk_46 (dk_at dksL_law_14 4 rfl rfl)
theorem dL_law_427 : decode cL_law 427 = .ok (.aload_n 0, 1) := dk_42 (dk_at dksL_law_14 5 rfl rfl)
theorem dL_law_428 : decode cL_law 428 = .ok (.iload_n 3, 1) := dk_29 (dk_at dksL_law_14 6 rfl rfl)
theorem dL_law_429 : decode cL_law 429 = .ok (.iconst 2, 1) := dk_5 (dk_at dksL_law_14 7 rfl rfl)
theorem dL_law_430 : decode cL_law 430 = .ok (.iadd, 1) := dk_96 (dk_at dksL_law_14 8 rfl rfl)
theorem dL_law_431 : decode cL_law 431 = .ok (.iaload, 1) := dk_46 (dk_at dksL_law_14 9 rfl rfl)
theorem dL_law_432 : decode cL_law 432 = .ok (.invokevirtual 59, 3) := dk_182 0 59 (dk_at dksL_law_14 10 rfl rfl)
theorem dL_law_435 : decode cL_law 435 = .ok (.if_icmp .eq 531, 3) := dk_159 2 19 (dk_at dksL_law_14 13 rfl rfl)
theorem dL_law_438 : decode cL_law 438 = .ok (.iconst 0, 1) := dk_3 (dk_at dksL_law_14 16 rfl rfl)
theorem dL_law_439 : decode cL_law 439 = .ok (.ireturn, 1) := dk_172 (dk_at dksL_law_14 17 rfl rfl)
theorem dL_law_440 : decode cL_law 440 = .ok (.aload_n 1, 1) := dk_43 (dk_at dksL_law_14 18 rfl rfl)
theorem dL_law_441 : decode cL_law 441 = .ok (.aload_n 0, 1) := dk_42 (dk_at dksL_law_14 19 rfl rfl)
theorem dL_law_442 : decode cL_law 442 = .ok (.iload_n 3, 1) := dk_29 (dk_at dksL_law_14 20 rfl rfl)
theorem dL_law_443 : decode cL_law 443 = .ok (.iconst 1, 1) := dk_4 (dk_at dksL_law_14 21 rfl rfl)
theorem dL_law_444 : decode cL_law 444 = .ok (.iadd, 1) := dk_96 (dk_at dksL_law_14 22 rfl rfl)
theorem dL_law_445 : decode cL_law 445 = .ok (.iaload, 1) := dk_46 (dk_at dksL_law_14 23 rfl rfl)
theorem dL_law_446 : decode cL_law 446 = .ok (.aload_n 0, 1) := dk_42 (dk_at dksL_law_15 0 rfl rfl)
theorem dL_law_447 : decode cL_law 447 = .ok (.iload_n 3, 1) := dk_29 (dk_at dksL_law_15 1 rfl rfl)
theorem dL_law_448 : decode cL_law 448 = .ok (.iconst 2, 1) := dk_5 (dk_at dksL_law_15 2 rfl rfl)
theorem dL_law_449 : decode cL_law 449 = .ok (.iadd, 1) := dk_96 (dk_at dksL_law_15 3 rfl rfl)
theorem dL_law_450 : decode cL_law 450 = .ok (.iaload, 1) := dk_46 (dk_at dksL_law_15 4 rfl rfl)
theorem dL_law_451 : decode cL_law 451 = .ok (.invokevirtual 60, 3) := dk_182 0 60 (dk_at dksL_law_15 5 rfl rfl)
theorem dL_law_454 : decode cL_law 454 = .ok (.aload_n 2, 1) := dk_44 (dk_at dksL_law_15 8 rfl rfl)
theorem dL_law_455 : decode cL_law 455 = .ok (.aload_n 0, 1) := dk_42 (dk_at dksL_law_15 9 rfl rfl)
theorem dL_law_456 : decode cL_law 456 = .ok (.iload_n 3, 1) := dk_29 (dk_at dksL_law_15 10 rfl rfl)
theorem dL_law_457 : decode cL_law 457 = .ok (.iconst 1, 1) := dk_4 (dk_at dksL_law_15 11 rfl rfl)
theorem dL_law_458 : decode cL_law 458 = .ok (.iadd, 1) := dk_96 (dk_at dksL_law_15 12 rfl rfl)
theorem dL_law_459 : decode cL_law 459 = .ok (.iaload, 1) := dk_46 (dk_at dksL_law_15 13 rfl rfl)
theorem dL_law_460 : decode cL_law 460 = .ok (.aload_n 0, 1) := dk_42 (dk_at dksL_law_15 14 rfl rfl)
theorem dL_law_461 : decode cL_law 461 = .ok (.iload_n 3, 1) := dk_29 (dk_at dksL_law_15 15 rfl rfl)
theorem dL_law_462 : decode cL_law 462 = .ok (.iconst 2, 1) := dk_5 (dk_at dksL_law_15 16 rfl rfl)
theorem dL_law_463 : decode cL_law 463 = .ok (.iadd, 1) := dk_96 (dk_at dksL_law_15 17 rfl rfl)
theorem dL_law_464 : decode cL_law 464 = .ok (.iaload, 1) := dk_46 (dk_at dksL_law_15 18 rfl rfl)
theorem dL_law_465 : decode cL_law 465 = .ok (.invokevirtual 63, 3) := dk_182 0 63 (dk_at dksL_law_15 19 rfl rfl)
theorem dL_law_468 : decode cL_law 468 = .ok (.if_icmp .eq 498, 3) := dk_159 1 242 (dk_at dksL_law_16 0 rfl rfl)
theorem dL_law_471 : decode cL_law 471 = .ok (.iconst 0, 1) := dk_3 (dk_at dksL_law_16 3 rfl rfl)
theorem dL_law_472 : decode cL_law 472 = .ok (.ireturn, 1) := dk_172 (dk_at dksL_law_16 4 rfl rfl)
theorem dL_law_473 : decode cL_law 473 = .ok (.aload_n 1, 1) := dk_43 (dk_at dksL_law_16 5 rfl rfl)
theorem dL_law_474 : decode cL_law 474 = .ok (.aload_n 0, 1) := dk_42 (dk_at dksL_law_16 6 rfl rfl)
theorem dL_law_475 : decode cL_law 475 = .ok (.iload_n 3, 1) := dk_29 (dk_at dksL_law_16 7 rfl rfl)
theorem dL_law_476 : decode cL_law 476 = .ok (.iconst 1, 1) := dk_4 (dk_at dksL_law_16 8 rfl rfl)
theorem dL_law_477 : decode cL_law 477 = .ok (.iadd, 1) := dk_96 (dk_at dksL_law_16 9 rfl rfl)
theorem dL_law_478 : decode cL_law 478 = .ok (.iaload, 1) := dk_46 (dk_at dksL_law_16 10 rfl rfl)
theorem dL_law_479 : decode cL_law 479 = .ok (.invokevirtual 64, 3) := dk_182 0 64 (dk_at dksL_law_16 11 rfl rfl)
theorem dL_law_482 : decode cL_law 482 = .ok (.aload_n 2, 1) := dk_44 (dk_at dksL_law_16 14 rfl rfl)
theorem dL_law_483 : decode cL_law 483 = .ok (.aload_n 0, 1) := dk_42 (dk_at dksL_law_16 15 rfl rfl)
theorem dL_law_484 : decode cL_law 484 = .ok (.iload_n 3, 1) := dk_29 (dk_at dksL_law_16 16 rfl rfl)
theorem dL_law_485 : decode cL_law 485 = .ok (.iconst 1, 1) := dk_4 (dk_at dksL_law_16 17 rfl rfl)
theorem dL_law_486 : decode cL_law 486 = .ok (.iadd, 1) := dk_96 (dk_at dksL_law_16 18 rfl rfl)
theorem dL_law_487 : decode cL_law 487 = .ok (.iaload, 1) := dk_46 (dk_at dksL_law_16 19 rfl rfl)
theorem dL_law_488 : decode cL_law 488 = .ok (.invokevirtual 67, 3) := dk_182 0 67 (dk_at dksL_law_16 20 rfl rfl)
theorem dL_law_491 : decode cL_law 491 = .ok (.if_icmp .eq 475, 3) := dk_159 1 219 (dk_at dksL_law_17 0 rfl rfl)
theorem dL_law_494 : decode cL_law 494 = .ok (.iconst 0, 1) := dk_3 (dk_at dksL_law_17 3 rfl rfl)
theorem dL_law_495 : decode cL_law 495 = .ok (.ireturn, 1) := dk_172 (dk_at dksL_law_17 4 rfl rfl)
theorem dL_law_496 : decode cL_law 496 = .ok (.aload_n 1, 1) := dk_43 (dk_at dksL_law_17 5 rfl rfl)
theorem dL_law_497 : decode cL_law 497 = .ok (.aload_n 0, 1) := dk_42 (dk_at dksL_law_17 6 rfl rfl)
theorem dL_law_498 : decode cL_law 498 = .ok (.iload_n 3, 1) := dk_29 (dk_at dksL_law_17 7 rfl rfl)
theorem dL_law_499 : decode cL_law 499 = .ok (.iconst 1, 1) := dk_4 (dk_at dksL_law_17 8 rfl rfl)
theorem dL_law_500 : decode cL_law 500 = .ok (.iadd, 1) := dk_96 (dk_at dksL_law_17 9 rfl rfl)
theorem dL_law_501 : decode cL_law 501 = .ok (.iaload, 1) := dk_46 (dk_at dksL_law_17 10 rfl rfl)
theorem dL_law_502 : decode cL_law 502 = .ok (.invokevirtual 68, 3) := dk_182 0 68 (dk_at dksL_law_17 11 rfl rfl)
theorem dL_law_505 : decode cL_law 505 = .ok (.aload_n 2, 1) := dk_44 (dk_at dksL_law_17 14 rfl rfl)
theorem dL_law_506 : decode cL_law 506 = .ok (.aload_n 0, 1) := dk_42 (dk_at dksL_law_17 15 rfl rfl)
theorem dL_law_507 : decode cL_law 507 = .ok (.iload_n 3, 1) := dk_29 (dk_at dksL_law_17 16 rfl rfl)
theorem dL_law_508 : decode cL_law 508 = .ok (.iconst 1, 1) := dk_4 (dk_at dksL_law_17 17 rfl rfl)
theorem dL_law_509 : decode cL_law 509 = .ok (.iadd, 1) := dk_96 (dk_at dksL_law_17 18 rfl rfl)
theorem dL_law_510 : decode cL_law 510 = .ok (.iaload, 1) := dk_46 (dk_at dksL_law_17 19 rfl rfl)
theorem dL_law_511 : decode cL_law 511 = .ok (.invokevirtual 71, 3) := dk_182 0 71 (dk_at dksL_law_17 20 rfl rfl)
theorem dL_law_514 : decode cL_law 514 = .ok (.if_icmp .eq 452, 3) := dk_159 1 196 (dk_at dksL_law_18 0 rfl rfl)
theorem dL_law_517 : decode cL_law 517 = .ok (.iconst 0, 1) := dk_3 (dk_at dksL_law_18 3 rfl rfl)
theorem dL_law_518 : decode cL_law 518 = .ok (.ireturn, 1) := dk_172 (dk_at dksL_law_18 4 rfl rfl)
theorem dL_law_519 : decode cL_law 519 = .ok (.aload_n 1, 1) := dk_43 (dk_at dksL_law_18 5 rfl rfl)
theorem dL_law_520 : decode cL_law 520 = .ok (.aload_n 0, 1) := dk_42 (dk_at dksL_law_18 6 rfl rfl)
theorem dL_law_521 : decode cL_law 521 = .ok (.iload_n 3, 1) := dk_29 (dk_at dksL_law_18 7 rfl rfl)
theorem dL_law_522 : decode cL_law 522 = .ok (.iconst 1, 1) := dk_4 (dk_at dksL_law_18 8 rfl rfl)
theorem dL_law_523 : decode cL_law 523 = .ok (.iadd, 1) := dk_96 (dk_at dksL_law_18 9 rfl rfl)
theorem dL_law_524 : decode cL_law 524 = .ok (.iaload, 1) := dk_46 (dk_at dksL_law_18 10 rfl rfl)
theorem dL_law_525 : decode cL_law 525 = .ok (.aload_n 0, 1) := dk_42 (dk_at dksL_law_18 11 rfl rfl)
theorem dL_law_526 : decode cL_law 526 = .ok (.iload_n 3, 1) := dk_29 (dk_at dksL_law_18 12 rfl rfl)
theorem dL_law_527 : decode cL_law 527 = .ok (.iconst 2, 1) := dk_5 (dk_at dksL_law_18 13 rfl rfl)
theorem dL_law_528 : decode cL_law 528 = .ok (.iadd, 1) := dk_96 (dk_at dksL_law_18 14 rfl rfl)
theorem dL_law_529 : decode cL_law 529 = .ok (.iaload, 1) := dk_46 (dk_at dksL_law_18 15 rfl rfl)
theorem dL_law_530 : decode cL_law 530 = .ok (.invokevirtual 72, 3) := dk_182 0 72 (dk_at dksL_law_18 16 rfl rfl)
theorem dL_law_533 : decode cL_law 533 = .ok (.aload_n 2, 1) := dk_44 (dk_at dksL_law_18 19 rfl rfl)
theorem dL_law_534 : decode cL_law 534 = .ok (.aload_n 0, 1) := dk_42 (dk_at dksL_law_18 20 rfl rfl)
theorem dL_law_535 : decode cL_law 535 = .ok (.iload_n 3, 1) := dk_29 (dk_at dksL_law_18 21 rfl rfl)
theorem dL_law_536 : decode cL_law 536 = .ok (.iconst 1, 1) := dk_4 (dk_at dksL_law_18 22 rfl rfl)
theorem dL_law_537 : decode cL_law 537 = .ok (.iadd, 1) := dk_96 (dk_at dksL_law_18 23 rfl rfl)
theorem dL_law_538 : decode cL_law 538 = .ok (.iaload, 1) := dk_46 (dk_at dksL_law_19 0 rfl rfl)
theorem dL_law_539 : decode cL_law 539 = .ok (.aload_n 0, 1) := dk_42 (dk_at dksL_law_19 1 rfl rfl)
theorem dL_law_540 : decode cL_law 540 = .ok (.iload_n 3, 1) := dk_29 (dk_at dksL_law_19 2 rfl rfl)
theorem dL_law_541 : decode cL_law 541 = .ok (.iconst 2, 1) := dk_5 (dk_at dksL_law_19 3 rfl rfl)
theorem dL_law_542 : decode cL_law 542 = .ok (.iadd, 1) := dk_96 (dk_at dksL_law_19 4 rfl rfl)
theorem dL_law_543 : decode cL_law 543 = .ok (.iaload, 1) := dk_46 (dk_at dksL_law_19 5 rfl rfl)
theorem dL_law_544 : decode cL_law 544 = .ok (.invokevirtual 75, 3) := dk_182 0 75 (dk_at dksL_law_19 6 rfl rfl)
theorem dL_law_547 : decode cL_law 547 = .ok (.if_icmp .eq 419, 3) := dk_159 1 163 (dk_at dksL_law_19 9 rfl rfl)
theorem dL_law_550 : decode cL_law 550 = .ok (.iconst 0, 1) := dk_3 (dk_at dksL_law_19 12 rfl rfl)
theorem dL_law_551 : decode cL_law 551 = .ok (.ireturn, 1) := dk_172 (dk_at dksL_law_19 13 rfl rfl)
theorem dL_law_552 : decode cL_law 552 = .ok (.aload_n 1, 1) := dk_43 (dk_at dksL_law_19 14 rfl rfl)
theorem dL_law_553 : decode cL_law 553 = .ok (.aload_n 0, 1) := dk_42 (dk_at dksL_law_19 15 rfl rfl)
theorem dL_law_554 : decode cL_law 554 = .ok (.iload_n 3, 1) := dk_29 (dk_at dksL_law_19 16 rfl rfl)
theorem dL_law_555 : decode cL_law 555 = .ok (.iconst 1, 1) := dk_4 (dk_at dksL_law_19 17 rfl rfl)
theorem dL_law_556 : decode cL_law 556 = .ok (.iadd, 1) := dk_96 (dk_at dksL_law_19 18 rfl rfl)
theorem dL_law_557 : decode cL_law 557 = .ok (.iaload, 1) := dk_46 (dk_at dksL_law_19 19 rfl rfl)
theorem dL_law_558 : decode cL_law 558 = .ok (.aload_n 0, 1) := dk_42 (dk_at dksL_law_19 20 rfl rfl)
theorem dL_law_559 : decode cL_law 559 = .ok (.iload_n 3, 1) := dk_29 (dk_at dksL_law_19 21 rfl rfl)
theorem dL_law_560 : decode cL_law 560 = .ok (.iconst 2, 1) := dk_5 (dk_at dksL_law_19 22 rfl rfl)
theorem dL_law_561 : decode cL_law 561 = .ok (.iadd, 1) := dk_96 (dk_at dksL_law_19 23 rfl rfl)
theorem dL_law_562 : decode cL_law 562 = .ok (.iaload, 1) := dk_46 (dk_at dksL_law_20 0 rfl rfl)
theorem dL_law_563 : decode cL_law 563 = .ok (.invokevirtual 76, 3) := dk_182 0 76 (dk_at dksL_law_20 1 rfl rfl)
theorem dL_law_566 : decode cL_law 566 = .ok (.aload_n 2, 1) := dk_44 (dk_at dksL_law_20 4 rfl rfl)
theorem dL_law_567 : decode cL_law 567 = .ok (.aload_n 0, 1) := dk_42 (dk_at dksL_law_20 5 rfl rfl)
theorem dL_law_568 : decode cL_law 568 = .ok (.iload_n 3, 1) := dk_29 (dk_at dksL_law_20 6 rfl rfl)
theorem dL_law_569 : decode cL_law 569 = .ok (.iconst 1, 1) := dk_4 (dk_at dksL_law_20 7 rfl rfl)
theorem dL_law_570 : decode cL_law 570 = .ok (.iadd, 1) := dk_96 (dk_at dksL_law_20 8 rfl rfl)
theorem dL_law_571 : decode cL_law 571 = .ok (.iaload, 1) := dk_46 (dk_at dksL_law_20 9 rfl rfl)
theorem dL_law_572 : decode cL_law 572 = .ok (.aload_n 0, 1) := dk_42 (dk_at dksL_law_20 10 rfl rfl)
theorem dL_law_573 : decode cL_law 573 = .ok (.iload_n 3, 1) := dk_29 (dk_at dksL_law_20 11 rfl rfl)
theorem dL_law_574 : decode cL_law 574 = .ok (.iconst 2, 1) := dk_5 (dk_at dksL_law_20 12 rfl rfl)
theorem dL_law_575 : decode cL_law 575 = .ok (.iadd, 1) := dk_96 (dk_at dksL_law_20 13 rfl rfl)
theorem dL_law_576 : decode cL_law 576 = .ok (.iaload, 1) := dk_46 (dk_at dksL_law_20 14 rfl rfl)
theorem dL_law_577 : decode cL_law 577 = .ok (.invokevirtual 79, 3) := dk_182 0 79 (dk_at dksL_law_20 15 rfl rfl)
theorem dL_law_580 : decode cL_law 580 = .ok (.if_icmp .eq 386, 3) := dk_159 1 130 (dk_at dksL_law_20 18 rfl rfl)
theorem dL_law_583 : decode cL_law 583 = .ok (.iconst 0, 1) := dk_3 (dk_at dksL_law_20 21 rfl rfl)
theorem dL_law_584 : decode cL_law 584 = .ok (.ireturn, 1) := dk_172 (dk_at dksL_law_20 22 rfl rfl)
theorem dL_law_585 : decode cL_law 585 = .ok (.aload_n 1, 1) := dk_43 (dk_at dksL_law_20 23 rfl rfl)
theorem dL_law_586 : decode cL_law 586 = .ok (.aload_n 0, 1) := dk_42 (dk_at dksL_law_21 0 rfl rfl)
theorem dL_law_587 : decode cL_law 587 = .ok (.iload_n 3, 1) := dk_29 (dk_at dksL_law_21 1 rfl rfl)
theorem dL_law_588 : decode cL_law 588 = .ok (.iconst 1, 1) := dk_4 (dk_at dksL_law_21 2 rfl rfl)
theorem dL_law_589 : decode cL_law 589 = .ok (.iadd, 1) := dk_96 (dk_at dksL_law_21 3 rfl rfl)
theorem dL_law_590 : decode cL_law 590 = .ok (.iaload, 1) := dk_46 (dk_at dksL_law_21 4 rfl rfl)
theorem dL_law_591 : decode cL_law 591 = .ok (.ifCond .eq 7, 3) := dk_153 0 7 (dk_at dksL_law_21 5 rfl rfl)
theorem dL_law_594 : decode cL_law 594 = .ok (.iconst 1, 1) := dk_4 (dk_at dksL_law_21 8 rfl rfl)
theorem dL_law_595 : decode cL_law 595 = .ok (.goto 4, 3) := dk_167 0 4 (dk_at dksL_law_21 9 rfl rfl)
theorem dL_law_598 : decode cL_law 598 = .ok (.iconst 0, 1) := dk_3 (dk_at dksL_law_21 12 rfl rfl)
theorem dL_law_599 : decode cL_law 599 = .ok (.aload_n 0, 1) := dk_42 (dk_at dksL_law_21 13 rfl rfl)
theorem dL_law_600 : decode cL_law 600 = .ok (.iload_n 3, 1) := dk_29 (dk_at dksL_law_21 14 rfl rfl)
theorem dL_law_601 : decode cL_law 601 = .ok (.iconst 2, 1) := dk_5 (dk_at dksL_law_21 15 rfl rfl)
theorem dL_law_602 : decode cL_law 602 = .ok (.iadd, 1) := dk_96 (dk_at dksL_law_21 16 rfl rfl)
theorem dL_law_603 : decode cL_law 603 = .ok (.iaload, 1) := dk_46 (dk_at dksL_law_21 17 rfl rfl)
theorem dL_law_604 : decode cL_law 604 = .ok (.aload_n 0, 1) := dk_42 (dk_at dksL_law_21 18 rfl rfl)
theorem dL_law_605 : decode cL_law 605 = .ok (.iload_n 3, 1) := dk_29 (dk_at dksL_law_21 19 rfl rfl)
theorem dL_law_606 : decode cL_law 606 = .ok (.iconst 3, 1) := dk_6 (dk_at dksL_law_21 20 rfl rfl)
theorem dL_law_607 : decode cL_law 607 = .ok (.iadd, 1) := dk_96 (dk_at dksL_law_21 21 rfl rfl)
theorem dL_law_608 : decode cL_law 608 = .ok (.iaload, 1) := dk_46 (dk_at dksL_law_21 22 rfl rfl)
theorem dL_law_609 : decode cL_law 609 = .ok (.invokevirtual 80, 3) := dk_182 0 80 (dk_at dksL_law_22 0 rfl rfl)
theorem dL_law_612 : decode cL_law 612 = .ok (.aload_n 2, 1) := dk_44 (dk_at dksL_law_22 3 rfl rfl)
theorem dL_law_613 : decode cL_law 613 = .ok (.aload_n 0, 1) := dk_42 (dk_at dksL_law_22 4 rfl rfl)
theorem dL_law_614 : decode cL_law 614 = .ok (.iload_n 3, 1) := dk_29 (dk_at dksL_law_22 5 rfl rfl)
theorem dL_law_615 : decode cL_law 615 = .ok (.iconst 1, 1) := dk_4 (dk_at dksL_law_22 6 rfl rfl)
theorem dL_law_616 : decode cL_law 616 = .ok (.iadd, 1) := dk_96 (dk_at dksL_law_22 7 rfl rfl)
theorem dL_law_617 : decode cL_law 617 = .ok (.iaload, 1) := dk_46 (dk_at dksL_law_22 8 rfl rfl)
theorem dL_law_618 : decode cL_law 618 = .ok (.ifCond .eq 7, 3) := dk_153 0 7 (dk_at dksL_law_22 9 rfl rfl)
theorem dL_law_621 : decode cL_law 621 = .ok (.iconst 1, 1) := dk_4 (dk_at dksL_law_22 12 rfl rfl)
theorem dL_law_622 : decode cL_law 622 = .ok (.goto 4, 3) := dk_167 0 4 (dk_at dksL_law_22 13 rfl rfl)
theorem dL_law_625 : decode cL_law 625 = .ok (.iconst 0, 1) := dk_3 (dk_at dksL_law_22 16 rfl rfl)
theorem dL_law_626 : decode cL_law 626 = .ok (.aload_n 0, 1) := dk_42 (dk_at dksL_law_22 17 rfl rfl)
theorem dL_law_627 : decode cL_law 627 = .ok (.iload_n 3, 1) := dk_29 (dk_at dksL_law_22 18 rfl rfl)
theorem dL_law_628 : decode cL_law 628 = .ok (.iconst 2, 1) := dk_5 (dk_at dksL_law_22 19 rfl rfl)
theorem dL_law_629 : decode cL_law 629 = .ok (.iadd, 1) := dk_96 (dk_at dksL_law_22 20 rfl rfl)
theorem dL_law_630 : decode cL_law 630 = .ok (.iaload, 1) := dk_46 (dk_at dksL_law_22 21 rfl rfl)
theorem dL_law_631 : decode cL_law 631 = .ok (.aload_n 0, 1) := dk_42 (dk_at dksL_law_22 22 rfl rfl)
theorem dL_law_632 : decode cL_law 632 = .ok (.iload_n 3, 1) := dk_29 (dk_at dksL_law_22 23 rfl rfl)
theorem dL_law_633 : decode cL_law 633 = .ok (.iconst 3, 1) := dk_6 (dk_at dksL_law_23 0 rfl rfl)
theorem dL_law_634 : decode cL_law 634 = .ok (.iadd, 1) := dk_96 (dk_at dksL_law_23 1 rfl rfl)
theorem dL_law_635 : decode cL_law 635 = .ok (.iaload, 1) := dk_46 (dk_at dksL_law_23 2 rfl rfl)
theorem dL_law_636 : decode cL_law 636 = .ok (.invokevirtual 84, 3) := dk_182 0 84 (dk_at dksL_law_23 3 rfl rfl)
theorem dL_law_639 : decode cL_law 639 = .ok (.if_icmp .eq 327, 3) := dk_159 1 71 (dk_at dksL_law_23 6 rfl rfl)
theorem dL_law_642 : decode cL_law 642 = .ok (.iconst 0, 1) := dk_3 (dk_at dksL_law_23 9 rfl rfl)
theorem dL_law_643 : decode cL_law 643 = .ok (.ireturn, 1) := dk_172 (dk_at dksL_law_23 10 rfl rfl)
theorem dL_law_644 : decode cL_law 644 = .ok (.aload_n 1, 1) := dk_43 (dk_at dksL_law_23 11 rfl rfl)
theorem dL_law_645 : decode cL_law 645 = .ok (.aload_n 0, 1) := dk_42 (dk_at dksL_law_23 12 rfl rfl)
theorem dL_law_646 : decode cL_law 646 = .ok (.iload_n 3, 1) := dk_29 (dk_at dksL_law_23 13 rfl rfl)
theorem dL_law_647 : decode cL_law 647 = .ok (.iconst 1, 1) := dk_4 (dk_at dksL_law_23 14 rfl rfl)
theorem dL_law_648 : decode cL_law 648 = .ok (.iadd, 1) := dk_96 (dk_at dksL_law_23 15 rfl rfl)
theorem dL_law_649 : decode cL_law 649 = .ok (.iaload, 1) := dk_46 (dk_at dksL_law_23 16 rfl rfl)
theorem dL_law_650 : decode cL_law 650 = .ok (.aload_n 0, 1) := dk_42 (dk_at dksL_law_23 17 rfl rfl)
theorem dL_law_651 : decode cL_law 651 = .ok (.iload_n 3, 1) := dk_29 (dk_at dksL_law_23 18 rfl rfl)
theorem dL_law_652 : decode cL_law 652 = .ok (.iconst 2, 1) := dk_5 (dk_at dksL_law_23 19 rfl rfl)
theorem dL_law_653 : decode cL_law 653 = .ok (.iadd, 1) := dk_96 (dk_at dksL_law_23 20 rfl rfl)
theorem dL_law_654 : decode cL_law 654 = .ok (.iaload, 1) := dk_46 (dk_at dksL_law_23 21 rfl rfl)
theorem dL_law_655 : decode cL_law 655 = .ok (.invokevirtual 85, 3) := dk_182 0 85 (dk_at dksL_law_24 0 rfl rfl)
theorem dL_law_658 : decode cL_law 658 = .ok (.aload_n 2, 1) := dk_44 (dk_at dksL_law_24 3 rfl rfl)
theorem dL_law_659 : decode cL_law 659 = .ok (.aload_n 0, 1) := dk_42 (dk_at dksL_law_24 4 rfl rfl)
theorem dL_law_660 : decode cL_law 660 = .ok (.iload_n 3, 1) := dk_29 (dk_at dksL_law_24 5 rfl rfl)
theorem dL_law_661 : decode cL_law 661 = .ok (.iconst 1, 1) := dk_4 (dk_at dksL_law_24 6 rfl rfl)
theorem dL_law_662 : decode cL_law 662 = .ok (.iadd, 1) := dk_96 (dk_at dksL_law_24 7 rfl rfl)
theorem dL_law_663 : decode cL_law 663 = .ok (.iaload, 1) := dk_46 (dk_at dksL_law_24 8 rfl rfl)
theorem dL_law_664 : decode cL_law 664 = .ok (.aload_n 0, 1) := dk_42 (dk_at dksL_law_24 9 rfl rfl)
theorem dL_law_665 : decode cL_law 665 = .ok (.iload_n 3, 1) := dk_29 (dk_at dksL_law_24 10 rfl rfl)
theorem dL_law_666 : decode cL_law 666 = .ok (.iconst 2, 1) := dk_5 (dk_at dksL_law_24 11 rfl rfl)
theorem dL_law_667 : decode cL_law 667 = .ok (.iadd, 1) := dk_96 (dk_at dksL_law_24 12 rfl rfl)
theorem dL_law_668 : decode cL_law 668 = .ok (.iaload, 1) := dk_46 (dk_at dksL_law_24 13 rfl rfl)
theorem dL_law_669 : decode cL_law 669 = .ok (.invokevirtual 88, 3) := dk_182 0 88 (dk_at dksL_law_24 14 rfl rfl)
theorem dL_law_672 : decode cL_law 672 = .ok (.if_icmp .eq 294, 3) := dk_159 1 38 (dk_at dksL_law_24 17 rfl rfl)
theorem dL_law_675 : decode cL_law 675 = .ok (.iconst 0, 1) := dk_3 (dk_at dksL_law_24 20 rfl rfl)
theorem dL_law_676 : decode cL_law 676 = .ok (.ireturn, 1) := dk_172 (dk_at dksL_law_24 21 rfl rfl)
theorem dL_law_677 : decode cL_law 677 = .ok (.aload_n 1, 1) := dk_43 (dk_at dksL_law_24 22 rfl rfl)
theorem dL_law_678 : decode cL_law 678 = .ok (.aload_n 0, 1) := dk_42 (dk_at dksL_law_24 23 rfl rfl)
theorem dL_law_679 : decode cL_law 679 = .ok (.iload_n 3, 1) := dk_29 (dk_at dksL_law_25 0 rfl rfl)
theorem dL_law_680 : decode cL_law 680 = .ok (.iconst 1, 1) := dk_4 (dk_at dksL_law_25 1 rfl rfl)
theorem dL_law_681 : decode cL_law 681 = .ok (.iadd, 1) := dk_96 (dk_at dksL_law_25 2 rfl rfl)
theorem dL_law_682 : decode cL_law 682 = .ok (.iaload, 1) := dk_46 (dk_at dksL_law_25 3 rfl rfl)
theorem dL_law_683 : decode cL_law 683 = .ok (.aload_n 0, 1) := dk_42 (dk_at dksL_law_25 4 rfl rfl)
theorem dL_law_684 : decode cL_law 684 = .ok (.iload_n 3, 1) := dk_29 (dk_at dksL_law_25 5 rfl rfl)
theorem dL_law_685 : decode cL_law 685 = .ok (.iconst 2, 1) := dk_5 (dk_at dksL_law_25 6 rfl rfl)
theorem dL_law_686 : decode cL_law 686 = .ok (.iadd, 1) := dk_96 (dk_at dksL_law_25 7 rfl rfl)
theorem dL_law_687 : decode cL_law 687 = .ok (.iaload, 1) := dk_46 (dk_at dksL_law_25 8 rfl rfl)
theorem dL_law_688 : decode cL_law 688 = .ok (.aload_n 0, 1) := dk_42 (dk_at dksL_law_25 9 rfl rfl)
theorem dL_law_689 : decode cL_law 689 = .ok (.iload_n 3, 1) := dk_29 (dk_at dksL_law_25 10 rfl rfl)
theorem dL_law_690 : decode cL_law 690 = .ok (.iconst 3, 1) := dk_6 (dk_at dksL_law_25 11 rfl rfl)
theorem dL_law_691 : decode cL_law 691 = .ok (.iadd, 1) := dk_96 (dk_at dksL_law_25 12 rfl rfl)
theorem dL_law_692 : decode cL_law 692 = .ok (.iaload, 1) := dk_46 (dk_at dksL_law_25 13 rfl rfl)
theorem dL_law_693 : decode cL_law 693 = .ok (.ifCond .eq 7, 3) := dk_153 0 7 (dk_at dksL_law_25 14 rfl rfl)
theorem dL_law_696 : decode cL_law 696 = .ok (.iconst 1, 1) := dk_4 (dk_at dksL_law_25 17 rfl rfl)
theorem dL_law_697 : decode cL_law 697 = .ok (.goto 4, 3) := dk_167 0 4 (dk_at dksL_law_25 18 rfl rfl)
theorem dL_law_700 : decode cL_law 700 = .ok (.iconst 0, 1) := dk_3 (dk_at dksL_law_25 21 rfl rfl)
theorem dL_law_701 : decode cL_law 701 = .ok (.invokevirtual 89, 3) := dk_182 0 89 (dk_at dksL_law_26 0 rfl rfl)
theorem dL_law_704 : decode cL_law 704 = .ok (.aload_n 2, 1) := dk_44 (dk_at dksL_law_26 3 rfl rfl)
theorem dL_law_705 : decode cL_law 705 = .ok (.aload_n 0, 1) := dk_42 (dk_at dksL_law_26 4 rfl rfl)
theorem dL_law_706 : decode cL_law 706 = .ok (.iload_n 3, 1) := dk_29 (dk_at dksL_law_26 5 rfl rfl)
theorem dL_law_707 : decode cL_law 707 = .ok (.iconst 1, 1) := dk_4 (dk_at dksL_law_26 6 rfl rfl)
theorem dL_law_708 : decode cL_law 708 = .ok (.iadd, 1) := dk_96 (dk_at dksL_law_26 7 rfl rfl)
theorem dL_law_709 : decode cL_law 709 = .ok (.iaload, 1) := dk_46 (dk_at dksL_law_26 8 rfl rfl)
theorem dL_law_710 : decode cL_law 710 = .ok (.aload_n 0, 1) := dk_42 (dk_at dksL_law_26 9 rfl rfl)
theorem dL_law_711 : decode cL_law 711 = .ok (.iload_n 3, 1) := dk_29 (dk_at dksL_law_26 10 rfl rfl)
theorem dL_law_712 : decode cL_law 712 = .ok (.iconst 2, 1) := dk_5 (dk_at dksL_law_26 11 rfl rfl)
theorem dL_law_713 : decode cL_law 713 = .ok (.iadd, 1) := dk_96 (dk_at dksL_law_26 12 rfl rfl)
theorem dL_law_714 : decode cL_law 714 = .ok (.iaload, 1) := dk_46 (dk_at dksL_law_26 13 rfl rfl)
theorem dL_law_715 : decode cL_law 715 = .ok (.aload_n 0, 1) := dk_42 (dk_at dksL_law_26 14 rfl rfl)
theorem dL_law_716 : decode cL_law 716 = .ok (.iload_n 3, 1) := dk_29 (dk_at dksL_law_26 15 rfl rfl)
theorem dL_law_717 : decode cL_law 717 = .ok (.iconst 3, 1) := dk_6 (dk_at dksL_law_26 16 rfl rfl)
theorem dL_law_718 : decode cL_law 718 = .ok (.iadd, 1) := dk_96 (dk_at dksL_law_26 17 rfl rfl)
theorem dL_law_719 : decode cL_law 719 = .ok (.iaload, 1) := dk_46 (dk_at dksL_law_26 18 rfl rfl)
theorem dL_law_720 : decode cL_law 720 = .ok (.ifCond .eq 7, 3) := dk_153 0 7 (dk_at dksL_law_26 19 rfl rfl)
theorem dL_law_723 : decode cL_law 723 = .ok (.iconst 1, 1) := dk_4 (dk_at dksL_law_26 22 rfl rfl)
theorem dL_law_724 : decode cL_law 724 = .ok (.goto 4, 3) := dk_167 0 4 (dk_at dksL_law_27 0 rfl rfl)
theorem dL_law_727 : decode cL_law 727 = .ok (.iconst 0, 1) := dk_3 (dk_at dksL_law_27 3 rfl rfl)
theorem dL_law_728 : decode cL_law 728 = .ok (.invokevirtual 93, 3) := dk_182 0 93 (dk_at dksL_law_27 4 rfl rfl)
theorem dL_law_731 : decode cL_law 731 = .ok (.if_icmp .eq 235, 3) := dk_159 0 235 (dk_at dksL_law_27 7 rfl rfl)
theorem dL_law_734 : decode cL_law 734 = .ok (.iconst 0, 1) := dk_3 (dk_at dksL_law_27 10 rfl rfl)
theorem dL_law_735 : decode cL_law 735 = .ok (.ireturn, 1) := dk_172 (dk_at dksL_law_27 11 rfl rfl)
theorem dL_law_736 : decode cL_law 736 = .ok (.aload_n 1, 1) := dk_43 (dk_at dksL_law_27 12 rfl rfl)
theorem dL_law_737 : decode cL_law 737 = .ok (.aload_n 0, 1) := dk_42 (dk_at dksL_law_27 13 rfl rfl)
theorem dL_law_738 : decode cL_law 738 = .ok (.iload_n 3, 1) := dk_29 (dk_at dksL_law_27 14 rfl rfl)
theorem dL_law_739 : decode cL_law 739 = .ok (.iconst 1, 1) := dk_4 (dk_at dksL_law_27 15 rfl rfl)
theorem dL_law_740 : decode cL_law 740 = .ok (.iadd, 1) := dk_96 (dk_at dksL_law_27 16 rfl rfl)
theorem dL_law_741 : decode cL_law 741 = .ok (.iaload, 1) := dk_46 (dk_at dksL_law_27 17 rfl rfl)
theorem dL_law_742 : decode cL_law 742 = .ok (.invokevirtual 94, 3) := dk_182 0 94 (dk_at dksL_law_27 18 rfl rfl)
theorem dL_law_745 : decode cL_law 745 = .ok (.aload_n 2, 1) := dk_44 (dk_at dksL_law_27 21 rfl rfl)
theorem dL_law_746 : decode cL_law 746 = .ok (.aload_n 0, 1) := dk_42 (dk_at dksL_law_27 22 rfl rfl)
theorem dL_law_747 : decode cL_law 747 = .ok (.iload_n 3, 1) := dk_29 (dk_at dksL_law_27 23 rfl rfl)
theorem dL_law_748 : decode cL_law 748 = .ok (.iconst 1, 1) := dk_4 (dk_at dksL_law_28 0 rfl rfl)
theorem dL_law_749 : decode cL_law 749 = .ok (.iadd, 1) := dk_96 (dk_at dksL_law_28 1 rfl rfl)
theorem dL_law_750 : decode cL_law 750 = .ok (.iaload, 1) := dk_46 (dk_at dksL_law_28 2 rfl rfl)
theorem dL_law_751 : decode cL_law 751 = .ok (.invokevirtual 97, 3) := dk_182 0 97 (dk_at dksL_law_28 3 rfl rfl)
theorem dL_law_754 : decode cL_law 754 = .ok (.if_icmp .eq 212, 3) := dk_159 0 212 (dk_at dksL_law_28 6 rfl rfl)
theorem dL_law_757 : decode cL_law 757 = .ok (.iconst 0, 1) := dk_3 (dk_at dksL_law_28 9 rfl rfl)
theorem dL_law_758 : decode cL_law 758 = .ok (.ireturn, 1) := dk_172 (dk_at dksL_law_28 10 rfl rfl)
theorem dL_law_759 : decode cL_law 759 = .ok (.aload_n 1, 1) := dk_43 (dk_at dksL_law_28 11 rfl rfl)
theorem dL_law_760 : decode cL_law 760 = .ok (.aload_n 0, 1) := dk_42 (dk_at dksL_law_28 12 rfl rfl)
theorem dL_law_761 : decode cL_law 761 = .ok (.iload_n 3, 1) := dk_29 (dk_at dksL_law_28 13 rfl rfl)
theorem dL_law_762 : decode cL_law 762 = .ok (.iconst 1, 1) := dk_4 (dk_at dksL_law_28 14 rfl rfl)
theorem dL_law_763 : decode cL_law 763 = .ok (.iadd, 1) := dk_96 (dk_at dksL_law_28 15 rfl rfl)
theorem dL_law_764 : decode cL_law 764 = .ok (.iaload, 1) := dk_46 (dk_at dksL_law_28 16 rfl rfl)
theorem dL_law_765 : decode cL_law 765 = .ok (.invokevirtual 98, 3) := dk_182 0 98 (dk_at dksL_law_28 17 rfl rfl)
theorem dL_law_768 : decode cL_law 768 = .ok (.aload_n 2, 1) := dk_44 (dk_at dksL_law_28 20 rfl rfl)
theorem dL_law_769 : decode cL_law 769 = .ok (.aload_n 0, 1) := dk_42 (dk_at dksL_law_28 21 rfl rfl)
theorem dL_law_770 : decode cL_law 770 = .ok (.iload_n 3, 1) := dk_29 (dk_at dksL_law_28 22 rfl rfl)
theorem dL_law_771 : decode cL_law 771 = .ok (.iconst 1, 1) := dk_4 (dk_at dksL_law_28 23 rfl rfl)
theorem dL_law_772 : decode cL_law 772 = .ok (.iadd, 1) := dk_96 (dk_at dksL_law_29 0 rfl rfl)
theorem dL_law_773 : decode cL_law 773 = .ok (.iaload, 1) := dk_46 (dk_at dksL_law_29 1 rfl rfl)
theorem dL_law_774 : decode cL_law 774 = .ok (.invokevirtual 101, 3) := dk_182 0 101 (dk_at dksL_law_29 2 rfl rfl)
theorem dL_law_777 : decode cL_law 777 = .ok (.if_icmp .eq 189, 3) := dk_159 0 189 (dk_at dksL_law_29 5 rfl rfl)
theorem dL_law_780 : decode cL_law 780 = .ok (.iconst 0, 1) := dk_3 (dk_at dksL_law_29 8 rfl rfl)
theorem dL_law_781 : decode cL_law 781 = .ok (.ireturn, 1) := dk_172 (dk_at dksL_law_29 9 rfl rfl)
theorem dL_law_782 : decode cL_law 782 = .ok (.aload_n 1, 1) := dk_43 (dk_at dksL_law_29 10 rfl rfl)
theorem dL_law_783 : decode cL_law 783 = .ok (.aload_n 0, 1) := dk_42 (dk_at dksL_law_29 11 rfl rfl)
theorem dL_law_784 : decode cL_law 784 = .ok (.iload_n 3, 1) := dk_29 (dk_at dksL_law_29 12 rfl rfl)
theorem dL_law_785 : decode cL_law 785 = .ok (.iconst 1, 1) := dk_4 (dk_at dksL_law_29 13 rfl rfl)
theorem dL_law_786 : decode cL_law 786 = .ok (.iadd, 1) := dk_96 (dk_at dksL_law_29 14 rfl rfl)
theorem dL_law_787 : decode cL_law 787 = .ok (.iaload, 1) := dk_46 (dk_at dksL_law_29 15 rfl rfl)
theorem dL_law_788 : decode cL_law 788 = .ok (.invokevirtual 102, 3) := dk_182 0 102 (dk_at dksL_law_29 16 rfl rfl)
theorem dL_law_791 : decode cL_law 791 = .ok (.aload_n 2, 1) := dk_44 (dk_at dksL_law_29 19 rfl rfl)
theorem dL_law_792 : decode cL_law 792 = .ok (.aload_n 0, 1) := dk_42 (dk_at dksL_law_29 20 rfl rfl)
theorem dL_law_793 : decode cL_law 793 = .ok (.iload_n 3, 1) := dk_29 (dk_at dksL_law_29 21 rfl rfl)
theorem dL_law_794 : decode cL_law 794 = .ok (.iconst 1, 1) := dk_4 (dk_at dksL_law_29 22 rfl rfl)
theorem dL_law_795 : decode cL_law 795 = .ok (.iadd, 1) := dk_96 (dk_at dksL_law_29 23 rfl rfl)
theorem dL_law_796 : decode cL_law 796 = .ok (.iaload, 1) := dk_46 (dk_at dksL_law_30 0 rfl rfl)
theorem dL_law_797 : decode cL_law 797 = .ok (.invokevirtual 105, 3) := dk_182 0 105 (dk_at dksL_law_30 1 rfl rfl)
theorem dL_law_800 : decode cL_law 800 = .ok (.if_icmp .eq 166, 3) := dk_159 0 166 (dk_at dksL_law_30 4 rfl rfl)
theorem dL_law_803 : decode cL_law 803 = .ok (.iconst 0, 1) := dk_3 (dk_at dksL_law_30 7 rfl rfl)
theorem dL_law_804 : decode cL_law 804 = .ok (.ireturn, 1) := dk_172 (dk_at dksL_law_30 8 rfl rfl)
theorem dL_law_805 : decode cL_law 805 = .ok (.aload_n 1, 1) := dk_43 (dk_at dksL_law_30 9 rfl rfl)
theorem dL_law_806 : decode cL_law 806 = .ok (.aload_n 0, 1) := dk_42 (dk_at dksL_law_30 10 rfl rfl)
theorem dL_law_807 : decode cL_law 807 = .ok (.iload_n 3, 1) := dk_29 (dk_at dksL_law_30 11 rfl rfl)
theorem dL_law_808 : decode cL_law 808 = .ok (.iconst 1, 1) := dk_4 (dk_at dksL_law_30 12 rfl rfl)
theorem dL_law_809 : decode cL_law 809 = .ok (.iadd, 1) := dk_96 (dk_at dksL_law_30 13 rfl rfl)
theorem dL_law_810 : decode cL_law 810 = .ok (.iaload, 1) := dk_46 (dk_at dksL_law_30 14 rfl rfl)
theorem dL_law_811 : decode cL_law 811 = .ok (.invokevirtual 106, 3) := dk_182 0 106 (dk_at dksL_law_30 15 rfl rfl)
theorem dL_law_814 : decode cL_law 814 = .ok (.aload_n 2, 1) := dk_44 (dk_at dksL_law_30 18 rfl rfl)
theorem dL_law_815 : decode cL_law 815 = .ok (.aload_n 0, 1) := dk_42 (dk_at dksL_law_30 19 rfl rfl)
theorem dL_law_816 : decode cL_law 816 = .ok (.iload_n 3, 1) := dk_29 (dk_at dksL_law_30 20 rfl rfl)
theorem dL_law_817 : decode cL_law 817 = .ok (.iconst 1, 1) := dk_4 (dk_at dksL_law_30 21 rfl rfl)
theorem dL_law_818 : decode cL_law 818 = .ok (.iadd, 1) := dk_96 (dk_at dksL_law_30 22 rfl rfl)
theorem dL_law_819 : decode cL_law 819 = .ok (.iaload, 1) := dk_46 (dk_at dksL_law_30 23 rfl rfl)
theorem dL_law_820 : decode cL_law 820 = .ok (.invokevirtual 109, 3) := dk_182 0 109 (dk_at dksL_law_31 0 rfl rfl)
theorem dL_law_823 : decode cL_law 823 = .ok (.if_icmp .eq 143, 3) := dk_159 0 143 (dk_at dksL_law_31 3 rfl rfl)
theorem dL_law_826 : decode cL_law 826 = .ok (.iconst 0, 1) := dk_3 (dk_at dksL_law_31 6 rfl rfl)
theorem dL_law_827 : decode cL_law 827 = .ok (.ireturn, 1) := dk_172 (dk_at dksL_law_31 7 rfl rfl)
theorem dL_law_828 : decode cL_law 828 = .ok (.aload_n 1, 1) := dk_43 (dk_at dksL_law_31 8 rfl rfl)
theorem dL_law_829 : decode cL_law 829 = .ok (.aload_n 0, 1) := dk_42 (dk_at dksL_law_31 9 rfl rfl)
theorem dL_law_830 : decode cL_law 830 = .ok (.iload_n 3, 1) := dk_29 (dk_at dksL_law_31 10 rfl rfl)
theorem dL_law_831 : decode cL_law 831 = .ok (.iconst 1, 1) := dk_4 (dk_at dksL_law_31 11 rfl rfl)
theorem dL_law_832 : decode cL_law 832 = .ok (.iadd, 1) := dk_96 (dk_at dksL_law_31 12 rfl rfl)
theorem dL_law_833 : decode cL_law 833 = .ok (.iaload, 1) := dk_46 (dk_at dksL_law_31 13 rfl rfl)
theorem dL_law_834 : decode cL_law 834 = .ok (.invokevirtual 110, 3) := dk_182 0 110 (dk_at dksL_law_31 14 rfl rfl)
theorem dL_law_837 : decode cL_law 837 = .ok (.aload_n 2, 1) := dk_44 (dk_at dksL_law_31 17 rfl rfl)
theorem dL_law_838 : decode cL_law 838 = .ok (.aload_n 0, 1) := dk_42 (dk_at dksL_law_31 18 rfl rfl)
theorem dL_law_839 : decode cL_law 839 = .ok (.iload_n 3, 1) := dk_29 (dk_at dksL_law_31 19 rfl rfl)
theorem dL_law_840 : decode cL_law 840 = .ok (.iconst 1, 1) := dk_4 (dk_at dksL_law_31 20 rfl rfl)
theorem dL_law_841 : decode cL_law 841 = .ok (.iadd, 1) := dk_96 (dk_at dksL_law_31 21 rfl rfl)
theorem dL_law_842 : decode cL_law 842 = .ok (.iaload, 1) := dk_46 (dk_at dksL_law_31 22 rfl rfl)
theorem dL_law_843 : decode cL_law 843 = .ok (.invokevirtual 113, 3) := dk_182 0 113 (dk_at dksL_law_32 0 rfl rfl)
theorem dL_law_846 : decode cL_law 846 = .ok (.if_icmp .eq 120, 3) := dk_159 0 120 (dk_at dksL_law_32 3 rfl rfl)
theorem dL_law_849 : decode cL_law 849 = .ok (.iconst 0, 1) := dk_3 (dk_at dksL_law_32 6 rfl rfl)
theorem dL_law_850 : decode cL_law 850 = .ok (.ireturn, 1) := dk_172 (dk_at dksL_law_32 7 rfl rfl)
theorem dL_law_851 : decode cL_law 851 = .ok (.aload_n 1, 1) := dk_43 (dk_at dksL_law_32 8 rfl rfl)
theorem dL_law_852 : decode cL_law 852 = .ok (.aload_n 0, 1) := dk_42 (dk_at dksL_law_32 9 rfl rfl)
theorem dL_law_853 : decode cL_law 853 = .ok (.iload_n 3, 1) := dk_29 (dk_at dksL_law_32 10 rfl rfl)
theorem dL_law_854 : decode cL_law 854 = .ok (.iconst 1, 1) := dk_4 (dk_at dksL_law_32 11 rfl rfl)
theorem dL_law_855 : decode cL_law 855 = .ok (.iadd, 1) := dk_96 (dk_at dksL_law_32 12 rfl rfl)
theorem dL_law_856 : decode cL_law 856 = .ok (.iaload, 1) := dk_46 (dk_at dksL_law_32 13 rfl rfl)
theorem dL_law_857 : decode cL_law 857 = .ok (.invokevirtual 114, 3) := dk_182 0 114 (dk_at dksL_law_32 14 rfl rfl)
theorem dL_law_860 : decode cL_law 860 = .ok (.aload_n 2, 1) := dk_44 (dk_at dksL_law_32 17 rfl rfl)
theorem dL_law_861 : decode cL_law 861 = .ok (.aload_n 0, 1) := dk_42 (dk_at dksL_law_32 18 rfl rfl)
theorem dL_law_862 : decode cL_law 862 = .ok (.iload_n 3, 1) := dk_29 (dk_at dksL_law_32 19 rfl rfl)
theorem dL_law_863 : decode cL_law 863 = .ok (.iconst 1, 1) := dk_4 (dk_at dksL_law_32 20 rfl rfl)
theorem dL_law_864 : decode cL_law 864 = .ok (.iadd, 1) := dk_96 (dk_at dksL_law_32 21 rfl rfl)
theorem dL_law_865 : decode cL_law 865 = .ok (.iaload, 1) := dk_46 (dk_at dksL_law_32 22 rfl rfl)
theorem dL_law_866 : decode cL_law 866 = .ok (.invokevirtual 117, 3) := dk_182 0 117 (dk_at dksL_law_33 0 rfl rfl)
theorem dL_law_869 : decode cL_law 869 = .ok (.if_icmp .eq 97, 3) := dk_159 0 97 (dk_at dksL_law_33 3 rfl rfl)
theorem dL_law_872 : decode cL_law 872 = .ok (.iconst 0, 1) := dk_3 (dk_at dksL_law_33 6 rfl rfl)
theorem dL_law_873 : decode cL_law 873 = .ok (.ireturn, 1) := dk_172 (dk_at dksL_law_33 7 rfl rfl)
theorem dL_law_874 : decode cL_law 874 = .ok (.aload_n 1, 1) := dk_43 (dk_at dksL_law_33 8 rfl rfl)
theorem dL_law_875 : decode cL_law 875 = .ok (.aload_n 0, 1) := dk_42 (dk_at dksL_law_33 9 rfl rfl)
theorem dL_law_876 : decode cL_law 876 = .ok (.iload_n 3, 1) := dk_29 (dk_at dksL_law_33 10 rfl rfl)
theorem dL_law_877 : decode cL_law 877 = .ok (.iconst 1, 1) := dk_4 (dk_at dksL_law_33 11 rfl rfl)
theorem dL_law_878 : decode cL_law 878 = .ok (.iadd, 1) := dk_96 (dk_at dksL_law_33 12 rfl rfl)
theorem dL_law_879 : decode cL_law 879 = .ok (.iaload, 1) := dk_46 (dk_at dksL_law_33 13 rfl rfl)
theorem dL_law_880 : decode cL_law 880 = .ok (.invokevirtual 118, 3) := dk_182 0 118 (dk_at dksL_law_33 14 rfl rfl)
theorem dL_law_883 : decode cL_law 883 = .ok (.aload_n 2, 1) := dk_44 (dk_at dksL_law_33 17 rfl rfl)
theorem dL_law_884 : decode cL_law 884 = .ok (.aload_n 0, 1) := dk_42 (dk_at dksL_law_33 18 rfl rfl)
theorem dL_law_885 : decode cL_law 885 = .ok (.iload_n 3, 1) := dk_29 (dk_at dksL_law_33 19 rfl rfl)
theorem dL_law_886 : decode cL_law 886 = .ok (.iconst 1, 1) := dk_4 (dk_at dksL_law_33 20 rfl rfl)
theorem dL_law_887 : decode cL_law 887 = .ok (.iadd, 1) := dk_96 (dk_at dksL_law_33 21 rfl rfl)
theorem dL_law_888 : decode cL_law 888 = .ok (.iaload, 1) := dk_46 (dk_at dksL_law_33 22 rfl rfl)
theorem dL_law_889 : decode cL_law 889 = .ok (.invokevirtual 121, 3) := dk_182 0 121 (dk_at dksL_law_34 0 rfl rfl)
theorem dL_law_892 : decode cL_law 892 = .ok (.if_icmp .eq 74, 3) := dk_159 0 74 (dk_at dksL_law_34 3 rfl rfl)
theorem dL_law_895 : decode cL_law 895 = .ok (.iconst 0, 1) := dk_3 (dk_at dksL_law_34 6 rfl rfl)
theorem dL_law_896 : decode cL_law 896 = .ok (.ireturn, 1) := dk_172 (dk_at dksL_law_34 7 rfl rfl)
theorem dL_law_897 : decode cL_law 897 = .ok (.aload_n 1, 1) := dk_43 (dk_at dksL_law_34 8 rfl rfl)
theorem dL_law_898 : decode cL_law 898 = .ok (.aload_n 0, 1) := dk_42 (dk_at dksL_law_34 9 rfl rfl)
theorem dL_law_899 : decode cL_law 899 = .ok (.iload_n 3, 1) := dk_29 (dk_at dksL_law_34 10 rfl rfl)
theorem dL_law_900 : decode cL_law 900 = .ok (.iconst 1, 1) := dk_4 (dk_at dksL_law_34 11 rfl rfl)
theorem dL_law_901 : decode cL_law 901 = .ok (.iadd, 1) := dk_96 (dk_at dksL_law_34 12 rfl rfl)
theorem dL_law_902 : decode cL_law 902 = .ok (.iaload, 1) := dk_46 (dk_at dksL_law_34 13 rfl rfl)
theorem dL_law_903 : decode cL_law 903 = .ok (.invokevirtual 122, 3) := dk_182 0 122 (dk_at dksL_law_34 14 rfl rfl)
theorem dL_law_906 : decode cL_law 906 = .ok (.aload_n 2, 1) := dk_44 (dk_at dksL_law_34 17 rfl rfl)
theorem dL_law_907 : decode cL_law 907 = .ok (.aload_n 0, 1) := dk_42 (dk_at dksL_law_34 18 rfl rfl)
theorem dL_law_908 : decode cL_law 908 = .ok (.iload_n 3, 1) := dk_29 (dk_at dksL_law_34 19 rfl rfl)
theorem dL_law_909 : decode cL_law 909 = .ok (.iconst 1, 1) := dk_4 (dk_at dksL_law_34 20 rfl rfl)
theorem dL_law_910 : decode cL_law 910 = .ok (.iadd, 1) := dk_96 (dk_at dksL_law_34 21 rfl rfl)
theorem dL_law_911 : decode cL_law 911 = .ok (.iaload, 1) := dk_46 (dk_at dksL_law_34 22 rfl rfl)
theorem dL_law_912 : decode cL_law 912 = .ok (.invokevirtual 125, 3) := dk_182 0 125 (dk_at dksL_law_35 0 rfl rfl)
theorem dL_law_915 : decode cL_law 915 = .ok (.if_icmp .eq 51, 3) := dk_159 0 51 (dk_at dksL_law_35 3 rfl rfl)
theorem dL_law_918 : decode cL_law 918 = .ok (.iconst 0, 1) := dk_3 (dk_at dksL_law_35 6 rfl rfl)
theorem dL_law_919 : decode cL_law 919 = .ok (.ireturn, 1) := dk_172 (dk_at dksL_law_35 7 rfl rfl)
theorem dL_law_920 : decode cL_law 920 = .ok (.aload_n 1, 1) := dk_43 (dk_at dksL_law_35 8 rfl rfl)
theorem dL_law_921 : decode cL_law 921 = .ok (.aload_n 0, 1) := dk_42 (dk_at dksL_law_35 9 rfl rfl)
theorem dL_law_922 : decode cL_law 922 = .ok (.iload_n 3, 1) := dk_29 (dk_at dksL_law_35 10 rfl rfl)
theorem dL_law_923 : decode cL_law 923 = .ok (.iconst 1, 1) := dk_4 (dk_at dksL_law_35 11 rfl rfl)
theorem dL_law_924 : decode cL_law 924 = .ok (.iadd, 1) := dk_96 (dk_at dksL_law_35 12 rfl rfl)
theorem dL_law_925 : decode cL_law 925 = .ok (.iaload, 1) := dk_46 (dk_at dksL_law_35 13 rfl rfl)
theorem dL_law_926 : decode cL_law 926 = .ok (.invokevirtual 126, 3) := dk_182 0 126 (dk_at dksL_law_35 14 rfl rfl)
theorem dL_law_929 : decode cL_law 929 = .ok (.aload_n 2, 1) := dk_44 (dk_at dksL_law_35 17 rfl rfl)
theorem dL_law_930 : decode cL_law 930 = .ok (.aload_n 0, 1) := dk_42 (dk_at dksL_law_35 18 rfl rfl)
theorem dL_law_931 : decode cL_law 931 = .ok (.iload_n 3, 1) := dk_29 (dk_at dksL_law_35 19 rfl rfl)
theorem dL_law_932 : decode cL_law 932 = .ok (.iconst 1, 1) := dk_4 (dk_at dksL_law_35 20 rfl rfl)
theorem dL_law_933 : decode cL_law 933 = .ok (.iadd, 1) := dk_96 (dk_at dksL_law_35 21 rfl rfl)
theorem dL_law_934 : decode cL_law 934 = .ok (.iaload, 1) := dk_46 (dk_at dksL_law_35 22 rfl rfl)
theorem dL_law_935 : decode cL_law 935 = .ok (.invokevirtual 129, 3) := dk_182 0 129 (dk_at dksL_law_36 0 rfl rfl)
theorem dL_law_938 : decode cL_law 938 = .ok (.if_icmp .eq 28, 3) := dk_159 0 28 (dk_at dksL_law_36 3 rfl rfl)
theorem dL_law_941 : decode cL_law 941 = .ok (.iconst 0, 1) := dk_3 (dk_at dksL_law_36 6 rfl rfl)
theorem dL_law_942 : decode cL_law 942 = .ok (.ireturn, 1) := dk_172 (dk_at dksL_law_36 7 rfl rfl)
theorem dL_law_943 : decode cL_law 943 = .ok (.aload_n 1, 1) := dk_43 (dk_at dksL_law_36 8 rfl rfl)
theorem dL_law_944 : decode cL_law 944 = .ok (.aload_n 0, 1) := dk_42 (dk_at dksL_law_36 9 rfl rfl)
theorem dL_law_945 : decode cL_law 945 = .ok (.iload_n 3, 1) := dk_29 (dk_at dksL_law_36 10 rfl rfl)
theorem dL_law_946 : decode cL_law 946 = .ok (.iconst 1, 1) := dk_4 (dk_at dksL_law_36 11 rfl rfl)
theorem dL_law_947 : decode cL_law 947 = .ok (.iadd, 1) := dk_96 (dk_at dksL_law_36 12 rfl rfl)
theorem dL_law_948 : decode cL_law 948 = .ok (.iaload, 1) := dk_46 (dk_at dksL_law_36 13 rfl rfl)
theorem dL_law_949 : decode cL_law 949 = .ok (.invokevirtual 130, 3) := dk_182 0 130 (dk_at dksL_law_36 14 rfl rfl)
theorem dL_law_952 : decode cL_law 952 = .ok (.aload_n 2, 1) := dk_44 (dk_at dksL_law_36 17 rfl rfl)
theorem dL_law_953 : decode cL_law 953 = .ok (.aload_n 0, 1) := dk_42 (dk_at dksL_law_36 18 rfl rfl)
theorem dL_law_954 : decode cL_law 954 = .ok (.iload_n 3, 1) := dk_29 (dk_at dksL_law_36 19 rfl rfl)
theorem dL_law_955 : decode cL_law 955 = .ok (.iconst 1, 1) := dk_4 (dk_at dksL_law_36 20 rfl rfl)
theorem dL_law_956 : decode cL_law 956 = .ok (.iadd, 1) := dk_96 (dk_at dksL_law_36 21 rfl rfl)
theorem dL_law_957 : decode cL_law 957 = .ok (.iaload, 1) := dk_46 (dk_at dksL_law_36 22 rfl rfl)
theorem dL_law_958 : decode cL_law 958 = .ok (.invokevirtual 133, 3) := dk_182 0 133 (dk_at dksL_law_37 0 rfl rfl)
theorem dL_law_961 : decode cL_law 961 = .ok (.if_icmp .eq 5, 3) := dk_159 0 5 (dk_at dksL_law_37 3 rfl rfl)
theorem dL_law_964 : decode cL_law 964 = .ok (.iconst 0, 1) := dk_3 (dk_at dksL_law_37 6 rfl rfl)
theorem dL_law_965 : decode cL_law 965 = .ok (.ireturn, 1) := dk_172 (dk_at dksL_law_37 7 rfl rfl)
theorem dL_law_966 : decode cL_law 966 = .ok (.iinc 3 6, 3) := dk_132 3 6 (dk_at dksL_law_37 8 rfl rfl)
theorem dL_law_969 : decode cL_law 969 = .ok (.goto (-951), 3) := dk_167 252 73 (dk_at dksL_law_37 11 rfl rfl)
theorem dL_law_972 : decode cL_law 972 = .ok (.iconst 1, 1) := dk_4 (dk_at dksL_law_37 14 rfl rfl)
theorem dL_law_973 : decode cL_law 973 = .ok (.ireturn, 1) := dk_172 (dk_at dksL_law_37 15 rfl rfl)
