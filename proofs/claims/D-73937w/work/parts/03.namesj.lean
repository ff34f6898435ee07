/-! java/lang/Throwable -/
set_option maxRecDepth 100000
def RJ0 : String := "java/lang/Throwable"
def TJ0 : u_T := fun k => match k with
  | 0 => ("java/lang/Throwable", "cause", "Ljava/lang/Throwable;", false)
  | 1 => ("java/lang/Throwable", "stackTrace", "[Ljava/lang/StackTraceElement;", false)
  | 2 => ("java/lang/Throwable", "suppressedExceptions", "Ljava/util/List;", false)
  | 3 => ("java/lang/Throwable", "detailMessage", "Ljava/lang/String;", false)
  | _ => ("java/lang/Throwable", "backtrace", "Ljava/lang/Object;", false)
def tyJ0 : Nat → FieldType := fun k => match k with
  | 0 => .object "java/lang/Throwable"
  | 1 => .array (.object "java/lang/StackTraceElement")
  | 2 => .object "java/util/List"
  | 3 => .object "java/lang/String"
  | _ => .object "java/lang/Object"
abbrev wsJ00 : List Cond := u_ws RJ0 TJ0 5
theorem nmJ0 : ∀ a, a < 5 → ∀ b, b < 5 → a ≠ b → (TJ0 a).2.1 ≠ (TJ0 b).2.1 := by decide +kernel
theorem tyJ0_ok : ∀ k, k < 5 → parseFieldDescriptor (TJ0 k).2.2.1 = some (tyJ0 k) := by decide +kernel
abbrev cJ0_init : ByteArray := prog_33_method_1_code
def yJ0_init : MethodName := ⟨RJ0, "<init>", "()V"⟩
def dkwJ0_init_1 : List UInt8 := [182, 0, 27, 87, 177]
abbrev dktJ0_init_1 : List UInt8 := dkwJ0_init_1 ++ []
def dkwJ0_init_0 : List UInt8 := [42, 183, 0, 1, 42, 42, 181, 0, 7, 42, 178, 0, 13, 181, 0, 17, 42, 178, 0, 20, 181, 0, 24, 42]
abbrev dktJ0_init_0 : List UInt8 := dkwJ0_init_0 ++ dktJ0_init_1
theorem dksJ0_init_0 : cJ0_init.data.toList.drop 0 = dktJ0_init_0 := by decide +kernel
theorem dksJ0_init_1 : cJ0_init.data.toList.drop 24 = dktJ0_init_1 := dk_seg dksJ0_init_0 24 rfl rfl
theorem dJ0_init_0 : decode cJ0_init 0 = .ok (.aload_n 0, 1) := dk_42 (dk_at dksJ0_init_0 0 rfl rfl)
theorem dJ0_init_1 : decode cJ0_init 1 = .ok (.invokespecial 1, 3) := dk_183 0 1 (dk_at dksJ0_init_0 1 rfl rfl)
theorem dJ0_init_4 : decode cJ0_init 4 = .ok (.aload_n 0, 1) := dk_42 (dk_at dksJ0_init_0 4 rfl rfl)
theorem dJ0_init_5 : decode cJ0_init 5 = .ok (.aload_n 0, 1) := dk_42 (dk_at dksJ0_init_0 5 rfl rfl)
theorem dJ0_init_6 : decode cJ0_init 6 = .ok (.putfield 7, 3) := dk_181 0 7 (dk_at dksJ0_init_0 6 rfl rfl)
theorem dJ0_init_9 : decode cJ0_init 9 = .ok (.aload_n 0, 1) := dk_42 (dk_at dksJ0_init_0 9 rfl rfl)
theorem dJ0_init_10 : decode cJ0_init 10 = .ok (.getstatic 13, 3) := dk_178 0 13 (dk_at dksJ0_init_0 10 rfl rfl)
theorem dJ0_init_13 : decode cJ0_init 13 = .ok (.putfield 17, 3) := dk_181 0 17 (dk_at dksJ0_init_0 13 rfl rfl)
theorem dJ0_init_16 : decode cJ0_init 16 = .ok (.aload_n 0, 1) := dk_42 (dk_at dksJ0_init_0 16 rfl rfl)
theorem dJ0_init_17 : decode cJ0_init 17 = .ok (.getstatic 20, 3) := dk_178 0 20 (dk_at dksJ0_init_0 17 rfl rfl)
theorem dJ0_init_20 : decode cJ0_init 20 = .ok (.putfield 24, 3) := dk_181 0 24 (dk_at dksJ0_init_0 20 rfl rfl)
theorem dJ0_init_23 : decode cJ0_init 23 = .ok (.aload_n 0, 1) := dk_42 (dk_at dksJ0_init_0 23 rfl rfl)
theorem dJ0_init_24 : decode cJ0_init 24 = .ok (.invokevirtual 27, 3) := dk_182 0 27 (dk_at dksJ0_init_1 0 rfl rfl)
theorem dJ0_init_27 : decode cJ0_init 27 = .ok (.pop, 1) := dk_87 (dk_at dksJ0_init_1 3 rfl rfl)
theorem dJ0_init_28 : decode cJ0_init 28 = .ok (.return_, 1) := dk_177 (dk_at dksJ0_init_1 4 rfl rfl)
abbrev cJ0_init_2 : ByteArray := prog_33_method_5_code
def yJ0_init_2 : MethodName := ⟨RJ0, "<init>", "(Ljava/lang/String;Ljava/lang/Throwable;ZZ)V"⟩
def dkwJ0_init_2_2 : List UInt8 := [44, 181, 0, 7, 29, 154, 0, 8, 42, 1, 181, 0, 24, 177]
abbrev dktJ0_init_2_2 : List UInt8 := dkwJ0_init_2_2 ++ []
def dkwJ0_init_2_1 : List UInt8 := [21, 4, 153, 0, 11, 42, 182, 0, 27, 87, 167, 0, 8, 42, 1, 181, 0, 17, 42, 43, 181, 0, 31, 42]
abbrev dktJ0_init_2_1 : List UInt8 := dkwJ0_init_2_1 ++ dktJ0_init_2_2
def dkwJ0_init_2_0 : List UInt8 := [42, 183, 0, 1, 42, 42, 181, 0, 7, 42, 178, 0, 13, 181, 0, 17, 42, 178, 0, 20, 181, 0, 24]
abbrev dktJ0_init_2_0 : List UInt8 := dkwJ0_init_2_0 ++ dktJ0_init_2_1
theorem dksJ0_init_2_0 : cJ0_init_2.data.toList.drop 0 = dktJ0_init_2_0 := by decide +kernel
theorem dksJ0_init_2_1 : cJ0_init_2.data.toList.drop 23 = dktJ0_init_2_1 := dk_seg dksJ0_init_2_0 23 rfl rfl
theorem dksJ0_init_2_2 : cJ0_init_2.data.toList.drop 47 = dktJ0_init_2_2 := dk_seg dksJ0_init_2_1 24 rfl rfl
theorem dJ0_init_2_0 : decode cJ0_init_2 0 = .ok (.aload_n 0, 1) := dk_42 (dk_at dksJ0_init_2_0 0 rfl rfl)
theorem dJ0_init_2_1 : decode cJ0_init_2 1 = .ok (.invokespecial 1, 3) := dk_183 0 1 (dk_at dksJ0_init_2_0 1 rfl rfl)
theorem dJ0_init_2_4 : decode cJ0_init_2 4 = .ok (.aload_n 0, 1) := dk_42 (dk_at dksJ0_init_2_0 4 rfl rfl)
theorem dJ0_init_2_5 : decode cJ0_init_2 5 = .ok (.aload_n 0, 1) := dk_42 (dk_at dksJ0_init_2_0 5 rfl rfl)
theorem dJ0_init_2_6 : decode cJ0_init_2 6 = .ok (.putfield 7, 3) := dk_181 0 7 (dk_at dksJ0_init_2_0 6 rfl rfl)
theorem dJ0_init_2_9 : decode cJ0_init_2 9 = .ok (.aload_n 0, 1) := dk_42 (dk_at dksJ0_init_2_0 9 rfl rfl)
theorem dJ0_init_2_10 : decode cJ0_init_2 10 = .ok (.getstatic 13, 3) := dk_178 0 13 (dk_at dksJ0_init_2_0 10 rfl rfl)
theorem dJ0_init_2_13 : decode cJ0_init_2 13 = .ok (.putfield 17, 3) := dk_181 0 17 (dk_at dksJ0_init_2_0 13 rfl rfl)
theorem dJ0_init_2_16 : decode cJ0_init_2 16 = .ok (.aload_n 0, 1) := dk_42 (dk_at dksJ0_init_2_0 16 rfl rfl)
theorem dJ0_init_2_17 : decode cJ0_init_2 17 = .ok (.getstatic 20, 3) := dk_178 0 20 (dk_at dksJ0_init_2_0 17 rfl rfl)
theorem dJ0_init_2_20 : decode cJ0_init_2 20 = .ok (.putfield 24, 3) := dk_181 0 24 (dk_at dksJ0_init_2_0 20 rfl rfl)
theorem dJ0_init_2_23 : decode cJ0_init_2 23 = .ok (.iload 4, 2) := dk_21 4 (dk_at dksJ0_init_2_1 0 rfl rfl)
theorem dJ0_init_2_25 : decode cJ0_init_2 25 = .ok (.ifCond .eq 11, 3) := dk_153 0 11 (dk_at dksJ0_init_2_1 2 rfl rfl)
theorem dJ0_init_2_28 : decode cJ0_init_2 28 = .ok (.aload_n 0, 1) := dk_42 (dk_at dksJ0_init_2_1 5 rfl rfl)
theorem dJ0_init_2_29 : decode cJ0_init_2 29 = .ok (.invokevirtual 27, 3) := dk_182 0 27 (dk_at dksJ0_init_2_1 6 rfl rfl)
theorem dJ0_init_2_32 : decode cJ0_init_2 32 = .ok (.pop, 1) := dk_87 (dk_at dksJ0_init_2_1 9 rfl rfl)
theorem dJ0_init_2_33 : decode cJ0_init_2 33 = .ok (.goto 8, 3) := dk_167 0 8 (dk_at dksJ0_init_2_1 10 rfl rfl)
theorem dJ0_init_2_36 : decode cJ0_init_2 36 = .ok (.aload_n 0, 1) := dk_42 (dk_at dksJ0_init_2_1 13 rfl rfl)
theorem dJ0_init_2_37 : decode cJ0_init_2 37 = .ok (.aconst_null, 1) := dk_1 (dk_at dksJ0_init_2_1 14 rfl rfl)
theorem dJ0_init_2_38 : decode cJ0_init_2 38 = .ok (.putfield 17, 3) := dk_181 0 17 (dk_at dksJ0_init_2_1 15 rfl rfl)
theorem dJ0_init_2_41 : decode cJ0_init_2 41 = .ok (.aload_n 0, 1) := dk_42 (dk_at dksJ0_init_2_1 18 rfl rfl)
theorem dJ0_init_2_42 : decode cJ0_init_2 42 = .ok (.aload_n 1, 1) := dk_43 (dk_at dksJ0_init_2_1 19 rfl rfl)
theorem dJ0_init_2_43 : decode cJ0_init_2 43 = .ok (.putfield 31, 3) := dk_181 0 31 (dk_at dksJ0_init_2_1 20 rfl rfl)
theorem dJ0_init_2_46 : decode cJ0_init_2 46 = .ok (.aload_n 0, 1) := dk_42 (dk_at dksJ0_init_2_1 23 rfl rfl)
theorem dJ0_init_2_47 : decode cJ0_init_2 47 = .ok (.aload_n 2, 1) := dk_44 (dk_at dksJ0_init_2_2 0 rfl rfl)
theorem dJ0_init_2_48 : decode cJ0_init_2 48 = .ok (.putfield 7, 3) := dk_181 0 7 (dk_at dksJ0_init_2_2 1 rfl rfl)
theorem dJ0_init_2_51 : decode cJ0_init_2 51 = .ok (.iload_n 3, 1) := dk_29 (dk_at dksJ0_init_2_2 4 rfl rfl)
theorem dJ0_init_2_52 : decode cJ0_init_2 52 = .ok (.ifCond .ne 8, 3) := dk_154 0 8 (dk_at dksJ0_init_2_2 5 rfl rfl)
theorem dJ0_init_2_55 : decode cJ0_init_2 55 = .ok (.aload_n 0, 1) := dk_42 (dk_at dksJ0_init_2_2 8 rfl rfl)
theorem dJ0_init_2_56 : decode cJ0_init_2 56 = .ok (.aconst_null, 1) := dk_1 (dk_at dksJ0_init_2_2 9 rfl rfl)
theorem dJ0_init_2_57 : decode cJ0_init_2 57 = .ok (.putfield 24, 3) := dk_181 0 24 (dk_at dksJ0_init_2_2 10 rfl rfl)
theorem dJ0_init_2_60 : decode cJ0_init_2 60 = .ok (.return_, 1) := dk_177 (dk_at dksJ0_init_2_2 13 rfl rfl)
abbrev cJ0_init_3 : ByteArray := prog_33_method_4_code
def yJ0_init_3 : MethodName := ⟨RJ0, "<init>", "(Ljava/lang/Throwable;)V"⟩
def dkwJ0_init_3_2 : List UInt8 := [181, 0, 7, 177]
abbrev dktJ0_init_3_2 : List UInt8 := dkwJ0_init_3_2 ++ []
def dkwJ0_init_3_1 : List UInt8 := [182, 0, 27, 87, 42, 43, 199, 0, 7, 1, 167, 0, 7, 43, 182, 0, 35, 181, 0, 31, 42, 43]
abbrev dktJ0_init_3_1 : List UInt8 := dkwJ0_init_3_1 ++ dktJ0_init_3_2
def dkwJ0_init_3_0 : List UInt8 := [42, 183, 0, 1, 42, 42, 181, 0, 7, 42, 178, 0, 13, 181, 0, 17, 42, 178, 0, 20, 181, 0, 24, 42]
abbrev dktJ0_init_3_0 : List UInt8 := dkwJ0_init_3_0 ++ dktJ0_init_3_1
theorem dksJ0_init_3_0 : cJ0_init_3.data.toList.drop 0 = dktJ0_init_3_0 := by decide +kernel
theorem dksJ0_init_3_1 : cJ0_init_3.data.toList.drop 24 = dktJ0_init_3_1 := dk_seg dksJ0_init_3_0 24 rfl rfl
theorem dksJ0_init_3_2 : cJ0_init_3.data.toList.drop 46 = dktJ0_init_3_2 := dk_seg dksJ0_init_3_1 22 rfl rfl
theorem dJ0_init_3_0 : decode cJ0_init_3 0 = .ok (.aload_n 0, 1) := dk_42 (dk_at dksJ0_init_3_0 0 rfl rfl)
theorem dJ0_init_3_1 : decode cJ0_init_3 1 = .ok (.invokespecial 1, 3) := dk_183 0 1 (dk_at dksJ0_init_3_0 1 rfl rfl)
theorem dJ0_init_3_4 : decode cJ0_init_3 4 = .ok (.aload_n 0, 1) := dk_42 (dk_at dksJ0_init_3_0 4 rfl rfl)
theorem dJ0_init_3_5 : decode cJ0_init_3 5 = .ok (.aload_n 0, 1) := dk_42 (dk_at dksJ0_init_3_0 5 rfl rfl)
theorem dJ0_init_3_6 : decode cJ0_init_3 6 = .ok (.putfield 7, 3) := dk_181 0 7 (dk_at dksJ0_init_3_0 6 rfl rfl)
theorem dJ0_init_3_9 : decode cJ0_init_3 9 = .ok (.aload_n 0, 1) := dk_42 (dk_at dksJ0_init_3_0 9 rfl rfl)
theorem dJ0_init_3_10 : decode cJ0_init_3 10 = .ok (.getstatic 13, 3) := dk_178 0 13 (dk_at dksJ0_init_3_0 10 rfl rfl)
theorem dJ0_init_3_13 : decode cJ0_init_3 13 = .ok (.putfield 17, 3) := dk_181 0 17 (dk_at dksJ0_init_3_0 13 rfl rfl)
theorem dJ0_init_3_16 : decode cJ0_init_3 16 = .ok (.aload_n 0, 1) := dk_42 (dk_at dksJ0_init_3_0 16 rfl rfl)
theorem dJ0_init_3_17 : decode cJ0_init_3 17 = .ok (.getstatic 20, 3) := dk_178 0 20 (dk_at dksJ0_init_3_0 17 rfl rfl)
theorem dJ0_init_3_20 : decode cJ0_init_3 20 = .ok (.putfield 24, 3) := dk_181 0 24 (dk_at dksJ0_init_3_0 20 rfl rfl)
theorem dJ0_init_3_23 : decode cJ0_init_3 23 = .ok (.aload_n 0, 1) := dk_42 (dk_at dksJ0_init_3_0 23 rfl rfl)
theorem dJ0_init_3_24 : decode cJ0_init_3 24 = .ok (.invokevirtual 27, 3) := dk_182 0 27 (dk_at dksJ0_init_3_1 0 rfl rfl)
theorem dJ0_init_3_27 : decode cJ0_init_3 27 = .ok (.pop, 1) := dk_87 (dk_at dksJ0_init_3_1 3 rfl rfl)
theorem dJ0_init_3_28 : decode cJ0_init_3 28 = .ok (.aload_n 0, 1) := dk_42 (dk_at dksJ0_init_3_1 4 rfl rfl)
theorem dJ0_init_3_29 : decode cJ0_init_3 29 = .ok (.aload_n 1, 1) := dk_43 (dk_at dksJ0_init_3_1 5 rfl rfl)
theorem dJ0_init_3_30 : decode cJ0_init_3 30 = .ok (.ifnonnull 7, 3) := dk_199 0 7 (dk_at dksJ0_init_3_1 6 rfl rfl)
theorem dJ0_init_3_33 : decode cJ0_init_3 33 = .ok (.aconst_null, 1) := dk_1 (dk_at dksJ0_init_3_1 9 rfl rfl)
theorem dJ0_init_3_34 : decode cJ0_init_3 34 = .ok (.goto 7, 3) := dk_167 0 7 (dk_at dksJ0_init_3_1 10 rfl rfl)
theorem dJ0_init_3_37 : decode cJ0_init_3 37 = .ok (.aload_n 1, 1) := dk_43 (dk_at dksJ0_init_3_1 13 rfl rfl)
theorem dJ0_init_3_38 : decode cJ0_init_3 38 = .ok (.invokevirtual 35, 3) := dk_182 0 35 (dk_at dksJ0_init_3_1 14 rfl rfl)
theorem dJ0_init_3_41 : decode cJ0_init_3 41 = .ok (.putfield 31, 3) := dk_181 0 31 (dk_at dksJ0_init_3_1 17 rfl rfl)
theorem dJ0_init_3_44 : decode cJ0_init_3 44 = .ok (.aload_n 0, 1) := dk_42 (dk_at dksJ0_init_3_1 20 rfl rfl)
theorem dJ0_init_3_45 : decode cJ0_init_3 45 = .ok (.aload_n 1, 1) := dk_43 (dk_at dksJ0_init_3_1 21 rfl rfl)
theorem dJ0_init_3_46 : decode cJ0_init_3 46 = .ok (.putfield 7, 3) := dk_181 0 7 (dk_at dksJ0_init_3_2 0 rfl rfl)
theorem dJ0_init_3_49 : decode cJ0_init_3 49 = .ok (.return_, 1) := dk_177 (dk_at dksJ0_init_3_2 3 rfl rfl)
abbrev cJ0_toString : ByteArray := prog_33_method_11_code
def yJ0_toString : MethodName := ⟨RJ0, "toString", "()Ljava/lang/String;"⟩
def dkwJ0_toString_1 : List UInt8 := [43, 182, 0, 49, 18, 81, 182, 0, 49, 44, 182, 0, 49, 182, 0, 60, 167, 0, 4, 43, 176]
abbrev dktJ0_toString_1 : List UInt8 := dkwJ0_toString_1 ++ []
def dkwJ0_toString_0 : List UInt8 := [42, 182, 0, 69, 182, 0, 73, 76, 42, 182, 0, 78, 77, 44, 198, 0, 29, 187, 0, 44, 89, 183, 0, 46]
abbrev dktJ0_toString_0 : List UInt8 := dkwJ0_toString_0 ++ dktJ0_toString_1
theorem dksJ0_toString_0 : cJ0_toString.data.toList.drop 0 = dktJ0_toString_0 := by decide +kernel
theorem dksJ0_toString_1 : cJ0_toString.data.toList.drop 24 = dktJ0_toString_1 := dk_seg dksJ0_toString_0 24 rfl rfl
theorem dJ0_toString_0 : decode cJ0_toString 0 = .ok (.aload_n 0, 1) := dk_42 (dk_at dksJ0_toString_0 0 rfl rfl)
theorem dJ0_toString_1 : decode cJ0_toString 1 = .ok (.invokevirtual 69, 3) := dk_182 0 69 (dk_at dksJ0_toString_0 1 rfl rfl)
theorem dJ0_toString_4 : decode cJ0_toString 4 = .ok (.invokevirtual 73, 3) := dk_182 0 73 (dk_at dksJ0_toString_0 4 rfl rfl)
theorem dJ0_toString_7 : decode cJ0_toString 7 = .ok (.astore_n 1, 1) := dk_76 (dk_at dksJ0_toString_0 7 rfl rfl)
theorem dJ0_toString_8 : decode cJ0_toString 8 = .ok (.aload_n 0, 1) := dk_42 (dk_at dksJ0_toString_0 8 rfl rfl)
theorem dJ0_toString_9 : decode cJ0_toString 9 = .ok (.invokevirtual 78, 3) := dk_182 0 78 (dk_at dksJ0_toString_0 9 rfl rfl)
theorem dJ0_toString_12 : decode cJ0_toString 12 = .ok (.astore_n 2, 1) := dk_77 (dk_at dksJ0_toString_0 12 rfl rfl)
theorem dJ0_toString_13 : decode cJ0_toString 13 = .ok (.aload_n 2, 1) := dk_44 (dk_at dksJ0_toString_0 13 rfl rfl)
theorem dJ0_toString_14 : decode cJ0_toString 14 = .ok (.ifnull 29, 3) := dk_198 0 29 (dk_at dksJ0_toString_0 14 rfl rfl)
theorem dJ0_toString_17 : decode cJ0_toString 17 = .ok (.new 44, 3) := dk_187 0 44 (dk_at dksJ0_toString_0 17 rfl rfl)
theorem dJ0_toString_20 : decode cJ0_toString 20 = .ok (.dup, 1) := dk_89 (dk_at dksJ0_toString_0 20 rfl rfl)
theorem dJ0_toString_21 : decode cJ0_toString 21 = .ok (.invokespecial 46, 3) := dk_183 0 46 (dk_at dksJ0_toString_0 21 rfl rfl)
theorem dJ0_toString_24 : decode cJ0_toString 24 = .ok (.aload_n 1, 1) := dk_43 (dk_at dksJ0_toString_1 0 rfl rfl)
theorem dJ0_toString_25 : decode cJ0_toString 25 = .ok (.invokevirtual 49, 3) := dk_182 0 49 (dk_at dksJ0_toString_1 1 rfl rfl)
theorem dJ0_toString_28 : decode cJ0_toString 28 = .ok (.ldc 81, 2) := dk_18 81 (dk_at dksJ0_toString_1 4 rfl rfl)
theorem dJ0_toString_30 : decode cJ0_toString 30 = .ok (.invokevirtual 49, 3) := dk_182 0 49 (dk_at dksJ0_toString_1 6 rfl rfl)
theorem dJ0_toString_33 : decode cJ0_toString 33 = .ok (.aload_n 2, 1) := dk_44 (dk_at dksJ0_toString_1 9 rfl rfl)
theorem dJ0_toString_34 : decode cJ0_toString 34 = .ok (.invokevirtual 49, 3) := dk_182 0 49 (dk_at dksJ0_toString_1 10 rfl rfl)
theorem dJ0_toString_37 : decode cJ0_toString 37 = .ok (.invokevirtual 60, 3) := dk_182 0 60 (dk_at dksJ0_toString_1 13 rfl rfl)
theorem dJ0_toString_40 : decode cJ0_toString 40 = .ok (.goto 4, 3) := dk_167 0 4 (dk_at dksJ0_toString_1 16 rfl rfl)
theorem dJ0_toString_43 : decode cJ0_toString 43 = .ok (.aload_n 1, 1) := dk_43 (dk_at dksJ0_toString_1 19 rfl rfl)
theorem dJ0_toString_44 : decode cJ0_toString 44 = .ok (.areturn, 1) := dk_176 (dk_at dksJ0_toString_1 20 rfl rfl)
abbrev cJ0_getLocalizedMessage : ByteArray := prog_33_method_7_code
def yJ0_getLocalizedMessage : MethodName := ⟨RJ0, "getLocalizedMessage", "()Ljava/lang/String;"⟩
theorem dJ0_getLocalizedMessage_0 : decode cJ0_getLocalizedMessage 0 = .ok (.aload_n 0, 1) := by decide +kernel
theorem dJ0_getLocalizedMessage_1 : decode cJ0_getLocalizedMessage 1 = .ok (.invokevirtual 39, 3) := by decide +kernel
theorem dJ0_getLocalizedMessage_4 : decode cJ0_getLocalizedMessage 4 = .ok (.areturn, 1) := by decide +kernel
abbrev cJ0_getMessage : ByteArray := prog_33_method_6_code
def yJ0_getMessage : MethodName := ⟨RJ0, "getMessage", "()Ljava/lang/String;"⟩
theorem dJ0_getMessage_0 : decode cJ0_getMessage 0 = .ok (.aload_n 0, 1) := by decide +kernel
theorem dJ0_getMessage_1 : decode cJ0_getMessage 1 = .ok (.getfield 31, 3) := by decide +kernel
theorem dJ0_getMessage_4 : decode cJ0_getMessage 4 = .ok (.areturn, 1) := by decide +kernel
theorem q131 : (Jvm.Cond.initialized "java/lang/Throwable") ∈ lw_all := lw_g (lw_at lw_m1 2 rfl) rfl
theorem q195 : (Jvm.Cond.declares ({ cls := "java/lang/Throwable", name := "<init>", desc := "()V" } : Jvm.MethodName)) ∈ lw_tbl := lw_at lw_m1 66 rfl
theorem q196 : (Jvm.Cond.declares ({ cls := "java/lang/Throwable", name := "<init>", desc := "(Ljava/lang/String;)V" } : Jvm.MethodName)) ∈ lw_tbl := lw_at lw_m1 67 rfl
theorem q200 : (Jvm.Cond.lays "java/lang/Throwable" "java/lang/Throwable" "cause" "Ljava/lang/Throwable;") ∈ lw_all := lw_g (lw_at lw_m1 71 rfl) rfl
theorem q202 : (Jvm.Cond.lays "java/lang/Throwable" "java/lang/Throwable" "stackTrace" "[Ljava/lang/StackTraceElement;") ∈ lw_all := lw_g (lw_at lw_m1 73 rfl) rfl
theorem q204 : (Jvm.Cond.lays "java/lang/Throwable" "java/lang/Throwable" "suppressedExceptions" "Ljava/util/List;") ∈ lw_all := lw_g (lw_at lw_m1 75 rfl) rfl
theorem q206 : (Jvm.Cond.lays "java/lang/Throwable" "java/lang/Throwable" "detailMessage" "Ljava/lang/String;") ∈ lw_all := lw_g (lw_at lw_m1 77 rfl) rfl
theorem q208 : (Jvm.Cond.lays "java/lang/Throwable" "java/lang/Throwable" "backtrace" "Ljava/lang/Object;") ∈ lw_all := lw_g (lw_at lw_m1 79 rfl) rfl
theorem q209 : (Jvm.Cond.fieldLink "java/lang/Throwable" (198 : Nat) "java/lang/Throwable" "backtrace" "Ljava/lang/Object;") ∈ lw_all := lw_g (lw_at lw_m1 80 rfl) rfl
theorem q210 : (Jvm.Cond.superclass "java/lang/Throwable" "java/lang/Object") ∈ lw_all := lw_g (lw_at lw_m1 81 rfl) rfl
theorem q211 : (Jvm.Cond.instanceMethod ({ cls := "java/lang/Throwable", name := "<init>", desc := "()V" } : Jvm.MethodName)) ∈ lw_all := lw_g (lw_at lw_m1 82 rfl) rfl
theorem q212 : (Jvm.Cond.code ({ cls := "java/lang/Throwable", name := "<init>", desc := "()V" } : Jvm.MethodName) prog_33_method_1_code (1 : Nat) (Option.none : Option Jvm.ClassFile.FieldType)) ∈ lw_all := lw_g (lw_at lw_m1 83 rfl) rfl
theorem q213 : (Jvm.Cond.methodLink "java/lang/Throwable" (1 : Nat) ({ cls := "java/lang/Object", name := "<init>", desc := "()V" } : Jvm.MethodName)) ∈ lw_all := lw_g (lw_at lw_m1 84 rfl) rfl
theorem q214 : (Jvm.Cond.fieldLink "java/lang/Throwable" (13 : Nat) "java/lang/Throwable" "UNASSIGNED_STACK" "[Ljava/lang/StackTraceElement;") ∈ lw_all := lw_g (lw_at lw_m1 85 rfl) rfl
theorem q215 : (Jvm.Cond.laysStatic "java/lang/Throwable" "UNASSIGNED_STACK" "[Ljava/lang/StackTraceElement;") ∈ lw_tbl := lw_at lw_m1 86 rfl
theorem q216 : (Jvm.Cond.fieldLink "java/lang/Throwable" (20 : Nat) "java/lang/Throwable" "SUPPRESSED_SENTINEL" "Ljava/util/List;") ∈ lw_all := lw_g (lw_at lw_m1 87 rfl) rfl
theorem q217 : (Jvm.Cond.laysStatic "java/lang/Throwable" "SUPPRESSED_SENTINEL" "Ljava/util/List;") ∈ lw_tbl := lw_at lw_m1 88 rfl
theorem q218 : (Jvm.Cond.methodLink "java/lang/Throwable" (27 : Nat) ({ cls := "java/lang/Throwable", name := "fillInStackTrace", desc := "()Ljava/lang/Throwable;" } : Jvm.MethodName)) ∈ lw_all := lw_g (lw_at lw_m1 89 rfl) rfl
theorem q219 : (Jvm.Cond.instanceMethod ({ cls := "java/lang/Throwable", name := "fillInStackTrace", desc := "()Ljava/lang/Throwable;" } : Jvm.MethodName)) ∈ lw_all := lw_g (lw_at lw_m1 90 rfl) rfl
theorem q220 : (Jvm.Cond.sameMethod "java/lang/Throwable" "java/lang/Throwable" "fillInStackTrace" "()Ljava/lang/Throwable;") ∈ lw_all := lw_g (lw_at lw_m1 91 rfl) rfl
theorem q222 : (Jvm.Cond.codeSync ({ cls := "java/lang/Throwable", name := "fillInStackTrace", desc := "()Ljava/lang/Throwable;" } : Jvm.MethodName) prog_33_method_18_code (1 : Nat) (Option.some (Jvm.ClassFile.FieldType.object "java/lang/Throwable"))) ∈ lw_all := lw_g (lw_at lw_m1 93 rfl) rfl
theorem q223 : (Jvm.Cond.methodLink "java/lang/Throwable" (202 : Nat) ({ cls := "java/lang/Throwable", name := "fillInStackTrace", desc := "(I)Ljava/lang/Throwable;" } : Jvm.MethodName)) ∈ lw_all := lw_g (lw_at lw_m1 94 rfl) rfl
theorem q224 : (Jvm.Cond.privateMethod ({ cls := "java/lang/Throwable", name := "fillInStackTrace", desc := "(I)Ljava/lang/Throwable;" } : Jvm.MethodName)) ∈ lw_tbl := lw_at lw_m1 95 rfl
theorem q225 : (Jvm.Cond.instanceMethod ({ cls := "java/lang/Throwable", name := "fillInStackTrace", desc := "(I)Ljava/lang/Throwable;" } : Jvm.MethodName)) ∈ lw_all := lw_g (lw_at lw_m1 96 rfl) rfl
theorem q226 : (Jvm.Cond.instantiable "java/lang/Throwable" (6 : Nat)) ∈ lw_all := lw_g (lw_at lw_m1 97 rfl) rfl
theorem q227 : (Jvm.Cond.native ({ cls := "java/lang/Throwable", name := "fillInStackTrace", desc := "(I)Ljava/lang/Throwable;" } : Jvm.MethodName)) ∈ lw_all := lw_g (lw_at lw_m1 98 rfl) rfl
theorem q239 : (Jvm.Cond.instanceMethod ({ cls := "java/lang/Throwable", name := "<init>", desc := "(Ljava/lang/String;Ljava/lang/Throwable;ZZ)V" } : Jvm.MethodName)) ∈ lw_all := lw_g (lw_at lw_m1 110 rfl) rfl
theorem q240 : (Jvm.Cond.code ({ cls := "java/lang/Throwable", name := "<init>", desc := "(Ljava/lang/String;Ljava/lang/Throwable;ZZ)V" } : Jvm.MethodName) prog_33_method_5_code (5 : Nat) (Option.none : Option Jvm.ClassFile.FieldType)) ∈ lw_all := lw_g (lw_at lw_m1 111 rfl) rfl
theorem q245 : (Jvm.Cond.fieldLink "java/lang/Throwable" (198 : Nat) "java/lang/Throwable" "backtrace" "Ljava/lang/Object;") ∈ lw_all := lw_g (lw_at lw_m1 116 rfl) rfl
theorem q246 : (Jvm.Cond.fieldLink "java/lang/Throwable" (31 : Nat) "java/lang/Throwable" "detailMessage" "Ljava/lang/String;") ∈ lw_all := lw_g (lw_at lw_m1 117 rfl) rfl
theorem q247 : (Jvm.Cond.fieldLink "java/lang/Throwable" (7 : Nat) "java/lang/Throwable" "cause" "Ljava/lang/Throwable;") ∈ lw_all := lw_g (lw_at lw_m1 118 rfl) rfl
theorem q248 : (Jvm.Cond.fieldLink "java/lang/Throwable" (17 : Nat) "java/lang/Throwable" "stackTrace" "[Ljava/lang/StackTraceElement;") ∈ lw_all := lw_g (lw_at lw_m1 119 rfl) rfl
theorem q249 : (Jvm.Cond.fieldLink "java/lang/Throwable" (24 : Nat) "java/lang/Throwable" "suppressedExceptions" "Ljava/util/List;") ∈ lw_all := lw_g (lw_at lw_m1 120 rfl) rfl
theorem q254 : (Jvm.Cond.soleField "java/lang/Throwable" "backtrace") ∈ lw_all := lw_g (lw_at lw_m1 125 rfl) rfl
theorem q255 : (Jvm.Cond.soleField "java/lang/Throwable" "detailMessage") ∈ lw_all := lw_g (lw_at lw_m1 126 rfl) rfl
theorem q256 : (Jvm.Cond.soleField "java/lang/Throwable" "cause") ∈ lw_all := lw_g (lw_at lw_m1 127 rfl) rfl
theorem q257 : (Jvm.Cond.soleField "java/lang/Throwable" "stackTrace") ∈ lw_all := lw_g (lw_at lw_m1 128 rfl) rfl
theorem q259 : (Jvm.Cond.soleField "java/lang/Throwable" "depth") ∈ lw_all := lw_g (lw_at lw_m1 130 rfl) rfl
theorem q260 : (Jvm.Cond.soleField "java/lang/Throwable" "suppressedExceptions") ∈ lw_all := lw_g (lw_at lw_m1 131 rfl) rfl
theorem q1222 : (Jvm.Cond.instanceMethod ({ cls := "java/lang/Throwable", name := "<init>", desc := "(Ljava/lang/Throwable;)V" } : Jvm.MethodName)) ∈ lw_all := lw_g (lw_at lw_m5 133 rfl) rfl
theorem q1223 : (Jvm.Cond.code ({ cls := "java/lang/Throwable", name := "<init>", desc := "(Ljava/lang/Throwable;)V" } : Jvm.MethodName) prog_33_method_4_code (2 : Nat) (Option.none : Option Jvm.ClassFile.FieldType)) ∈ lw_all := lw_g (lw_at lw_m5 134 rfl) rfl
theorem q1224 : (Jvm.Cond.methodLink "java/lang/Throwable" (35 : Nat) ({ cls := "java/lang/Throwable", name := "toString", desc := "()Ljava/lang/String;" } : Jvm.MethodName)) ∈ lw_all := lw_g (lw_at lw_m5 135 rfl) rfl
theorem q1225 : (Jvm.Cond.instanceMethod ({ cls := "java/lang/Throwable", name := "toString", desc := "()Ljava/lang/String;" } : Jvm.MethodName)) ∈ lw_all := lw_g (lw_at lw_m5 136 rfl) rfl
theorem q1226 : (Jvm.Cond.sameMethod "java/lang/Throwable" "java/lang/Throwable" "toString" "()Ljava/lang/String;") ∈ lw_all := lw_g (lw_at lw_m5 137 rfl) rfl
theorem q1229 : (Jvm.Cond.code ({ cls := "java/lang/Throwable", name := "toString", desc := "()Ljava/lang/String;" } : Jvm.MethodName) prog_33_method_11_code (3 : Nat) (Option.some (Jvm.ClassFile.FieldType.object "java/lang/String"))) ∈ lw_all := lw_g (lw_at lw_m5 140 rfl) rfl
theorem q1230 : (Jvm.Cond.methodLink "java/lang/Throwable" (69 : Nat) ({ cls := "java/lang/Object", name := "getClass", desc := "()Ljava/lang/Class;" } : Jvm.MethodName)) ∈ lw_all := lw_g (lw_at lw_m5 141 rfl) rfl
theorem q1231 : (Jvm.Cond.methodLink "java/lang/Throwable" (78 : Nat) ({ cls := "java/lang/Throwable", name := "getLocalizedMessage", desc := "()Ljava/lang/String;" } : Jvm.MethodName)) ∈ lw_all := lw_g (lw_at lw_m5 142 rfl) rfl
theorem q1232 : (Jvm.Cond.instanceMethod ({ cls := "java/lang/Throwable", name := "getLocalizedMessage", desc := "()Ljava/lang/String;" } : Jvm.MethodName)) ∈ lw_all := lw_g (lw_at lw_m5 143 rfl) rfl
theorem q1233 : (Jvm.Cond.sameMethod "java/lang/Throwable" "java/lang/Throwable" "getLocalizedMessage" "()Ljava/lang/String;") ∈ lw_all := lw_g (lw_at lw_m5 144 rfl) rfl
theorem q1236 : (Jvm.Cond.code ({ cls := "java/lang/Throwable", name := "getLocalizedMessage", desc := "()Ljava/lang/String;" } : Jvm.MethodName) prog_33_method_7_code (1 : Nat) (Option.some (Jvm.ClassFile.FieldType.object "java/lang/String"))) ∈ lw_all := lw_g (lw_at lw_m5 147 rfl) rfl
theorem q1237 : (Jvm.Cond.methodLink "java/lang/Throwable" (39 : Nat) ({ cls := "java/lang/Throwable", name := "getMessage", desc := "()Ljava/lang/String;" } : Jvm.MethodName)) ∈ lw_all := lw_g (lw_at lw_m5 148 rfl) rfl
theorem q1238 : (Jvm.Cond.instanceMethod ({ cls := "java/lang/Throwable", name := "getMessage", desc := "()Ljava/lang/String;" } : Jvm.MethodName)) ∈ lw_all := lw_g (lw_at lw_m5 149 rfl) rfl
theorem q1239 : (Jvm.Cond.sameMethod "java/lang/Throwable" "java/lang/Throwable" "getMessage" "()Ljava/lang/String;") ∈ lw_all := lw_g (lw_at lw_m5 150 rfl) rfl
theorem q1242 : (Jvm.Cond.code ({ cls := "java/lang/Throwable", name := "getMessage", desc := "()Ljava/lang/String;" } : Jvm.MethodName) prog_33_method_6_code (1 : Nat) (Option.some (Jvm.ClassFile.FieldType.object "java/lang/String"))) ∈ lw_all := lw_g (lw_at lw_m5 153 rfl) rfl
theorem q1243 : (Jvm.Cond.classLink "java/lang/Throwable" (44 : Nat) "java/lang/StringBuilder") ∈ lw_all := lw_g (lw_at lw_m5 154 rfl) rfl
theorem q1245 : (Jvm.Cond.methodLink "java/lang/Throwable" (46 : Nat) ({ cls := "java/lang/StringBuilder", name := "<init>", desc := "()V" } : Jvm.MethodName)) ∈ lw_all := lw_g (lw_at lw_m5 156 rfl) rfl
theorem q1273 : (Jvm.Cond.methodLink "java/lang/Throwable" (49 : Nat) ({ cls := "java/lang/StringBuilder", name := "append", desc := "(Ljava/lang/String;)Ljava/lang/StringBuilder;" } : Jvm.MethodName)) ∈ lw_all := lw_g (lw_at lw_m5 184 rfl) rfl
theorem q1359 : (Jvm.Cond.stringRef "java/lang/Throwable" (81 : Nat) ": ") ∈ lw_tbl := lw_at lw_m6 30 rfl
theorem q1360 : (Jvm.Cond.methodLink "java/lang/Throwable" (60 : Nat) ({ cls := "java/lang/StringBuilder", name := "toString", desc := "()Ljava/lang/String;" } : Jvm.MethodName)) ∈ lw_all := lw_g (lw_at lw_m6 31 rfl) rfl
theorem q2662 : (Jvm.Cond.sameMethod "java/lang/Throwable" "java/lang/Throwable" "fillInStackTrace" "(I)Ljava/lang/Throwable;") ∈ lw_all := lw_g (lw_at lw_m11 133 rfl) rfl
theorem q2707 : (Jvm.Cond.castable "java/lang/Throwable" "java/lang/Object") ∈ lw_tbl := lw_at lw_m11 178 rfl
theorem in_J0 : ∀ w ∈ wsJ00, w ∈ lw_all := lw_in wsJ00 [200, 202, 204, 206, 208] (by decide +kernel) (by decide +kernel)
/-! java/lang/Exception -/
set_option maxRecDepth 100000
def RJ1 : String := "java/lang/Exception"
abbrev cJ1_init : ByteArray := prog_20_method_5_code
def yJ1_init : MethodName := ⟨RJ1, "<init>", "(Ljava/lang/String;Ljava/lang/Throwable;ZZ)V"⟩
def dkwJ1_init_0 : List UInt8 := [42, 43, 44, 29, 21, 4, 183, 0, 16, 177]
abbrev dktJ1_init_0 : List UInt8 := dkwJ1_init_0 ++ []
theorem dksJ1_init_0 : cJ1_init.data.toList.drop 0 = dktJ1_init_0 := by decide +kernel
theorem dJ1_init_0 : decode cJ1_init 0 = .ok (.aload_n 0, 1) := dk_42 (dk_at dksJ1_init_0 0 rfl rfl)
theorem dJ1_init_1 : decode cJ1_init 1 = .ok (.aload_n 1, 1) := dk_43 (dk_at dksJ1_init_0 1 rfl rfl)
theorem dJ1_init_2 : decode cJ1_init 2 = .ok (.aload_n 2, 1) := dk_44 (dk_at dksJ1_init_0 2 rfl rfl)
theorem dJ1_init_3 : decode cJ1_init 3 = .ok (.iload_n 3, 1) := dk_29 (dk_at dksJ1_init_0 3 rfl rfl)
theorem dJ1_init_4 : decode cJ1_init 4 = .ok (.iload 4, 2) := dk_21 4 (dk_at dksJ1_init_0 4 rfl rfl)
theorem dJ1_init_6 : decode cJ1_init 6 = .ok (.invokespecial 16, 3) := dk_183 0 16 (dk_at dksJ1_init_0 6 rfl rfl)
theorem dJ1_init_9 : decode cJ1_init 9 = .ok (.return_, 1) := dk_177 (dk_at dksJ1_init_0 9 rfl rfl)
abbrev cJ1_init_2 : ByteArray := prog_20_method_4_code
def yJ1_init_2 : MethodName := ⟨RJ1, "<init>", "(Ljava/lang/Throwable;)V"⟩
def dkwJ1_init_2_0 : List UInt8 := [42, 43, 183, 0, 13, 177]
abbrev dktJ1_init_2_0 : List UInt8 := dkwJ1_init_2_0 ++ []
theorem dksJ1_init_2_0 : cJ1_init_2.data.toList.drop 0 = dktJ1_init_2_0 := by decide +kernel
theorem dJ1_init_2_0 : decode cJ1_init_2 0 = .ok (.aload_n 0, 1) := dk_42 (dk_at dksJ1_init_2_0 0 rfl rfl)
theorem dJ1_init_2_1 : decode cJ1_init_2 1 = .ok (.aload_n 1, 1) := dk_43 (dk_at dksJ1_init_2_0 1 rfl rfl)
theorem dJ1_init_2_2 : decode cJ1_init_2 2 = .ok (.invokespecial 13, 3) := dk_183 0 13 (dk_at dksJ1_init_2_0 2 rfl rfl)
theorem dJ1_init_2_5 : decode cJ1_init_2 5 = .ok (.return_, 1) := dk_177 (dk_at dksJ1_init_2_0 5 rfl rfl)
theorem q132 : (Jvm.Cond.initialized "java/lang/Exception") ∈ lw_all := lw_g (lw_at lw_m1 3 rfl) rfl
theorem q193 : (Jvm.Cond.declares ({ cls := "java/lang/Exception", name := "<init>", desc := "()V" } : Jvm.MethodName)) ∈ lw_tbl := lw_at lw_m1 64 rfl
theorem q194 : (Jvm.Cond.declares ({ cls := "java/lang/Exception", name := "<init>", desc := "(Ljava/lang/String;)V" } : Jvm.MethodName)) ∈ lw_tbl := lw_at lw_m1 65 rfl
theorem q236 : (Jvm.Cond.instanceMethod ({ cls := "java/lang/Exception", name := "<init>", desc := "(Ljava/lang/String;Ljava/lang/Throwable;ZZ)V" } : Jvm.MethodName)) ∈ lw_all := lw_g (lw_at lw_m1 107 rfl) rfl
theorem q237 : (Jvm.Cond.code ({ cls := "java/lang/Exception", name := "<init>", desc := "(Ljava/lang/String;Ljava/lang/Throwable;ZZ)V" } : Jvm.MethodName) prog_20_method_5_code (5 : Nat) (Option.none : Option Jvm.ClassFile.FieldType)) ∈ lw_all := lw_g (lw_at lw_m1 108 rfl) rfl
theorem q238 : (Jvm.Cond.methodLink "java/lang/Exception" (16 : Nat) ({ cls := "java/lang/Throwable", name := "<init>", desc := "(Ljava/lang/String;Ljava/lang/Throwable;ZZ)V" } : Jvm.MethodName)) ∈ lw_all := lw_g (lw_at lw_m1 109 rfl) rfl
theorem q1219 : (Jvm.Cond.instanceMethod ({ cls := "java/lang/Exception", name := "<init>", desc := "(Ljava/lang/Throwable;)V" } : Jvm.MethodName)) ∈ lw_all := lw_g (lw_at lw_m5 130 rfl) rfl
theorem q1220 : (Jvm.Cond.code ({ cls := "java/lang/Exception", name := "<init>", desc := "(Ljava/lang/Throwable;)V" } : Jvm.MethodName) prog_20_method_4_code (2 : Nat) (Option.none : Option Jvm.ClassFile.FieldType)) ∈ lw_all := lw_g (lw_at lw_m5 131 rfl) rfl
theorem q1221 : (Jvm.Cond.methodLink "java/lang/Exception" (13 : Nat) ({ cls := "java/lang/Throwable", name := "<init>", desc := "(Ljava/lang/Throwable;)V" } : Jvm.MethodName)) ∈ lw_all := lw_g (lw_at lw_m5 132 rfl) rfl
/-! java/lang/RuntimeException -/
set_option maxRecDepth 100000
def RJ2 : String := "java/lang/RuntimeException"
abbrev cJ2_init : ByteArray := prog_27_method_5_code
def yJ2_init : MethodName := ⟨RJ2, "<init>", "(Ljava/lang/String;Ljava/lang/Throwable;ZZ)V"⟩
def dkwJ2_init_0 : List UInt8 := [42, 43, 44, 29, 21, 4, 183, 0, 16, 177]
abbrev dktJ2_init_0 : List UInt8 := dkwJ2_init_0 ++ []
theorem dksJ2_init_0 : cJ2_init.data.toList.drop 0 = dktJ2_init_0 := by decide +kernel
theorem dJ2_init_0 : decode cJ2_init 0 = .ok (.aload_n 0, 1) := dk_42 (dk_at dksJ2_init_0 0 rfl rfl)
theorem dJ2_init_1 : decode cJ2_init 1 = .ok (.aload_n 1, 1) := dk_43 (dk_at dksJ2_init_0 1 rfl rfl)
theorem dJ2_init_2 : decode cJ2_init 2 = .ok (.aload_n 2, 1) := dk_44 (dk_at dksJ2_init_0 2 rfl rfl)
theorem dJ2_init_3 : decode cJ2_init 3 = .ok (.iload_n 3, 1) := dk_29 (dk_at dksJ2_init_0 3 rfl rfl)
theorem dJ2_init_4 : decode cJ2_init 4 = .ok (.iload 4, 2) := dk_21 4 (dk_at dksJ2_init_0 4 rfl rfl)
theorem dJ2_init_6 : decode cJ2_init 6 = .ok (.invokespecial 16, 3) := dk_183 0 16 (dk_at dksJ2_init_0 6 rfl rfl)
theorem dJ2_init_9 : decode cJ2_init 9 = .ok (.return_, 1) := dk_177 (dk_at dksJ2_init_0 9 rfl rfl)
abbrev cJ2_init_2 : ByteArray := prog_27_method_4_code
def yJ2_init_2 : MethodName := ⟨RJ2, "<init>", "(Ljava/lang/Throwable;)V"⟩
def dkwJ2_init_2_0 : List UInt8 := [42, 43, 183, 0, 13, 177]
abbrev dktJ2_init_2_0 : List UInt8 := dkwJ2_init_2_0 ++ []
theorem dksJ2_init_2_0 : cJ2_init_2.data.toList.drop 0 = dktJ2_init_2_0 := by decide +kernel
theorem dJ2_init_2_0 : decode cJ2_init_2 0 = .ok (.aload_n 0, 1) := dk_42 (dk_at dksJ2_init_2_0 0 rfl rfl)
theorem dJ2_init_2_1 : decode cJ2_init_2 1 = .ok (.aload_n 1, 1) := dk_43 (dk_at dksJ2_init_2_0 1 rfl rfl)
theorem dJ2_init_2_2 : decode cJ2_init_2 2 = .ok (.invokespecial 13, 3) := dk_183 0 13 (dk_at dksJ2_init_2_0 2 rfl rfl)
theorem dJ2_init_2_5 : decode cJ2_init_2 5 = .ok (.return_, 1) := dk_177 (dk_at dksJ2_init_2_0 5 rfl rfl)
theorem q133 : (Jvm.Cond.initialized "java/lang/RuntimeException") ∈ lw_all := lw_g (lw_at lw_m1 4 rfl) rfl
theorem q191 : (Jvm.Cond.declares ({ cls := "java/lang/RuntimeException", name := "<init>", desc := "()V" } : Jvm.MethodName)) ∈ lw_tbl := lw_at lw_m1 62 rfl
theorem q192 : (Jvm.Cond.declares ({ cls := "java/lang/RuntimeException", name := "<init>", desc := "(Ljava/lang/String;)V" } : Jvm.MethodName)) ∈ lw_tbl := lw_at lw_m1 63 rfl
theorem q233 : (Jvm.Cond.instanceMethod ({ cls := "java/lang/RuntimeException", name := "<init>", desc := "(Ljava/lang/String;Ljava/lang/Throwable;ZZ)V" } : Jvm.MethodName)) ∈ lw_all := lw_g (lw_at lw_m1 104 rfl) rfl
theorem q234 : (Jvm.Cond.code ({ cls := "java/lang/RuntimeException", name := "<init>", desc := "(Ljava/lang/String;Ljava/lang/Throwable;ZZ)V" } : Jvm.MethodName) prog_27_method_5_code (5 : Nat) (Option.none : Option Jvm.ClassFile.FieldType)) ∈ lw_all := lw_g (lw_at lw_m1 105 rfl) rfl
theorem q235 : (Jvm.Cond.methodLink "java/lang/RuntimeException" (16 : Nat) ({ cls := "java/lang/Exception", name := "<init>", desc := "(Ljava/lang/String;Ljava/lang/Throwable;ZZ)V" } : Jvm.MethodName)) ∈ lw_all := lw_g (lw_at lw_m1 106 rfl) rfl
theorem q1216 : (Jvm.Cond.instanceMethod ({ cls := "java/lang/RuntimeException", name := "<init>", desc := "(Ljava/lang/Throwable;)V" } : Jvm.MethodName)) ∈ lw_all := lw_g (lw_at lw_m5 127 rfl) rfl
theorem q1217 : (Jvm.Cond.code ({ cls := "java/lang/RuntimeException", name := "<init>", desc := "(Ljava/lang/Throwable;)V" } : Jvm.MethodName) prog_27_method_4_code (2 : Nat) (Option.none : Option Jvm.ClassFile.FieldType)) ∈ lw_all := lw_g (lw_at lw_m5 128 rfl) rfl
theorem q1218 : (Jvm.Cond.methodLink "java/lang/RuntimeException" (13 : Nat) ({ cls := "java/lang/Exception", name := "<init>", desc := "(Ljava/lang/Throwable;)V" } : Jvm.MethodName)) ∈ lw_all := lw_g (lw_at lw_m5 129 rfl) rfl
/-! java/util/List -/
set_option maxRecDepth 100000
def RJ3 : String := "java/util/List"
abbrev cJ3_of : ByteArray := prog_59_method_40_code
def yJ3_of : MethodName := ⟨RJ3, "of", "(Ljava/lang/Object;Ljava/lang/Object;Ljava/lang/Object;Ljava/lang/Object;)Ljava/util/List;"⟩
def dkwJ3_of_0 : List UInt8 := [7, 189, 0, 103, 89, 3, 42, 83, 89, 4, 43, 83, 89, 5, 44, 83, 89, 6, 45, 83, 184, 0, 105, 176]
abbrev dktJ3_of_0 : List UInt8 := dkwJ3_of_0 ++ []
theorem dksJ3_of_0 : cJ3_of.data.toList.drop 0 = dktJ3_of_0 := by decide +kernel
theorem dJ3_of_0 : decode cJ3_of 0 = .ok (.iconst 4, 1) := dk_7 (dk_at dksJ3_of_0 0 rfl rfl)
theorem dJ3_of_1 : decode cJ3_of 1 = .ok (.anewarray 103, 3) := dk_189 0 103 (dk_at dksJ3_of_0 1 rfl rfl)
theorem dJ3_of_4 : decode cJ3_of 4 = .ok (.dup, 1) := dk_89 (dk_at dksJ3_of_0 4 rfl rfl)
theorem dJ3_of_5 : decode cJ3_of 5 = .ok (.iconst 0, 1) := dk_3 (dk_at dksJ3_of_0 5 rfl rfl)
theorem dJ3_of_6 : decode cJ3_of 6 = .ok (.aload_n 0, 1) := dk_42 (dk_at dksJ3_of_0 6 rfl rfl)
theorem dJ3_of_7 : decode cJ3_of 7 = .ok (.aastore, 1) := dk_83 (dk_at dksJ3_of_0 7 rfl rfl)
theorem dJ3_of_8 : decode cJ3_of 8 = .ok (.dup, 1) := dk_89 (dk_at dksJ3_of_0 8 rfl rfl)
theorem dJ3_of_9 : decode cJ3_of 9 = .ok (.iconst 1, 1) := dk_4 (dk_at dksJ3_of_0 9 rfl rfl)
theorem dJ3_of_10 : decode cJ3_of 10 = .ok (.aload_n 1, 1) := dk_43 (dk_at dksJ3_of_0 10 rfl rfl)
theorem dJ3_of_11 : decode cJ3_of 11 = .ok (.aastore, 1) := dk_83 (dk_at dksJ3_of_0 11 rfl rfl)
theorem dJ3_of_12 : decode cJ3_of 12 = .ok (.dup, 1) := dk_89 (dk_at dksJ3_of_0 12 rfl rfl)
theorem dJ3_of_13 : decode cJ3_of 13 = .ok (.iconst 2, 1) := dk_5 (dk_at dksJ3_of_0 13 rfl rfl)
theorem dJ3_of_14 : decode cJ3_of 14 = .ok (.aload_n 2, 1) := dk_44 (dk_at dksJ3_of_0 14 rfl rfl)
theorem dJ3_of_15 : decode cJ3_of 15 = .ok (.aastore, 1) := dk_83 (dk_at dksJ3_of_0 15 rfl rfl)
theorem dJ3_of_16 : decode cJ3_of 16 = .ok (.dup, 1) := dk_89 (dk_at dksJ3_of_0 16 rfl rfl)
theorem dJ3_of_17 : decode cJ3_of 17 = .ok (.iconst 3, 1) := dk_6 (dk_at dksJ3_of_0 17 rfl rfl)
theorem dJ3_of_18 : decode cJ3_of 18 = .ok (.aload_n 3, 1) := dk_45 (dk_at dksJ3_of_0 18 rfl rfl)
theorem dJ3_of_19 : decode cJ3_of 19 = .ok (.aastore, 1) := dk_83 (dk_at dksJ3_of_0 19 rfl rfl)
theorem dJ3_of_20 : decode cJ3_of 20 = .ok (.invokestatic 105, 3) := dk_184 0 105 (dk_at dksJ3_of_0 20 rfl rfl)
theorem dJ3_of_23 : decode cJ3_of 23 = .ok (.areturn, 1) := dk_176 (dk_at dksJ3_of_0 23 rfl rfl)
theorem q136 : (Jvm.Cond.initialized "java/util/List") ∈ lw_all := lw_g (lw_at lw_m1 7 rfl) rfl
theorem q274 : (Jvm.Cond.static ({ cls := "java/util/List", name := "of", desc := "(Ljava/lang/Object;Ljava/lang/Object;Ljava/lang/Object;Ljava/lang/Object;)Ljava/util/List;" } : Jvm.MethodName)) ∈ lw_all := lw_g (lw_at lw_m1 145 rfl) rfl
theorem q275 : (Jvm.Cond.code ({ cls := "java/util/List", name := "of", desc := "(Ljava/lang/Object;Ljava/lang/Object;Ljava/lang/Object;Ljava/lang/Object;)Ljava/util/List;" } : Jvm.MethodName) prog_59_method_40_code (4 : Nat) (Option.some (Jvm.ClassFile.FieldType.object "java/util/List"))) ∈ lw_all := lw_g (lw_at lw_m1 146 rfl) rfl
theorem q276 : (Jvm.Cond.classLink "java/util/List" (103 : Nat) "java/lang/Object") ∈ lw_all := lw_g (lw_at lw_m1 147 rfl) rfl
theorem q278 : (Jvm.Cond.methodLink "java/util/List" (105 : Nat) ({ cls := "java/util/ImmutableCollections", name := "listFromTrustedArray", desc := "([Ljava/lang/Object;)Ljava/util/List;" } : Jvm.MethodName)) ∈ lw_all := lw_g (lw_at lw_m1 149 rfl) rfl
theorem q752 : (Jvm.Cond.interfaceMethod "java/util/List" "java/util/List" "size" "()I") ∈ lw_tbl := lw_at lw_m3 143 rfl
theorem q753 : (Jvm.Cond.declares ({ cls := "java/util/List", name := "size", desc := "()I" } : Jvm.MethodName)) ∈ lw_tbl := lw_at lw_m3 144 rfl
theorem q780 : (Jvm.Cond.interfaceMethod "java/util/List" "java/util/List" "get" "(I)Ljava/lang/Object;") ∈ lw_tbl := lw_at lw_m3 171 rfl
theorem q781 : (Jvm.Cond.declares ({ cls := "java/util/List", name := "get", desc := "(I)Ljava/lang/Object;" } : Jvm.MethodName)) ∈ lw_tbl := lw_at lw_m3 172 rfl
/-! java/util/ImmutableCollections -/
set_option maxRecDepth 100000
def RJ4 : String := "java/util/ImmutableCollections"
abbrev cJ4_listFromTrustedArray : ByteArray := prog_49_method_5_code
def yJ4_listFromTrustedArray : MethodName := ⟨RJ4, "listFromTrustedArray", "([Ljava/lang/Object;)Ljava/util/List;"⟩
def dkwJ4_listFromTrustedArray_5 : List UInt8 := [3, 50, 42, 4, 50, 183, 0, 67, 167, 0, 12, 187, 0, 12, 89, 42, 3, 183, 0, 43, 176]
abbrev dktJ4_listFromTrustedArray_5 : List UInt8 := dkwJ4_listFromTrustedArray_5 ++ []
def dkwJ4_listFromTrustedArray_4 : List UInt8 := [178, 0, 60, 167, 0, 41, 187, 0, 10, 89, 42, 3, 50, 183, 0, 64, 167, 0, 28, 187, 0, 10, 89, 42]
abbrev dktJ4_listFromTrustedArray_4 : List UInt8 := dkwJ4_listFromTrustedArray_4 ++ dktJ4_listFromTrustedArray_5
def dkwJ4_listFromTrustedArray_3 : List UInt8 := [170, 0, 0, 0, 0, 61, 0, 0, 0, 0, 0, 0, 0, 2, 0, 0, 0, 26, 0, 0, 0, 32, 0, 0, 0, 45]
abbrev dktJ4_listFromTrustedArray_3 : List UInt8 := dkwJ4_listFromTrustedArray_3 ++ dktJ4_listFromTrustedArray_4
def dkwJ4_listFromTrustedArray_2 : List UInt8 := [132, 3, 1, 167, 255, 237, 42, 190]
abbrev dktJ4_listFromTrustedArray_2 : List UInt8 := dkwJ4_listFromTrustedArray_2 ++ dktJ4_listFromTrustedArray_3
def dkwJ4_listFromTrustedArray_1 : List UInt8 := [76, 43, 190, 61, 3, 62, 29, 28, 162, 0, 20, 43, 29, 50, 58, 4, 25, 4, 184, 0, 37, 87]
abbrev dktJ4_listFromTrustedArray_1 : List UInt8 := dkwJ4_listFromTrustedArray_1 ++ dktJ4_listFromTrustedArray_2
def dkwJ4_listFromTrustedArray_0 : List UInt8 := [178, 0, 46, 154, 0, 20, 42, 182, 0, 51, 18, 55, 165, 0, 11, 187, 0, 57, 89, 183, 0, 59, 191, 42]
abbrev dktJ4_listFromTrustedArray_0 : List UInt8 := dkwJ4_listFromTrustedArray_0 ++ dktJ4_listFromTrustedArray_1
theorem dksJ4_listFromTrustedArray_0 : cJ4_listFromTrustedArray.data.toList.drop 0 = dktJ4_listFromTrustedArray_0 := by decide +kernel
theorem dksJ4_listFromTrustedArray_1 : cJ4_listFromTrustedArray.data.toList.drop 24 = dktJ4_listFromTrustedArray_1 := dk_seg dksJ4_listFromTrustedArray_0 24 rfl rfl
theorem dksJ4_listFromTrustedArray_2 : cJ4_listFromTrustedArray.data.toList.drop 46 = dktJ4_listFromTrustedArray_2 := dk_seg dksJ4_listFromTrustedArray_1 22 rfl rfl
theorem dksJ4_listFromTrustedArray_3 : cJ4_listFromTrustedArray.data.toList.drop 54 = dktJ4_listFromTrustedArray_3 := dk_seg dksJ4_listFromTrustedArray_2 8 rfl rfl
theorem dksJ4_listFromTrustedArray_4 : cJ4_listFromTrustedArray.data.toList.drop 80 = dktJ4_listFromTrustedArray_4 := dk_seg dksJ4_listFromTrustedArray_3 26 rfl rfl
theorem dksJ4_listFromTrustedArray_5 : cJ4_listFromTrustedArray.data.toList.drop 104 = dktJ4_listFromTrustedArray_5 := dk_seg dksJ4_listFromTrustedArray_4 24 rfl rfl
theorem dJ4_listFromTrustedArray_0 : decode cJ4_listFromTrustedArray 0 = .ok (.getstatic 46, 3) := dk_178 0 46 (dk_at dksJ4_listFromTrustedArray_0 0 rfl rfl)
theorem dJ4_listFromTrustedArray_3 : decode cJ4_listFromTrustedArray 3 = .ok (.ifCond .ne 20, 3) := dk_154 0 20 (dk_at dksJ4_listFromTrustedArray_0 3 rfl rfl)
theorem dJ4_listFromTrustedArray_6 : decode cJ4_listFromTrustedArray 6 = .ok (.aload_n 0, 1) := dk_42 (dk_at dksJ4_listFromTrustedArray_0 6 rfl rfl)
theorem dJ4_listFromTrustedArray_7 : decode cJ4_listFromTrustedArray 7 = .ok (.invokevirtual 51, 3) := dk_182 0 51 (dk_at dksJ4_listFromTrustedArray_0 7 rfl rfl)
theorem dJ4_listFromTrustedArray_10 : decode cJ4_listFromTrustedArray 10 = .ok (.ldc 55, 2) := dk_18 55 (dk_at dksJ4_listFromTrustedArray_0 10 rfl rfl)
theorem dJ4_listFromTrustedArray_12 : decode cJ4_listFromTrustedArray 12 = .ok (.if_acmp .eq 11, 3) := dk_165 0 11 (dk_at dksJ4_listFromTrustedArray_0 12 rfl rfl)
theorem dJ4_listFromTrustedArray_15 : decode cJ4_listFromTrustedArray 15 = .ok (.new 57, 3) := dk_187 0 57 (dk_at dksJ4_listFromTrustedArray_0 15 rfl rfl)
theorem dJ4_listFromTrustedArray_18 : decode cJ4_listFromTrustedArray 18 = .ok (.dup, 1) := dk_89 (dk_at dksJ4_listFromTrustedArray_0 18 rfl rfl)
theorem dJ4_listFromTrustedArray_19 : decode cJ4_listFromTrustedArray 19 = .ok (.invokespecial 59, 3) := dk_183 0 59 (dk_at dksJ4_listFromTrustedArray_0 19 rfl rfl)
theorem dJ4_listFromTrustedArray_22 : decode cJ4_listFromTrustedArray 22 = .ok (.athrow, 1) := dk_191 (dk_at dksJ4_listFromTrustedArray_0 22 rfl rfl)
theorem dJ4_listFromTrustedArray_23 : decode cJ4_listFromTrustedArray 23 = .ok (.aload_n 0, 1) := dk_42 (dk_at dksJ4_listFromTrustedArray_0 23 rfl rfl)
theorem dJ4_listFromTrustedArray_24 : decode cJ4_listFromTrustedArray 24 = .ok (.astore_n 1, 1) := dk_76 (dk_at dksJ4_listFromTrustedArray_1 0 rfl rfl)
theorem dJ4_listFromTrustedArray_25 : decode cJ4_listFromTrustedArray 25 = .ok (.aload_n 1, 1) := dk_43 (dk_at dksJ4_listFromTrustedArray_1 1 rfl rfl)
theorem dJ4_listFromTrustedArray_26 : decode cJ4_listFromTrustedArray 26 = .ok (.arraylength, 1) := dk_190 (dk_at dksJ4_listFromTrustedArray_1 2 rfl rfl)
theorem dJ4_listFromTrustedArray_27 : decode cJ4_listFromTrustedArray 27 = .ok (.istore_n 2, 1) := dk_61 (dk_at dksJ4_listFromTrustedArray_1 3 rfl rfl)
theorem dJ4_listFromTrustedArray_28 : decode cJ4_listFromTrustedArray 28 = .ok (.iconst 0, 1) := dk_3 (dk_at dksJ4_listFromTrustedArray_1 4 rfl rfl)
theorem dJ4_listFromTrustedArray_29 : decode cJ4_listFromTrustedArray 29 = .ok (.istore_n 3, 1) := dk_62 (dk_at dksJ4_listFromTrustedArray_1 5 rfl rfl)
theorem dJ4_listFromTrustedArray_30 : decode cJ4_listFromTrustedArray 30 = .ok (.iload_n 3, 1) := dk_29 (dk_at dksJ4_listFromTrustedArray_1 6 rfl rfl)
theorem dJ4_listFromTrustedArray_31 : decode cJ4_listFromTrustedArray 31 = .ok (.iload_n 2, 1) := dk_28 (dk_at dksJ4_listFromTrustedArray_1 7 rfl rfl)
theorem dJ4_listFromTrustedArray_32 : decode cJ4_listFromTrustedArray 32 = .ok (.if_icmp .ge 20, 3) := dk_162 0 20 (dk_at dksJ4_listFromTrustedArray_1 8 rfl rfl)
theorem dJ4_listFromTrustedArray_35 : decode cJ4_listFromTrustedArray 35 = .ok (.aload_n 1, 1) := dk_43 (dk_at dksJ4_listFromTrustedArray_1 11 rfl rfl)
theorem dJ4_listFromTrustedArray_36 : decode cJ4_listFromTrustedArray 36 = .ok (.iload_n 3, 1) := dk_29 (dk_at dksJ4_listFromTrustedArray_1 12 rfl rfl)
theorem dJ4_listFromTrustedArray_37 : decode cJ4_listFromTrustedArray 37 = .ok (.aaload, 1) := dk_50 (dk_at dksJ4_listFromTrustedArray_1 13 rfl rfl)
theorem dJ4_listFromTrustedArray_38 : decode cJ4_listFromTrustedArray 38 = .ok (.astore 4, 2) := dk_58 4 (dk_at dksJ4_listFromTrustedArray_1 14 rfl rfl)
theorem dJ4_listFromTrustedArray_40 : decode cJ4_listFromTrustedArray 40 = .ok (.aload 4, 2) := dk_25 4 (dk_at dksJ4_listFromTrustedArray_1 16 rfl rfl)
theorem dJ4_listFromTrustedArray_42 : decode cJ4_listFromTrustedArray 42 = .ok (.invokestatic 37, 3) := dk_184 0 37 (dk_at dksJ4_listFromTrustedArray_1 18 rfl rfl)
theorem dJ4_listFromTrustedArray_45 : decode cJ4_listFromTrustedArray 45 = .ok (.pop, 1) := dk_87 (dk_at dksJ4_listFromTrustedArray_1 21 rfl rfl)
theorem dJ4_listFromTrustedArray_46 : decode cJ4_listFromTrustedArray 46 = .ok (.iinc 3 1, 3) := dk_132 3 1 (dk_at dksJ4_listFromTrustedArray_2 0 rfl rfl)
theorem dJ4_listFromTrustedArray_49 : decode cJ4_listFromTrustedArray 49 = .ok (.goto (-19), 3) := dk_167 255 237 (dk_at dksJ4_listFromTrustedArray_2 3 rfl rfl)
theorem dJ4_listFromTrustedArray_52 : decode cJ4_listFromTrustedArray 52 = .ok (.aload_n 0, 1) := dk_42 (dk_at dksJ4_listFromTrustedArray_2 6 rfl rfl)
theorem dJ4_listFromTrustedArray_53 : decode cJ4_listFromTrustedArray 53 = .ok (.arraylength, 1) := dk_190 (dk_at dksJ4_listFromTrustedArray_2 7 rfl rfl)
theorem dJ4_listFromTrustedArray_54 : decode cJ4_listFromTrustedArray 54 = .ok (.tableswitch 61 0 2 #[26, 32, 45], 26) := by decide +kernel
theorem dJ4_listFromTrustedArray_80 : decode cJ4_listFromTrustedArray 80 = .ok (.getstatic 60, 3) := dk_178 0 60 (dk_at dksJ4_listFromTrustedArray_4 0 rfl rfl)
theorem dJ4_listFromTrustedArray_83 : decode cJ4_listFromTrustedArray 83 = .ok (.goto 41, 3) := dk_167 0 41 (dk_at dksJ4_listFromTrustedArray_4 3 rfl rfl)
theorem dJ4_listFromTrustedArray_86 : decode cJ4_listFromTrustedArray 86 = .ok (.new 10, 3) := dk_187 0 10 (dk_at dksJ4_listFromTrustedArray_4 6 rfl rfl)
theorem dJ4_listFromTrustedArray_89 : decode cJ4_listFromTrustedArray 89 = .ok (.dup, 1) := dk_89 (dk_at dksJ4_listFromTrustedArray_4 9 rfl rfl)
theorem dJ4_listFromTrustedArray_90 : decode cJ4_listFromTrustedArray 90 = .ok (.aload_n 0, 1) := dk_42 (dk_at dksJ4_listFromTrustedArray_4 10 rfl rfl)
theorem dJ4_listFromTrustedArray_91 : decode cJ4_listFromTrustedArray 91 = .ok (.iconst 0, 1) := dk_3 (dk_at dksJ4_listFromTrustedArray_4 11 rfl rfl)
theorem dJ4_listFromTrustedArray_92 : decode cJ4_listFromTrustedArray 92 = .ok (.aaload, 1) := dk_50 (dk_at dksJ4_listFromTrustedArray_4 12 rfl rfl)
theorem dJ4_listFromTrustedArray_93 : decode cJ4_listFromTrustedArray 93 = .ok (.invokespecial 64, 3) := dk_183 0 64 (dk_at dksJ4_listFromTrustedArray_4 13 rfl rfl)
theorem dJ4_listFromTrustedArray_96 : decode cJ4_listFromTrustedArray 96 = .ok (.goto 28, 3) := dk_167 0 28 (dk_at dksJ4_listFromTrustedArray_4 16 rfl rfl)
theorem dJ4_listFromTrustedArray_99 : decode cJ4_listFromTrustedArray 99 = .ok (.new 10, 3) := dk_187 0 10 (dk_at dksJ4_listFromTrustedArray_4 19 rfl rfl)
theorem dJ4_listFromTrustedArray_102 : decode cJ4_listFromTrustedArray 102 = .ok (.dup, 1) := dk_89 (dk_at dksJ4_listFromTrustedArray_4 22 rfl rfl)
theorem dJ4_listFromTrustedArray_103 : decode cJ4_listFromTrustedArray 103 = .ok (.aload_n 0, 1) := dk_42 (dk_at dksJ4_listFromTrustedArray_4 23 rfl rfl)
theorem dJ4_listFromTrustedArray_104 : decode cJ4_listFromTrustedArray 104 = .ok (.iconst 0, 1) := dk_3 (dk_at dksJ4_listFromTrustedArray_5 0 rfl rfl)
theorem dJ4_listFromTrustedArray_105 : decode cJ4_listFromTrustedArray 105 = .ok (.aaload, 1) := dk_50 (dk_at dksJ4_listFromTrustedArray_5 1 rfl rfl)
theorem dJ4_listFromTrustedArray_106 : decode cJ4_listFromTrustedArray 106 = .ok (.aload_n 0, 1) := dk_42 (dk_at dksJ4_listFromTrustedArray_5 2 rfl rfl)
theorem dJ4_listFromTrustedArray_107 : decode cJ4_listFromTrustedArray 107 = .ok (.iconst 1, 1) := dk_4 (dk_at dksJ4_listFromTrustedArray_5 3 rfl rfl)
theorem dJ4_listFromTrustedArray_108 : decode cJ4_listFromTrustedArray 108 = .ok (.aaload, 1) := dk_50 (dk_at dksJ4_listFromTrustedArray_5 4 rfl rfl)
theorem dJ4_listFromTrustedArray_109 : decode cJ4_listFromTrustedArray 109 = .ok (.invokespecial 67, 3) := dk_183 0 67 (dk_at dksJ4_listFromTrustedArray_5 5 rfl rfl)
theorem dJ4_listFromTrustedArray_112 : decode cJ4_listFromTrustedArray 112 = .ok (.goto 12, 3) := dk_167 0 12 (dk_at dksJ4_listFromTrustedArray_5 8 rfl rfl)
theorem dJ4_listFromTrustedArray_115 : decode cJ4_listFromTrustedArray 115 = .ok (.new 12, 3) := dk_187 0 12 (dk_at dksJ4_listFromTrustedArray_5 11 rfl rfl)
theorem dJ4_listFromTrustedArray_118 : decode cJ4_listFromTrustedArray 118 = .ok (.dup, 1) := dk_89 (dk_at dksJ4_listFromTrustedArray_5 14 rfl rfl)
theorem dJ4_listFromTrustedArray_119 : decode cJ4_listFromTrustedArray 119 = .ok (.aload_n 0, 1) := dk_42 (dk_at dksJ4_listFromTrustedArray_5 15 rfl rfl)
theorem dJ4_listFromTrustedArray_120 : decode cJ4_listFromTrustedArray 120 = .ok (.iconst 0, 1) := dk_3 (dk_at dksJ4_listFromTrustedArray_5 16 rfl rfl)
theorem dJ4_listFromTrustedArray_121 : decode cJ4_listFromTrustedArray 121 = .ok (.invokespecial 43, 3) := dk_183 0 43 (dk_at dksJ4_listFromTrustedArray_5 17 rfl rfl)
theorem dJ4_listFromTrustedArray_124 : decode cJ4_listFromTrustedArray 124 = .ok (.areturn, 1) := dk_176 (dk_at dksJ4_listFromTrustedArray_5 20 rfl rfl)
theorem q137 : (Jvm.Cond.initialized "java/util/ImmutableCollections") ∈ lw_all := lw_g (lw_at lw_m1 8 rfl) rfl
theorem q279 : (Jvm.Cond.static ({ cls := "java/util/ImmutableCollections", name := "listFromTrustedArray", desc := "([Ljava/lang/Object;)Ljava/util/List;" } : Jvm.MethodName)) ∈ lw_all := lw_g (lw_at lw_m1 150 rfl) rfl
theorem q280 : (Jvm.Cond.code ({ cls := "java/util/ImmutableCollections", name := "listFromTrustedArray", desc := "([Ljava/lang/Object;)Ljava/util/List;" } : Jvm.MethodName) prog_49_method_5_code (5 : Nat) (Option.some (Jvm.ClassFile.FieldType.object "java/util/List"))) ∈ lw_all := lw_g (lw_at lw_m1 151 rfl) rfl
theorem q281 : (Jvm.Cond.fieldLink "java/util/ImmutableCollections" (46 : Nat) "java/util/ImmutableCollections" "$assertionsDisabled" "Z") ∈ lw_all := lw_g (lw_at lw_m1 152 rfl) rfl
theorem q282 : (Jvm.Cond.laysStatic "java/util/ImmutableCollections" "$assertionsDisabled" "Z") ∈ lw_tbl := lw_at lw_m1 153 rfl
theorem q283 : (Jvm.Cond.methodLink "java/util/ImmutableCollections" (51 : Nat) ({ cls := "java/lang/Object", name := "getClass", desc := "()Ljava/lang/Class;" } : Jvm.MethodName)) ∈ lw_all := lw_g (lw_at lw_m1 154 rfl) rfl
theorem q313 : (Jvm.Cond.classLink "java/util/ImmutableCollections" (55 : Nat) "[Ljava/lang/Object;") ∈ lw_all := lw_g (lw_at lw_m1 184 rfl) rfl
theorem q314 : (Jvm.Cond.methodLink "java/util/ImmutableCollections" (37 : Nat) ({ cls := "java/util/Objects", name := "requireNonNull", desc := "(Ljava/lang/Object;)Ljava/lang/Object;" } : Jvm.MethodName)) ∈ lw_all := lw_g (lw_at lw_m1 185 rfl) rfl
theorem q317 : (Jvm.Cond.fieldLink "java/util/ImmutableCollections" (60 : Nat) "java/util/ImmutableCollections" "EMPTY_LIST" "Ljava/util/ImmutableCollections$ListN;") ∈ lw_all := lw_g (lw_at lw_m1 188 rfl) rfl
theorem q318 : (Jvm.Cond.laysStatic "java/util/ImmutableCollections" "EMPTY_LIST" "Ljava/util/ImmutableCollections$ListN;") ∈ lw_tbl := lw_at lw_m1 189 rfl
theorem q319 : (Jvm.Cond.classLink "java/util/ImmutableCollections" (10 : Nat) "java/util/ImmutableCollections$List12") ∈ lw_all := lw_g (lw_at lw_m1 190 rfl) rfl
theorem q321 : (Jvm.Cond.methodLink "java/util/ImmutableCollections" (64 : Nat) ({ cls := "java/util/ImmutableCollections$List12", name := "<init>", desc := "(Ljava/lang/Object;)V" } : Jvm.MethodName)) ∈ lw_all := lw_g (lw_at lw_m1 192 rfl) rfl
theorem q336 : (Jvm.Cond.laysStatic "java/util/ImmutableCollections" "EMPTY" "Ljava/lang/Object;") ∈ lw_tbl := lw_at lw_m1 207 rfl
theorem q344 : (Jvm.Cond.methodLink "java/util/ImmutableCollections" (67 : Nat) ({ cls := "java/util/ImmutableCollections$List12", name := "<init>", desc := "(Ljava/lang/Object;Ljava/lang/Object;)V" } : Jvm.MethodName)) ∈ lw_all := lw_g (lw_at lw_m1 215 rfl) rfl
theorem q347 : (Jvm.Cond.classLink "java/util/ImmutableCollections" (12 : Nat) "java/util/ImmutableCollections$ListN") ∈ lw_all := lw_g (lw_at lw_m1 218 rfl) rfl
theorem q349 : (Jvm.Cond.methodLinkNest "java/util/ImmutableCollections" (43 : Nat) ({ cls := "java/util/ImmutableCollections$ListN", name := "<init>", desc := "([Ljava/lang/Object;Z)V" } : Jvm.MethodName) "java/util/ImmutableCollections") ∈ lw_tbl := lw_at lw_m1 220 rfl
/-! java/util/Objects -/
set_option maxRecDepth 100000
def RJ5 : String := "java/util/Objects"
abbrev cJ5_requireNonNull : ByteArray := prog_62_method_10_code
def yJ5_requireNonNull : MethodName := ⟨RJ5, "requireNonNull", "(Ljava/lang/Object;)Ljava/lang/Object;"⟩
def dkwJ5_requireNonNull_0 : List UInt8 := [42, 199, 0, 11, 187, 0, 84, 89, 183, 0, 86, 191, 42, 176]
abbrev dktJ5_requireNonNull_0 : List UInt8 := dkwJ5_requireNonNull_0 ++ []
theorem dksJ5_requireNonNull_0 : cJ5_requireNonNull.data.toList.drop 0 = dktJ5_requireNonNull_0 := by decide +kernel
theorem dJ5_requireNonNull_0 : decode cJ5_requireNonNull 0 = .ok (.aload_n 0, 1) := dk_42 (dk_at dksJ5_requireNonNull_0 0 rfl rfl)
theorem dJ5_requireNonNull_1 : decode cJ5_requireNonNull 1 = .ok (.ifnonnull 11, 3) := dk_199 0 11 (dk_at dksJ5_requireNonNull_0 1 rfl rfl)
theorem dJ5_requireNonNull_4 : decode cJ5_requireNonNull 4 = .ok (.new 84, 3) := dk_187 0 84 (dk_at dksJ5_requireNonNull_0 4 rfl rfl)
theorem dJ5_requireNonNull_7 : decode cJ5_requireNonNull 7 = .ok (.dup, 1) := dk_89 (dk_at dksJ5_requireNonNull_0 7 rfl rfl)
theorem dJ5_requireNonNull_8 : decode cJ5_requireNonNull 8 = .ok (.invokespecial 86, 3) := dk_183 0 86 (dk_at dksJ5_requireNonNull_0 8 rfl rfl)
theorem dJ5_requireNonNull_11 : decode cJ5_requireNonNull 11 = .ok (.athrow, 1) := dk_191 (dk_at dksJ5_requireNonNull_0 11 rfl rfl)
theorem dJ5_requireNonNull_12 : decode cJ5_requireNonNull 12 = .ok (.aload_n 0, 1) := dk_42 (dk_at dksJ5_requireNonNull_0 12 rfl rfl)
theorem dJ5_requireNonNull_13 : decode cJ5_requireNonNull 13 = .ok (.areturn, 1) := dk_176 (dk_at dksJ5_requireNonNull_0 13 rfl rfl)
abbrev cJ5_checkIndex : ByteArray := prog_62_method_17_code
def yJ5_checkIndex : MethodName := ⟨RJ5, "checkIndex", "(II)I"⟩
def dkwJ5_checkIndex_0 : List UInt8 := [26, 27, 1, 184, 0, 105, 172]
abbrev dktJ5_checkIndex_0 : List UInt8 := dkwJ5_checkIndex_0 ++ []
theorem dksJ5_checkIndex_0 : cJ5_checkIndex.data.toList.drop 0 = dktJ5_checkIndex_0 := by decide +kernel
theorem dJ5_checkIndex_0 : decode cJ5_checkIndex 0 = .ok (.iload_n 0, 1) := dk_26 (dk_at dksJ5_checkIndex_0 0 rfl rfl)
theorem dJ5_checkIndex_1 : decode cJ5_checkIndex 1 = .ok (.iload_n 1, 1) := dk_27 (dk_at dksJ5_checkIndex_0 1 rfl rfl)
theorem dJ5_checkIndex_2 : decode cJ5_checkIndex 2 = .ok (.aconst_null, 1) := dk_1 (dk_at dksJ5_checkIndex_0 2 rfl rfl)
theorem dJ5_checkIndex_3 : decode cJ5_checkIndex 3 = .ok (.invokestatic 105, 3) := dk_184 0 105 (dk_at dksJ5_checkIndex_0 3 rfl rfl)
theorem dJ5_checkIndex_6 : decode cJ5_checkIndex 6 = .ok (.ireturn, 1) := dk_172 (dk_at dksJ5_checkIndex_0 6 rfl rfl)
theorem q138 : (Jvm.Cond.initialized "java/util/Objects") ∈ lw_all := lw_g (lw_at lw_m1 9 rfl) rfl
theorem q315 : (Jvm.Cond.static ({ cls := "java/util/Objects", name := "requireNonNull", desc := "(Ljava/lang/Object;)Ljava/lang/Object;" } : Jvm.MethodName)) ∈ lw_all := lw_g (lw_at lw_m1 186 rfl) rfl
theorem q316 : (Jvm.Cond.code ({ cls := "java/util/Objects", name := "requireNonNull", desc := "(Ljava/lang/Object;)Ljava/lang/Object;" } : Jvm.MethodName) prog_62_method_10_code (1 : Nat) (Option.some (Jvm.ClassFile.FieldType.object "java/lang/Object"))) ∈ lw_all := lw_g (lw_at lw_m1 187 rfl) rfl
theorem q788 : (Jvm.Cond.static ({ cls := "java/util/Objects", name := "checkIndex", desc := "(II)I" } : Jvm.MethodName)) ∈ lw_all := lw_g (lw_at lw_m3 179 rfl) rfl
theorem q789 : (Jvm.Cond.code ({ cls := "java/util/Objects", name := "checkIndex", desc := "(II)I" } : Jvm.MethodName) prog_62_method_17_code (2 : Nat) (Option.some Jvm.ClassFile.FieldType.int)) ∈ lw_all := lw_g (lw_at lw_m3 180 rfl) rfl
theorem q790 : (Jvm.Cond.methodLink "java/util/Objects" (105 : Nat) ({ cls := "jdk/internal/util/Preconditions", name := "checkIndex", desc := "(IILjava/util/function/BiFunction;)I" } : Jvm.MethodName)) ∈ lw_all := lw_g (lw_at lw_m3 181 rfl) rfl
/-! java/util/AbstractCollection -/
set_option maxRecDepth 100000
def RJ6 : String := "java/util/AbstractCollection"
abbrev cJ6_init : ByteArray := prog_36_method_1_code
def yJ6_init : MethodName := ⟨RJ6, "<init>", "()V"⟩
theorem dJ6_init_0 : decode cJ6_init 0 = .ok (.aload_n 0, 1) := by decide +kernel
theorem dJ6_init_1 : decode cJ6_init 1 = .ok (.invokespecial 1, 3) := by decide +kernel
theorem dJ6_init_4 : decode cJ6_init 4 = .ok (.return_, 1) := by decide +kernel
abbrev cJ6_isEmpty : ByteArray := prog_36_method_4_code
def yJ6_isEmpty : MethodName := ⟨RJ6, "isEmpty", "()Z"⟩
def dkwJ6_isEmpty_0 : List UInt8 := [42, 182, 0, 7, 154, 0, 7, 4, 167, 0, 4, 3, 172]
abbrev dktJ6_isEmpty_0 : List UInt8 := dkwJ6_isEmpty_0 ++ []
theorem dksJ6_isEmpty_0 : cJ6_isEmpty.data.toList.drop 0 = dktJ6_isEmpty_0 := by decide +kernel
theorem dJ6_isEmpty_0 : decode cJ6_isEmpty 0 = .ok (.aload_n 0, 1) := dk_42 (dk_at dksJ6_isEmpty_0 0 rfl rfl)
theorem dJ6_isEmpty_1 : decode cJ6_isEmpty 1 = .ok (.invokevirtual 7, 3) := dk_182 0 7 (dk_at dksJ6_isEmpty_0 1 rfl rfl)
theorem dJ6_isEmpty_4 : decode cJ6_isEmpty 4 = .ok (.ifCond .ne 7, 3) := dk_154 0 7 (dk_at dksJ6_isEmpty_0 4 rfl rfl)
theorem dJ6_isEmpty_7 : decode cJ6_isEmpty 7 = .ok (.iconst 1, 1) := dk_4 (dk_at dksJ6_isEmpty_0 7 rfl rfl)
theorem dJ6_isEmpty_8 : decode cJ6_isEmpty 8 = .ok (.goto 4, 3) := dk_167 0 4 (dk_at dksJ6_isEmpty_0 8 rfl rfl)
theorem dJ6_isEmpty_11 : decode cJ6_isEmpty 11 = .ok (.iconst 0, 1) := dk_3 (dk_at dksJ6_isEmpty_0 11 rfl rfl)
theorem dJ6_isEmpty_12 : decode cJ6_isEmpty 12 = .ok (.ireturn, 1) := dk_172 (dk_at dksJ6_isEmpty_0 12 rfl rfl)
theorem q139 : (Jvm.Cond.initialized "java/util/AbstractCollection") ∈ lw_all := lw_g (lw_at lw_m1 10 rfl) rfl
theorem q331 : (Jvm.Cond.instanceMethod ({ cls := "java/util/AbstractCollection", name := "<init>", desc := "()V" } : Jvm.MethodName)) ∈ lw_all := lw_g (lw_at lw_m1 202 rfl) rfl
theorem q332 : (Jvm.Cond.code ({ cls := "java/util/AbstractCollection", name := "<init>", desc := "()V" } : Jvm.MethodName) prog_36_method_1_code (1 : Nat) (Option.none : Option Jvm.ClassFile.FieldType)) ∈ lw_all := lw_g (lw_at lw_m1 203 rfl) rfl
theorem q333 : (Jvm.Cond.methodLink "java/util/AbstractCollection" (1 : Nat) ({ cls := "java/lang/Object", name := "<init>", desc := "()V" } : Jvm.MethodName)) ∈ lw_all := lw_g (lw_at lw_m1 204 rfl) rfl
theorem q1169 : (Jvm.Cond.declares ({ cls := "java/util/AbstractCollection", name := "size", desc := "()I" } : Jvm.MethodName)) ∈ lw_tbl := lw_at lw_m5 80 rfl
theorem q1699 : (Jvm.Cond.declares ({ cls := "java/util/AbstractCollection", name := "isEmpty", desc := "()Z" } : Jvm.MethodName)) ∈ lw_tbl := lw_at lw_m7 130 rfl
theorem q1701 : (Jvm.Cond.instanceMethod ({ cls := "java/util/AbstractCollection", name := "isEmpty", desc := "()Z" } : Jvm.MethodName)) ∈ lw_all := lw_g (lw_at lw_m7 132 rfl) rfl
theorem q1702 : (Jvm.Cond.code ({ cls := "java/util/AbstractCollection", name := "isEmpty", desc := "()Z" } : Jvm.MethodName) prog_36_method_4_code (1 : Nat) (Option.some Jvm.ClassFile.FieldType.boolean)) ∈ lw_all := lw_g (lw_at lw_m7 133 rfl) rfl
theorem q1703 : (Jvm.Cond.methodLink "java/util/AbstractCollection" (7 : Nat) ({ cls := "java/util/AbstractCollection", name := "size", desc := "()I" } : Jvm.MethodName)) ∈ lw_all := lw_g (lw_at lw_m7 134 rfl) rfl
theorem q2675 : (Jvm.Cond.sameMethod "java/util/AbstractCollection" "java/util/AbstractCollection" "size" "()I") ∈ lw_all := lw_g (lw_at lw_m11 146 rfl) rfl
/-! java/util/ImmutableCollections$AbstractImmutableCollection -/
set_option maxRecDepth 100000
def RJ7 : String := "java/util/ImmutableCollections$AbstractImmutableCollection"
abbrev cJ7_init : ByteArray := prog_50_method_1_code
def yJ7_init : MethodName := ⟨RJ7, "<init>", "()V"⟩
theorem dJ7_init_0 : decode cJ7_init 0 = .ok (.aload_n 0, 1) := by decide +kernel
theorem dJ7_init_1 : decode cJ7_init 1 = .ok (.invokespecial 1, 3) := by decide +kernel
theorem dJ7_init_4 : decode cJ7_init 4 = .ok (.return_, 1) := by decide +kernel
theorem q140 : (Jvm.Cond.initialized "java/util/ImmutableCollections$AbstractImmutableCollection") ∈ lw_all := lw_g (lw_at lw_m1 11 rfl) rfl
theorem q328 : (Jvm.Cond.instanceMethod ({ cls := "java/util/ImmutableCollections$AbstractImmutableCollection", name := "<init>", desc := "()V" } : Jvm.MethodName)) ∈ lw_all := lw_g (lw_at lw_m1 199 rfl) rfl
theorem q329 : (Jvm.Cond.code ({ cls := "java/util/ImmutableCollections$AbstractImmutableCollection", name := "<init>", desc := "()V" } : Jvm.MethodName) prog_50_method_1_code (1 : Nat) (Option.none : Option Jvm.ClassFile.FieldType)) ∈ lw_all := lw_g (lw_at lw_m1 200 rfl) rfl
theorem q330 : (Jvm.Cond.methodLink "java/util/ImmutableCollections$AbstractImmutableCollection" (1 : Nat) ({ cls := "java/util/AbstractCollection", name := "<init>", desc := "()V" } : Jvm.MethodName)) ∈ lw_all := lw_g (lw_at lw_m1 201 rfl) rfl
/-! java/util/ImmutableCollections$AbstractImmutableList -/
set_option maxRecDepth 100000
def RJ8 : String := "java/util/ImmutableCollections$AbstractImmutableList"
abbrev cJ8_init : ByteArray := prog_51_method_1_code
def yJ8_init : MethodName := ⟨RJ8, "<init>", "()V"⟩
theorem dJ8_init_0 : decode cJ8_init 0 = .ok (.aload_n 0, 1) := by decide +kernel
theorem dJ8_init_1 : decode cJ8_init 1 = .ok (.invokespecial 1, 3) := by decide +kernel
theorem dJ8_init_4 : decode cJ8_init 4 = .ok (.return_, 1) := by decide +kernel
theorem q141 : (Jvm.Cond.initialized "java/util/ImmutableCollections$AbstractImmutableList") ∈ lw_all := lw_g (lw_at lw_m1 12 rfl) rfl
theorem q325 : (Jvm.Cond.instanceMethod ({ cls := "java/util/ImmutableCollections$AbstractImmutableList", name := "<init>", desc := "()V" } : Jvm.MethodName)) ∈ lw_all := lw_g (lw_at lw_m1 196 rfl) rfl
theorem q326 : (Jvm.Cond.code ({ cls := "java/util/ImmutableCollections$AbstractImmutableList", name := "<init>", desc := "()V" } : Jvm.MethodName) prog_51_method_1_code (1 : Nat) (Option.none : Option Jvm.ClassFile.FieldType)) ∈ lw_all := lw_g (lw_at lw_m1 197 rfl) rfl
theorem q327 : (Jvm.Cond.methodLink "java/util/ImmutableCollections$AbstractImmutableList" (1 : Nat) ({ cls := "java/util/ImmutableCollections$AbstractImmutableCollection", name := "<init>", desc := "()V" } : Jvm.MethodName)) ∈ lw_all := lw_g (lw_at lw_m1 198 rfl) rfl
/-! java/util/ImmutableCollections$ListN -/
set_option maxRecDepth 100000
def RJ10 : String := "java/util/ImmutableCollections$ListN"
def TJ10 : u_T := fun k => match k with
  | 0 => ("java/util/ImmutableCollections$ListN", "elements", "[Ljava/lang/Object;", true)
  | _ => ("java/util/ImmutableCollections$ListN", "allowNulls", "Z", true)
def tyJ10 : Nat → FieldType := fun k => match k with
  | 0 => .array (.object "java/lang/Object")
  | _ => .boolean
abbrev wsJ100 : List Cond := u_ws RJ10 TJ10 2
theorem nmJ10 : ∀ a, a < 2 → ∀ b, b < 2 → a ≠ b → (TJ10 a).2.1 ≠ (TJ10 b).2.1 := by decide +kernel
theorem tyJ10_ok : ∀ k, k < 2 → parseFieldDescriptor (TJ10 k).2.2.1 = some (tyJ10 k) := by decide +kernel
abbrev cJ10_init : ByteArray := prog_54_method_1_code
def yJ10_init : MethodName := ⟨RJ10, "<init>", "([Ljava/lang/Object;Z)V"⟩
def dkwJ10_init_0 : List UInt8 := [42, 183, 0, 1, 42, 43, 181, 0, 7, 42, 28, 181, 0, 13, 177]
abbrev dktJ10_init_0 : List UInt8 := dkwJ10_init_0 ++ []
theorem dksJ10_init_0 : cJ10_init.data.toList.drop 0 = dktJ10_init_0 := by decide +kernel
theorem dJ10_init_0 : decode cJ10_init 0 = .ok (.aload_n 0, 1) := dk_42 (dk_at dksJ10_init_0 0 rfl rfl)
theorem dJ10_init_1 : decode cJ10_init 1 = .ok (.invokespecial 1, 3) := dk_183 0 1 (dk_at dksJ10_init_0 1 rfl rfl)
theorem dJ10_init_4 : decode cJ10_init 4 = .ok (.aload_n 0, 1) := dk_42 (dk_at dksJ10_init_0 4 rfl rfl)
theorem dJ10_init_5 : decode cJ10_init 5 = .ok (.aload_n 1, 1) := dk_43 (dk_at dksJ10_init_0 5 rfl rfl)
theorem dJ10_init_6 : decode cJ10_init 6 = .ok (.putfield 7, 3) := dk_181 0 7 (dk_at dksJ10_init_0 6 rfl rfl)
theorem dJ10_init_9 : decode cJ10_init 9 = .ok (.aload_n 0, 1) := dk_42 (dk_at dksJ10_init_0 9 rfl rfl)
theorem dJ10_init_10 : decode cJ10_init 10 = .ok (.iload_n 2, 1) := dk_28 (dk_at dksJ10_init_0 10 rfl rfl)
theorem dJ10_init_11 : decode cJ10_init 11 = .ok (.putfield 13, 3) := dk_181 0 13 (dk_at dksJ10_init_0 11 rfl rfl)
theorem dJ10_init_14 : decode cJ10_init 14 = .ok (.return_, 1) := dk_177 (dk_at dksJ10_init_0 14 rfl rfl)
abbrev cJ10_size : ByteArray := prog_54_method_3_code
def yJ10_size : MethodName := ⟨RJ10, "size", "()I"⟩
def dkwJ10_size_0 : List UInt8 := [42, 180, 0, 7, 190, 172]
abbrev dktJ10_size_0 : List UInt8 := dkwJ10_size_0 ++ []
theorem dksJ10_size_0 : cJ10_size.data.toList.drop 0 = dktJ10_size_0 := by decide +kernel
theorem dJ10_size_0 : decode cJ10_size 0 = .ok (.aload_n 0, 1) := dk_42 (dk_at dksJ10_size_0 0 rfl rfl)
theorem dJ10_size_1 : decode cJ10_size 1 = .ok (.getfield 7, 3) := dk_180 0 7 (dk_at dksJ10_size_0 1 rfl rfl)
theorem dJ10_size_4 : decode cJ10_size 4 = .ok (.arraylength, 1) := dk_190 (dk_at dksJ10_size_0 4 rfl rfl)
theorem dJ10_size_5 : decode cJ10_size 5 = .ok (.ireturn, 1) := dk_172 (dk_at dksJ10_size_0 5 rfl rfl)
abbrev cJ10_get : ByteArray := prog_54_method_4_code
def yJ10_get : MethodName := ⟨RJ10, "get", "(I)Ljava/lang/Object;"⟩
def dkwJ10_get_0 : List UInt8 := [42, 180, 0, 7, 27, 50, 176]
abbrev dktJ10_get_0 : List UInt8 := dkwJ10_get_0 ++ []
theorem dksJ10_get_0 : cJ10_get.data.toList.drop 0 = dktJ10_get_0 := by decide +kernel
theorem dJ10_get_0 : decode cJ10_get 0 = .ok (.aload_n 0, 1) := dk_42 (dk_at dksJ10_get_0 0 rfl rfl)
theorem dJ10_get_1 : decode cJ10_get 1 = .ok (.getfield 7, 3) := dk_180 0 7 (dk_at dksJ10_get_0 1 rfl rfl)
theorem dJ10_get_4 : decode cJ10_get 4 = .ok (.iload_n 1, 1) := dk_27 (dk_at dksJ10_get_0 4 rfl rfl)
theorem dJ10_get_5 : decode cJ10_get 5 = .ok (.aaload, 1) := dk_50 (dk_at dksJ10_get_0 5 rfl rfl)
theorem dJ10_get_6 : decode cJ10_get 6 = .ok (.areturn, 1) := dk_176 (dk_at dksJ10_get_0 6 rfl rfl)
theorem q143 : (Jvm.Cond.initialized "java/util/ImmutableCollections$ListN") ∈ lw_all := lw_g (lw_at lw_m1 14 rfl) rfl
theorem q307 : (Jvm.Cond.selects "java/util/ImmutableCollections$ListN" ({ cls := "java/lang/Object", name := "getClass", desc := "()Ljava/lang/Class;" } : Jvm.MethodName) ({ cls := "java/lang/Object", name := "getClass", desc := "()Ljava/lang/Class;" } : Jvm.MethodName)) ∈ lw_all := lw_g (lw_at lw_m1 178 rfl) rfl
theorem q348 : (Jvm.Cond.instantiable "java/util/ImmutableCollections$ListN" (2 : Nat)) ∈ lw_all := lw_g (lw_at lw_m1 219 rfl) rfl
theorem q350 : (Jvm.Cond.instanceMethod ({ cls := "java/util/ImmutableCollections$ListN", name := "<init>", desc := "([Ljava/lang/Object;Z)V" } : Jvm.MethodName)) ∈ lw_all := lw_g (lw_at lw_m1 221 rfl) rfl
theorem q351 : (Jvm.Cond.code ({ cls := "java/util/ImmutableCollections$ListN", name := "<init>", desc := "([Ljava/lang/Object;Z)V" } : Jvm.MethodName) prog_54_method_1_code (3 : Nat) (Option.none : Option Jvm.ClassFile.FieldType)) ∈ lw_all := lw_g (lw_at lw_m1 222 rfl) rfl
theorem q352 : (Jvm.Cond.methodLink "java/util/ImmutableCollections$ListN" (1 : Nat) ({ cls := "java/util/ImmutableCollections$AbstractImmutableList", name := "<init>", desc := "()V" } : Jvm.MethodName)) ∈ lw_all := lw_g (lw_at lw_m1 223 rfl) rfl
theorem q353 : (Jvm.Cond.fieldLink "java/util/ImmutableCollections$ListN" (7 : Nat) "java/util/ImmutableCollections$ListN" "elements" "[Ljava/lang/Object;") ∈ lw_all := lw_g (lw_at lw_m1 224 rfl) rfl
theorem q354 : (Jvm.Cond.fieldLink "java/util/ImmutableCollections$ListN" (13 : Nat) "java/util/ImmutableCollections$ListN" "allowNulls" "Z") ∈ lw_all := lw_g (lw_at lw_m1 225 rfl) rfl
theorem q355 : (Jvm.Cond.laysFinal "java/util/ImmutableCollections$ListN" "java/util/ImmutableCollections$ListN" "elements" "[Ljava/lang/Object;") ∈ lw_all := lw_g (lw_at lw_m1 226 rfl) rfl
theorem q356 : (Jvm.Cond.soleField "java/util/ImmutableCollections$ListN" "elements") ∈ lw_all := lw_g (lw_at lw_m1 227 rfl) rfl
theorem q357 : (Jvm.Cond.laysFinal "java/util/ImmutableCollections$ListN" "java/util/ImmutableCollections$ListN" "allowNulls" "Z") ∈ lw_all := lw_g (lw_at lw_m1 228 rfl) rfl
theorem q358 : (Jvm.Cond.soleField "java/util/ImmutableCollections$ListN" "allowNulls") ∈ lw_all := lw_g (lw_at lw_m1 229 rfl) rfl
theorem q359 : (Jvm.Cond.superclass "java/util/ImmutableCollections$ListN" "java/util/ImmutableCollections$AbstractImmutableList") ∈ lw_all := lw_g (lw_at lw_m1 230 rfl) rfl
theorem q766 : (Jvm.Cond.castable "java/util/ImmutableCollections$ListN" "java/util/List") ∈ lw_tbl := lw_at lw_m3 157 rfl
theorem q767 : (Jvm.Cond.selects "java/util/ImmutableCollections$ListN" ({ cls := "java/util/List", name := "size", desc := "()I" } : Jvm.MethodName) ({ cls := "java/util/ImmutableCollections$ListN", name := "size", desc := "()I" } : Jvm.MethodName)) ∈ lw_all := lw_g (lw_at lw_m3 158 rfl) rfl
theorem q768 : (Jvm.Cond.unhidden "java/util/ImmutableCollections$ListN" "size" "()I") ∈ lw_tbl := lw_at lw_m3 159 rfl
theorem q769 : (Jvm.Cond.instanceMethod ({ cls := "java/util/ImmutableCollections$ListN", name := "size", desc := "()I" } : Jvm.MethodName)) ∈ lw_all := lw_g (lw_at lw_m3 160 rfl) rfl
theorem q770 : (Jvm.Cond.publicMethod ({ cls := "java/util/ImmutableCollections$ListN", name := "size", desc := "()I" } : Jvm.MethodName)) ∈ lw_tbl := lw_at lw_m3 161 rfl
theorem q771 : (Jvm.Cond.code ({ cls := "java/util/ImmutableCollections$ListN", name := "size", desc := "()I" } : Jvm.MethodName) prog_54_method_3_code (1 : Nat) (Option.some Jvm.ClassFile.FieldType.int)) ∈ lw_all := lw_g (lw_at lw_m3 162 rfl) rfl
theorem q802 : (Jvm.Cond.selects "java/util/ImmutableCollections$ListN" ({ cls := "java/util/List", name := "get", desc := "(I)Ljava/lang/Object;" } : Jvm.MethodName) ({ cls := "java/util/ImmutableCollections$ListN", name := "get", desc := "(I)Ljava/lang/Object;" } : Jvm.MethodName)) ∈ lw_all := lw_g (lw_at lw_m3 193 rfl) rfl
theorem q803 : (Jvm.Cond.unhidden "java/util/ImmutableCollections$ListN" "get" "(I)Ljava/lang/Object;") ∈ lw_tbl := lw_at lw_m3 194 rfl
theorem q804 : (Jvm.Cond.instanceMethod ({ cls := "java/util/ImmutableCollections$ListN", name := "get", desc := "(I)Ljava/lang/Object;" } : Jvm.MethodName)) ∈ lw_all := lw_g (lw_at lw_m3 195 rfl) rfl
theorem q805 : (Jvm.Cond.publicMethod ({ cls := "java/util/ImmutableCollections$ListN", name := "get", desc := "(I)Ljava/lang/Object;" } : Jvm.MethodName)) ∈ lw_tbl := lw_at lw_m3 196 rfl
theorem q806 : (Jvm.Cond.code ({ cls := "java/util/ImmutableCollections$ListN", name := "get", desc := "(I)Ljava/lang/Object;" } : Jvm.MethodName) prog_54_method_4_code (2 : Nat) (Option.some (Jvm.ClassFile.FieldType.object "java/lang/Object"))) ∈ lw_all := lw_g (lw_at lw_m3 197 rfl) rfl
theorem q2679 : (Jvm.Cond.selects "java/util/ImmutableCollections$ListN" ({ cls := "java/util/AbstractCollection", name := "size", desc := "()I" } : Jvm.MethodName) ({ cls := "java/util/ImmutableCollections$ListN", name := "size", desc := "()I" } : Jvm.MethodName)) ∈ lw_all := lw_g (lw_at lw_m11 150 rfl) rfl
theorem q2686 : (Jvm.Cond.castable "java/util/ImmutableCollections$ListN" "java/lang/Object") ∈ lw_tbl := lw_at lw_m11 157 rfl
theorem in_J10 : ∀ w ∈ wsJ100, w ∈ lw_all := lw_in wsJ100 [355, 357] (by decide +kernel) (by decide +kernel)
/-! java/util/AbstractList -/
set_option maxRecDepth 100000
def RJ11 : String := "java/util/AbstractList"
abbrev cJ11_init : ByteArray := prog_37_method_1_code
def yJ11_init : MethodName := ⟨RJ11, "<init>", "()V"⟩
def dkwJ11_init_0 : List UInt8 := [42, 183, 0, 1, 42, 3, 181, 0, 7, 177]
abbrev dktJ11_init_0 : List UInt8 := dkwJ11_init_0 ++ []
theorem dksJ11_init_0 : cJ11_init.data.toList.drop 0 = dktJ11_init_0 := by decide +kernel
theorem dJ11_init_0 : decode cJ11_init 0 = .ok (.aload_n 0, 1) := dk_42 (dk_at dksJ11_init_0 0 rfl rfl)
theorem dJ11_init_1 : decode cJ11_init 1 = .ok (.invokespecial 1, 3) := dk_183 0 1 (dk_at dksJ11_init_0 1 rfl rfl)
theorem dJ11_init_4 : decode cJ11_init 4 = .ok (.aload_n 0, 1) := dk_42 (dk_at dksJ11_init_0 4 rfl rfl)
theorem dJ11_init_5 : decode cJ11_init 5 = .ok (.iconst 0, 1) := dk_3 (dk_at dksJ11_init_0 5 rfl rfl)
theorem dJ11_init_6 : decode cJ11_init 6 = .ok (.putfield 7, 3) := dk_181 0 7 (dk_at dksJ11_init_0 6 rfl rfl)
theorem dJ11_init_9 : decode cJ11_init 9 = .ok (.return_, 1) := dk_177 (dk_at dksJ11_init_0 9 rfl rfl)
abbrev cJ11_listIterator : ByteArray := prog_37_method_12_code
def yJ11_listIterator : MethodName := ⟨RJ11, "listIterator", "()Ljava/util/ListIterator;"⟩
def dkwJ11_listIterator_0 : List UInt8 := [42, 3, 182, 0, 47, 176]
abbrev dktJ11_listIterator_0 : List UInt8 := dkwJ11_listIterator_0 ++ []
theorem dksJ11_listIterator_0 : cJ11_listIterator.data.toList.drop 0 = dktJ11_listIterator_0 := by decide +kernel
theorem dJ11_listIterator_0 : decode cJ11_listIterator 0 = .ok (.aload_n 0, 1) := dk_42 (dk_at dksJ11_listIterator_0 0 rfl rfl)
theorem dJ11_listIterator_1 : decode cJ11_listIterator 1 = .ok (.iconst 0, 1) := dk_3 (dk_at dksJ11_listIterator_0 1 rfl rfl)
theorem dJ11_listIterator_2 : decode cJ11_listIterator 2 = .ok (.invokevirtual 47, 3) := dk_182 0 47 (dk_at dksJ11_listIterator_0 2 rfl rfl)
theorem dJ11_listIterator_5 : decode cJ11_listIterator 5 = .ok (.areturn, 1) := dk_176 (dk_at dksJ11_listIterator_0 5 rfl rfl)
theorem q146 : (Jvm.Cond.initialized "java/util/AbstractList") ∈ lw_all := lw_g (lw_at lw_m1 17 rfl) rfl
theorem q412 : (Jvm.Cond.instanceMethod ({ cls := "java/util/AbstractList", name := "<init>", desc := "()V" } : Jvm.MethodName)) ∈ lw_all := lw_g (lw_at lw_m2 43 rfl) rfl
theorem q413 : (Jvm.Cond.code ({ cls := "java/util/AbstractList", name := "<init>", desc := "()V" } : Jvm.MethodName) prog_37_method_1_code (1 : Nat) (Option.none : Option Jvm.ClassFile.FieldType)) ∈ lw_all := lw_g (lw_at lw_m2 44 rfl) rfl
theorem q414 : (Jvm.Cond.methodLink "java/util/AbstractList" (1 : Nat) ({ cls := "java/util/AbstractCollection", name := "<init>", desc := "()V" } : Jvm.MethodName)) ∈ lw_all := lw_g (lw_at lw_m2 45 rfl) rfl
theorem q419 : (Jvm.Cond.fieldLink "java/util/AbstractList" (7 : Nat) "java/util/AbstractList" "modCount" "I") ∈ lw_all := lw_g (lw_at lw_m2 50 rfl) rfl
theorem q434 : (Jvm.Cond.soleField "java/util/AbstractList" "modCount") ∈ lw_all := lw_g (lw_at lw_m2 65 rfl) rfl
theorem q1081 : (Jvm.Cond.declares ({ cls := "java/util/AbstractList", name := "listIterator", desc := "()Ljava/util/ListIterator;" } : Jvm.MethodName)) ∈ lw_tbl := lw_at lw_m4 232 rfl
theorem q1083 : (Jvm.Cond.instanceMethod ({ cls := "java/util/AbstractList", name := "listIterator", desc := "()Ljava/util/ListIterator;" } : Jvm.MethodName)) ∈ lw_all := lw_g (lw_at lw_m4 234 rfl) rfl
theorem q1084 : (Jvm.Cond.code ({ cls := "java/util/AbstractList", name := "listIterator", desc := "()Ljava/util/ListIterator;" } : Jvm.MethodName) prog_37_method_12_code (1 : Nat) (Option.some (Jvm.ClassFile.FieldType.object "java/util/ListIterator"))) ∈ lw_all := lw_g (lw_at lw_m4 235 rfl) rfl
theorem q1085 : (Jvm.Cond.methodLink "java/util/AbstractList" (47 : Nat) ({ cls := "java/util/AbstractList", name := "listIterator", desc := "(I)Ljava/util/ListIterator;" } : Jvm.MethodName)) ∈ lw_all := lw_g (lw_at lw_m4 236 rfl) rfl
theorem q1086 : (Jvm.Cond.instanceMethod ({ cls := "java/util/AbstractList", name := "listIterator", desc := "(I)Ljava/util/ListIterator;" } : Jvm.MethodName)) ∈ lw_all := lw_g (lw_at lw_m4 237 rfl) rfl
theorem q1087 : (Jvm.Cond.sameMethod "java/util/AbstractList" "java/util/AbstractList" "listIterator" "(I)Ljava/util/ListIterator;") ∈ lw_all := lw_g (lw_at lw_m4 238 rfl) rfl
theorem q1156 : (Jvm.Cond.declares ({ cls := "java/util/AbstractList", name := "listIterator", desc := "(I)Ljava/util/ListIterator;" } : Jvm.MethodName)) ∈ lw_tbl := lw_at lw_m5 67 rfl
theorem q1168 : (Jvm.Cond.sameMethod "java/util/AbstractList" "java/util/AbstractCollection" "size" "()I") ∈ lw_all := lw_g (lw_at lw_m5 79 rfl) rfl
theorem q1199 : (Jvm.Cond.declares ({ cls := "java/util/AbstractList", name := "get", desc := "(I)Ljava/lang/Object;" } : Jvm.MethodName)) ∈ lw_tbl := lw_at lw_m5 110 rfl
theorem q1200 : (Jvm.Cond.sameMethod "java/util/AbstractList" "java/util/AbstractList" "get" "(I)Ljava/lang/Object;") ∈ lw_all := lw_g (lw_at lw_m5 111 rfl) rfl
/-! java/util/AbstractSequentialList -/
set_option maxRecDepth 100000
def RJ12 : String := "java/util/AbstractSequentialList"
abbrev cJ12_init : ByteArray := prog_40_method_1_code
def yJ12_init : MethodName := ⟨RJ12, "<init>", "()V"⟩
theorem dJ12_init_0 : decode cJ12_init 0 = .ok (.aload_n 0, 1) := by decide +kernel
theorem dJ12_init_1 : decode cJ12_init 1 = .ok (.invokespecial 1, 3) := by decide +kernel
theorem dJ12_init_4 : decode cJ12_init 4 = .ok (.return_, 1) := by decide +kernel
abbrev cJ12_iterator : ByteArray := prog_40_method_7_code
def yJ12_iterator : MethodName := ⟨RJ12, "iterator", "()Ljava/util/Iterator;"⟩
theorem dJ12_iterator_0 : decode cJ12_iterator 0 = .ok (.aload_n 0, 1) := by decide +kernel
theorem dJ12_iterator_1 : decode cJ12_iterator 1 = .ok (.invokevirtual 65, 3) := by decide +kernel
theorem dJ12_iterator_4 : decode cJ12_iterator 4 = .ok (.areturn, 1) := by decide +kernel
theorem q147 : (Jvm.Cond.initialized "java/util/AbstractSequentialList") ∈ lw_all := lw_g (lw_at lw_m1 18 rfl) rfl
theorem q409 : (Jvm.Cond.instanceMethod ({ cls := "java/util/AbstractSequentialList", name := "<init>", desc := "()V" } : Jvm.MethodName)) ∈ lw_all := lw_g (lw_at lw_m2 40 rfl) rfl
theorem q410 : (Jvm.Cond.code ({ cls := "java/util/AbstractSequentialList", name := "<init>", desc := "()V" } : Jvm.MethodName) prog_40_method_1_code (1 : Nat) (Option.none : Option Jvm.ClassFile.FieldType)) ∈ lw_all := lw_g (lw_at lw_m2 41 rfl) rfl
theorem q411 : (Jvm.Cond.methodLink "java/util/AbstractSequentialList" (1 : Nat) ({ cls := "java/util/AbstractList", name := "<init>", desc := "()V" } : Jvm.MethodName)) ∈ lw_all := lw_g (lw_at lw_m2 42 rfl) rfl
theorem q1075 : (Jvm.Cond.declares ({ cls := "java/util/AbstractSequentialList", name := "iterator", desc := "()Ljava/util/Iterator;" } : Jvm.MethodName)) ∈ lw_tbl := lw_at lw_m4 226 rfl
theorem q1077 : (Jvm.Cond.instanceMethod ({ cls := "java/util/AbstractSequentialList", name := "iterator", desc := "()Ljava/util/Iterator;" } : Jvm.MethodName)) ∈ lw_all := lw_g (lw_at lw_m4 228 rfl) rfl
theorem q1078 : (Jvm.Cond.code ({ cls := "java/util/AbstractSequentialList", name := "iterator", desc := "()Ljava/util/Iterator;" } : Jvm.MethodName) prog_40_method_7_code (1 : Nat) (Option.some (Jvm.ClassFile.FieldType.object "java/util/Iterator"))) ∈ lw_all := lw_g (lw_at lw_m4 229 rfl) rfl
theorem q1079 : (Jvm.Cond.methodLink "java/util/AbstractSequentialList" (65 : Nat) ({ cls := "java/util/AbstractSequentialList", name := "listIterator", desc := "()Ljava/util/ListIterator;" } : Jvm.MethodName)) ∈ lw_all := lw_g (lw_at lw_m4 230 rfl) rfl
theorem q1080 : (Jvm.Cond.sameMethod "java/util/AbstractSequentialList" "java/util/AbstractList" "listIterator" "()Ljava/util/ListIterator;") ∈ lw_all := lw_g (lw_at lw_m4 231 rfl) rfl
/-! java/util/LinkedList -/
set_option maxRecDepth 100000
def RJ13 : String := "java/util/LinkedList"
def TJ13 : u_T := fun k => match k with
  | 0 => ("java/util/AbstractList", "modCount", "I", false)
  | 1 => ("java/util/LinkedList", "size", "I", false)
  | 2 => ("java/util/LinkedList", "first", "Ljava/util/LinkedList$Node;", false)
  | _ => ("java/util/LinkedList", "last", "Ljava/util/LinkedList$Node;", false)
def tyJ13 : Nat → FieldType := fun k => match k with
  | 0 => .int
  | 1 => .int
  | 2 => .object "java/util/LinkedList$Node"
  | _ => .object "java/util/LinkedList$Node"
abbrev wsJ130 : List Cond := u_ws RJ13 TJ13 4
theorem nmJ13 : ∀ a, a < 4 → ∀ b, b < 4 → a ≠ b → (TJ13 a).2.1 ≠ (TJ13 b).2.1 := by decide +kernel
theorem tyJ13_ok : ∀ k, k < 4 → parseFieldDescriptor (TJ13 k).2.2.1 = some (tyJ13 k) := by decide +kernel
abbrev cJ13_init : ByteArray := prog_56_method_1_code
def yJ13_init : MethodName := ⟨RJ13, "<init>", "()V"⟩
def dkwJ13_init_0 : List UInt8 := [42, 183, 0, 1, 42, 3, 181, 0, 7, 177]
abbrev dktJ13_init_0 : List UInt8 := dkwJ13_init_0 ++ []
theorem dksJ13_init_0 : cJ13_init.data.toList.drop 0 = dktJ13_init_0 := by decide +kernel
theorem dJ13_init_0 : decode cJ13_init 0 = .ok (.aload_n 0, 1) := dk_42 (dk_at dksJ13_init_0 0 rfl rfl)
theorem dJ13_init_1 : decode cJ13_init 1 = .ok (.invokespecial 1, 3) := dk_183 0 1 (dk_at dksJ13_init_0 1 rfl rfl)
theorem dJ13_init_4 : decode cJ13_init 4 = .ok (.aload_n 0, 1) := dk_42 (dk_at dksJ13_init_0 4 rfl rfl)
theorem dJ13_init_5 : decode cJ13_init 5 = .ok (.iconst 0, 1) := dk_3 (dk_at dksJ13_init_0 5 rfl rfl)
theorem dJ13_init_6 : decode cJ13_init 6 = .ok (.putfield 7, 3) := dk_181 0 7 (dk_at dksJ13_init_0 6 rfl rfl)
theorem dJ13_init_9 : decode cJ13_init 9 = .ok (.return_, 1) := dk_177 (dk_at dksJ13_init_0 9 rfl rfl)
abbrev cJ13_size : ByteArray := prog_56_method_16_code
def yJ13_size : MethodName := ⟨RJ13, "size", "()I"⟩
theorem dJ13_size_0 : decode cJ13_size 0 = .ok (.aload_n 0, 1) := by decide +kernel
theorem dJ13_size_1 : decode cJ13_size 1 = .ok (.getfield 7, 3) := by decide +kernel
theorem dJ13_size_4 : decode cJ13_size 4 = .ok (.ireturn, 1) := by decide +kernel
abbrev cJ13_get : ByteArray := prog_56_method_22_code
def yJ13_get : MethodName := ⟨RJ13, "get", "(I)Ljava/lang/Object;"⟩
def dkwJ13_get_0 : List UInt8 := [42, 27, 182, 0, 90, 42, 27, 182, 0, 86, 180, 0, 39, 176]
abbrev dktJ13_get_0 : List UInt8 := dkwJ13_get_0 ++ []
theorem dksJ13_get_0 : cJ13_get.data.toList.drop 0 = dktJ13_get_0 := by decide +kernel
theorem dJ13_get_0 : decode cJ13_get 0 = .ok (.aload_n 0, 1) := dk_42 (dk_at dksJ13_get_0 0 rfl rfl)
theorem dJ13_get_1 : decode cJ13_get 1 = .ok (.iload_n 1, 1) := dk_27 (dk_at dksJ13_get_0 1 rfl rfl)
theorem dJ13_get_2 : decode cJ13_get 2 = .ok (.invokevirtual 90, 3) := dk_182 0 90 (dk_at dksJ13_get_0 2 rfl rfl)
theorem dJ13_get_5 : decode cJ13_get 5 = .ok (.aload_n 0, 1) := dk_42 (dk_at dksJ13_get_0 5 rfl rfl)
theorem dJ13_get_6 : decode cJ13_get 6 = .ok (.iload_n 1, 1) := dk_27 (dk_at dksJ13_get_0 6 rfl rfl)
theorem dJ13_get_7 : decode cJ13_get 7 = .ok (.invokevirtual 86, 3) := dk_182 0 86 (dk_at dksJ13_get_0 7 rfl rfl)
theorem dJ13_get_10 : decode cJ13_get 10 = .ok (.getfield 39, 3) := dk_180 0 39 (dk_at dksJ13_get_0 10 rfl rfl)
theorem dJ13_get_13 : decode cJ13_get 13 = .ok (.areturn, 1) := dk_176 (dk_at dksJ13_get_0 13 rfl rfl)
abbrev cJ13_checkElementIndex : ByteArray := prog_56_method_29_code
def yJ13_checkElementIndex : MethodName := ⟨RJ13, "checkElementIndex", "(I)V"⟩
def dkwJ13_checkElementIndex_0 : List UInt8 := [42, 27, 182, 0, 115, 154, 0, 16, 187, 0, 119, 89, 42, 27, 182, 0, 121, 183, 0, 125, 191, 177]
abbrev dktJ13_checkElementIndex_0 : List UInt8 := dkwJ13_checkElementIndex_0 ++ []
theorem dksJ13_checkElementIndex_0 : cJ13_checkElementIndex.data.toList.drop 0 = dktJ13_checkElementIndex_0 := by decide +kernel
theorem dJ13_checkElementIndex_0 : decode cJ13_checkElementIndex 0 = .ok (.aload_n 0, 1) := dk_42 (dk_at dksJ13_checkElementIndex_0 0 rfl rfl)
theorem dJ13_checkElementIndex_1 : decode cJ13_checkElementIndex 1 = .ok (.iload_n 1, 1) := dk_27 (dk_at dksJ13_checkElementIndex_0 1 rfl rfl)
theorem dJ13_checkElementIndex_2 : decode cJ13_checkElementIndex 2 = .ok (.invokevirtual 115, 3) := dk_182 0 115 (dk_at dksJ13_checkElementIndex_0 2 rfl rfl)
theorem dJ13_checkElementIndex_5 : decode cJ13_checkElementIndex 5 = .ok (.ifCond .ne 16, 3) := dk_154 0 16 (dk_at dksJ13_checkElementIndex_0 5 rfl rfl)
theorem dJ13_checkElementIndex_8 : decode cJ13_checkElementIndex 8 = .ok (.new 119, 3) := dk_187 0 119 (dk_at dksJ13_checkElementIndex_0 8 rfl rfl)
theorem dJ13_checkElementIndex_11 : decode cJ13_checkElementIndex 11 = .ok (.dup, 1) := dk_89 (dk_at dksJ13_checkElementIndex_0 11 rfl rfl)
theorem dJ13_checkElementIndex_12 : decode cJ13_checkElementIndex 12 = .ok (.aload_n 0, 1) := dk_42 (dk_at dksJ13_checkElementIndex_0 12 rfl rfl)
theorem dJ13_checkElementIndex_13 : decode cJ13_checkElementIndex 13 = .ok (.iload_n 1, 1) := dk_27 (dk_at dksJ13_checkElementIndex_0 13 rfl rfl)
theorem dJ13_checkElementIndex_14 : decode cJ13_checkElementIndex 14 = .ok (.invokevirtual 121, 3) := dk_182 0 121 (dk_at dksJ13_checkElementIndex_0 14 rfl rfl)
theorem dJ13_checkElementIndex_17 : decode cJ13_checkElementIndex 17 = .ok (.invokespecial 125, 3) := dk_183 0 125 (dk_at dksJ13_checkElementIndex_0 17 rfl rfl)
theorem dJ13_checkElementIndex_20 : decode cJ13_checkElementIndex 20 = .ok (.athrow, 1) := dk_191 (dk_at dksJ13_checkElementIndex_0 20 rfl rfl)
theorem dJ13_checkElementIndex_21 : decode cJ13_checkElementIndex 21 = .ok (.return_, 1) := dk_177 (dk_at dksJ13_checkElementIndex_0 21 rfl rfl)
abbrev cJ13_isElementIndex : ByteArray := prog_56_method_26_code
def yJ13_isElementIndex : MethodName := ⟨RJ13, "isElementIndex", "(I)Z"⟩
def dkwJ13_isElementIndex_0 : List UInt8 := [27, 155, 0, 15, 27, 42, 180, 0, 7, 162, 0, 7, 4, 167, 0, 4, 3, 172]
abbrev dktJ13_isElementIndex_0 : List UInt8 := dkwJ13_isElementIndex_0 ++ []
theorem dksJ13_isElementIndex_0 : cJ13_isElementIndex.data.toList.drop 0 = dktJ13_isElementIndex_0 := by decide +kernel
theorem dJ13_isElementIndex_0 : decode cJ13_isElementIndex 0 = .ok (.iload_n 1, 1) := dk_27 (dk_at dksJ13_isElementIndex_0 0 rfl rfl)
theorem dJ13_isElementIndex_1 : decode cJ13_isElementIndex 1 = .ok (.ifCond .lt 15, 3) := dk_155 0 15 (dk_at dksJ13_isElementIndex_0 1 rfl rfl)
theorem dJ13_isElementIndex_4 : decode cJ13_isElementIndex 4 = .ok (.iload_n 1, 1) := dk_27 (dk_at dksJ13_isElementIndex_0 4 rfl rfl)
theorem dJ13_isElementIndex_5 : decode cJ13_isElementIndex 5 = .ok (.aload_n 0, 1) := dk_42 (dk_at dksJ13_isElementIndex_0 5 rfl rfl)
theorem dJ13_isElementIndex_6 : decode cJ13_isElementIndex 6 = .ok (.getfield 7, 3) := dk_180 0 7 (dk_at dksJ13_isElementIndex_0 6 rfl rfl)
theorem dJ13_isElementIndex_9 : decode cJ13_isElementIndex 9 = .ok (.if_icmp .ge 7, 3) := dk_162 0 7 (dk_at dksJ13_isElementIndex_0 9 rfl rfl)
theorem dJ13_isElementIndex_12 : decode cJ13_isElementIndex 12 = .ok (.iconst 1, 1) := dk_4 (dk_at dksJ13_isElementIndex_0 12 rfl rfl)
theorem dJ13_isElementIndex_13 : decode cJ13_isElementIndex 13 = .ok (.goto 4, 3) := dk_167 0 4 (dk_at dksJ13_isElementIndex_0 13 rfl rfl)
theorem dJ13_isElementIndex_16 : decode cJ13_isElementIndex 16 = .ok (.iconst 0, 1) := dk_3 (dk_at dksJ13_isElementIndex_0 16 rfl rfl)
theorem dJ13_isElementIndex_17 : decode cJ13_isElementIndex 17 = .ok (.ireturn, 1) := dk_172 (dk_at dksJ13_isElementIndex_0 17 rfl rfl)
abbrev cJ13_node : ByteArray := prog_56_method_31_code
def yJ13_node : MethodName := ⟨RJ13, "node", "(I)Ljava/util/LinkedList$Node;"⟩
def dkwJ13_node_2 : List UInt8 := [29, 27, 164, 0, 14, 44, 180, 0, 30, 77, 132, 3, 255, 167, 255, 243, 44, 176]
abbrev dktJ13_node_2 : List UInt8 := dkwJ13_node_2 ++ []
def dkwJ13_node_1 : List UInt8 := [180, 0, 36, 77, 132, 3, 1, 167, 255, 243, 44, 176, 42, 180, 0, 27, 77, 42, 180, 0, 7, 4, 100, 62]
abbrev dktJ13_node_1 : List UInt8 := dkwJ13_node_1 ++ dktJ13_node_2
def dkwJ13_node_0 : List UInt8 := [27, 42, 180, 0, 7, 4, 122, 162, 0, 28, 42, 180, 0, 18, 77, 3, 62, 29, 27, 162, 0, 14, 44]
abbrev dktJ13_node_0 : List UInt8 := dkwJ13_node_0 ++ dktJ13_node_1
theorem dksJ13_node_0 : cJ13_node.data.toList.drop 0 = dktJ13_node_0 := by decide +kernel
theorem dksJ13_node_1 : cJ13_node.data.toList.drop 23 = dktJ13_node_1 := dk_seg dksJ13_node_0 23 rfl rfl
theorem dksJ13_node_2 : cJ13_node.data.toList.drop 47 = dktJ13_node_2 := dk_seg dksJ13_node_1 24 rfl rfl
theorem dJ13_node_0 : decode cJ13_node 0 = .ok (.iload_n 1, 1) := dk_27 (dk_at dksJ13_node_0 0 rfl rfl)
theorem dJ13_node_1 : decode cJ13_node 1 = .ok (.aload_n 0, 1) := dk_42 (dk_at dksJ13_node_0 1 rfl rfl)
theorem dJ13_node_2 : decode cJ13_node 2 = .ok (.getfield 7, 3) := dk_180 0 7 (dk_at dksJ13_node_0 2 rfl rfl)
theorem dJ13_node_5 : decode cJ13_node 5 = .ok (.iconst 1, 1) := dk_4 (dk_at dksJ13_node_0 5 rfl rfl)
theorem dJ13_node_6 : decode cJ13_node 6 = .ok (.ishr, 1) := dk_122 (dk_at dksJ13_node_0 6 rfl rfl)
theorem dJ13_node_7 : decode cJ13_node 7 = .ok (.if_icmp .ge 28, 3) := dk_162 0 28 (dk_at dksJ13_node_0 7 rfl rfl)
theorem dJ13_node_10 : decode cJ13_node 10 = .ok (.aload_n 0, 1) := dk_42 (dk_at dksJ13_node_0 10 rfl rfl)
theorem dJ13_node_11 : decode cJ13_node 11 = .ok (.getfield 18, 3) := dk_180 0 18 (dk_at dksJ13_node_0 11 rfl rfl)
theorem dJ13_node_14 : decode cJ13_node 14 = .ok (.astore_n 2, 1) := dk_77 (dk_at dksJ13_node_0 14 rfl rfl)
theorem dJ13_node_15 : decode cJ13_node 15 = .ok (.iconst 0, 1) := dk_3 (dk_at dksJ13_node_0 15 rfl rfl)
theorem dJ13_node_16 : decode cJ13_node 16 = .ok (.istore_n 3, 1) := dk_62 (dk_at dksJ13_node_0 16 rfl rfl)
theorem dJ13_node_17 : decode cJ13_node 17 = .ok (.iload_n 3, 1) := dk_29 (dk_at dksJ13_node_0 17 rfl rfl)
theorem dJ13_node_18 : decode cJ13_node 18 = .ok (.iload_n 1, 1) := dk_27 (dk_at dksJ13_node_0 18 rfl rfl)
theorem dJ13_node_19 : decode cJ13_node 19 = .ok (.if_icmp .ge 14, 3) := dk_162 0 14 (dk_at dksJ13_node_0 19 rfl rfl)
theorem dJ13_node_22 : decode cJ13_node 22 = .ok (.aload_n 2, 1) := dk_44 (dk_at dksJ13_node_0 22 rfl rfl)
theorem dJ13_node_23 : decode cJ13_node 23 = .ok (.getfield 36, 3) := dk_180 0 36 (dk_at dksJ13_node_1 0 rfl rfl)
theorem dJ13_node_26 : decode cJ13_node 26 = .ok (.astore_n 2, 1) := dk_77 (dk_at dksJ13_node_1 3 rfl rfl)
theorem dJ13_node_27 : decode cJ13_node 27 = .ok (.iinc 3 1, 3) := dk_132 3 1 (dk_at dksJ13_node_1 4 rfl rfl)
theorem dJ13_node_30 : decode cJ13_node 30 = .ok (.goto (-13), 3) := dk_167 255 243 (dk_at dksJ13_node_1 7 rfl rfl)
theorem dJ13_node_33 : decode cJ13_node 33 = .ok (.aload_n 2, 1) := dk_44 (dk_at dksJ13_node_1 10 rfl rfl)
theorem dJ13_node_34 : decode cJ13_node 34 = .ok (.areturn, 1) := dk_176 (dk_at dksJ13_node_1 11 rfl rfl)
theorem dJ13_node_35 : decode cJ13_node 35 = .ok (.aload_n 0, 1) := dk_42 (dk_at dksJ13_node_1 12 rfl rfl)
theorem dJ13_node_36 : decode cJ13_node 36 = .ok (.getfield 27, 3) := dk_180 0 27 (dk_at dksJ13_node_1 13 rfl rfl)
theorem dJ13_node_39 : decode cJ13_node 39 = .ok (.astore_n 2, 1) := dk_77 (dk_at dksJ13_node_1 16 rfl rfl)
theorem dJ13_node_40 : decode cJ13_node 40 = .ok (.aload_n 0, 1) := dk_42 (dk_at dksJ13_node_1 17 rfl rfl)
theorem dJ13_node_41 : decode cJ13_node 41 = .ok (.getfield 7, 3) := dk_180 0 7 (dk_at dksJ13_node_1 18 rfl rfl)
theorem dJ13_node_44 : decode cJ13_node 44 = .ok (.iconst 1, 1) := dk_4 (dk_at dksJ13_node_1 21 rfl rfl)
theorem dJ13_node_45 : decode cJ13_node 45 = .ok (.isub, 1) := dk_100 (dk_at dksJ13_node_1 22 rfl rfl)
theorem dJ13_node_46 : decode cJ13_node 46 = .ok (.istore_n 3, 1) := dk_62 (dk_at dksJ13_node_1 23 rfl rfl)
theorem dJ13_node_47 : decode cJ13_node 47 = .ok (.iload_n 3, 1) := dk_29 (dk_at dksJ13_node_2 0 rfl rfl)
theorem dJ13_node_48 : decode cJ13_node 48 = .ok (.iload_n 1, 1) := dk_27 (dk_at dksJ13_node_2 1 rfl rfl)
theorem dJ13_node_49 : decode cJ13_node 49 = .ok (.if_icmp .le 14, 3) := dk_164 0 14 (dk_at dksJ13_node_2 2 rfl rfl)
theorem dJ13_node_52 : decode cJ13_node 52 = .ok (.aload_n 2, 1) := dk_44 (dk_at dksJ13_node_2 5 rfl rfl)
theorem dJ13_node_53 : decode cJ13_node 53 = .ok (.getfield 30, 3) := dk_180 0 30 (dk_at dksJ13_node_2 6 rfl rfl)
theorem dJ13_node_56 : decode cJ13_node 56 = .ok (.astore_n 2, 1) := dk_77 (dk_at dksJ13_node_2 9 rfl rfl)
theorem dJ13_node_57 : decode cJ13_node 57 = .ok (.iinc 3 (-1), 3) := dk_132 3 255 (dk_at dksJ13_node_2 10 rfl rfl)
theorem dJ13_node_60 : decode cJ13_node 60 = .ok (.goto (-13), 3) := dk_167 255 243 (dk_at dksJ13_node_2 13 rfl rfl)
theorem dJ13_node_63 : decode cJ13_node 63 = .ok (.aload_n 2, 1) := dk_44 (dk_at dksJ13_node_2 16 rfl rfl)
theorem dJ13_node_64 : decode cJ13_node 64 = .ok (.areturn, 1) := dk_176 (dk_at dksJ13_node_2 17 rfl rfl)
abbrev cJ13_clear : ByteArray := prog_56_method_21_code
def yJ13_clear : MethodName := ⟨RJ13, "clear", "()V"⟩
def dkwJ13_clear_2 : List UInt8 := [181, 0, 7, 42, 89, 180, 0, 33, 4, 96, 181, 0, 33, 177]
abbrev dktJ13_clear_2 : List UInt8 := dkwJ13_clear_2 ++ []
def dkwJ13_clear_1 : List UInt8 := [43, 1, 181, 0, 30, 44, 76, 167, 255, 230, 42, 42, 1, 90, 181, 0, 27, 181, 0, 18, 42, 3]
abbrev dktJ13_clear_1 : List UInt8 := dkwJ13_clear_1 ++ dktJ13_clear_2
def dkwJ13_clear_0 : List UInt8 := [42, 180, 0, 18, 76, 43, 198, 0, 28, 43, 180, 0, 36, 77, 43, 1, 181, 0, 39, 43, 1, 181, 0, 36]
abbrev dktJ13_clear_0 : List UInt8 := dkwJ13_clear_0 ++ dktJ13_clear_1
theorem dksJ13_clear_0 : cJ13_clear.data.toList.drop 0 = dktJ13_clear_0 := by decide +kernel
theorem dksJ13_clear_1 : cJ13_clear.data.toList.drop 24 = dktJ13_clear_1 := dk_seg dksJ13_clear_0 24 rfl rfl
theorem dksJ13_clear_2 : cJ13_clear.data.toList.drop 46 = dktJ13_clear_2 := dk_seg dksJ13_clear_1 22 rfl rfl
theorem dJ13_clear_0 : decode cJ13_clear 0 = .ok (.aload_n 0, 1) := dk_42 (dk_at dksJ13_clear_0 0 rfl rfl)
theorem dJ13_clear_1 : decode cJ13_clear 1 = .ok (.getfield 18, 3) := dk_180 0 18 (dk_at dksJ13_clear_0 1 rfl rfl)
theorem dJ13_clear_4 : decode cJ13_clear 4 = .ok (.astore_n 1, 1) := dk_76 (dk_at dksJ13_clear_0 4 rfl rfl)
theorem dJ13_clear_5 : decode cJ13_clear 5 = .ok (.aload_n 1, 1) := dk_43 (dk_at dksJ13_clear_0 5 rfl rfl)
theorem dJ13_clear_6 : decode cJ13_clear 6 = .ok (.ifnull 28, 3) := dk_198 0 28 (dk_at dksJ13_clear_0 6 rfl rfl)
theorem dJ13_clear_9 : decode cJ13_clear 9 = .ok (.aload_n 1, 1) := dk_43 (dk_at dksJ13_clear_0 9 rfl rfl)
theorem dJ13_clear_10 : decode cJ13_clear 10 = .ok (.getfield 36, 3) := dk_180 0 36 (dk_at dksJ13_clear_0 10 rfl rfl)
theorem dJ13_clear_13 : decode cJ13_clear 13 = .ok (.astore_n 2, 1) := dk_77 (dk_at dksJ13_clear_0 13 rfl rfl)
theorem dJ13_clear_14 : decode cJ13_clear 14 = .ok (.aload_n 1, 1) := dk_43 (dk_at dksJ13_clear_0 14 rfl rfl)
theorem dJ13_clear_15 : decode cJ13_clear 15 = .ok (.aconst_null, 1) := dk_1 (dk_at dksJ13_clear_0 15 rfl rfl)
theorem dJ13_clear_16 : decode cJ13_clear 16 = .ok (.putfield 39, 3) := dk_181 0 39 (dk_at dksJ13_clear_0 16 rfl rfl)
theorem dJ13_clear_19 : decode cJ13_clear 19 = .ok (.aload_n 1, 1) := dk_43 (dk_at dksJ13_clear_0 19 rfl rfl)
theorem dJ13_clear_20 : decode cJ13_clear 20 = .ok (.aconst_null, 1) := dk_1 (dk_at dksJ13_clear_0 20 rfl rfl)
theorem dJ13_clear_21 : decode cJ13_clear 21 = .ok (.putfield 36, 3) := dk_181 0 36 (dk_at dksJ13_clear_0 21 rfl rfl)
theorem dJ13_clear_24 : decode cJ13_clear 24 = .ok (.aload_n 1, 1) := dk_43 (dk_at dksJ13_clear_1 0 rfl rfl)
theorem dJ13_clear_25 : decode cJ13_clear 25 = .ok (.aconst_null, 1) := dk_1 (dk_at dksJ13_clear_1 1 rfl rfl)
theorem dJ13_clear_26 : decode cJ13_clear 26 = .ok (.putfield 30, 3) := dk_181 0 30 (dk_at dksJ13_clear_1 2 rfl rfl)
theorem dJ13_clear_29 : decode cJ13_clear 29 = .ok (.aload_n 2, 1) := dk_44 (dk_at dksJ13_clear_1 5 rfl rfl)
theorem dJ13_clear_30 : decode cJ13_clear 30 = .ok (.astore_n 1, 1) := dk_76 (dk_at dksJ13_clear_1 6 rfl rfl)
theorem dJ13_clear_31 : decode cJ13_clear 31 = .ok (.goto (-26), 3) := dk_167 255 230 (dk_at dksJ13_clear_1 7 rfl rfl)
theorem dJ13_clear_34 : decode cJ13_clear 34 = .ok (.aload_n 0, 1) := dk_42 (dk_at dksJ13_clear_1 10 rfl rfl)
theorem dJ13_clear_35 : decode cJ13_clear 35 = .ok (.aload_n 0, 1) := dk_42 (dk_at dksJ13_clear_1 11 rfl rfl)
theorem dJ13_clear_36 : decode cJ13_clear 36 = .ok (.aconst_null, 1) := dk_1 (dk_at dksJ13_clear_1 12 rfl rfl)
theorem dJ13_clear_37 : decode cJ13_clear 37 = .ok (.dup_x1, 1) := dk_90 (dk_at dksJ13_clear_1 13 rfl rfl)
theorem dJ13_clear_38 : decode cJ13_clear 38 = .ok (.putfield 27, 3) := dk_181 0 27 (dk_at dksJ13_clear_1 14 rfl rfl)
theorem dJ13_clear_41 : decode cJ13_clear 41 = .ok (.putfield 18, 3) := dk_181 0 18 (dk_at dksJ13_clear_1 17 rfl rfl)
theorem dJ13_clear_44 : decode cJ13_clear 44 = .ok (.aload_n 0, 1) := dk_42 (dk_at dksJ13_clear_1 20 rfl rfl)
theorem dJ13_clear_45 : decode cJ13_clear 45 = .ok (.iconst 0, 1) := dk_3 (dk_at dksJ13_clear_1 21 rfl rfl)
theorem dJ13_clear_46 : decode cJ13_clear 46 = .ok (.putfield 7, 3) := dk_181 0 7 (dk_at dksJ13_clear_2 0 rfl rfl)
theorem dJ13_clear_49 : decode cJ13_clear 49 = .ok (.aload_n 0, 1) := dk_42 (dk_at dksJ13_clear_2 3 rfl rfl)
theorem dJ13_clear_50 : decode cJ13_clear 50 = .ok (.dup, 1) := dk_89 (dk_at dksJ13_clear_2 4 rfl rfl)
theorem dJ13_clear_51 : decode cJ13_clear 51 = .ok (.getfield 33, 3) := dk_180 0 33 (dk_at dksJ13_clear_2 5 rfl rfl)
theorem dJ13_clear_54 : decode cJ13_clear 54 = .ok (.iconst 1, 1) := dk_4 (dk_at dksJ13_clear_2 8 rfl rfl)
theorem dJ13_clear_55 : decode cJ13_clear 55 = .ok (.iadd, 1) := dk_96 (dk_at dksJ13_clear_2 9 rfl rfl)
theorem dJ13_clear_56 : decode cJ13_clear 56 = .ok (.putfield 33, 3) := dk_181 0 33 (dk_at dksJ13_clear_2 10 rfl rfl)
theorem dJ13_clear_59 : decode cJ13_clear 59 = .ok (.return_, 1) := dk_177 (dk_at dksJ13_clear_2 13 rfl rfl)
abbrev cJ13_addLast : ByteArray := prog_56_method_14_code
def yJ13_addLast : MethodName := ⟨RJ13, "addLast", "(Ljava/lang/Object;)V"⟩
def dkwJ13_addLast_0 : List UInt8 := [42, 43, 182, 0, 57, 177]
abbrev dktJ13_addLast_0 : List UInt8 := dkwJ13_addLast_0 ++ []
theorem dksJ13_addLast_0 : cJ13_addLast.data.toList.drop 0 = dktJ13_addLast_0 := by decide +kernel
theorem dJ13_addLast_0 : decode cJ13_addLast 0 = .ok (.aload_n 0, 1) := dk_42 (dk_at dksJ13_addLast_0 0 rfl rfl)
theorem dJ13_addLast_1 : decode cJ13_addLast 1 = .ok (.aload_n 1, 1) := dk_43 (dk_at dksJ13_addLast_0 1 rfl rfl)
theorem dJ13_addLast_2 : decode cJ13_addLast 2 = .ok (.invokevirtual 57, 3) := dk_182 0 57 (dk_at dksJ13_addLast_0 2 rfl rfl)
theorem dJ13_addLast_5 : decode cJ13_addLast 5 = .ok (.return_, 1) := dk_177 (dk_at dksJ13_addLast_0 5 rfl rfl)
abbrev cJ13_linkLast : ByteArray := prog_56_method_4_code
def yJ13_linkLast : MethodName := ⟨RJ13, "linkLast", "(Ljava/lang/Object;)V"⟩
def dkwJ13_linkLast_2 : List UInt8 := [181, 0, 7, 42, 89, 180, 0, 33, 4, 96, 181, 0, 33, 177]
abbrev dktJ13_linkLast_2 : List UInt8 := dkwJ13_linkLast_2 ++ []
def dkwJ13_linkLast_1 : List UInt8 := [199, 0, 11, 42, 45, 181, 0, 18, 167, 0, 8, 44, 45, 181, 0, 36, 42, 89, 180, 0, 7, 4, 96]
abbrev dktJ13_linkLast_1 : List UInt8 := dkwJ13_linkLast_1 ++ dktJ13_linkLast_2
def dkwJ13_linkLast_0 : List UInt8 := [42, 180, 0, 27, 77, 187, 0, 22, 89, 44, 43, 1, 183, 0, 24, 78, 42, 45, 181, 0, 27, 44]
abbrev dktJ13_linkLast_0 : List UInt8 := dkwJ13_linkLast_0 ++ dktJ13_linkLast_1
theorem dksJ13_linkLast_0 : cJ13_linkLast.data.toList.drop 0 = dktJ13_linkLast_0 := by decide +kernel
theorem dksJ13_linkLast_1 : cJ13_linkLast.data.toList.drop 22 = dktJ13_linkLast_1 := dk_seg dksJ13_linkLast_0 22 rfl rfl
theorem dksJ13_linkLast_2 : cJ13_linkLast.data.toList.drop 45 = dktJ13_linkLast_2 := dk_seg dksJ13_linkLast_1 23 rfl rfl
theorem dJ13_linkLast_0 : decode cJ13_linkLast 0 = .ok (.aload_n 0, 1) := dk_42 (dk_at dksJ13_linkLast_0 0 rfl rfl)
theorem dJ13_linkLast_1 : decode cJ13_linkLast 1 = .ok (.getfield 27, 3) := dk_180 0 27 (dk_at dksJ13_linkLast_0 1 rfl rfl)
theorem dJ13_linkLast_4 : decode cJ13_linkLast 4 = .ok (.astore_n 2, 1) := dk_77 (dk_at dksJ13_linkLast_0 4 rfl rfl)
theorem dJ13_linkLast_5 : decode cJ13_linkLast 5 = .ok (.new 22, 3) := dk_187 0 22 (dk_at dksJ13_linkLast_0 5 rfl rfl)
theorem dJ13_linkLast_8 : decode cJ13_linkLast 8 = .ok (.dup, 1) := dk_89 (dk_at dksJ13_linkLast_0 8 rfl rfl)
theorem dJ13_linkLast_9 : decode cJ13_linkLast 9 = .ok (.aload_n 2, 1) := dk_44 (dk_at dksJ13_linkLast_0 9 rfl rfl)
theorem dJ13_linkLast_10 : decode cJ13_linkLast 10 = .ok (.aload_n 1, 1) := dk_43 (dk_at dksJ13_linkLast_0 10 rfl rfl)
theorem dJ13_linkLast_11 : decode cJ13_linkLast 11 = .ok (.aconst_null, 1) := dk_1 (dk_at dksJ13_linkLast_0 11 rfl rfl)
theorem dJ13_linkLast_12 : decode cJ13_linkLast 12 = .ok (.invokespecial 24, 3) := dk_183 0 24 (dk_at dksJ13_linkLast_0 12 rfl rfl)
theorem dJ13_linkLast_15 : decode cJ13_linkLast 15 = .ok (.astore_n 3, 1) := dk_78 (dk_at dksJ13_linkLast_0 15 rfl rfl)
theorem dJ13_linkLast_16 : decode cJ13_linkLast 16 = .ok (.aload_n 0, 1) := dk_42 (dk_at dksJ13_linkLast_0 16 rfl rfl)
theorem dJ13_linkLast_17 : decode cJ13_linkLast 17 = .ok (.aload_n 3, 1) := dk_45 (dk_at dksJ13_linkLast_0 17 rfl rfl)
theorem dJ13_linkLast_18 : decode cJ13_linkLast 18 = .ok (.putfield 27, 3) := dk_181 0 27 (dk_at dksJ13_linkLast_0 18 rfl rfl)
theorem dJ13_linkLast_21 : decode cJ13_linkLast 21 = .ok (.aload_n 2, 1) := dk_44 (dk_at dksJ13_linkLast_0 21 rfl rfl)
theorem dJ13_linkLast_22 : decode cJ13_linkLast 22 = .ok (.ifnonnull 11, 3) := dk_199 0 11 (dk_at dksJ13_linkLast_1 0 rfl rfl)
theorem dJ13_linkLast_25 : decode cJ13_linkLast 25 = .ok (.aload_n 0, 1) := dk_42 (dk_at dksJ13_linkLast_1 3 rfl rfl)
theorem dJ13_linkLast_26 : decode cJ13_linkLast 26 = .ok (.aload_n 3, 1) := dk_45 (dk_at dksJ13_linkLast_1 4 rfl rfl)
theorem dJ13_linkLast_27 : decode cJ13_linkLast 27 = .ok (.putfield 18, 3) := dk_181 0 18 (dk_at dksJ13_linkLast_1 5 rfl rfl)
theorem dJ13_linkLast_30 : decode cJ13_linkLast 30 = .ok (.goto 8, 3) := dk_167 0 8 (dk_at dksJ13_linkLast_1 8 rfl rfl)
theorem dJ13_linkLast_33 : decode cJ13_linkLast 33 = .ok (.aload_n 2, 1) := dk_44 (dk_at dksJ13_linkLast_1 11 rfl rfl)
theorem dJ13_linkLast_34 : decode cJ13_linkLast 34 = .ok (.aload_n 3, 1) := dk_45 (dk_at dksJ13_linkLast_1 12 rfl rfl)
theorem dJ13_linkLast_35 : decode cJ13_linkLast 35 = .ok (.putfield 36, 3) := dk_181 0 36 (dk_at dksJ13_linkLast_1 13 rfl rfl)
theorem dJ13_linkLast_38 : decode cJ13_linkLast 38 = .ok (.aload_n 0, 1) := dk_42 (dk_at dksJ13_linkLast_1 16 rfl rfl)
theorem dJ13_linkLast_39 : decode cJ13_linkLast 39 = .ok (.dup, 1) := dk_89 (dk_at dksJ13_linkLast_1 17 rfl rfl)
theorem dJ13_linkLast_40 : decode cJ13_linkLast 40 = .ok (.getfield 7, 3) := dk_180 0 7 (dk_at dksJ13_linkLast_1 18 rfl rfl)
theorem dJ13_linkLast_43 : decode cJ13_linkLast 43 = .ok (.iconst 1, 1) := dk_4 (dk_at dksJ13_linkLast_1 21 rfl rfl)
theorem dJ13_linkLast_44 : decode cJ13_linkLast 44 = .ok (.iadd, 1) := dk_96 (dk_at dksJ13_linkLast_1 22 rfl rfl)
theorem dJ13_linkLast_45 : decode cJ13_linkLast 45 = .ok (.putfield 7, 3) := dk_181 0 7 (dk_at dksJ13_linkLast_2 0 rfl rfl)
theorem dJ13_linkLast_48 : decode cJ13_linkLast 48 = .ok (.aload_n 0, 1) := dk_42 (dk_at dksJ13_linkLast_2 3 rfl rfl)
theorem dJ13_linkLast_49 : decode cJ13_linkLast 49 = .ok (.dup, 1) := dk_89 (dk_at dksJ13_linkLast_2 4 rfl rfl)
theorem dJ13_linkLast_50 : decode cJ13_linkLast 50 = .ok (.getfield 33, 3) := dk_180 0 33 (dk_at dksJ13_linkLast_2 5 rfl rfl)
theorem dJ13_linkLast_53 : decode cJ13_linkLast 53 = .ok (.iconst 1, 1) := dk_4 (dk_at dksJ13_linkLast_2 8 rfl rfl)
theorem dJ13_linkLast_54 : decode cJ13_linkLast 54 = .ok (.iadd, 1) := dk_96 (dk_at dksJ13_linkLast_2 9 rfl rfl)
theorem dJ13_linkLast_55 : decode cJ13_linkLast 55 = .ok (.putfield 33, 3) := dk_181 0 33 (dk_at dksJ13_linkLast_2 10 rfl rfl)
theorem dJ13_linkLast_58 : decode cJ13_linkLast 58 = .ok (.return_, 1) := dk_177 (dk_at dksJ13_linkLast_2 13 rfl rfl)
abbrev cJ13_listIterator : ByteArray := prog_56_method_49_code
def yJ13_listIterator : MethodName := ⟨RJ13, "listIterator", "(I)Ljava/util/ListIterator;"⟩
def dkwJ13_listIterator_0 : List UInt8 := [42, 27, 182, 0, 76, 187, 0, 150, 89, 42, 27, 183, 0, 152, 176]
abbrev dktJ13_listIterator_0 : List UInt8 := dkwJ13_listIterator_0 ++ []
theorem dksJ13_listIterator_0 : cJ13_listIterator.data.toList.drop 0 = dktJ13_listIterator_0 := by decide +kernel
theorem dJ13_listIterator_0 : decode cJ13_listIterator 0 = .ok (.aload_n 0, 1) := dk_42 (dk_at dksJ13_listIterator_0 0 rfl rfl)
theorem dJ13_listIterator_1 : decode cJ13_listIterator 1 = .ok (.iload_n 1, 1) := dk_27 (dk_at dksJ13_listIterator_0 1 rfl rfl)
theorem dJ13_listIterator_2 : decode cJ13_listIterator 2 = .ok (.invokevirtual 76, 3) := dk_182 0 76 (dk_at dksJ13_listIterator_0 2 rfl rfl)
theorem dJ13_listIterator_5 : decode cJ13_listIterator 5 = .ok (.new 150, 3) := dk_187 0 150 (dk_at dksJ13_listIterator_0 5 rfl rfl)
theorem dJ13_listIterator_8 : decode cJ13_listIterator 8 = .ok (.dup, 1) := dk_89 (dk_at dksJ13_listIterator_0 8 rfl rfl)
theorem dJ13_listIterator_9 : decode cJ13_listIterator 9 = .ok (.aload_n 0, 1) := dk_42 (dk_at dksJ13_listIterator_0 9 rfl rfl)
theorem dJ13_listIterator_10 : decode cJ13_listIterator 10 = .ok (.iload_n 1, 1) := dk_27 (dk_at dksJ13_listIterator_0 10 rfl rfl)
theorem dJ13_listIterator_11 : decode cJ13_listIterator 11 = .ok (.invokespecial 152, 3) := dk_183 0 152 (dk_at dksJ13_listIterator_0 11 rfl rfl)
theorem dJ13_listIterator_14 : decode cJ13_listIterator 14 = .ok (.areturn, 1) := dk_176 (dk_at dksJ13_listIterator_0 14 rfl rfl)
abbrev cJ13_checkPositionIndex : ByteArray := prog_56_method_30_code
def yJ13_checkPositionIndex : MethodName := ⟨RJ13, "checkPositionIndex", "(I)V"⟩
def dkwJ13_checkPositionIndex_0 : List UInt8 := [42, 27, 182, 0, 128, 154, 0, 16, 187, 0, 119, 89, 42, 27, 182, 0, 121, 183, 0, 125, 191, 177]
abbrev dktJ13_checkPositionIndex_0 : List UInt8 := dkwJ13_checkPositionIndex_0 ++ []
theorem dksJ13_checkPositionIndex_0 : cJ13_checkPositionIndex.data.toList.drop 0 = dktJ13_checkPositionIndex_0 := by decide +kernel
theorem dJ13_checkPositionIndex_0 : decode cJ13_checkPositionIndex 0 = .ok (.aload_n 0, 1) := dk_42 (dk_at dksJ13_checkPositionIndex_0 0 rfl rfl)
theorem dJ13_checkPositionIndex_1 : decode cJ13_checkPositionIndex 1 = .ok (.iload_n 1, 1) := dk_27 (dk_at dksJ13_checkPositionIndex_0 1 rfl rfl)
theorem dJ13_checkPositionIndex_2 : decode cJ13_checkPositionIndex 2 = .ok (.invokevirtual 128, 3) := dk_182 0 128 (dk_at dksJ13_checkPositionIndex_0 2 rfl rfl)
theorem dJ13_checkPositionIndex_5 : decode cJ13_checkPositionIndex 5 = .ok (.ifCond .ne 16, 3) := dk_154 0 16 (dk_at dksJ13_checkPositionIndex_0 5 rfl rfl)
theorem dJ13_checkPositionIndex_8 : decode cJ13_checkPositionIndex 8 = .ok (.new 119, 3) := dk_187 0 119 (dk_at dksJ13_checkPositionIndex_0 8 rfl rfl)
theorem dJ13_checkPositionIndex_11 : decode cJ13_checkPositionIndex 11 = .ok (.dup, 1) := dk_89 (dk_at dksJ13_checkPositionIndex_0 11 rfl rfl)
theorem dJ13_checkPositionIndex_12 : decode cJ13_checkPositionIndex 12 = .ok (.aload_n 0, 1) := dk_42 (dk_at dksJ13_checkPositionIndex_0 12 rfl rfl)
theorem dJ13_checkPositionIndex_13 : decode cJ13_checkPositionIndex 13 = .ok (.iload_n 1, 1) := dk_27 (dk_at dksJ13_checkPositionIndex_0 13 rfl rfl)
theorem dJ13_checkPositionIndex_14 : decode cJ13_checkPositionIndex 14 = .ok (.invokevirtual 121, 3) := dk_182 0 121 (dk_at dksJ13_checkPositionIndex_0 14 rfl rfl)
theorem dJ13_checkPositionIndex_17 : decode cJ13_checkPositionIndex 17 = .ok (.invokespecial 125, 3) := dk_183 0 125 (dk_at dksJ13_checkPositionIndex_0 17 rfl rfl)
theorem dJ13_checkPositionIndex_20 : decode cJ13_checkPositionIndex 20 = .ok (.athrow, 1) := dk_191 (dk_at dksJ13_checkPositionIndex_0 20 rfl rfl)
theorem dJ13_checkPositionIndex_21 : decode cJ13_checkPositionIndex 21 = .ok (.return_, 1) := dk_177 (dk_at dksJ13_checkPositionIndex_0 21 rfl rfl)
abbrev cJ13_isPositionIndex : ByteArray := prog_56_method_27_code
def yJ13_isPositionIndex : MethodName := ⟨RJ13, "isPositionIndex", "(I)Z"⟩
def dkwJ13_isPositionIndex_0 : List UInt8 := [27, 155, 0, 15, 27, 42, 180, 0, 7, 163, 0, 7, 4, 167, 0, 4, 3, 172]
abbrev dktJ13_isPositionIndex_0 : List UInt8 := dkwJ13_isPositionIndex_0 ++ []
theorem dksJ13_isPositionIndex_0 : cJ13_isPositionIndex.data.toList.drop 0 = dktJ13_isPositionIndex_0 := by decide +kernel
theorem dJ13_isPositionIndex_0 : decode cJ13_isPositionIndex 0 = .ok (.iload_n 1, 1) := dk_27 (dk_at dksJ13_isPositionIndex_0 0 rfl rfl)
theorem dJ13_isPositionIndex_1 : decode cJ13_isPositionIndex 1 = .ok (.ifCond .lt 15, 3) := dk_155 0 15 (dk_at dksJ13_isPositionIndex_0 1 rfl rfl)
theorem dJ13_isPositionIndex_4 : decode cJ13_isPositionIndex 4 = .ok (.iload_n 1, 1) := dk_27 (dk_at dksJ13_isPositionIndex_0 4 rfl rfl)
theorem dJ13_isPositionIndex_5 : decode cJ13_isPositionIndex 5 = .ok (.aload_n 0, 1) := dk_42 (dk_at dksJ13_isPositionIndex_0 5 rfl rfl)
theorem dJ13_isPositionIndex_6 : decode cJ13_isPositionIndex 6 = .ok (.getfield 7, 3) := dk_180 0 7 (dk_at dksJ13_isPositionIndex_0 6 rfl rfl)
theorem dJ13_isPositionIndex_9 : decode cJ13_isPositionIndex 9 = .ok (.if_icmp .gt 7, 3) := dk_163 0 7 (dk_at dksJ13_isPositionIndex_0 9 rfl rfl)
theorem dJ13_isPositionIndex_12 : decode cJ13_isPositionIndex 12 = .ok (.iconst 1, 1) := dk_4 (dk_at dksJ13_isPositionIndex_0 12 rfl rfl)
theorem dJ13_isPositionIndex_13 : decode cJ13_isPositionIndex 13 = .ok (.goto 4, 3) := dk_167 0 4 (dk_at dksJ13_isPositionIndex_0 13 rfl rfl)
theorem dJ13_isPositionIndex_16 : decode cJ13_isPositionIndex 16 = .ok (.iconst 0, 1) := dk_3 (dk_at dksJ13_isPositionIndex_0 16 rfl rfl)
theorem dJ13_isPositionIndex_17 : decode cJ13_isPositionIndex 17 = .ok (.ireturn, 1) := dk_172 (dk_at dksJ13_isPositionIndex_0 17 rfl rfl)
abbrev cJ13_add : ByteArray := prog_56_method_24_code
def yJ13_add : MethodName := ⟨RJ13, "add", "(ILjava/lang/Object;)V"⟩
def dkwJ13_add_1 : List UInt8 := [27, 182, 0, 86, 182, 0, 93, 177]
abbrev dktJ13_add_1 : List UInt8 := dkwJ13_add_1 ++ []
def dkwJ13_add_0 : List UInt8 := [42, 27, 182, 0, 76, 27, 42, 180, 0, 7, 160, 0, 11, 42, 44, 182, 0, 57, 167, 0, 13, 42, 44, 42]
abbrev dktJ13_add_0 : List UInt8 := dkwJ13_add_0 ++ dktJ13_add_1
theorem dksJ13_add_0 : cJ13_add.data.toList.drop 0 = dktJ13_add_0 := by decide +kernel
theorem dksJ13_add_1 : cJ13_add.data.toList.drop 24 = dktJ13_add_1 := dk_seg dksJ13_add_0 24 rfl rfl
theorem dJ13_add_0 : decode cJ13_add 0 = .ok (.aload_n 0, 1) := dk_42 (dk_at dksJ13_add_0 0 rfl rfl)
theorem dJ13_add_1 : decode cJ13_add 1 = .ok (.iload_n 1, 1) := dk_27 (dk_at dksJ13_add_0 1 rfl rfl)
theorem dJ13_add_2 : decode cJ13_add 2 = .ok (.invokevirtual 76, 3) := dk_182 0 76 (dk_at dksJ13_add_0 2 rfl rfl)
theorem dJ13_add_5 : decode cJ13_add 5 = .ok (.iload_n 1, 1) := dk_27 (dk_at dksJ13_add_0 5 rfl rfl)
theorem dJ13_add_6 : decode cJ13_add 6 = .ok (.aload_n 0, 1) := dk_42 (dk_at dksJ13_add_0 6 rfl rfl)
theorem dJ13_add_7 : decode cJ13_add 7 = .ok (.getfield 7, 3) := dk_180 0 7 (dk_at dksJ13_add_0 7 rfl rfl)
theorem dJ13_add_10 : decode cJ13_add 10 = .ok (.if_icmp .ne 11, 3) := dk_160 0 11 (dk_at dksJ13_add_0 10 rfl rfl)
theorem dJ13_add_13 : decode cJ13_add 13 = .ok (.aload_n 0, 1) := dk_42 (dk_at dksJ13_add_0 13 rfl rfl)
theorem dJ13_add_14 : decode cJ13_add 14 = .ok (.aload_n 2, 1) := dk_44 (dk_at dksJ13_add_0 14 rfl rfl)
theorem dJ13_add_15 : decode cJ13_add 15 = .ok (.invokevirtual 57, 3) := dk_182 0 57 (dk_at dksJ13_add_0 15 rfl rfl)
theorem dJ13_add_18 : decode cJ13_add 18 = .ok (.goto 13, 3) := dk_167 0 13 (dk_at dksJ13_add_0 18 rfl rfl)
theorem dJ13_add_21 : decode cJ13_add 21 = .ok (.aload_n 0, 1) := dk_42 (dk_at dksJ13_add_0 21 rfl rfl)
theorem dJ13_add_22 : decode cJ13_add 22 = .ok (.aload_n 2, 1) := dk_44 (dk_at dksJ13_add_0 22 rfl rfl)
theorem dJ13_add_23 : decode cJ13_add 23 = .ok (.aload_n 0, 1) := dk_42 (dk_at dksJ13_add_0 23 rfl rfl)
theorem dJ13_add_24 : decode cJ13_add 24 = .ok (.iload_n 1, 1) := dk_27 (dk_at dksJ13_add_1 0 rfl rfl)
theorem dJ13_add_25 : decode cJ13_add 25 = .ok (.invokevirtual 86, 3) := dk_182 0 86 (dk_at dksJ13_add_1 1 rfl rfl)
theorem dJ13_add_28 : decode cJ13_add 28 = .ok (.invokevirtual 93, 3) := dk_182 0 93 (dk_at dksJ13_add_1 4 rfl rfl)
theorem dJ13_add_31 : decode cJ13_add 31 = .ok (.return_, 1) := dk_177 (dk_at dksJ13_add_1 7 rfl rfl)
abbrev cJ13_linkBefore : ByteArray := prog_56_method_5_code
def yJ13_linkBefore : MethodName := ⟨RJ13, "linkBefore", "(Ljava/lang/Object;Ljava/util/LinkedList$Node;)V"⟩
def dkwJ13_linkBefore_2 : List UInt8 := [96, 181, 0, 7, 42, 89, 180, 0, 33, 4, 96, 181, 0, 33, 177]
abbrev dktJ13_linkBefore_2 : List UInt8 := dkwJ13_linkBefore_2 ++ []
def dkwJ13_linkBefore_1 : List UInt8 := [199, 0, 12, 42, 25, 4, 181, 0, 18, 167, 0, 9, 45, 25, 4, 181, 0, 36, 42, 89, 180, 0, 7, 4]
abbrev dktJ13_linkBefore_1 : List UInt8 := dkwJ13_linkBefore_1 ++ dktJ13_linkBefore_2
def dkwJ13_linkBefore_0 : List UInt8 := [44, 180, 0, 30, 78, 187, 0, 22, 89, 45, 43, 44, 183, 0, 24, 58, 4, 44, 25, 4, 181, 0, 30, 45]
abbrev dktJ13_linkBefore_0 : List UInt8 := dkwJ13_linkBefore_0 ++ dktJ13_linkBefore_1
theorem dksJ13_linkBefore_0 : cJ13_linkBefore.data.toList.drop 0 = dktJ13_linkBefore_0 := by decide +kernel
theorem dksJ13_linkBefore_1 : cJ13_linkBefore.data.toList.drop 24 = dktJ13_linkBefore_1 := dk_seg dksJ13_linkBefore_0 24 rfl rfl
theorem dksJ13_linkBefore_2 : cJ13_linkBefore.data.toList.drop 48 = dktJ13_linkBefore_2 := dk_seg dksJ13_linkBefore_1 24 rfl rfl
theorem dJ13_linkBefore_0 : decode cJ13_linkBefore 0 = .ok (.aload_n 2, 1) := dk_44 (dk_at dksJ13_linkBefore_0 0 rfl rfl)
theorem dJ13_linkBefore_1 : decode cJ13_linkBefore 1 = .ok (.getfield 30, 3) := dk_180 0 30 (dk_at dksJ13_linkBefore_0 1 rfl rfl)
theorem dJ13_linkBefore_4 : decode cJ13_linkBefore 4 = .ok (.astore_n 3, 1) := dk_78 (dk_at dksJ13_linkBefore_0 4 rfl rfl)
theorem dJ13_linkBefore_5 : decode cJ13_linkBefore 5 = .ok (.new 22, 3) := dk_187 0 22 (dk_at dksJ13_linkBefore_0 5 rfl rfl)
theorem dJ13_linkBefore_8 : decode cJ13_linkBefore 8 = .ok (.dup, 1) := dk_89 (dk_at dksJ13_linkBefore_0 8 rfl rfl)
theorem dJ13_linkBefore_9 : decode cJ13_linkBefore 9 = .ok (.aload_n 3, 1) := dk_45 (dk_at dksJ13_linkBefore_0 9 rfl rfl)
theorem dJ13_linkBefore_10 : decode cJ13_linkBefore 10 = .ok (.aload_n 1, 1) := dk_43 (dk_at dksJ13_linkBefore_0 10 rfl rfl)
theorem dJ13_linkBefore_11 : decode cJ13_linkBefore 11 = .ok (.aload_n 2, 1) := dk_44 (dk_at dksJ13_linkBefore_0 11 rfl rfl)
theorem dJ13_linkBefore_12 : decode cJ13_linkBefore 12 = .ok (.invokespecial 24, 3) := dk_183 0 24 (dk_at dksJ13_linkBefore_0 12 rfl rfl)
theorem dJ13_linkBefore_15 : decode cJ13_linkBefore 15 = .ok (.astore 4, 2) := dk_58 4 (dk_at dksJ13_linkBefore_0 15 rfl rfl)
theorem dJ13_linkBefore_17 : decode cJ13_linkBefore 17 = .ok (.aload_n 2, 1) := dk_44 (dk_at dksJ13_linkBefore_0 17 rfl rfl)
theorem dJ13_linkBefore_18 : decode cJ13_linkBefore 18 = .ok (.aload 4, 2) := dk_25 4 (dk_at dksJ13_linkBefore_0 18 rfl rfl)
theorem dJ13_linkBefore_20 : decode cJ13_linkBefore 20 = .ok (.putfield 30, 3) := dk_181 0 30 (dk_at dksJ13_linkBefore_0 20 rfl rfl)
theorem dJ13_linkBefore_23 : decode cJ13_linkBefore 23 = .ok (.aload_n 3, 1) := dk_45 (dk_at dksJ13_linkBefore_0 23 rfl rfl)
theorem dJ13_linkBefore_24 : decode cJ13_linkBefore 24 = .ok (.ifnonnull 12, 3) := dk_199 0 12 (dk_at dksJ13_linkBefore_1 0 rfl rfl)
theorem dJ13_linkBefore_27 : decode cJ13_linkBefore 27 = .ok (.aload_n 0, 1) := dk_42 (dk_at dksJ13_linkBefore_1 3 rfl rfl)
theorem dJ13_linkBefore_28 : decode cJ13_linkBefore 28 = .ok (.aload 4, 2) := dk_25 4 (dk_at dksJ13_linkBefore_1 4 rfl rfl)
theorem dJ13_linkBefore_30 : decode cJ13_linkBefore 30 = .ok (.putfield 18, 3) := dk_181 0 18 (dk_at dksJ13_linkBefore_1 6 rfl rfl)
theorem dJ13_linkBefore_33 : decode cJ13_linkBefore 33 = .ok (.goto 9, 3) := dk_167 0 9 (dk_at dksJ13_linkBefore_1 9 rfl rfl)
theorem dJ13_linkBefore_36 : decode cJ13_linkBefore 36 = .ok (.aload_n 3, 1) := dk_45 (dk_at dksJ13_linkBefore_1 12 rfl rfl)
theorem dJ13_linkBefore_37 : decode cJ13_linkBefore 37 = .ok (.aload 4, 2) := dk_25 4 (dk_at dksJ13_linkBefore_1 13 rfl rfl)
theorem dJ13_linkBefore_39 : decode cJ13_linkBefore 39 = .ok (.putfield 36, 3) := dk_181 0 36 (dk_at dksJ13_linkBefore_1 15 rfl rfl)
theorem dJ13_linkBefore_42 : decode cJ13_linkBefore 42 = .ok (.aload_n 0, 1) := dk_42 (dk_at dksJ13_linkBefore_1 18 rfl rfl)
theorem dJ13_linkBefore_43 : decode cJ13_linkBefore 43 = .ok (.dup, 1) := dk_89 (dk_at dksJ13_linkBefore_1 19 rfl rfl)
theorem dJ13_linkBefore_44 : decode cJ13_linkBefore 44 = .ok (.getfield 7, 3) := dk_180 0 7 (dk_at dksJ13_linkBefore_1 20 rfl rfl)
theorem dJ13_linkBefore_47 : decode cJ13_linkBefore 47 = .ok (.iconst 1, 1) := dk_4 (dk_at dksJ13_linkBefore_1 23 rfl rfl)
theorem dJ13_linkBefore_48 : decode cJ13_linkBefore 48 = .ok (.iadd, 1) := dk_96 (dk_at dksJ13_linkBefore_2 0 rfl rfl)
theorem dJ13_linkBefore_49 : decode cJ13_linkBefore 49 = .ok (.putfield 7, 3) := dk_181 0 7 (dk_at dksJ13_linkBefore_2 1 rfl rfl)
theorem dJ13_linkBefore_52 : decode cJ13_linkBefore 52 = .ok (.aload_n 0, 1) := dk_42 (dk_at dksJ13_linkBefore_2 4 rfl rfl)
theorem dJ13_linkBefore_53 : decode cJ13_linkBefore 53 = .ok (.dup, 1) := dk_89 (dk_at dksJ13_linkBefore_2 5 rfl rfl)
theorem dJ13_linkBefore_54 : decode cJ13_linkBefore 54 = .ok (.getfield 33, 3) := dk_180 0 33 (dk_at dksJ13_linkBefore_2 6 rfl rfl)
theorem dJ13_linkBefore_57 : decode cJ13_linkBefore 57 = .ok (.iconst 1, 1) := dk_4 (dk_at dksJ13_linkBefore_2 9 rfl rfl)
theorem dJ13_linkBefore_58 : decode cJ13_linkBefore 58 = .ok (.iadd, 1) := dk_96 (dk_at dksJ13_linkBefore_2 10 rfl rfl)
theorem dJ13_linkBefore_59 : decode cJ13_linkBefore 59 = .ok (.putfield 33, 3) := dk_181 0 33 (dk_at dksJ13_linkBefore_2 11 rfl rfl)
theorem dJ13_linkBefore_62 : decode cJ13_linkBefore 62 = .ok (.return_, 1) := dk_177 (dk_at dksJ13_linkBefore_2 14 rfl rfl)
abbrev cJ13_remove : ByteArray := prog_56_method_25_code
def yJ13_remove : MethodName := ⟨RJ13, "remove", "(I)Ljava/lang/Object;"⟩
def dkwJ13_remove_0 : List UInt8 := [42, 27, 182, 0, 90, 42, 42, 27, 182, 0, 86, 182, 0, 64, 176]
abbrev dktJ13_remove_0 : List UInt8 := dkwJ13_remove_0 ++ []
theorem dksJ13_remove_0 : cJ13_remove.data.toList.drop 0 = dktJ13_remove_0 := by decide +kernel
theorem dJ13_remove_0 : decode cJ13_remove 0 = .ok (.aload_n 0, 1) := dk_42 (dk_at dksJ13_remove_0 0 rfl rfl)
theorem dJ13_remove_1 : decode cJ13_remove 1 = .ok (.iload_n 1, 1) := dk_27 (dk_at dksJ13_remove_0 1 rfl rfl)
theorem dJ13_remove_2 : decode cJ13_remove 2 = .ok (.invokevirtual 90, 3) := dk_182 0 90 (dk_at dksJ13_remove_0 2 rfl rfl)
theorem dJ13_remove_5 : decode cJ13_remove 5 = .ok (.aload_n 0, 1) := dk_42 (dk_at dksJ13_remove_0 5 rfl rfl)
theorem dJ13_remove_6 : decode cJ13_remove 6 = .ok (.aload_n 0, 1) := dk_42 (dk_at dksJ13_remove_0 6 rfl rfl)
theorem dJ13_remove_7 : decode cJ13_remove 7 = .ok (.iload_n 1, 1) := dk_27 (dk_at dksJ13_remove_0 7 rfl rfl)
theorem dJ13_remove_8 : decode cJ13_remove 8 = .ok (.invokevirtual 86, 3) := dk_182 0 86 (dk_at dksJ13_remove_0 8 rfl rfl)
theorem dJ13_remove_11 : decode cJ13_remove 11 = .ok (.invokevirtual 64, 3) := dk_182 0 64 (dk_at dksJ13_remove_0 11 rfl rfl)
theorem dJ13_remove_14 : decode cJ13_remove 14 = .ok (.areturn, 1) := dk_176 (dk_at dksJ13_remove_0 14 rfl rfl)
abbrev cJ13_unlink : ByteArray := prog_56_method_8_code
def yJ13_unlink : MethodName := ⟨RJ13, "unlink", "(Ljava/util/LinkedList$Node;)Ljava/lang/Object;"⟩
def dkwJ13_unlink_3 : List UInt8 := [180, 0, 7, 4, 100, 181, 0, 7, 42, 89, 180, 0, 33, 4, 96, 181, 0, 33, 44, 176]
abbrev dktJ13_unlink_3 : List UInt8 := dkwJ13_unlink_3 ++ []
def dkwJ13_unlink_2 : List UInt8 := [181, 0, 27, 167, 0, 14, 45, 25, 4, 181, 0, 30, 43, 1, 181, 0, 36, 43, 1, 181, 0, 39, 42, 89]
abbrev dktJ13_unlink_2 : List UInt8 := dkwJ13_unlink_2 ++ dktJ13_unlink_3
def dkwJ13_unlink_1 : List UInt8 := [181, 0, 18, 167, 0, 14, 25, 4, 45, 181, 0, 36, 43, 1, 181, 0, 30, 45, 199, 0, 12, 42, 25, 4]
abbrev dktJ13_unlink_1 : List UInt8 := dkwJ13_unlink_1 ++ dktJ13_unlink_2
def dkwJ13_unlink_0 : List UInt8 := [43, 180, 0, 39, 77, 43, 180, 0, 36, 78, 43, 180, 0, 30, 58, 4, 25, 4, 199, 0, 11, 42, 45]
abbrev dktJ13_unlink_0 : List UInt8 := dkwJ13_unlink_0 ++ dktJ13_unlink_1
theorem dksJ13_unlink_0 : cJ13_unlink.data.toList.drop 0 = dktJ13_unlink_0 := by decide +kernel
theorem dksJ13_unlink_1 : cJ13_unlink.data.toList.drop 23 = dktJ13_unlink_1 := dk_seg dksJ13_unlink_0 23 rfl rfl
theorem dksJ13_unlink_2 : cJ13_unlink.data.toList.drop 47 = dktJ13_unlink_2 := dk_seg dksJ13_unlink_1 24 rfl rfl
theorem dksJ13_unlink_3 : cJ13_unlink.data.toList.drop 71 = dktJ13_unlink_3 := dk_seg dksJ13_unlink_2 24 rfl rfl
theorem dJ13_unlink_0 : decode cJ13_unlink 0 = .ok (.aload_n 1, 1) := dk_43 (dk_at dksJ13_unlink_0 0 rfl rfl)
theorem dJ13_unlink_1 : decode cJ13_unlink 1 = .ok (.getfield 39, 3) := dk_180 0 39 (dk_at dksJ13_unlink_0 1 rfl rfl)
theorem dJ13_unlink_4 : decode cJ13_unlink 4 = .ok (.astore_n 2, 1) := dk_77 (dk_at dksJ13_unlink_0 4 rfl rfl)
theorem dJ13_unlink_5 : decode cJ13_unlink 5 = .ok (.aload_n 1, 1) := dk_43 (dk_at dksJ13_unlink_0 5 rfl rfl)
theorem dJ13_unlink_6 : decode cJ13_unlink 6 = .ok (.getfield 36, 3) := dk_180 0 36 (dk_at dksJ13_unlink_0 6 rfl rfl)
theorem dJ13_unlink_9 : decode cJ13_unlink 9 = .ok (.astore_n 3, 1) := dk_78 (dk_at dksJ13_unlink_0 9 rfl rfl)
theorem dJ13_unlink_10 : decode cJ13_unlink 10 = .ok (.aload_n 1, 1) := dk_43 (dk_at dksJ13_unlink_0 10 rfl rfl)
theorem dJ13_unlink_11 : decode cJ13_unlink 11 = .ok (.getfield 30, 3) := dk_180 0 30 (dk_at dksJ13_unlink_0 11 rfl rfl)
theorem dJ13_unlink_14 : decode cJ13_unlink 14 = .ok (.astore 4, 2) := dk_58 4 (dk_at dksJ13_unlink_0 14 rfl rfl)
theorem dJ13_unlink_16 : decode cJ13_unlink 16 = .ok (.aload 4, 2) := dk_25 4 (dk_at dksJ13_unlink_0 16 rfl rfl)
theorem dJ13_unlink_18 : decode cJ13_unlink 18 = .ok (.ifnonnull 11, 3) := dk_199 0 11 (dk_at dksJ13_unlink_0 18 rfl rfl)
theorem dJ13_unlink_21 : decode cJ13_unlink 21 = .ok (.aload_n 0, 1) := dk_42 (dk_at dksJ13_unlink_0 21 rfl rfl)
theorem dJ13_unlink_22 : decode cJ13_unlink 22 = .ok (.aload_n 3, 1) := dk_45 (dk_at dksJ13_unlink_0 22 rfl rfl)
theorem dJ13_unlink_23 : decode cJ13_unlink 23 = .ok (.putfield 18, 3) := dk_181 0 18 (dk_at dksJ13_unlink_1 0 rfl rfl)
theorem dJ13_unlink_26 : decode cJ13_unlink 26 = .ok (.goto 14, 3) := dk_167 0 14 (dk_at dksJ13_unlink_1 3 rfl rfl)
theorem dJ13_unlink_29 : decode cJ13_unlink 29 = .ok (.aload 4, 2) := dk_25 4 (dk_at dksJ13_unlink_1 6 rfl rfl)
theorem dJ13_unlink_31 : decode cJ13_unlink 31 = .ok (.aload_n 3, 1) := dk_45 (dk_at dksJ13_unlink_1 8 rfl rfl)
theorem dJ13_unlink_32 : decode cJ13_unlink 32 = .ok (.putfield 36, 3) := dk_181 0 36 (dk_at dksJ13_unlink_1 9 rfl rfl)
theorem dJ13_unlink_35 : decode cJ13_unlink 35 = .ok (.aload_n 1, 1) := dk_43 (dk_at dksJ13_unlink_1 12 rfl rfl)
theorem dJ13_unlink_36 : decode cJ13_unlink 36 = .ok (.aconst_null, 1) := dk_1 (dk_at dksJ13_unlink_1 13 rfl rfl)
theorem dJ13_unlink_37 : decode cJ13_unlink 37 = .ok (.putfield 30, 3) := dk_181 0 30 (dk_at dksJ13_unlink_1 14 rfl rfl)
theorem dJ13_unlink_40 : decode cJ13_unlink 40 = .ok (.aload_n 3, 1) := dk_45 (dk_at dksJ13_unlink_1 17 rfl rfl)
theorem dJ13_unlink_41 : decode cJ13_unlink 41 = .ok (.ifnonnull 12, 3) := dk_199 0 12 (dk_at dksJ13_unlink_1 18 rfl rfl)
theorem dJ13_unlink_44 : decode cJ13_unlink 44 = .ok (.aload_n 0, 1) := dk_42 (dk_at dksJ13_unlink_1 21 rfl rfl)
theorem dJ13_unlink_45 : decode cJ13_unlink 45 = .ok (.aload 4, 2) := dk_25 4 (dk_at dksJ13_unlink_1 22 rfl rfl)
theorem dJ13_unlink_47 : decode cJ13_unlink 47 = .ok (.putfield 27, 3) := dk_181 0 27 (dk_at dksJ13_unlink_2 0 rfl rfl)
theorem dJ13_unlink_50 : decode cJ13_unlink 50 = .ok (.goto 14, 3) := dk_167 0 14 (dk_at dksJ13_unlink_2 3 rfl rfl)
theorem dJ13_unlink_53 : decode cJ13_unlink 53 = .ok (.aload_n 3, 1) := dk_45 (dk_at dksJ13_unlink_2 6 rfl rfl)
theorem dJ13_unlink_54 : decode cJ13_unlink 54 = .ok (.aload 4, 2) := dk_25 4 (dk_at dksJ13_unlink_2 7 rfl rfl)
theorem dJ13_unlink_56 : decode cJ13_unlink 56 = .ok (.putfield 30, 3) := dk_181 0 30 (dk_at dksJ13_unlink_2 9 rfl rfl)
theorem dJ13_unlink_59 : decode cJ13_unlink 59 = .ok (.aload_n 1, 1) := dk_43 (dk_at dksJ13_unlink_2 12 rfl rfl)
theorem dJ13_unlink_60 : decode cJ13_unlink 60 = .ok (.aconst_null, 1) := dk_1 (dk_at dksJ13_unlink_2 13 rfl rfl)
theorem dJ13_unlink_61 : decode cJ13_unlink 61 = .ok (.putfield 36, 3) := dk_181 0 36 (dk_at dksJ13_unlink_2 14 rfl rfl)
theorem dJ13_unlink_64 : decode cJ13_unlink 64 = .ok (.aload_n 1, 1) := dk_43 (dk_at dksJ13_unlink_2 17 rfl rfl)
theorem dJ13_unlink_65 : decode cJ13_unlink 65 = .ok (.aconst_null, 1) := dk_1 (dk_at dksJ13_unlink_2 18 rfl rfl)
theorem dJ13_unlink_66 : decode cJ13_unlink 66 = .ok (.putfield 39, 3) := dk_181 0 39 (dk_at dksJ13_unlink_2 19 rfl rfl)
theorem dJ13_unlink_69 : decode cJ13_unlink 69 = .ok (.aload_n 0, 1) := dk_42 (dk_at dksJ13_unlink_2 22 rfl rfl)
theorem dJ13_unlink_70 : decode cJ13_unlink 70 = .ok (.dup, 1) := dk_89 (dk_at dksJ13_unlink_2 23 rfl rfl)
theorem dJ13_unlink_71 : decode cJ13_unlink 71 = .ok (.getfield 7, 3) := dk_180 0 7 (dk_at dksJ13_unlink_3 0 rfl rfl)
theorem dJ13_unlink_74 : decode cJ13_unlink 74 = .ok (.iconst 1, 1) := dk_4 (dk_at dksJ13_unlink_3 3 rfl rfl)
theorem dJ13_unlink_75 : decode cJ13_unlink 75 = .ok (.isub, 1) := dk_100 (dk_at dksJ13_unlink_3 4 rfl rfl)
theorem dJ13_unlink_76 : decode cJ13_unlink 76 = .ok (.putfield 7, 3) := dk_181 0 7 (dk_at dksJ13_unlink_3 5 rfl rfl)
theorem dJ13_unlink_79 : decode cJ13_unlink 79 = .ok (.aload_n 0, 1) := dk_42 (dk_at dksJ13_unlink_3 8 rfl rfl)
theorem dJ13_unlink_80 : decode cJ13_unlink 80 = .ok (.dup, 1) := dk_89 (dk_at dksJ13_unlink_3 9 rfl rfl)
theorem dJ13_unlink_81 : decode cJ13_unlink 81 = .ok (.getfield 33, 3) := dk_180 0 33 (dk_at dksJ13_unlink_3 10 rfl rfl)
theorem dJ13_unlink_84 : decode cJ13_unlink 84 = .ok (.iconst 1, 1) := dk_4 (dk_at dksJ13_unlink_3 13 rfl rfl)
theorem dJ13_unlink_85 : decode cJ13_unlink 85 = .ok (.iadd, 1) := dk_96 (dk_at dksJ13_unlink_3 14 rfl rfl)
theorem dJ13_unlink_86 : decode cJ13_unlink 86 = .ok (.putfield 33, 3) := dk_181 0 33 (dk_at dksJ13_unlink_3 15 rfl rfl)
theorem dJ13_unlink_89 : decode cJ13_unlink 89 = .ok (.aload_n 2, 1) := dk_44 (dk_at dksJ13_unlink_3 18 rfl rfl)
theorem dJ13_unlink_90 : decode cJ13_unlink 90 = .ok (.areturn, 1) := dk_176 (dk_at dksJ13_unlink_3 19 rfl rfl)
abbrev cJ13_addFirst : ByteArray := prog_56_method_13_code
def yJ13_addFirst : MethodName := ⟨RJ13, "addFirst", "(Ljava/lang/Object;)V"⟩
def dkwJ13_addFirst_0 : List UInt8 := [42, 43, 182, 0, 53, 177]
abbrev dktJ13_addFirst_0 : List UInt8 := dkwJ13_addFirst_0 ++ []
theorem dksJ13_addFirst_0 : cJ13_addFirst.data.toList.drop 0 = dktJ13_addFirst_0 := by decide +kernel
theorem dJ13_addFirst_0 : decode cJ13_addFirst 0 = .ok (.aload_n 0, 1) := dk_42 (dk_at dksJ13_addFirst_0 0 rfl rfl)
theorem dJ13_addFirst_1 : decode cJ13_addFirst 1 = .ok (.aload_n 1, 1) := dk_43 (dk_at dksJ13_addFirst_0 1 rfl rfl)
theorem dJ13_addFirst_2 : decode cJ13_addFirst 2 = .ok (.invokevirtual 53, 3) := dk_182 0 53 (dk_at dksJ13_addFirst_0 2 rfl rfl)
theorem dJ13_addFirst_5 : decode cJ13_addFirst 5 = .ok (.return_, 1) := dk_177 (dk_at dksJ13_addFirst_0 5 rfl rfl)
abbrev cJ13_linkFirst : ByteArray := prog_56_method_3_code
def yJ13_linkFirst : MethodName := ⟨RJ13, "linkFirst", "(Ljava/lang/Object;)V"⟩
def dkwJ13_linkFirst_2 : List UInt8 := [181, 0, 7, 42, 89, 180, 0, 33, 4, 96, 181, 0, 33, 177]
abbrev dktJ13_linkFirst_2 : List UInt8 := dkwJ13_linkFirst_2 ++ []
def dkwJ13_linkFirst_1 : List UInt8 := [199, 0, 11, 42, 45, 181, 0, 27, 167, 0, 8, 44, 45, 181, 0, 30, 42, 89, 180, 0, 7, 4, 96]
abbrev dktJ13_linkFirst_1 : List UInt8 := dkwJ13_linkFirst_1 ++ dktJ13_linkFirst_2
def dkwJ13_linkFirst_0 : List UInt8 := [42, 180, 0, 18, 77, 187, 0, 22, 89, 1, 43, 44, 183, 0, 24, 78, 42, 45, 181, 0, 18, 44]
abbrev dktJ13_linkFirst_0 : List UInt8 := dkwJ13_linkFirst_0 ++ dktJ13_linkFirst_1
theorem dksJ13_linkFirst_0 : cJ13_linkFirst.data.toList.drop 0 = dktJ13_linkFirst_0 := by decide +kernel
theorem dksJ13_linkFirst_1 : cJ13_linkFirst.data.toList.drop 22 = dktJ13_linkFirst_1 := dk_seg dksJ13_linkFirst_0 22 rfl rfl
theorem dksJ13_linkFirst_2 : cJ13_linkFirst.data.toList.drop 45 = dktJ13_linkFirst_2 := dk_seg dksJ13_linkFirst_1 23 rfl rfl
theorem dJ13_linkFirst_0 : decode cJ13_linkFirst 0 = .ok (.aload_n 0, 1) := dk_42 (dk_at dksJ13_linkFirst_0 0 rfl rfl)
theorem dJ13_linkFirst_1 : decode cJ13_linkFirst 1 = .ok (.getfield 18, 3) := dk_180 0 18 (dk_at dksJ13_linkFirst_0 1 rfl rfl)
theorem dJ13_linkFirst_4 : decode cJ13_linkFirst 4 = .ok (.astore_n 2, 1) := dk_77 (dk_at dksJ13_linkFirst_0 4 rfl rfl)
theorem dJ13_linkFirst_5 : decode cJ13_linkFirst 5 = .ok (.new 22, 3) := dk_187 0 22 (dk_at dksJ13_linkFirst_0 5 rfl rfl)
theorem dJ13_linkFirst_8 : decode cJ13_linkFirst 8 = .ok (.dup, 1) := dk_89 (dk_at dksJ13_linkFirst_0 8 rfl rfl)
theorem dJ13_linkFirst_9 : decode cJ13_linkFirst 9 = .ok (.aconst_null, 1) := dk_1 (dk_at dksJ13_linkFirst_0 9 rfl rfl)
theorem dJ13_linkFirst_10 : decode cJ13_linkFirst 10 = .ok (.aload_n 1, 1) := dk_43 (dk_at dksJ13_linkFirst_0 10 rfl rfl)
theorem dJ13_linkFirst_11 : decode cJ13_linkFirst 11 = .ok (.aload_n 2, 1) := dk_44 (dk_at dksJ13_linkFirst_0 11 rfl rfl)
theorem dJ13_linkFirst_12 : decode cJ13_linkFirst 12 = .ok (.invokespecial 24, 3) := dk_183 0 24 (dk_at dksJ13_linkFirst_0 12 rfl rfl)
theorem dJ13_linkFirst_15 : decode cJ13_linkFirst 15 = .ok (.astore_n 3, 1) := dk_78 (dk_at dksJ13_linkFirst_0 15 rfl rfl)
theorem dJ13_linkFirst_16 : decode cJ13_linkFirst 16 = .ok (.aload_n 0, 1) := dk_42 (dk_at dksJ13_linkFirst_0 16 rfl rfl)
theorem dJ13_linkFirst_17 : decode cJ13_linkFirst 17 = .ok (.aload_n 3, 1) := dk_45 (dk_at dksJ13_linkFirst_0 17 rfl rfl)
theorem dJ13_linkFirst_18 : decode cJ13_linkFirst 18 = .ok (.putfield 18, 3) := dk_181 0 18 (dk_at dksJ13_linkFirst_0 18 rfl rfl)
theorem dJ13_linkFirst_21 : decode cJ13_linkFirst 21 = .ok (.aload_n 2, 1) := dk_44 (dk_at dksJ13_linkFirst_0 21 rfl rfl)
theorem dJ13_linkFirst_22 : decode cJ13_linkFirst 22 = .ok (.ifnonnull 11, 3) := dk_199 0 11 (dk_at dksJ13_linkFirst_1 0 rfl rfl)
theorem dJ13_linkFirst_25 : decode cJ13_linkFirst 25 = .ok (.aload_n 0, 1) := dk_42 (dk_at dksJ13_linkFirst_1 3 rfl rfl)
theorem dJ13_linkFirst_26 : decode cJ13_linkFirst 26 = .ok (.aload_n 3, 1) := dk_45 (dk_at dksJ13_linkFirst_1 4 rfl rfl)
theorem dJ13_linkFirst_27 : decode cJ13_linkFirst 27 = .ok (.putfield 27, 3) := dk_181 0 27 (dk_at dksJ13_linkFirst_1 5 rfl rfl)
theorem dJ13_linkFirst_30 : decode cJ13_linkFirst 30 = .ok (.goto 8, 3) := dk_167 0 8 (dk_at dksJ13_linkFirst_1 8 rfl rfl)
theorem dJ13_linkFirst_33 : decode cJ13_linkFirst 33 = .ok (.aload_n 2, 1) := dk_44 (dk_at dksJ13_linkFirst_1 11 rfl rfl)
theorem dJ13_linkFirst_34 : decode cJ13_linkFirst 34 = .ok (.aload_n 3, 1) := dk_45 (dk_at dksJ13_linkFirst_1 12 rfl rfl)
theorem dJ13_linkFirst_35 : decode cJ13_linkFirst 35 = .ok (.putfield 30, 3) := dk_181 0 30 (dk_at dksJ13_linkFirst_1 13 rfl rfl)
theorem dJ13_linkFirst_38 : decode cJ13_linkFirst 38 = .ok (.aload_n 0, 1) := dk_42 (dk_at dksJ13_linkFirst_1 16 rfl rfl)
theorem dJ13_linkFirst_39 : decode cJ13_linkFirst 39 = .ok (.dup, 1) := dk_89 (dk_at dksJ13_linkFirst_1 17 rfl rfl)
theorem dJ13_linkFirst_40 : decode cJ13_linkFirst 40 = .ok (.getfield 7, 3) := dk_180 0 7 (dk_at dksJ13_linkFirst_1 18 rfl rfl)
theorem dJ13_linkFirst_43 : decode cJ13_linkFirst 43 = .ok (.iconst 1, 1) := dk_4 (dk_at dksJ13_linkFirst_1 21 rfl rfl)
theorem dJ13_linkFirst_44 : decode cJ13_linkFirst 44 = .ok (.iadd, 1) := dk_96 (dk_at dksJ13_linkFirst_1 22 rfl rfl)
theorem dJ13_linkFirst_45 : decode cJ13_linkFirst 45 = .ok (.putfield 7, 3) := dk_181 0 7 (dk_at dksJ13_linkFirst_2 0 rfl rfl)
theorem dJ13_linkFirst_48 : decode cJ13_linkFirst 48 = .ok (.aload_n 0, 1) := dk_42 (dk_at dksJ13_linkFirst_2 3 rfl rfl)
theorem dJ13_linkFirst_49 : decode cJ13_linkFirst 49 = .ok (.dup, 1) := dk_89 (dk_at dksJ13_linkFirst_2 4 rfl rfl)
theorem dJ13_linkFirst_50 : decode cJ13_linkFirst 50 = .ok (.getfield 33, 3) := dk_180 0 33 (dk_at dksJ13_linkFirst_2 5 rfl rfl)
theorem dJ13_linkFirst_53 : decode cJ13_linkFirst 53 = .ok (.iconst 1, 1) := dk_4 (dk_at dksJ13_linkFirst_2 8 rfl rfl)
theorem dJ13_linkFirst_54 : decode cJ13_linkFirst 54 = .ok (.iadd, 1) := dk_96 (dk_at dksJ13_linkFirst_2 9 rfl rfl)
theorem dJ13_linkFirst_55 : decode cJ13_linkFirst 55 = .ok (.putfield 33, 3) := dk_181 0 33 (dk_at dksJ13_linkFirst_2 10 rfl rfl)
theorem dJ13_linkFirst_58 : decode cJ13_linkFirst 58 = .ok (.return_, 1) := dk_177 (dk_at dksJ13_linkFirst_2 13 rfl rfl)
abbrev cJ13_pollFirst : ByteArray := prog_56_method_43_code
def yJ13_pollFirst : MethodName := ⟨RJ13, "pollFirst", "()Ljava/lang/Object;"⟩
def dkwJ13_pollFirst_0 : List UInt8 := [42, 180, 0, 18, 76, 43, 199, 0, 7, 1, 167, 0, 8, 42, 43, 182, 0, 46, 176]
abbrev dktJ13_pollFirst_0 : List UInt8 := dkwJ13_pollFirst_0 ++ []
theorem dksJ13_pollFirst_0 : cJ13_pollFirst.data.toList.drop 0 = dktJ13_pollFirst_0 := by decide +kernel
theorem dJ13_pollFirst_0 : decode cJ13_pollFirst 0 = .ok (.aload_n 0, 1) := dk_42 (dk_at dksJ13_pollFirst_0 0 rfl rfl)
theorem dJ13_pollFirst_1 : decode cJ13_pollFirst 1 = .ok (.getfield 18, 3) := dk_180 0 18 (dk_at dksJ13_pollFirst_0 1 rfl rfl)
theorem dJ13_pollFirst_4 : decode cJ13_pollFirst 4 = .ok (.astore_n 1, 1) := dk_76 (dk_at dksJ13_pollFirst_0 4 rfl rfl)
theorem dJ13_pollFirst_5 : decode cJ13_pollFirst 5 = .ok (.aload_n 1, 1) := dk_43 (dk_at dksJ13_pollFirst_0 5 rfl rfl)
theorem dJ13_pollFirst_6 : decode cJ13_pollFirst 6 = .ok (.ifnonnull 7, 3) := dk_199 0 7 (dk_at dksJ13_pollFirst_0 6 rfl rfl)
theorem dJ13_pollFirst_9 : decode cJ13_pollFirst 9 = .ok (.aconst_null, 1) := dk_1 (dk_at dksJ13_pollFirst_0 9 rfl rfl)
theorem dJ13_pollFirst_10 : decode cJ13_pollFirst 10 = .ok (.goto 8, 3) := dk_167 0 8 (dk_at dksJ13_pollFirst_0 10 rfl rfl)
theorem dJ13_pollFirst_13 : decode cJ13_pollFirst 13 = .ok (.aload_n 0, 1) := dk_42 (dk_at dksJ13_pollFirst_0 13 rfl rfl)
theorem dJ13_pollFirst_14 : decode cJ13_pollFirst 14 = .ok (.aload_n 1, 1) := dk_43 (dk_at dksJ13_pollFirst_0 14 rfl rfl)
theorem dJ13_pollFirst_15 : decode cJ13_pollFirst 15 = .ok (.invokevirtual 46, 3) := dk_182 0 46 (dk_at dksJ13_pollFirst_0 15 rfl rfl)
theorem dJ13_pollFirst_18 : decode cJ13_pollFirst 18 = .ok (.areturn, 1) := dk_176 (dk_at dksJ13_pollFirst_0 18 rfl rfl)
abbrev cJ13_unlinkFirst : ByteArray := prog_56_method_6_code
def yJ13_unlinkFirst : MethodName := ⟨RJ13, "unlinkFirst", "(Ljava/util/LinkedList$Node;)Ljava/lang/Object;"⟩
def dkwJ13_unlinkFirst_2 : List UInt8 := [180, 0, 7, 4, 100, 181, 0, 7, 42, 89, 180, 0, 33, 4, 96, 181, 0, 33, 44, 176]
abbrev dktJ13_unlinkFirst_2 : List UInt8 := dkwJ13_unlinkFirst_2 ++ []
def dkwJ13_unlinkFirst_1 : List UInt8 := [181, 0, 18, 45, 199, 0, 11, 42, 1, 181, 0, 27, 167, 0, 8, 45, 1, 181, 0, 30, 42, 89]
abbrev dktJ13_unlinkFirst_1 : List UInt8 := dkwJ13_unlinkFirst_1 ++ dktJ13_unlinkFirst_2
def dkwJ13_unlinkFirst_0 : List UInt8 := [43, 180, 0, 39, 77, 43, 180, 0, 36, 78, 43, 1, 181, 0, 39, 43, 1, 181, 0, 36, 42, 45]
abbrev dktJ13_unlinkFirst_0 : List UInt8 := dkwJ13_unlinkFirst_0 ++ dktJ13_unlinkFirst_1
theorem dksJ13_unlinkFirst_0 : cJ13_unlinkFirst.data.toList.drop 0 = dktJ13_unlinkFirst_0 := by decide +kernel
theorem dksJ13_unlinkFirst_1 : cJ13_unlinkFirst.data.toList.drop 22 = dktJ13_unlinkFirst_1 := dk_seg dksJ13_unlinkFirst_0 22 rfl rfl
theorem dksJ13_unlinkFirst_2 : cJ13_unlinkFirst.data.toList.drop 44 = dktJ13_unlinkFirst_2 := dk_seg dksJ13_unlinkFirst_1 22 rfl rfl
theorem dJ13_unlinkFirst_0 : decode cJ13_unlinkFirst 0 = .ok (.aload_n 1, 1) := dk_43 (dk_at dksJ13_unlinkFirst_0 0 rfl rfl)
theorem dJ13_unlinkFirst_1 : decode cJ13_unlinkFirst 1 = .ok (.getfield 39, 3) := dk_180 0 39 (dk_at dksJ13_unlinkFirst_0 1 rfl rfl)
theorem dJ13_unlinkFirst_4 : decode cJ13_unlinkFirst 4 = .ok (.astore_n 2, 1) := dk_77 (dk_at dksJ13_unlinkFirst_0 4 rfl rfl)
theorem dJ13_unlinkFirst_5 : decode cJ13_unlinkFirst 5 = .ok (.aload_n 1, 1) := dk_43 (dk_at dksJ13_unlinkFirst_0 5 rfl rfl)
theorem dJ13_unlinkFirst_6 : decode cJ13_unlinkFirst 6 = .ok (.getfield 36, 3) := dk_180 0 36 (dk_at dksJ13_unlinkFirst_0 6 rfl rfl)
theorem dJ13_unlinkFirst_9 : decode cJ13_unlinkFirst 9 = .ok (.astore_n 3, 1) := dk_78 (dk_at dksJ13_unlinkFirst_0 9 rfl rfl)
theorem dJ13_unlinkFirst_10 : decode cJ13_unlinkFirst 10 = .ok (.aload_n 1, 1) := dk_43 (dk_at dksJ13_unlinkFirst_0 10 rfl rfl)
theorem dJ13_unlinkFirst_11 : decode cJ13_unlinkFirst 11 = .ok (.aconst_null, 1) := dk_1 (dk_at dksJ13_unlinkFirst_0 11 rfl rfl)
theorem dJ13_unlinkFirst_12 : decode cJ13_unlinkFirst 12 = .ok (.putfield 39, 3) := dk_181 0 39 (dk_at dksJ13_unlinkFirst_0 12 rfl rfl)
theorem dJ13_unlinkFirst_15 : decode cJ13_unlinkFirst 15 = .ok (.aload_n 1, 1) := dk_43 (dk_at dksJ13_unlinkFirst_0 15 rfl rfl)
theorem dJ13_unlinkFirst_16 : decode cJ13_unlinkFirst 16 = .ok (.aconst_null, 1) := dk_1 (dk_at dksJ13_unlinkFirst_0 16 rfl rfl)
theorem dJ13_unlinkFirst_17 : decode cJ13_unlinkFirst 17 = .ok (.putfield 36, 3) := dk_181 0 36 (dk_at dksJ13_unlinkFirst_0 17 rfl rfl)
theorem dJ13_unlinkFirst_20 : decode cJ13_unlinkFirst 20 = .ok (.aload_n 0, 1) := dk_42 (dk_at dksJ13_unlinkFirst_0 20 rfl rfl)
theorem dJ13_unlinkFirst_21 : decode cJ13_unlinkFirst 21 = .ok (.aload_n 3, 1) := dk_45 (dk_at dksJ13_unlinkFirst_0 21 rfl rfl)
theorem dJ13_unlinkFirst_22 : decode cJ13_unlinkFirst 22 = .ok (.putfield 18, 3) := dk_181 0 18 (dk_at dksJ13_unlinkFirst_1 0 rfl rfl)
theorem dJ13_unlinkFirst_25 : decode cJ13_unlinkFirst 25 = .ok (.aload_n 3, 1) := dk_45 (dk_at dksJ13_unlinkFirst_1 3 rfl rfl)
theorem dJ13_unlinkFirst_26 : decode cJ13_unlinkFirst 26 = .ok (.ifnonnull 11, 3) := dk_199 0 11 (dk_at dksJ13_unlinkFirst_1 4 rfl rfl)
theorem dJ13_unlinkFirst_29 : decode cJ13_unlinkFirst 29 = .ok (.aload_n 0, 1) := dk_42 (dk_at dksJ13_unlinkFirst_1 7 rfl rfl)
theorem dJ13_unlinkFirst_30 : decode cJ13_unlinkFirst 30 = .ok (.aconst_null, 1) := dk_1 (dk_at dksJ13_unlinkFirst_1 8 rfl rfl)
theorem dJ13_unlinkFirst_31 : decode cJ13_unlinkFirst 31 = .ok (.putfield 27, 3) := dk_181 0 27 (dk_at dksJ13_unlinkFirst_1 9 rfl rfl)
theorem dJ13_unlinkFirst_34 : decode cJ13_unlinkFirst 34 = .ok (.goto 8, 3) := dk_167 0 8 (dk_at dksJ13_unlinkFirst_1 12 rfl rfl)
theorem dJ13_unlinkFirst_37 : decode cJ13_unlinkFirst 37 = .ok (.aload_n 3, 1) := dk_45 (dk_at dksJ13_unlinkFirst_1 15 rfl rfl)
theorem dJ13_unlinkFirst_38 : decode cJ13_unlinkFirst 38 = .ok (.aconst_null, 1) := dk_1 (dk_at dksJ13_unlinkFirst_1 16 rfl rfl)
theorem dJ13_unlinkFirst_39 : decode cJ13_unlinkFirst 39 = .ok (.putfield 30, 3) := dk_181 0 30 (dk_at dksJ13_unlinkFirst_1 17 rfl rfl)
theorem dJ13_unlinkFirst_42 : decode cJ13_unlinkFirst 42 = .ok (.aload_n 0, 1) := dk_42 (dk_at dksJ13_unlinkFirst_1 20 rfl rfl)
theorem dJ13_unlinkFirst_43 : decode cJ13_unlinkFirst 43 = .ok (.dup, 1) := dk_89 (dk_at dksJ13_unlinkFirst_1 21 rfl rfl)
theorem dJ13_unlinkFirst_44 : decode cJ13_unlinkFirst 44 = .ok (.getfield 7, 3) := dk_180 0 7 (dk_at dksJ13_unlinkFirst_2 0 rfl rfl)
theorem dJ13_unlinkFirst_47 : decode cJ13_unlinkFirst 47 = .ok (.iconst 1, 1) := dk_4 (dk_at dksJ13_unlinkFirst_2 3 rfl rfl)
theorem dJ13_unlinkFirst_48 : decode cJ13_unlinkFirst 48 = .ok (.isub, 1) := dk_100 (dk_at dksJ13_unlinkFirst_2 4 rfl rfl)
theorem dJ13_unlinkFirst_49 : decode cJ13_unlinkFirst 49 = .ok (.putfield 7, 3) := dk_181 0 7 (dk_at dksJ13_unlinkFirst_2 5 rfl rfl)
theorem dJ13_unlinkFirst_52 : decode cJ13_unlinkFirst 52 = .ok (.aload_n 0, 1) := dk_42 (dk_at dksJ13_unlinkFirst_2 8 rfl rfl)
theorem dJ13_unlinkFirst_53 : decode cJ13_unlinkFirst 53 = .ok (.dup, 1) := dk_89 (dk_at dksJ13_unlinkFirst_2 9 rfl rfl)
theorem dJ13_unlinkFirst_54 : decode cJ13_unlinkFirst 54 = .ok (.getfield 33, 3) := dk_180 0 33 (dk_at dksJ13_unlinkFirst_2 10 rfl rfl)
theorem dJ13_unlinkFirst_57 : decode cJ13_unlinkFirst 57 = .ok (.iconst 1, 1) := dk_4 (dk_at dksJ13_unlinkFirst_2 13 rfl rfl)
theorem dJ13_unlinkFirst_58 : decode cJ13_unlinkFirst 58 = .ok (.iadd, 1) := dk_96 (dk_at dksJ13_unlinkFirst_2 14 rfl rfl)
theorem dJ13_unlinkFirst_59 : decode cJ13_unlinkFirst 59 = .ok (.putfield 33, 3) := dk_181 0 33 (dk_at dksJ13_unlinkFirst_2 15 rfl rfl)
theorem dJ13_unlinkFirst_62 : decode cJ13_unlinkFirst 62 = .ok (.aload_n 2, 1) := dk_44 (dk_at dksJ13_unlinkFirst_2 18 rfl rfl)
theorem dJ13_unlinkFirst_63 : decode cJ13_unlinkFirst 63 = .ok (.areturn, 1) := dk_176 (dk_at dksJ13_unlinkFirst_2 19 rfl rfl)
theorem q148 : (Jvm.Cond.initialized "java/util/LinkedList") ∈ lw_all := lw_g (lw_at lw_m1 19 rfl) rfl
theorem q308 : (Jvm.Cond.selects "java/util/LinkedList" ({ cls := "java/lang/Object", name := "getClass", desc := "()Ljava/lang/Class;" } : Jvm.MethodName) ({ cls := "java/lang/Object", name := "getClass", desc := "()Ljava/lang/Class;" } : Jvm.MethodName)) ∈ lw_all := lw_g (lw_at lw_m1 179 rfl) rfl
theorem q404 : (Jvm.Cond.instantiable "java/util/LinkedList" (4 : Nat)) ∈ lw_all := lw_g (lw_at lw_m2 35 rfl) rfl
theorem q406 : (Jvm.Cond.instanceMethod ({ cls := "java/util/LinkedList", name := "<init>", desc := "()V" } : Jvm.MethodName)) ∈ lw_all := lw_g (lw_at lw_m2 37 rfl) rfl
theorem q407 : (Jvm.Cond.code ({ cls := "java/util/LinkedList", name := "<init>", desc := "()V" } : Jvm.MethodName) prog_56_method_1_code (1 : Nat) (Option.none : Option Jvm.ClassFile.FieldType)) ∈ lw_all := lw_g (lw_at lw_m2 38 rfl) rfl
theorem q408 : (Jvm.Cond.methodLink "java/util/LinkedList" (1 : Nat) ({ cls := "java/util/AbstractSequentialList", name := "<init>", desc := "()V" } : Jvm.MethodName)) ∈ lw_all := lw_g (lw_at lw_m2 39 rfl) rfl
theorem q415 : (Jvm.Cond.fieldLink "java/util/LinkedList" (7 : Nat) "java/util/LinkedList" "size" "I") ∈ lw_all := lw_g (lw_at lw_m2 46 rfl) rfl
theorem q417 : (Jvm.Cond.fieldLink "java/util/LinkedList" (18 : Nat) "java/util/LinkedList" "first" "Ljava/util/LinkedList$Node;") ∈ lw_all := lw_g (lw_at lw_m2 48 rfl) rfl
theorem q418 : (Jvm.Cond.fieldLink "java/util/LinkedList" (27 : Nat) "java/util/LinkedList" "last" "Ljava/util/LinkedList$Node;") ∈ lw_all := lw_g (lw_at lw_m2 49 rfl) rfl
theorem q421 : (Jvm.Cond.sameField "java/util/LinkedList" "java/util/AbstractList" "modCount" "I") ∈ lw_all := lw_g (lw_at lw_m2 52 rfl) rfl
theorem q425 : (Jvm.Cond.fieldLink "java/util/LinkedList" (33 : Nat) "java/util/LinkedList" "modCount" "I") ∈ lw_all := lw_g (lw_at lw_m2 56 rfl) rfl
theorem q427 : (Jvm.Cond.lays "java/util/LinkedList" "java/util/LinkedList" "size" "I") ∈ lw_all := lw_g (lw_at lw_m2 58 rfl) rfl
theorem q428 : (Jvm.Cond.soleField "java/util/LinkedList" "size") ∈ lw_all := lw_g (lw_at lw_m2 59 rfl) rfl
theorem q429 : (Jvm.Cond.lays "java/util/LinkedList" "java/util/LinkedList" "first" "Ljava/util/LinkedList$Node;") ∈ lw_all := lw_g (lw_at lw_m2 60 rfl) rfl
theorem q430 : (Jvm.Cond.soleField "java/util/LinkedList" "first") ∈ lw_all := lw_g (lw_at lw_m2 61 rfl) rfl
theorem q431 : (Jvm.Cond.lays "java/util/LinkedList" "java/util/LinkedList" "last" "Ljava/util/LinkedList$Node;") ∈ lw_all := lw_g (lw_at lw_m2 62 rfl) rfl
theorem q432 : (Jvm.Cond.soleField "java/util/LinkedList" "last") ∈ lw_all := lw_g (lw_at lw_m2 63 rfl) rfl
theorem q433 : (Jvm.Cond.lays "java/util/LinkedList" "java/util/AbstractList" "modCount" "I") ∈ lw_all := lw_g (lw_at lw_m2 64 rfl) rfl
theorem q435 : (Jvm.Cond.superclass "java/util/LinkedList" "java/util/AbstractSequentialList") ∈ lw_all := lw_g (lw_at lw_m2 66 rfl) rfl
theorem q772 : (Jvm.Cond.castable "java/util/LinkedList" "java/util/List") ∈ lw_tbl := lw_at lw_m3 163 rfl
theorem q773 : (Jvm.Cond.selects "java/util/LinkedList" ({ cls := "java/util/List", name := "size", desc := "()I" } : Jvm.MethodName) ({ cls := "java/util/LinkedList", name := "size", desc := "()I" } : Jvm.MethodName)) ∈ lw_all := lw_g (lw_at lw_m3 164 rfl) rfl
theorem q774 : (Jvm.Cond.unhidden "java/util/LinkedList" "size" "()I") ∈ lw_tbl := lw_at lw_m3 165 rfl
theorem q775 : (Jvm.Cond.instanceMethod ({ cls := "java/util/LinkedList", name := "size", desc := "()I" } : Jvm.MethodName)) ∈ lw_all := lw_g (lw_at lw_m3 166 rfl) rfl
theorem q776 : (Jvm.Cond.publicMethod ({ cls := "java/util/LinkedList", name := "size", desc := "()I" } : Jvm.MethodName)) ∈ lw_tbl := lw_at lw_m3 167 rfl
theorem q777 : (Jvm.Cond.code ({ cls := "java/util/LinkedList", name := "size", desc := "()I" } : Jvm.MethodName) prog_56_method_16_code (1 : Nat) (Option.some Jvm.ClassFile.FieldType.int)) ∈ lw_all := lw_g (lw_at lw_m3 168 rfl) rfl
theorem q807 : (Jvm.Cond.selects "java/util/LinkedList" ({ cls := "java/util/List", name := "get", desc := "(I)Ljava/lang/Object;" } : Jvm.MethodName) ({ cls := "java/util/LinkedList", name := "get", desc := "(I)Ljava/lang/Object;" } : Jvm.MethodName)) ∈ lw_all := lw_g (lw_at lw_m3 198 rfl) rfl
theorem q808 : (Jvm.Cond.unhidden "java/util/LinkedList" "get" "(I)Ljava/lang/Object;") ∈ lw_tbl := lw_at lw_m3 199 rfl
theorem q809 : (Jvm.Cond.instanceMethod ({ cls := "java/util/LinkedList", name := "get", desc := "(I)Ljava/lang/Object;" } : Jvm.MethodName)) ∈ lw_all := lw_g (lw_at lw_m3 200 rfl) rfl
theorem q810 : (Jvm.Cond.publicMethod ({ cls := "java/util/LinkedList", name := "get", desc := "(I)Ljava/lang/Object;" } : Jvm.MethodName)) ∈ lw_tbl := lw_at lw_m3 201 rfl
theorem q811 : (Jvm.Cond.code ({ cls := "java/util/LinkedList", name := "get", desc := "(I)Ljava/lang/Object;" } : Jvm.MethodName) prog_56_method_22_code (2 : Nat) (Option.some (Jvm.ClassFile.FieldType.object "java/lang/Object"))) ∈ lw_all := lw_g (lw_at lw_m3 202 rfl) rfl
theorem q812 : (Jvm.Cond.methodLink "java/util/LinkedList" (90 : Nat) ({ cls := "java/util/LinkedList", name := "checkElementIndex", desc := "(I)V" } : Jvm.MethodName)) ∈ lw_all := lw_g (lw_at lw_m3 203 rfl) rfl
theorem q813 : (Jvm.Cond.privateMethod ({ cls := "java/util/LinkedList", name := "checkElementIndex", desc := "(I)V" } : Jvm.MethodName)) ∈ lw_tbl := lw_at lw_m3 204 rfl
theorem q814 : (Jvm.Cond.instanceMethod ({ cls := "java/util/LinkedList", name := "checkElementIndex", desc := "(I)V" } : Jvm.MethodName)) ∈ lw_all := lw_g (lw_at lw_m3 205 rfl) rfl
theorem q815 : (Jvm.Cond.code ({ cls := "java/util/LinkedList", name := "checkElementIndex", desc := "(I)V" } : Jvm.MethodName) prog_56_method_29_code (2 : Nat) (Option.none : Option Jvm.ClassFile.FieldType)) ∈ lw_all := lw_g (lw_at lw_m3 206 rfl) rfl
theorem q816 : (Jvm.Cond.methodLink "java/util/LinkedList" (115 : Nat) ({ cls := "java/util/LinkedList", name := "isElementIndex", desc := "(I)Z" } : Jvm.MethodName)) ∈ lw_all := lw_g (lw_at lw_m3 207 rfl) rfl
theorem q817 : (Jvm.Cond.privateMethod ({ cls := "java/util/LinkedList", name := "isElementIndex", desc := "(I)Z" } : Jvm.MethodName)) ∈ lw_tbl := lw_at lw_m3 208 rfl
theorem q818 : (Jvm.Cond.instanceMethod ({ cls := "java/util/LinkedList", name := "isElementIndex", desc := "(I)Z" } : Jvm.MethodName)) ∈ lw_all := lw_g (lw_at lw_m3 209 rfl) rfl
theorem q819 : (Jvm.Cond.code ({ cls := "java/util/LinkedList", name := "isElementIndex", desc := "(I)Z" } : Jvm.MethodName) prog_56_method_26_code (2 : Nat) (Option.some Jvm.ClassFile.FieldType.boolean)) ∈ lw_all := lw_g (lw_at lw_m3 210 rfl) rfl
theorem q820 : (Jvm.Cond.methodLink "java/util/LinkedList" (86 : Nat) ({ cls := "java/util/LinkedList", name := "node", desc := "(I)Ljava/util/LinkedList$Node;" } : Jvm.MethodName)) ∈ lw_all := lw_g (lw_at lw_m3 211 rfl) rfl
theorem q821 : (Jvm.Cond.instanceMethod ({ cls := "java/util/LinkedList", name := "node", desc := "(I)Ljava/util/LinkedList$Node;" } : Jvm.MethodName)) ∈ lw_all := lw_g (lw_at lw_m3 212 rfl) rfl
theorem q822 : (Jvm.Cond.selects "java/util/LinkedList" ({ cls := "java/util/LinkedList", name := "node", desc := "(I)Ljava/util/LinkedList$Node;" } : Jvm.MethodName) ({ cls := "java/util/LinkedList", name := "node", desc := "(I)Ljava/util/LinkedList$Node;" } : Jvm.MethodName)) ∈ lw_all := lw_g (lw_at lw_m3 213 rfl) rfl
theorem q823 : (Jvm.Cond.code ({ cls := "java/util/LinkedList", name := "node", desc := "(I)Ljava/util/LinkedList$Node;" } : Jvm.MethodName) prog_56_method_31_code (4 : Nat) (Option.some (Jvm.ClassFile.FieldType.object "java/util/LinkedList$Node"))) ∈ lw_all := lw_g (lw_at lw_m3 214 rfl) rfl
theorem q880 : (Jvm.Cond.instanceMethod ({ cls := "java/util/LinkedList", name := "clear", desc := "()V" } : Jvm.MethodName)) ∈ lw_all := lw_g (lw_at lw_m4 31 rfl) rfl
theorem q881 : (Jvm.Cond.selects "java/util/LinkedList" ({ cls := "java/util/LinkedList", name := "clear", desc := "()V" } : Jvm.MethodName) ({ cls := "java/util/LinkedList", name := "clear", desc := "()V" } : Jvm.MethodName)) ∈ lw_all := lw_g (lw_at lw_m4 32 rfl) rfl
theorem q882 : (Jvm.Cond.code ({ cls := "java/util/LinkedList", name := "clear", desc := "()V" } : Jvm.MethodName) prog_56_method_21_code (3 : Nat) (Option.none : Option Jvm.ClassFile.FieldType)) ∈ lw_all := lw_g (lw_at lw_m4 33 rfl) rfl
theorem q1032 : (Jvm.Cond.instanceMethod ({ cls := "java/util/LinkedList", name := "addLast", desc := "(Ljava/lang/Object;)V" } : Jvm.MethodName)) ∈ lw_all := lw_g (lw_at lw_m4 183 rfl) rfl
theorem q1033 : (Jvm.Cond.selects "java/util/LinkedList" ({ cls := "java/util/LinkedList", name := "addLast", desc := "(Ljava/lang/Object;)V" } : Jvm.MethodName) ({ cls := "java/util/LinkedList", name := "addLast", desc := "(Ljava/lang/Object;)V" } : Jvm.MethodName)) ∈ lw_all := lw_g (lw_at lw_m4 184 rfl) rfl
theorem q1034 : (Jvm.Cond.code ({ cls := "java/util/LinkedList", name := "addLast", desc := "(Ljava/lang/Object;)V" } : Jvm.MethodName) prog_56_method_14_code (2 : Nat) (Option.none : Option Jvm.ClassFile.FieldType)) ∈ lw_all := lw_g (lw_at lw_m4 185 rfl) rfl
theorem q1035 : (Jvm.Cond.methodLink "java/util/LinkedList" (57 : Nat) ({ cls := "java/util/LinkedList", name := "linkLast", desc := "(Ljava/lang/Object;)V" } : Jvm.MethodName)) ∈ lw_all := lw_g (lw_at lw_m4 186 rfl) rfl
theorem q1036 : (Jvm.Cond.instanceMethod ({ cls := "java/util/LinkedList", name := "linkLast", desc := "(Ljava/lang/Object;)V" } : Jvm.MethodName)) ∈ lw_all := lw_g (lw_at lw_m4 187 rfl) rfl
theorem q1037 : (Jvm.Cond.selects "java/util/LinkedList" ({ cls := "java/util/LinkedList", name := "linkLast", desc := "(Ljava/lang/Object;)V" } : Jvm.MethodName) ({ cls := "java/util/LinkedList", name := "linkLast", desc := "(Ljava/lang/Object;)V" } : Jvm.MethodName)) ∈ lw_all := lw_g (lw_at lw_m4 188 rfl) rfl
theorem q1038 : (Jvm.Cond.code ({ cls := "java/util/LinkedList", name := "linkLast", desc := "(Ljava/lang/Object;)V" } : Jvm.MethodName) prog_56_method_4_code (4 : Nat) (Option.none : Option Jvm.ClassFile.FieldType)) ∈ lw_all := lw_g (lw_at lw_m4 189 rfl) rfl
theorem q1039 : (Jvm.Cond.classLink "java/util/LinkedList" (22 : Nat) "java/util/LinkedList$Node") ∈ lw_all := lw_g (lw_at lw_m4 190 rfl) rfl
theorem q1041 : (Jvm.Cond.methodLink "java/util/LinkedList" (24 : Nat) ({ cls := "java/util/LinkedList$Node", name := "<init>", desc := "(Ljava/util/LinkedList$Node;Ljava/lang/Object;Ljava/util/LinkedList$Node;)V" } : Jvm.MethodName)) ∈ lw_all := lw_g (lw_at lw_m4 192 rfl) rfl
theorem q1047 : (Jvm.Cond.fieldLink "java/util/LinkedList" (39 : Nat) "java/util/LinkedList$Node" "item" "Ljava/lang/Object;") ∈ lw_all := lw_g (lw_at lw_m4 198 rfl) rfl
theorem q1050 : (Jvm.Cond.fieldLink "java/util/LinkedList" (36 : Nat) "java/util/LinkedList$Node" "next" "Ljava/util/LinkedList$Node;") ∈ lw_all := lw_g (lw_at lw_m4 201 rfl) rfl
theorem q1052 : (Jvm.Cond.fieldLink "java/util/LinkedList" (30 : Nat) "java/util/LinkedList$Node" "prev" "Ljava/util/LinkedList$Node;") ∈ lw_all := lw_g (lw_at lw_m4 203 rfl) rfl
theorem q1074 : (Jvm.Cond.sameMethod "java/util/LinkedList" "java/util/AbstractSequentialList" "iterator" "()Ljava/util/Iterator;") ∈ lw_all := lw_g (lw_at lw_m4 225 rfl) rfl
theorem q1076 : (Jvm.Cond.selects "java/util/LinkedList" ({ cls := "java/util/LinkedList", name := "iterator", desc := "()Ljava/util/Iterator;" } : Jvm.MethodName) ({ cls := "java/util/AbstractSequentialList", name := "iterator", desc := "()Ljava/util/Iterator;" } : Jvm.MethodName)) ∈ lw_all := lw_g (lw_at lw_m4 227 rfl) rfl
theorem q1082 : (Jvm.Cond.selects "java/util/LinkedList" ({ cls := "java/util/AbstractSequentialList", name := "listIterator", desc := "()Ljava/util/ListIterator;" } : Jvm.MethodName) ({ cls := "java/util/AbstractList", name := "listIterator", desc := "()Ljava/util/ListIterator;" } : Jvm.MethodName)) ∈ lw_all := lw_g (lw_at lw_m4 233 rfl) rfl
theorem q1122 : (Jvm.Cond.selects "java/util/LinkedList" ({ cls := "java/util/AbstractList", name := "listIterator", desc := "(I)Ljava/util/ListIterator;" } : Jvm.MethodName) ({ cls := "java/util/LinkedList", name := "listIterator", desc := "(I)Ljava/util/ListIterator;" } : Jvm.MethodName)) ∈ lw_all := lw_g (lw_at lw_m5 33 rfl) rfl
theorem q1123 : (Jvm.Cond.instanceMethod ({ cls := "java/util/LinkedList", name := "listIterator", desc := "(I)Ljava/util/ListIterator;" } : Jvm.MethodName)) ∈ lw_all := lw_g (lw_at lw_m5 34 rfl) rfl
theorem q1124 : (Jvm.Cond.code ({ cls := "java/util/LinkedList", name := "listIterator", desc := "(I)Ljava/util/ListIterator;" } : Jvm.MethodName) prog_56_method_49_code (2 : Nat) (Option.some (Jvm.ClassFile.FieldType.object "java/util/ListIterator"))) ∈ lw_all := lw_g (lw_at lw_m5 35 rfl) rfl
theorem q1125 : (Jvm.Cond.methodLink "java/util/LinkedList" (76 : Nat) ({ cls := "java/util/LinkedList", name := "checkPositionIndex", desc := "(I)V" } : Jvm.MethodName)) ∈ lw_all := lw_g (lw_at lw_m5 36 rfl) rfl
theorem q1126 : (Jvm.Cond.privateMethod ({ cls := "java/util/LinkedList", name := "checkPositionIndex", desc := "(I)V" } : Jvm.MethodName)) ∈ lw_tbl := lw_at lw_m5 37 rfl
theorem q1127 : (Jvm.Cond.instanceMethod ({ cls := "java/util/LinkedList", name := "checkPositionIndex", desc := "(I)V" } : Jvm.MethodName)) ∈ lw_all := lw_g (lw_at lw_m5 38 rfl) rfl
theorem q1128 : (Jvm.Cond.code ({ cls := "java/util/LinkedList", name := "checkPositionIndex", desc := "(I)V" } : Jvm.MethodName) prog_56_method_30_code (2 : Nat) (Option.none : Option Jvm.ClassFile.FieldType)) ∈ lw_all := lw_g (lw_at lw_m5 39 rfl) rfl
theorem q1129 : (Jvm.Cond.methodLink "java/util/LinkedList" (128 : Nat) ({ cls := "java/util/LinkedList", name := "isPositionIndex", desc := "(I)Z" } : Jvm.MethodName)) ∈ lw_all := lw_g (lw_at lw_m5 40 rfl) rfl
theorem q1130 : (Jvm.Cond.privateMethod ({ cls := "java/util/LinkedList", name := "isPositionIndex", desc := "(I)Z" } : Jvm.MethodName)) ∈ lw_tbl := lw_at lw_m5 41 rfl
theorem q1131 : (Jvm.Cond.instanceMethod ({ cls := "java/util/LinkedList", name := "isPositionIndex", desc := "(I)Z" } : Jvm.MethodName)) ∈ lw_all := lw_g (lw_at lw_m5 42 rfl) rfl
theorem q1132 : (Jvm.Cond.code ({ cls := "java/util/LinkedList", name := "isPositionIndex", desc := "(I)Z" } : Jvm.MethodName) prog_56_method_27_code (2 : Nat) (Option.some Jvm.ClassFile.FieldType.boolean)) ∈ lw_all := lw_g (lw_at lw_m5 43 rfl) rfl
theorem q1133 : (Jvm.Cond.classLink "java/util/LinkedList" (150 : Nat) "java/util/LinkedList$ListItr") ∈ lw_all := lw_g (lw_at lw_m5 44 rfl) rfl
theorem q1135 : (Jvm.Cond.methodLink "java/util/LinkedList" (152 : Nat) ({ cls := "java/util/LinkedList$ListItr", name := "<init>", desc := "(Ljava/util/LinkedList;I)V" } : Jvm.MethodName)) ∈ lw_all := lw_g (lw_at lw_m5 46 rfl) rfl
theorem q1171 : (Jvm.Cond.selects "java/util/LinkedList" ({ cls := "java/util/AbstractList", name := "size", desc := "()I" } : Jvm.MethodName) ({ cls := "java/util/LinkedList", name := "size", desc := "()I" } : Jvm.MethodName)) ∈ lw_all := lw_g (lw_at lw_m5 82 rfl) rfl
theorem q1202 : (Jvm.Cond.selects "java/util/LinkedList" ({ cls := "java/util/AbstractList", name := "get", desc := "(I)Ljava/lang/Object;" } : Jvm.MethodName) ({ cls := "java/util/LinkedList", name := "get", desc := "(I)Ljava/lang/Object;" } : Jvm.MethodName)) ∈ lw_all := lw_g (lw_at lw_m5 113 rfl) rfl
theorem q1530 : (Jvm.Cond.instanceMethod ({ cls := "java/util/LinkedList", name := "add", desc := "(ILjava/lang/Object;)V" } : Jvm.MethodName)) ∈ lw_all := lw_g (lw_at lw_m6 201 rfl) rfl
theorem q1531 : (Jvm.Cond.selects "java/util/LinkedList" ({ cls := "java/util/LinkedList", name := "add", desc := "(ILjava/lang/Object;)V" } : Jvm.MethodName) ({ cls := "java/util/LinkedList", name := "add", desc := "(ILjava/lang/Object;)V" } : Jvm.MethodName)) ∈ lw_all := lw_g (lw_at lw_m6 202 rfl) rfl
theorem q1532 : (Jvm.Cond.code ({ cls := "java/util/LinkedList", name := "add", desc := "(ILjava/lang/Object;)V" } : Jvm.MethodName) prog_56_method_24_code (3 : Nat) (Option.none : Option Jvm.ClassFile.FieldType)) ∈ lw_all := lw_g (lw_at lw_m6 203 rfl) rfl
theorem q1533 : (Jvm.Cond.methodLink "java/util/LinkedList" (93 : Nat) ({ cls := "java/util/LinkedList", name := "linkBefore", desc := "(Ljava/lang/Object;Ljava/util/LinkedList$Node;)V" } : Jvm.MethodName)) ∈ lw_all := lw_g (lw_at lw_m6 204 rfl) rfl
theorem q1534 : (Jvm.Cond.instanceMethod ({ cls := "java/util/LinkedList", name := "linkBefore", desc := "(Ljava/lang/Object;Ljava/util/LinkedList$Node;)V" } : Jvm.MethodName)) ∈ lw_all := lw_g (lw_at lw_m6 205 rfl) rfl
theorem q1535 : (Jvm.Cond.selects "java/util/LinkedList" ({ cls := "java/util/LinkedList", name := "linkBefore", desc := "(Ljava/lang/Object;Ljava/util/LinkedList$Node;)V" } : Jvm.MethodName) ({ cls := "java/util/LinkedList", name := "linkBefore", desc := "(Ljava/lang/Object;Ljava/util/LinkedList$Node;)V" } : Jvm.MethodName)) ∈ lw_all := lw_g (lw_at lw_m6 206 rfl) rfl
theorem q1536 : (Jvm.Cond.code ({ cls := "java/util/LinkedList", name := "linkBefore", desc := "(Ljava/lang/Object;Ljava/util/LinkedList$Node;)V" } : Jvm.MethodName) prog_56_method_5_code (5 : Nat) (Option.none : Option Jvm.ClassFile.FieldType)) ∈ lw_all := lw_g (lw_at lw_m6 207 rfl) rfl
theorem q1547 : (Jvm.Cond.instanceMethod ({ cls := "java/util/LinkedList", name := "remove", desc := "(I)Ljava/lang/Object;" } : Jvm.MethodName)) ∈ lw_all := lw_g (lw_at lw_m6 218 rfl) rfl
theorem q1548 : (Jvm.Cond.selects "java/util/LinkedList" ({ cls := "java/util/LinkedList", name := "remove", desc := "(I)Ljava/lang/Object;" } : Jvm.MethodName) ({ cls := "java/util/LinkedList", name := "remove", desc := "(I)Ljava/lang/Object;" } : Jvm.MethodName)) ∈ lw_all := lw_g (lw_at lw_m6 219 rfl) rfl
theorem q1549 : (Jvm.Cond.code ({ cls := "java/util/LinkedList", name := "remove", desc := "(I)Ljava/lang/Object;" } : Jvm.MethodName) prog_56_method_25_code (2 : Nat) (Option.some (Jvm.ClassFile.FieldType.object "java/lang/Object"))) ∈ lw_all := lw_g (lw_at lw_m6 220 rfl) rfl
theorem q1550 : (Jvm.Cond.methodLink "java/util/LinkedList" (64 : Nat) ({ cls := "java/util/LinkedList", name := "unlink", desc := "(Ljava/util/LinkedList$Node;)Ljava/lang/Object;" } : Jvm.MethodName)) ∈ lw_all := lw_g (lw_at lw_m6 221 rfl) rfl
theorem q1551 : (Jvm.Cond.instanceMethod ({ cls := "java/util/LinkedList", name := "unlink", desc := "(Ljava/util/LinkedList$Node;)Ljava/lang/Object;" } : Jvm.MethodName)) ∈ lw_all := lw_g (lw_at lw_m6 222 rfl) rfl
theorem q1552 : (Jvm.Cond.selects "java/util/LinkedList" ({ cls := "java/util/LinkedList", name := "unlink", desc := "(Ljava/util/LinkedList$Node;)Ljava/lang/Object;" } : Jvm.MethodName) ({ cls := "java/util/LinkedList", name := "unlink", desc := "(Ljava/util/LinkedList$Node;)Ljava/lang/Object;" } : Jvm.MethodName)) ∈ lw_all := lw_g (lw_at lw_m6 223 rfl) rfl
theorem q1553 : (Jvm.Cond.code ({ cls := "java/util/LinkedList", name := "unlink", desc := "(Ljava/util/LinkedList$Node;)Ljava/lang/Object;" } : Jvm.MethodName) prog_56_method_8_code (5 : Nat) (Option.some (Jvm.ClassFile.FieldType.object "java/lang/Object"))) ∈ lw_all := lw_g (lw_at lw_m6 224 rfl) rfl
theorem q1674 : (Jvm.Cond.instanceMethod ({ cls := "java/util/LinkedList", name := "addFirst", desc := "(Ljava/lang/Object;)V" } : Jvm.MethodName)) ∈ lw_all := lw_g (lw_at lw_m7 105 rfl) rfl
theorem q1675 : (Jvm.Cond.selects "java/util/LinkedList" ({ cls := "java/util/LinkedList", name := "addFirst", desc := "(Ljava/lang/Object;)V" } : Jvm.MethodName) ({ cls := "java/util/LinkedList", name := "addFirst", desc := "(Ljava/lang/Object;)V" } : Jvm.MethodName)) ∈ lw_all := lw_g (lw_at lw_m7 106 rfl) rfl
theorem q1676 : (Jvm.Cond.code ({ cls := "java/util/LinkedList", name := "addFirst", desc := "(Ljava/lang/Object;)V" } : Jvm.MethodName) prog_56_method_13_code (2 : Nat) (Option.none : Option Jvm.ClassFile.FieldType)) ∈ lw_all := lw_g (lw_at lw_m7 107 rfl) rfl
theorem q1677 : (Jvm.Cond.methodLink "java/util/LinkedList" (53 : Nat) ({ cls := "java/util/LinkedList", name := "linkFirst", desc := "(Ljava/lang/Object;)V" } : Jvm.MethodName)) ∈ lw_all := lw_g (lw_at lw_m7 108 rfl) rfl
theorem q1678 : (Jvm.Cond.privateMethod ({ cls := "java/util/LinkedList", name := "linkFirst", desc := "(Ljava/lang/Object;)V" } : Jvm.MethodName)) ∈ lw_tbl := lw_at lw_m7 109 rfl
theorem q1679 : (Jvm.Cond.instanceMethod ({ cls := "java/util/LinkedList", name := "linkFirst", desc := "(Ljava/lang/Object;)V" } : Jvm.MethodName)) ∈ lw_all := lw_g (lw_at lw_m7 110 rfl) rfl
theorem q1680 : (Jvm.Cond.code ({ cls := "java/util/LinkedList", name := "linkFirst", desc := "(Ljava/lang/Object;)V" } : Jvm.MethodName) prog_56_method_3_code (4 : Nat) (Option.none : Option Jvm.ClassFile.FieldType)) ∈ lw_all := lw_g (lw_at lw_m7 111 rfl) rfl
theorem q1698 : (Jvm.Cond.sameMethod "java/util/LinkedList" "java/util/AbstractCollection" "isEmpty" "()Z") ∈ lw_all := lw_g (lw_at lw_m7 129 rfl) rfl
theorem q1700 : (Jvm.Cond.selects "java/util/LinkedList" ({ cls := "java/util/LinkedList", name := "isEmpty", desc := "()Z" } : Jvm.MethodName) ({ cls := "java/util/AbstractCollection", name := "isEmpty", desc := "()Z" } : Jvm.MethodName)) ∈ lw_all := lw_g (lw_at lw_m7 131 rfl) rfl
theorem q1705 : (Jvm.Cond.instanceMethod ({ cls := "java/util/LinkedList", name := "pollFirst", desc := "()Ljava/lang/Object;" } : Jvm.MethodName)) ∈ lw_all := lw_g (lw_at lw_m7 136 rfl) rfl
theorem q1706 : (Jvm.Cond.selects "java/util/LinkedList" ({ cls := "java/util/LinkedList", name := "pollFirst", desc := "()Ljava/lang/Object;" } : Jvm.MethodName) ({ cls := "java/util/LinkedList", name := "pollFirst", desc := "()Ljava/lang/Object;" } : Jvm.MethodName)) ∈ lw_all := lw_g (lw_at lw_m7 137 rfl) rfl
theorem q1707 : (Jvm.Cond.code ({ cls := "java/util/LinkedList", name := "pollFirst", desc := "()Ljava/lang/Object;" } : Jvm.MethodName) prog_56_method_43_code (2 : Nat) (Option.some (Jvm.ClassFile.FieldType.object "java/lang/Object"))) ∈ lw_all := lw_g (lw_at lw_m7 138 rfl) rfl
theorem q1708 : (Jvm.Cond.methodLink "java/util/LinkedList" (46 : Nat) ({ cls := "java/util/LinkedList", name := "unlinkFirst", desc := "(Ljava/util/LinkedList$Node;)Ljava/lang/Object;" } : Jvm.MethodName)) ∈ lw_all := lw_g (lw_at lw_m7 139 rfl) rfl
theorem q1709 : (Jvm.Cond.privateMethod ({ cls := "java/util/LinkedList", name := "unlinkFirst", desc := "(Ljava/util/LinkedList$Node;)Ljava/lang/Object;" } : Jvm.MethodName)) ∈ lw_tbl := lw_at lw_m7 140 rfl
theorem q1710 : (Jvm.Cond.instanceMethod ({ cls := "java/util/LinkedList", name := "unlinkFirst", desc := "(Ljava/util/LinkedList$Node;)Ljava/lang/Object;" } : Jvm.MethodName)) ∈ lw_all := lw_g (lw_at lw_m7 141 rfl) rfl
theorem q1711 : (Jvm.Cond.code ({ cls := "java/util/LinkedList", name := "unlinkFirst", desc := "(Ljava/util/LinkedList$Node;)Ljava/lang/Object;" } : Jvm.MethodName) prog_56_method_6_code (4 : Nat) (Option.some (Jvm.ClassFile.FieldType.object "java/lang/Object"))) ∈ lw_all := lw_g (lw_at lw_m7 142 rfl) rfl
theorem q2673 : (Jvm.Cond.selects "java/util/LinkedList" ({ cls := "java/util/LinkedList", name := "size", desc := "()I" } : Jvm.MethodName) ({ cls := "java/util/LinkedList", name := "size", desc := "()I" } : Jvm.MethodName)) ∈ lw_all := lw_g (lw_at lw_m11 144 rfl) rfl
theorem q2674 : (Jvm.Cond.selects "java/util/LinkedList" ({ cls := "java/util/LinkedList", name := "get", desc := "(I)Ljava/lang/Object;" } : Jvm.MethodName) ({ cls := "java/util/LinkedList", name := "get", desc := "(I)Ljava/lang/Object;" } : Jvm.MethodName)) ∈ lw_all := lw_g (lw_at lw_m11 145 rfl) rfl
theorem q2680 : (Jvm.Cond.selects "java/util/LinkedList" ({ cls := "java/util/AbstractCollection", name := "size", desc := "()I" } : Jvm.MethodName) ({ cls := "java/util/LinkedList", name := "size", desc := "()I" } : Jvm.MethodName)) ∈ lw_all := lw_g (lw_at lw_m11 151 rfl) rfl
theorem q2689 : (Jvm.Cond.castable "java/util/LinkedList" "java/lang/Object") ∈ lw_tbl := lw_at lw_m11 160 rfl
theorem in_J13 : ∀ w ∈ wsJ130, w ∈ lw_all := lw_in wsJ130 [433, 427, 429, 431] (by decide +kernel) (by decide +kernel)
/-! java/util/ArrayList -/
set_option maxRecDepth 100000
def RJ14 : String := "java/util/ArrayList"
def TJ14 : u_T := fun k => match k with
  | 0 => ("java/util/AbstractList", "modCount", "I", false)
  | 1 => ("java/util/ArrayList", "elementData", "[Ljava/lang/Object;", false)
  | _ => ("java/util/ArrayList", "size", "I", false)
def tyJ14 : Nat → FieldType := fun k => match k with
  | 0 => .int
  | 1 => .array (.object "java/lang/Object")
  | _ => .int
abbrev wsJ140 : List Cond := u_ws RJ14 TJ14 3
theorem nmJ14 : ∀ a, a < 3 → ∀ b, b < 3 → a ≠ b → (TJ14 a).2.1 ≠ (TJ14 b).2.1 := by decide +kernel
theorem tyJ14_ok : ∀ k, k < 3 → parseFieldDescriptor (TJ14 k).2.2.1 = some (tyJ14 k) := by decide +kernel
abbrev cJ14_init : ByteArray := prog_42_method_2_code
def yJ14_init : MethodName := ⟨RJ14, "<init>", "()V"⟩
def dkwJ14_init_0 : List UInt8 := [42, 183, 0, 1, 42, 178, 0, 39, 181, 0, 9, 177]
abbrev dktJ14_init_0 : List UInt8 := dkwJ14_init_0 ++ []
theorem dksJ14_init_0 : cJ14_init.data.toList.drop 0 = dktJ14_init_0 := by decide +kernel
theorem dJ14_init_0 : decode cJ14_init 0 = .ok (.aload_n 0, 1) := dk_42 (dk_at dksJ14_init_0 0 rfl rfl)
theorem dJ14_init_1 : decode cJ14_init 1 = .ok (.invokespecial 1, 3) := dk_183 0 1 (dk_at dksJ14_init_0 1 rfl rfl)
theorem dJ14_init_4 : decode cJ14_init 4 = .ok (.aload_n 0, 1) := dk_42 (dk_at dksJ14_init_0 4 rfl rfl)
theorem dJ14_init_5 : decode cJ14_init 5 = .ok (.getstatic 39, 3) := dk_178 0 39 (dk_at dksJ14_init_0 5 rfl rfl)
theorem dJ14_init_8 : decode cJ14_init 8 = .ok (.putfield 9, 3) := dk_181 0 9 (dk_at dksJ14_init_0 8 rfl rfl)
theorem dJ14_init_11 : decode cJ14_init 11 = .ok (.return_, 1) := dk_177 (dk_at dksJ14_init_0 11 rfl rfl)
abbrev cJ14_size : ByteArray := prog_42_method_8_code
def yJ14_size : MethodName := ⟨RJ14, "size", "()I"⟩
theorem dJ14_size_0 : decode cJ14_size 0 = .ok (.aload_n 0, 1) := by decide +kernel
theorem dJ14_size_1 : decode cJ14_size 1 = .ok (.getfield 48, 3) := by decide +kernel
theorem dJ14_size_4 : decode cJ14_size 4 = .ok (.ireturn, 1) := by decide +kernel
abbrev cJ14_get : ByteArray := prog_42_method_20_code
def yJ14_get : MethodName := ⟨RJ14, "get", "(I)Ljava/lang/Object;"⟩
def dkwJ14_get_0 : List UInt8 := [27, 42, 180, 0, 48, 184, 0, 118, 87, 42, 27, 182, 0, 123, 176]
abbrev dktJ14_get_0 : List UInt8 := dkwJ14_get_0 ++ []
theorem dksJ14_get_0 : cJ14_get.data.toList.drop 0 = dktJ14_get_0 := by decide +kernel
theorem dJ14_get_0 : decode cJ14_get 0 = .ok (.iload_n 1, 1) := dk_27 (dk_at dksJ14_get_0 0 rfl rfl)
theorem dJ14_get_1 : decode cJ14_get 1 = .ok (.aload_n 0, 1) := dk_42 (dk_at dksJ14_get_0 1 rfl rfl)
theorem dJ14_get_2 : decode cJ14_get 2 = .ok (.getfield 48, 3) := dk_180 0 48 (dk_at dksJ14_get_0 2 rfl rfl)
theorem dJ14_get_5 : decode cJ14_get 5 = .ok (.invokestatic 118, 3) := dk_184 0 118 (dk_at dksJ14_get_0 5 rfl rfl)
theorem dJ14_get_8 : decode cJ14_get 8 = .ok (.pop, 1) := dk_87 (dk_at dksJ14_get_0 8 rfl rfl)
theorem dJ14_get_9 : decode cJ14_get 9 = .ok (.aload_n 0, 1) := dk_42 (dk_at dksJ14_get_0 9 rfl rfl)
theorem dJ14_get_10 : decode cJ14_get 10 = .ok (.iload_n 1, 1) := dk_27 (dk_at dksJ14_get_0 10 rfl rfl)
theorem dJ14_get_11 : decode cJ14_get 11 = .ok (.invokevirtual 123, 3) := dk_182 0 123 (dk_at dksJ14_get_0 11 rfl rfl)
theorem dJ14_get_14 : decode cJ14_get 14 = .ok (.areturn, 1) := dk_176 (dk_at dksJ14_get_0 14 rfl rfl)
abbrev cJ14_elementData : ByteArray := prog_42_method_18_code
def yJ14_elementData : MethodName := ⟨RJ14, "elementData", "(I)Ljava/lang/Object;"⟩
def dkwJ14_elementData_0 : List UInt8 := [42, 180, 0, 9, 27, 50, 176]
abbrev dktJ14_elementData_0 : List UInt8 := dkwJ14_elementData_0 ++ []
theorem dksJ14_elementData_0 : cJ14_elementData.data.toList.drop 0 = dktJ14_elementData_0 := by decide +kernel
theorem dJ14_elementData_0 : decode cJ14_elementData 0 = .ok (.aload_n 0, 1) := dk_42 (dk_at dksJ14_elementData_0 0 rfl rfl)
theorem dJ14_elementData_1 : decode cJ14_elementData 1 = .ok (.getfield 9, 3) := dk_180 0 9 (dk_at dksJ14_elementData_0 1 rfl rfl)
theorem dJ14_elementData_4 : decode cJ14_elementData 4 = .ok (.iload_n 1, 1) := dk_27 (dk_at dksJ14_elementData_0 4 rfl rfl)
theorem dJ14_elementData_5 : decode cJ14_elementData 5 = .ok (.aaload, 1) := dk_50 (dk_at dksJ14_elementData_0 5 rfl rfl)
theorem dJ14_elementData_6 : decode cJ14_elementData 6 = .ok (.areturn, 1) := dk_176 (dk_at dksJ14_elementData_0 6 rfl rfl)
abbrev cJ14_clear : ByteArray := prog_42_method_40_code
def yJ14_clear : MethodName := ⟨RJ14, "clear", "()V"⟩
def dkwJ14_clear_1 : List UInt8 := [181, 0, 48, 62, 29, 28, 162, 0, 13, 43, 29, 1, 83, 132, 3, 1, 167, 255, 244, 177]
abbrev dktJ14_clear_1 : List UInt8 := dkwJ14_clear_1 ++ []
def dkwJ14_clear_0 : List UInt8 := [42, 89, 180, 0, 63, 4, 96, 181, 0, 63, 42, 180, 0, 9, 76, 42, 180, 0, 48, 61, 42, 3, 90]
abbrev dktJ14_clear_0 : List UInt8 := dkwJ14_clear_0 ++ dktJ14_clear_1
theorem dksJ14_clear_0 : cJ14_clear.data.toList.drop 0 = dktJ14_clear_0 := by decide +kernel
theorem dksJ14_clear_1 : cJ14_clear.data.toList.drop 23 = dktJ14_clear_1 := dk_seg dksJ14_clear_0 23 rfl rfl
theorem dJ14_clear_0 : decode cJ14_clear 0 = .ok (.aload_n 0, 1) := dk_42 (dk_at dksJ14_clear_0 0 rfl rfl)
theorem dJ14_clear_1 : decode cJ14_clear 1 = .ok (.dup, 1) := dk_89 (dk_at dksJ14_clear_0 1 rfl rfl)
theorem dJ14_clear_2 : decode cJ14_clear 2 = .ok (.getfield 63, 3) := dk_180 0 63 (dk_at dksJ14_clear_0 2 rfl rfl)
theorem dJ14_clear_5 : decode cJ14_clear 5 = .ok (.iconst 1, 1) := dk_4 (dk_at dksJ14_clear_0 5 rfl rfl)
theorem dJ14_clear_6 : decode cJ14_clear 6 = .ok (.iadd, 1) := dk_96 (dk_at dksJ14_clear_0 6 rfl rfl)
theorem dJ14_clear_7 : decode cJ14_clear 7 = .ok (.putfield 63, 3) := dk_181 0 63 (dk_at dksJ14_clear_0 7 rfl rfl)
theorem dJ14_clear_10 : decode cJ14_clear 10 = .ok (.aload_n 0, 1) := dk_42 (dk_at dksJ14_clear_0 10 rfl rfl)
theorem dJ14_clear_11 : decode cJ14_clear 11 = .ok (.getfield 9, 3) := dk_180 0 9 (dk_at dksJ14_clear_0 11 rfl rfl)
theorem dJ14_clear_14 : decode cJ14_clear 14 = .ok (.astore_n 1, 1) := dk_76 (dk_at dksJ14_clear_0 14 rfl rfl)
theorem dJ14_clear_15 : decode cJ14_clear 15 = .ok (.aload_n 0, 1) := dk_42 (dk_at dksJ14_clear_0 15 rfl rfl)
theorem dJ14_clear_16 : decode cJ14_clear 16 = .ok (.getfield 48, 3) := dk_180 0 48 (dk_at dksJ14_clear_0 16 rfl rfl)
theorem dJ14_clear_19 : decode cJ14_clear 19 = .ok (.istore_n 2, 1) := dk_61 (dk_at dksJ14_clear_0 19 rfl rfl)
theorem dJ14_clear_20 : decode cJ14_clear 20 = .ok (.aload_n 0, 1) := dk_42 (dk_at dksJ14_clear_0 20 rfl rfl)
theorem dJ14_clear_21 : decode cJ14_clear 21 = .ok (.iconst 0, 1) := dk_3 (dk_at dksJ14_clear_0 21 rfl rfl)
theorem dJ14_clear_22 : decode cJ14_clear 22 = .ok (.dup_x1, 1) := dk_90 (dk_at dksJ14_clear_0 22 rfl rfl)
theorem dJ14_clear_23 : decode cJ14_clear 23 = .ok (.putfield 48, 3) := dk_181 0 48 (dk_at dksJ14_clear_1 0 rfl rfl)
theorem dJ14_clear_26 : decode cJ14_clear 26 = .ok (.istore_n 3, 1) := dk_62 (dk_at dksJ14_clear_1 3 rfl rfl)
theorem dJ14_clear_27 : decode cJ14_clear 27 = .ok (.iload_n 3, 1) := dk_29 (dk_at dksJ14_clear_1 4 rfl rfl)
theorem dJ14_clear_28 : decode cJ14_clear 28 = .ok (.iload_n 2, 1) := dk_28 (dk_at dksJ14_clear_1 5 rfl rfl)
theorem dJ14_clear_29 : decode cJ14_clear 29 = .ok (.if_icmp .ge 13, 3) := dk_162 0 13 (dk_at dksJ14_clear_1 6 rfl rfl)
theorem dJ14_clear_32 : decode cJ14_clear 32 = .ok (.aload_n 1, 1) := dk_43 (dk_at dksJ14_clear_1 9 rfl rfl)
theorem dJ14_clear_33 : decode cJ14_clear 33 = .ok (.iload_n 3, 1) := dk_29 (dk_at dksJ14_clear_1 10 rfl rfl)
theorem dJ14_clear_34 : decode cJ14_clear 34 = .ok (.aconst_null, 1) := dk_1 (dk_at dksJ14_clear_1 11 rfl rfl)
theorem dJ14_clear_35 : decode cJ14_clear 35 = .ok (.aastore, 1) := dk_83 (dk_at dksJ14_clear_1 12 rfl rfl)
theorem dJ14_clear_36 : decode cJ14_clear 36 = .ok (.iinc 3 1, 3) := dk_132 3 1 (dk_at dksJ14_clear_1 13 rfl rfl)
theorem dJ14_clear_39 : decode cJ14_clear 39 = .ok (.goto (-12), 3) := dk_167 255 244 (dk_at dksJ14_clear_1 16 rfl rfl)
theorem dJ14_clear_42 : decode cJ14_clear 42 = .ok (.return_, 1) := dk_177 (dk_at dksJ14_clear_1 19 rfl rfl)
abbrev cJ14_add : ByteArray := prog_42_method_25_code
def yJ14_add : MethodName := ⟨RJ14, "add", "(Ljava/lang/Object;)Z"⟩
def dkwJ14_add_1 : List UInt8 := [172]
abbrev dktJ14_add_1 : List UInt8 := dkwJ14_add_1 ++ []
def dkwJ14_add_0 : List UInt8 := [42, 89, 180, 0, 63, 4, 96, 181, 0, 63, 42, 43, 42, 180, 0, 9, 42, 180, 0, 48, 182, 0, 131, 4]
abbrev dktJ14_add_0 : List UInt8 := dkwJ14_add_0 ++ dktJ14_add_1
theorem dksJ14_add_0 : cJ14_add.data.toList.drop 0 = dktJ14_add_0 := by decide +kernel
theorem dksJ14_add_1 : cJ14_add.data.toList.drop 24 = dktJ14_add_1 := dk_seg dksJ14_add_0 24 rfl rfl
theorem dJ14_add_0 : decode cJ14_add 0 = .ok (.aload_n 0, 1) := dk_42 (dk_at dksJ14_add_0 0 rfl rfl)
theorem dJ14_add_1 : decode cJ14_add 1 = .ok (.dup, 1) := dk_89 (dk_at dksJ14_add_0 1 rfl rfl)
theorem dJ14_add_2 : decode cJ14_add 2 = .ok (.getfield 63, 3) := dk_180 0 63 (dk_at dksJ14_add_0 2 rfl rfl)
theorem dJ14_add_5 : decode cJ14_add 5 = .ok (.iconst 1, 1) := dk_4 (dk_at dksJ14_add_0 5 rfl rfl)
theorem dJ14_add_6 : decode cJ14_add 6 = .ok (.iadd, 1) := dk_96 (dk_at dksJ14_add_0 6 rfl rfl)
theorem dJ14_add_7 : decode cJ14_add 7 = .ok (.putfield 63, 3) := dk_181 0 63 (dk_at dksJ14_add_0 7 rfl rfl)
theorem dJ14_add_10 : decode cJ14_add 10 = .ok (.aload_n 0, 1) := dk_42 (dk_at dksJ14_add_0 10 rfl rfl)
theorem dJ14_add_11 : decode cJ14_add 11 = .ok (.aload_n 1, 1) := dk_43 (dk_at dksJ14_add_0 11 rfl rfl)
theorem dJ14_add_12 : decode cJ14_add 12 = .ok (.aload_n 0, 1) := dk_42 (dk_at dksJ14_add_0 12 rfl rfl)
theorem dJ14_add_13 : decode cJ14_add 13 = .ok (.getfield 9, 3) := dk_180 0 9 (dk_at dksJ14_add_0 13 rfl rfl)
theorem dJ14_add_16 : decode cJ14_add 16 = .ok (.aload_n 0, 1) := dk_42 (dk_at dksJ14_add_0 16 rfl rfl)
theorem dJ14_add_17 : decode cJ14_add 17 = .ok (.getfield 48, 3) := dk_180 0 48 (dk_at dksJ14_add_0 17 rfl rfl)
theorem dJ14_add_20 : decode cJ14_add 20 = .ok (.invokevirtual 131, 3) := dk_182 0 131 (dk_at dksJ14_add_0 20 rfl rfl)
theorem dJ14_add_23 : decode cJ14_add 23 = .ok (.iconst 1, 1) := dk_4 (dk_at dksJ14_add_0 23 rfl rfl)
theorem dJ14_add_24 : decode cJ14_add 24 = .ok (.ireturn, 1) := dk_172 (dk_at dksJ14_add_1 0 rfl rfl)
abbrev cJ14_add_2 : ByteArray := prog_42_method_24_code
def yJ14_add_2 : MethodName := ⟨RJ14, "add", "(Ljava/lang/Object;[Ljava/lang/Object;I)V"⟩
def dkwJ14_add_2_0 : List UInt8 := [29, 44, 190, 160, 0, 8, 42, 182, 0, 129, 77, 44, 29, 43, 83, 42, 29, 4, 96, 181, 0, 48, 177]
abbrev dktJ14_add_2_0 : List UInt8 := dkwJ14_add_2_0 ++ []
theorem dksJ14_add_2_0 : cJ14_add_2.data.toList.drop 0 = dktJ14_add_2_0 := by decide +kernel
theorem dJ14_add_2_0 : decode cJ14_add_2 0 = .ok (.iload_n 3, 1) := dk_29 (dk_at dksJ14_add_2_0 0 rfl rfl)
theorem dJ14_add_2_1 : decode cJ14_add_2 1 = .ok (.aload_n 2, 1) := dk_44 (dk_at dksJ14_add_2_0 1 rfl rfl)
theorem dJ14_add_2_2 : decode cJ14_add_2 2 = .ok (.arraylength, 1) := dk_190 (dk_at dksJ14_add_2_0 2 rfl rfl)
theorem dJ14_add_2_3 : decode cJ14_add_2 3 = .ok (.if_icmp .ne 8, 3) := dk_160 0 8 (dk_at dksJ14_add_2_0 3 rfl rfl)
theorem dJ14_add_2_6 : decode cJ14_add_2 6 = .ok (.aload_n 0, 1) := dk_42 (dk_at dksJ14_add_2_0 6 rfl rfl)
theorem dJ14_add_2_7 : decode cJ14_add_2 7 = .ok (.invokevirtual 129, 3) := dk_182 0 129 (dk_at dksJ14_add_2_0 7 rfl rfl)
theorem dJ14_add_2_10 : decode cJ14_add_2 10 = .ok (.astore_n 2, 1) := dk_77 (dk_at dksJ14_add_2_0 10 rfl rfl)
theorem dJ14_add_2_11 : decode cJ14_add_2 11 = .ok (.aload_n 2, 1) := dk_44 (dk_at dksJ14_add_2_0 11 rfl rfl)
theorem dJ14_add_2_12 : decode cJ14_add_2 12 = .ok (.iload_n 3, 1) := dk_29 (dk_at dksJ14_add_2_0 12 rfl rfl)
theorem dJ14_add_2_13 : decode cJ14_add_2 13 = .ok (.aload_n 1, 1) := dk_43 (dk_at dksJ14_add_2_0 13 rfl rfl)
theorem dJ14_add_2_14 : decode cJ14_add_2 14 = .ok (.aastore, 1) := dk_83 (dk_at dksJ14_add_2_0 14 rfl rfl)
theorem dJ14_add_2_15 : decode cJ14_add_2 15 = .ok (.aload_n 0, 1) := dk_42 (dk_at dksJ14_add_2_0 15 rfl rfl)
theorem dJ14_add_2_16 : decode cJ14_add_2 16 = .ok (.iload_n 3, 1) := dk_29 (dk_at dksJ14_add_2_0 16 rfl rfl)
theorem dJ14_add_2_17 : decode cJ14_add_2 17 = .ok (.iconst 1, 1) := dk_4 (dk_at dksJ14_add_2_0 17 rfl rfl)
theorem dJ14_add_2_18 : decode cJ14_add_2 18 = .ok (.iadd, 1) := dk_96 (dk_at dksJ14_add_2_0 18 rfl rfl)
theorem dJ14_add_2_19 : decode cJ14_add_2 19 = .ok (.putfield 48, 3) := dk_181 0 48 (dk_at dksJ14_add_2_0 19 rfl rfl)
theorem dJ14_add_2_22 : decode cJ14_add_2 22 = .ok (.return_, 1) := dk_177 (dk_at dksJ14_add_2_0 22 rfl rfl)
abbrev cJ14_grow : ByteArray := prog_42_method_7_code
def yJ14_grow : MethodName := ⟨RJ14, "grow", "()[Ljava/lang/Object;"⟩
def dkwJ14_grow_0 : List UInt8 := [42, 42, 180, 0, 48, 4, 96, 182, 0, 69, 176]
abbrev dktJ14_grow_0 : List UInt8 := dkwJ14_grow_0 ++ []
theorem dksJ14_grow_0 : cJ14_grow.data.toList.drop 0 = dktJ14_grow_0 := by decide +kernel
theorem dJ14_grow_0 : decode cJ14_grow 0 = .ok (.aload_n 0, 1) := dk_42 (dk_at dksJ14_grow_0 0 rfl rfl)
theorem dJ14_grow_1 : decode cJ14_grow 1 = .ok (.aload_n 0, 1) := dk_42 (dk_at dksJ14_grow_0 1 rfl rfl)
theorem dJ14_grow_2 : decode cJ14_grow 2 = .ok (.getfield 48, 3) := dk_180 0 48 (dk_at dksJ14_grow_0 2 rfl rfl)
theorem dJ14_grow_5 : decode cJ14_grow 5 = .ok (.iconst 1, 1) := dk_4 (dk_at dksJ14_grow_0 5 rfl rfl)
theorem dJ14_grow_6 : decode cJ14_grow 6 = .ok (.iadd, 1) := dk_96 (dk_at dksJ14_grow_0 6 rfl rfl)
theorem dJ14_grow_7 : decode cJ14_grow 7 = .ok (.invokevirtual 69, 3) := dk_182 0 69 (dk_at dksJ14_grow_0 7 rfl rfl)
theorem dJ14_grow_10 : decode cJ14_grow 10 = .ok (.areturn, 1) := dk_176 (dk_at dksJ14_grow_0 10 rfl rfl)
abbrev cJ14_grow_2 : ByteArray := prog_42_method_6_code
def yJ14_grow_2 : MethodName := ⟨RJ14, "grow", "(I)[Ljava/lang/Object;"⟩
def dkwJ14_grow_2_2 : List UInt8 := [27, 184, 0, 79, 189, 0, 7, 90, 181, 0, 9, 176]
abbrev dktJ14_grow_2_2 : List UInt8 := dkwJ14_grow_2_2 ++ []
def dkwJ14_grow_2_1 : List UInt8 := [28, 4, 122, 184, 0, 73, 62, 42, 42, 180, 0, 9, 29, 184, 0, 66, 90, 181, 0, 9, 176, 42, 16, 10]
abbrev dktJ14_grow_2_1 : List UInt8 := dkwJ14_grow_2_1 ++ dktJ14_grow_2_2
def dkwJ14_grow_2_0 : List UInt8 := [42, 180, 0, 9, 190, 61, 28, 157, 0, 13, 42, 180, 0, 9, 178, 0, 39, 165, 0, 28, 28, 27, 28, 100]
abbrev dktJ14_grow_2_0 : List UInt8 := dkwJ14_grow_2_0 ++ dktJ14_grow_2_1
theorem dksJ14_grow_2_0 : cJ14_grow_2.data.toList.drop 0 = dktJ14_grow_2_0 := by decide +kernel
theorem dksJ14_grow_2_1 : cJ14_grow_2.data.toList.drop 24 = dktJ14_grow_2_1 := dk_seg dksJ14_grow_2_0 24 rfl rfl
theorem dksJ14_grow_2_2 : cJ14_grow_2.data.toList.drop 48 = dktJ14_grow_2_2 := dk_seg dksJ14_grow_2_1 24 rfl rfl
theorem dJ14_grow_2_0 : decode cJ14_grow_2 0 = .ok (.aload_n 0, 1) := dk_42 (dk_at dksJ14_grow_2_0 0 rfl rfl)
theorem dJ14_grow_2_1 : decode cJ14_grow_2 1 = .ok (.getfield 9, 3) := dk_180 0 9 (dk_at dksJ14_grow_2_0 1 rfl rfl)
theorem dJ14_grow_2_4 : decode cJ14_grow_2 4 = .ok (.arraylength, 1) := dk_190 (dk_at dksJ14_grow_2_0 4 rfl rfl)
theorem dJ14_grow_2_5 : decode cJ14_grow_2 5 = .ok (.istore_n 2, 1) := dk_61 (dk_at dksJ14_grow_2_0 5 rfl rfl)
theorem dJ14_grow_2_6 : decode cJ14_grow_2 6 = .ok (.iload_n 2, 1) := dk_28 (dk_at dksJ14_grow_2_0 6 rfl rfl)
theorem dJ14_grow_2_7 : decode cJ14_grow_2 7 = .ok (.ifCond .gt 13, 3) := dk_157 0 13 (dk_at dksJ14_grow_2_0 7 rfl rfl)
theorem dJ14_grow_2_10 : decode cJ14_grow_2 10 = .ok (.aload_n 0, 1) := dk_42 (dk_at dksJ14_grow_2_0 10 rfl rfl)
theorem dJ14_grow_2_11 : decode cJ14_grow_2 11 = .ok (.getfield 9, 3) := dk_180 0 9 (dk_at dksJ14_grow_2_0 11 rfl rfl)
theorem dJ14_grow_2_14 : decode cJ14_grow_2 14 = .ok (.getstatic 39, 3) := dk_178 0 39 (dk_at dksJ14_grow_2_0 14 rfl rfl)
theorem dJ14_grow_2_17 : decode cJ14_grow_2 17 = .ok (.if_acmp .eq 28, 3) := dk_165 0 28 (dk_at dksJ14_grow_2_0 17 rfl rfl)
theorem dJ14_grow_2_20 : decode cJ14_grow_2 20 = .ok (.iload_n 2, 1) := dk_28 (dk_at dksJ14_grow_2_0 20 rfl rfl)
theorem dJ14_grow_2_21 : decode cJ14_grow_2 21 = .ok (.iload_n 1, 1) := dk_27 (dk_at dksJ14_grow_2_0 21 rfl rfl)
theorem dJ14_grow_2_22 : decode cJ14_grow_2 22 = .ok (.iload_n 2, 1) := dk_28 (dk_at dksJ14_grow_2_0 22 rfl rfl)
theorem dJ14_grow_2_23 : decode cJ14_grow_2 23 = .ok (.isub, 1) := dk_100 (dk_at dksJ14_grow_2_0 23 rfl rfl)
theorem dJ14_grow_2_24 : decode cJ14_grow_2 24 = .ok (.iload_n 2, 1) := dk_28 (dk_at dksJ14_grow_2_1 0 rfl rfl)
theorem dJ14_grow_2_25 : decode cJ14_grow_2 25 = .ok (.iconst 1, 1) := dk_4 (dk_at dksJ14_grow_2_1 1 rfl rfl)
theorem dJ14_grow_2_26 : decode cJ14_grow_2 26 = .ok (.ishr, 1) := dk_122 (dk_at dksJ14_grow_2_1 2 rfl rfl)
theorem dJ14_grow_2_27 : decode cJ14_grow_2 27 = .ok (.invokestatic 73, 3) := dk_184 0 73 (dk_at dksJ14_grow_2_1 3 rfl rfl)
theorem dJ14_grow_2_30 : decode cJ14_grow_2 30 = .ok (.istore_n 3, 1) := dk_62 (dk_at dksJ14_grow_2_1 6 rfl rfl)
theorem dJ14_grow_2_31 : decode cJ14_grow_2 31 = .ok (.aload_n 0, 1) := dk_42 (dk_at dksJ14_grow_2_1 7 rfl rfl)
theorem dJ14_grow_2_32 : decode cJ14_grow_2 32 = .ok (.aload_n 0, 1) := dk_42 (dk_at dksJ14_grow_2_1 8 rfl rfl)
theorem dJ14_grow_2_33 : decode cJ14_grow_2 33 = .ok (.getfield 9, 3) := dk_180 0 9 (dk_at dksJ14_grow_2_1 9 rfl rfl)
theorem dJ14_grow_2_36 : decode cJ14_grow_2 36 = .ok (.iload_n 3, 1) := dk_29 (dk_at dksJ14_grow_2_1 12 rfl rfl)
theorem dJ14_grow_2_37 : decode cJ14_grow_2 37 = .ok (.invokestatic 66, 3) := dk_184 0 66 (dk_at dksJ14_grow_2_1 13 rfl rfl)
theorem dJ14_grow_2_40 : decode cJ14_grow_2 40 = .ok (.dup_x1, 1) := dk_90 (dk_at dksJ14_grow_2_1 16 rfl rfl)
theorem dJ14_grow_2_41 : decode cJ14_grow_2 41 = .ok (.putfield 9, 3) := dk_181 0 9 (dk_at dksJ14_grow_2_1 17 rfl rfl)
theorem dJ14_grow_2_44 : decode cJ14_grow_2 44 = .ok (.areturn, 1) := dk_176 (dk_at dksJ14_grow_2_1 20 rfl rfl)
theorem dJ14_grow_2_45 : decode cJ14_grow_2 45 = .ok (.aload_n 0, 1) := dk_42 (dk_at dksJ14_grow_2_1 21 rfl rfl)
theorem dJ14_grow_2_46 : decode cJ14_grow_2 46 = .ok (.bipush 10, 2) := dk_16 10 (dk_at dksJ14_grow_2_1 22 rfl rfl)
theorem dJ14_grow_2_48 : decode cJ14_grow_2 48 = .ok (.iload_n 1, 1) := dk_27 (dk_at dksJ14_grow_2_2 0 rfl rfl)
theorem dJ14_grow_2_49 : decode cJ14_grow_2 49 = .ok (.invokestatic 79, 3) := dk_184 0 79 (dk_at dksJ14_grow_2_2 1 rfl rfl)
theorem dJ14_grow_2_52 : decode cJ14_grow_2 52 = .ok (.anewarray 7, 3) := dk_189 0 7 (dk_at dksJ14_grow_2_2 4 rfl rfl)
theorem dJ14_grow_2_55 : decode cJ14_grow_2 55 = .ok (.dup_x1, 1) := dk_90 (dk_at dksJ14_grow_2_2 7 rfl rfl)
theorem dJ14_grow_2_56 : decode cJ14_grow_2 56 = .ok (.putfield 9, 3) := dk_181 0 9 (dk_at dksJ14_grow_2_2 8 rfl rfl)
theorem dJ14_grow_2_59 : decode cJ14_grow_2 59 = .ok (.areturn, 1) := dk_176 (dk_at dksJ14_grow_2_2 11 rfl rfl)
abbrev cJ14_listIterator : ByteArray := prog_42_method_53_code
def yJ14_listIterator : MethodName := ⟨RJ14, "listIterator", "(I)Ljava/util/ListIterator;"⟩
def dkwJ14_listIterator_0 : List UInt8 := [42, 27, 182, 0, 135, 187, 1, 6, 89, 42, 27, 183, 1, 8, 176]
abbrev dktJ14_listIterator_0 : List UInt8 := dkwJ14_listIterator_0 ++ []
theorem dksJ14_listIterator_0 : cJ14_listIterator.data.toList.drop 0 = dktJ14_listIterator_0 := by decide +kernel
theorem dJ14_listIterator_0 : decode cJ14_listIterator 0 = .ok (.aload_n 0, 1) := dk_42 (dk_at dksJ14_listIterator_0 0 rfl rfl)
theorem dJ14_listIterator_1 : decode cJ14_listIterator 1 = .ok (.iload_n 1, 1) := dk_27 (dk_at dksJ14_listIterator_0 1 rfl rfl)
theorem dJ14_listIterator_2 : decode cJ14_listIterator 2 = .ok (.invokevirtual 135, 3) := dk_182 0 135 (dk_at dksJ14_listIterator_0 2 rfl rfl)
theorem dJ14_listIterator_5 : decode cJ14_listIterator 5 = .ok (.new 262, 3) := dk_187 1 6 (dk_at dksJ14_listIterator_0 5 rfl rfl)
theorem dJ14_listIterator_8 : decode cJ14_listIterator 8 = .ok (.dup, 1) := dk_89 (dk_at dksJ14_listIterator_0 8 rfl rfl)
theorem dJ14_listIterator_9 : decode cJ14_listIterator 9 = .ok (.aload_n 0, 1) := dk_42 (dk_at dksJ14_listIterator_0 9 rfl rfl)
theorem dJ14_listIterator_10 : decode cJ14_listIterator 10 = .ok (.iload_n 1, 1) := dk_27 (dk_at dksJ14_listIterator_0 10 rfl rfl)
theorem dJ14_listIterator_11 : decode cJ14_listIterator 11 = .ok (.invokespecial 264, 3) := dk_183 1 8 (dk_at dksJ14_listIterator_0 11 rfl rfl)
theorem dJ14_listIterator_14 : decode cJ14_listIterator 14 = .ok (.areturn, 1) := dk_176 (dk_at dksJ14_listIterator_0 14 rfl rfl)
abbrev cJ14_rangeCheckForAdd : ByteArray := prog_42_method_45_code
def yJ14_rangeCheckForAdd : MethodName := ⟨RJ14, "rangeCheckForAdd", "(I)V"⟩
def dkwJ14_rangeCheckForAdd_1 : List UInt8 := [191, 177]
abbrev dktJ14_rangeCheckForAdd_1 : List UInt8 := dkwJ14_rangeCheckForAdd_1 ++ []
def dkwJ14_rangeCheckForAdd_0 : List UInt8 := [27, 42, 180, 0, 48, 163, 0, 7, 27, 156, 0, 16, 187, 0, 187, 89, 42, 27, 182, 0, 198, 183, 0, 193]
abbrev dktJ14_rangeCheckForAdd_0 : List UInt8 := dkwJ14_rangeCheckForAdd_0 ++ dktJ14_rangeCheckForAdd_1
theorem dksJ14_rangeCheckForAdd_0 : cJ14_rangeCheckForAdd.data.toList.drop 0 = dktJ14_rangeCheckForAdd_0 := by decide +kernel
theorem dksJ14_rangeCheckForAdd_1 : cJ14_rangeCheckForAdd.data.toList.drop 24 = dktJ14_rangeCheckForAdd_1 := dk_seg dksJ14_rangeCheckForAdd_0 24 rfl rfl
theorem dJ14_rangeCheckForAdd_0 : decode cJ14_rangeCheckForAdd 0 = .ok (.iload_n 1, 1) := dk_27 (dk_at dksJ14_rangeCheckForAdd_0 0 rfl rfl)
theorem dJ14_rangeCheckForAdd_1 : decode cJ14_rangeCheckForAdd 1 = .ok (.aload_n 0, 1) := dk_42 (dk_at dksJ14_rangeCheckForAdd_0 1 rfl rfl)
theorem dJ14_rangeCheckForAdd_2 : decode cJ14_rangeCheckForAdd 2 = .ok (.getfield 48, 3) := dk_180 0 48 (dk_at dksJ14_rangeCheckForAdd_0 2 rfl rfl)
theorem dJ14_rangeCheckForAdd_5 : decode cJ14_rangeCheckForAdd 5 = .ok (.if_icmp .gt 7, 3) := dk_163 0 7 (dk_at dksJ14_rangeCheckForAdd_0 5 rfl rfl)
theorem dJ14_rangeCheckForAdd_8 : decode cJ14_rangeCheckForAdd 8 = .ok (.iload_n 1, 1) := dk_27 (dk_at dksJ14_rangeCheckForAdd_0 8 rfl rfl)
theorem dJ14_rangeCheckForAdd_9 : decode cJ14_rangeCheckForAdd 9 = .ok (.ifCond .ge 16, 3) := dk_156 0 16 (dk_at dksJ14_rangeCheckForAdd_0 9 rfl rfl)
theorem dJ14_rangeCheckForAdd_12 : decode cJ14_rangeCheckForAdd 12 = .ok (.new 187, 3) := dk_187 0 187 (dk_at dksJ14_rangeCheckForAdd_0 12 rfl rfl)
theorem dJ14_rangeCheckForAdd_15 : decode cJ14_rangeCheckForAdd 15 = .ok (.dup, 1) := dk_89 (dk_at dksJ14_rangeCheckForAdd_0 15 rfl rfl)
theorem dJ14_rangeCheckForAdd_16 : decode cJ14_rangeCheckForAdd 16 = .ok (.aload_n 0, 1) := dk_42 (dk_at dksJ14_rangeCheckForAdd_0 16 rfl rfl)
theorem dJ14_rangeCheckForAdd_17 : decode cJ14_rangeCheckForAdd 17 = .ok (.iload_n 1, 1) := dk_27 (dk_at dksJ14_rangeCheckForAdd_0 17 rfl rfl)
theorem dJ14_rangeCheckForAdd_18 : decode cJ14_rangeCheckForAdd 18 = .ok (.invokevirtual 198, 3) := dk_182 0 198 (dk_at dksJ14_rangeCheckForAdd_0 18 rfl rfl)
theorem dJ14_rangeCheckForAdd_21 : decode cJ14_rangeCheckForAdd 21 = .ok (.invokespecial 193, 3) := dk_183 0 193 (dk_at dksJ14_rangeCheckForAdd_0 21 rfl rfl)
theorem dJ14_rangeCheckForAdd_24 : decode cJ14_rangeCheckForAdd 24 = .ok (.athrow, 1) := dk_191 (dk_at dksJ14_rangeCheckForAdd_1 0 rfl rfl)
theorem dJ14_rangeCheckForAdd_25 : decode cJ14_rangeCheckForAdd 25 = .ok (.return_, 1) := dk_177 (dk_at dksJ14_rangeCheckForAdd_1 1 rfl rfl)
theorem q150 : (Jvm.Cond.initialized "java/util/ArrayList") ∈ lw_all := lw_g (lw_at lw_m1 21 rfl) rfl
theorem q303 : (Jvm.Cond.selects "java/util/ArrayList" ({ cls := "java/lang/Object", name := "getClass", desc := "()Ljava/lang/Class;" } : Jvm.MethodName) ({ cls := "java/lang/Object", name := "getClass", desc := "()Ljava/lang/Class;" } : Jvm.MethodName)) ∈ lw_all := lw_g (lw_at lw_m1 174 rfl) rfl
theorem q423 : (Jvm.Cond.sameField "java/util/ArrayList" "java/util/AbstractList" "modCount" "I") ∈ lw_all := lw_g (lw_at lw_m2 54 rfl) rfl
theorem q426 : (Jvm.Cond.fieldLink "java/util/ArrayList" (63 : Nat) "java/util/ArrayList" "modCount" "I") ∈ lw_all := lw_g (lw_at lw_m2 57 rfl) rfl
theorem q465 : (Jvm.Cond.instantiable "java/util/ArrayList" (3 : Nat)) ∈ lw_all := lw_g (lw_at lw_m2 96 rfl) rfl
theorem q467 : (Jvm.Cond.instanceMethod ({ cls := "java/util/ArrayList", name := "<init>", desc := "()V" } : Jvm.MethodName)) ∈ lw_all := lw_g (lw_at lw_m2 98 rfl) rfl
theorem q468 : (Jvm.Cond.code ({ cls := "java/util/ArrayList", name := "<init>", desc := "()V" } : Jvm.MethodName) prog_42_method_2_code (1 : Nat) (Option.none : Option Jvm.ClassFile.FieldType)) ∈ lw_all := lw_g (lw_at lw_m2 99 rfl) rfl
theorem q469 : (Jvm.Cond.methodLink "java/util/ArrayList" (1 : Nat) ({ cls := "java/util/AbstractList", name := "<init>", desc := "()V" } : Jvm.MethodName)) ∈ lw_all := lw_g (lw_at lw_m2 100 rfl) rfl
theorem q470 : (Jvm.Cond.fieldLink "java/util/ArrayList" (39 : Nat) "java/util/ArrayList" "DEFAULTCAPACITY_EMPTY_ELEMENTDATA" "[Ljava/lang/Object;") ∈ lw_all := lw_g (lw_at lw_m2 101 rfl) rfl
theorem q471 : (Jvm.Cond.laysStatic "java/util/ArrayList" "DEFAULTCAPACITY_EMPTY_ELEMENTDATA" "[Ljava/lang/Object;") ∈ lw_tbl := lw_at lw_m2 102 rfl
theorem q472 : (Jvm.Cond.fieldLink "java/util/ArrayList" (9 : Nat) "java/util/ArrayList" "elementData" "[Ljava/lang/Object;") ∈ lw_all := lw_g (lw_at lw_m2 103 rfl) rfl
theorem q475 : (Jvm.Cond.fieldLink "java/util/ArrayList" (48 : Nat) "java/util/ArrayList" "size" "I") ∈ lw_all := lw_g (lw_at lw_m2 106 rfl) rfl
theorem q476 : (Jvm.Cond.lays "java/util/ArrayList" "java/util/ArrayList" "elementData" "[Ljava/lang/Object;") ∈ lw_all := lw_g (lw_at lw_m2 107 rfl) rfl
theorem q477 : (Jvm.Cond.soleField "java/util/ArrayList" "elementData") ∈ lw_all := lw_g (lw_at lw_m2 108 rfl) rfl
theorem q478 : (Jvm.Cond.lays "java/util/ArrayList" "java/util/ArrayList" "size" "I") ∈ lw_all := lw_g (lw_at lw_m2 109 rfl) rfl
theorem q479 : (Jvm.Cond.soleField "java/util/ArrayList" "size") ∈ lw_all := lw_g (lw_at lw_m2 110 rfl) rfl
theorem q480 : (Jvm.Cond.lays "java/util/ArrayList" "java/util/AbstractList" "modCount" "I") ∈ lw_all := lw_g (lw_at lw_m2 111 rfl) rfl
theorem q481 : (Jvm.Cond.superclass "java/util/ArrayList" "java/util/AbstractList") ∈ lw_all := lw_g (lw_at lw_m2 112 rfl) rfl
theorem q754 : (Jvm.Cond.castable "java/util/ArrayList" "java/util/List") ∈ lw_tbl := lw_at lw_m3 145 rfl
theorem q755 : (Jvm.Cond.selects "java/util/ArrayList" ({ cls := "java/util/List", name := "size", desc := "()I" } : Jvm.MethodName) ({ cls := "java/util/ArrayList", name := "size", desc := "()I" } : Jvm.MethodName)) ∈ lw_all := lw_g (lw_at lw_m3 146 rfl) rfl
theorem q756 : (Jvm.Cond.unhidden "java/util/ArrayList" "size" "()I") ∈ lw_tbl := lw_at lw_m3 147 rfl
theorem q757 : (Jvm.Cond.instanceMethod ({ cls := "java/util/ArrayList", name := "size", desc := "()I" } : Jvm.MethodName)) ∈ lw_all := lw_g (lw_at lw_m3 148 rfl) rfl
theorem q758 : (Jvm.Cond.publicMethod ({ cls := "java/util/ArrayList", name := "size", desc := "()I" } : Jvm.MethodName)) ∈ lw_tbl := lw_at lw_m3 149 rfl
theorem q759 : (Jvm.Cond.code ({ cls := "java/util/ArrayList", name := "size", desc := "()I" } : Jvm.MethodName) prog_42_method_8_code (1 : Nat) (Option.some Jvm.ClassFile.FieldType.int)) ∈ lw_all := lw_g (lw_at lw_m3 150 rfl) rfl
theorem q782 : (Jvm.Cond.selects "java/util/ArrayList" ({ cls := "java/util/List", name := "get", desc := "(I)Ljava/lang/Object;" } : Jvm.MethodName) ({ cls := "java/util/ArrayList", name := "get", desc := "(I)Ljava/lang/Object;" } : Jvm.MethodName)) ∈ lw_all := lw_g (lw_at lw_m3 173 rfl) rfl
theorem q783 : (Jvm.Cond.unhidden "java/util/ArrayList" "get" "(I)Ljava/lang/Object;") ∈ lw_tbl := lw_at lw_m3 174 rfl
theorem q784 : (Jvm.Cond.instanceMethod ({ cls := "java/util/ArrayList", name := "get", desc := "(I)Ljava/lang/Object;" } : Jvm.MethodName)) ∈ lw_all := lw_g (lw_at lw_m3 175 rfl) rfl
theorem q785 : (Jvm.Cond.publicMethod ({ cls := "java/util/ArrayList", name := "get", desc := "(I)Ljava/lang/Object;" } : Jvm.MethodName)) ∈ lw_tbl := lw_at lw_m3 176 rfl
theorem q786 : (Jvm.Cond.code ({ cls := "java/util/ArrayList", name := "get", desc := "(I)Ljava/lang/Object;" } : Jvm.MethodName) prog_42_method_20_code (2 : Nat) (Option.some (Jvm.ClassFile.FieldType.object "java/lang/Object"))) ∈ lw_all := lw_g (lw_at lw_m3 177 rfl) rfl
theorem q787 : (Jvm.Cond.methodLink "java/util/ArrayList" (118 : Nat) ({ cls := "java/util/Objects", name := "checkIndex", desc := "(II)I" } : Jvm.MethodName)) ∈ lw_all := lw_g (lw_at lw_m3 178 rfl) rfl
theorem q793 : (Jvm.Cond.methodLink "java/util/ArrayList" (123 : Nat) ({ cls := "java/util/ArrayList", name := "elementData", desc := "(I)Ljava/lang/Object;" } : Jvm.MethodName)) ∈ lw_all := lw_g (lw_at lw_m3 184 rfl) rfl
theorem q794 : (Jvm.Cond.instanceMethod ({ cls := "java/util/ArrayList", name := "elementData", desc := "(I)Ljava/lang/Object;" } : Jvm.MethodName)) ∈ lw_all := lw_g (lw_at lw_m3 185 rfl) rfl
theorem q795 : (Jvm.Cond.selects "java/util/ArrayList" ({ cls := "java/util/ArrayList", name := "elementData", desc := "(I)Ljava/lang/Object;" } : Jvm.MethodName) ({ cls := "java/util/ArrayList", name := "elementData", desc := "(I)Ljava/lang/Object;" } : Jvm.MethodName)) ∈ lw_all := lw_g (lw_at lw_m3 186 rfl) rfl
theorem q796 : (Jvm.Cond.code ({ cls := "java/util/ArrayList", name := "elementData", desc := "(I)Ljava/lang/Object;" } : Jvm.MethodName) prog_42_method_18_code (2 : Nat) (Option.some (Jvm.ClassFile.FieldType.object "java/lang/Object"))) ∈ lw_all := lw_g (lw_at lw_m3 187 rfl) rfl
theorem q884 : (Jvm.Cond.instanceMethod ({ cls := "java/util/ArrayList", name := "clear", desc := "()V" } : Jvm.MethodName)) ∈ lw_all := lw_g (lw_at lw_m4 35 rfl) rfl
theorem q885 : (Jvm.Cond.selects "java/util/ArrayList" ({ cls := "java/util/ArrayList", name := "clear", desc := "()V" } : Jvm.MethodName) ({ cls := "java/util/ArrayList", name := "clear", desc := "()V" } : Jvm.MethodName)) ∈ lw_all := lw_g (lw_at lw_m4 36 rfl) rfl
theorem q886 : (Jvm.Cond.code ({ cls := "java/util/ArrayList", name := "clear", desc := "()V" } : Jvm.MethodName) prog_42_method_40_code (4 : Nat) (Option.none : Option Jvm.ClassFile.FieldType)) ∈ lw_all := lw_g (lw_at lw_m4 37 rfl) rfl
theorem q959 : (Jvm.Cond.instanceMethod ({ cls := "java/util/ArrayList", name := "add", desc := "(Ljava/lang/Object;)Z" } : Jvm.MethodName)) ∈ lw_all := lw_g (lw_at lw_m4 110 rfl) rfl
theorem q960 : (Jvm.Cond.selects "java/util/ArrayList" ({ cls := "java/util/ArrayList", name := "add", desc := "(Ljava/lang/Object;)Z" } : Jvm.MethodName) ({ cls := "java/util/ArrayList", name := "add", desc := "(Ljava/lang/Object;)Z" } : Jvm.MethodName)) ∈ lw_all := lw_g (lw_at lw_m4 111 rfl) rfl
theorem q961 : (Jvm.Cond.code ({ cls := "java/util/ArrayList", name := "add", desc := "(Ljava/lang/Object;)Z" } : Jvm.MethodName) prog_42_method_25_code (2 : Nat) (Option.some Jvm.ClassFile.FieldType.boolean)) ∈ lw_all := lw_g (lw_at lw_m4 112 rfl) rfl
theorem q962 : (Jvm.Cond.methodLink "java/util/ArrayList" (131 : Nat) ({ cls := "java/util/ArrayList", name := "add", desc := "(Ljava/lang/Object;[Ljava/lang/Object;I)V" } : Jvm.MethodName)) ∈ lw_all := lw_g (lw_at lw_m4 113 rfl) rfl
theorem q963 : (Jvm.Cond.privateMethod ({ cls := "java/util/ArrayList", name := "add", desc := "(Ljava/lang/Object;[Ljava/lang/Object;I)V" } : Jvm.MethodName)) ∈ lw_tbl := lw_at lw_m4 114 rfl
theorem q964 : (Jvm.Cond.instanceMethod ({ cls := "java/util/ArrayList", name := "add", desc := "(Ljava/lang/Object;[Ljava/lang/Object;I)V" } : Jvm.MethodName)) ∈ lw_all := lw_g (lw_at lw_m4 115 rfl) rfl
theorem q965 : (Jvm.Cond.code ({ cls := "java/util/ArrayList", name := "add", desc := "(Ljava/lang/Object;[Ljava/lang/Object;I)V" } : Jvm.MethodName) prog_42_method_24_code (4 : Nat) (Option.none : Option Jvm.ClassFile.FieldType)) ∈ lw_all := lw_g (lw_at lw_m4 116 rfl) rfl
theorem q966 : (Jvm.Cond.methodLink "java/util/ArrayList" (129 : Nat) ({ cls := "java/util/ArrayList", name := "grow", desc := "()[Ljava/lang/Object;" } : Jvm.MethodName)) ∈ lw_all := lw_g (lw_at lw_m4 117 rfl) rfl
theorem q967 : (Jvm.Cond.privateMethod ({ cls := "java/util/ArrayList", name := "grow", desc := "()[Ljava/lang/Object;" } : Jvm.MethodName)) ∈ lw_tbl := lw_at lw_m4 118 rfl
theorem q968 : (Jvm.Cond.instanceMethod ({ cls := "java/util/ArrayList", name := "grow", desc := "()[Ljava/lang/Object;" } : Jvm.MethodName)) ∈ lw_all := lw_g (lw_at lw_m4 119 rfl) rfl
theorem q969 : (Jvm.Cond.code ({ cls := "java/util/ArrayList", name := "grow", desc := "()[Ljava/lang/Object;" } : Jvm.MethodName) prog_42_method_7_code (1 : Nat) (Option.some (Jvm.ClassFile.FieldType.array (Jvm.ClassFile.FieldType.object "java/lang/Object")))) ∈ lw_all := lw_g (lw_at lw_m4 120 rfl) rfl
theorem q970 : (Jvm.Cond.methodLink "java/util/ArrayList" (69 : Nat) ({ cls := "java/util/ArrayList", name := "grow", desc := "(I)[Ljava/lang/Object;" } : Jvm.MethodName)) ∈ lw_all := lw_g (lw_at lw_m4 121 rfl) rfl
theorem q971 : (Jvm.Cond.privateMethod ({ cls := "java/util/ArrayList", name := "grow", desc := "(I)[Ljava/lang/Object;" } : Jvm.MethodName)) ∈ lw_tbl := lw_at lw_m4 122 rfl
theorem q972 : (Jvm.Cond.instanceMethod ({ cls := "java/util/ArrayList", name := "grow", desc := "(I)[Ljava/lang/Object;" } : Jvm.MethodName)) ∈ lw_all := lw_g (lw_at lw_m4 123 rfl) rfl
theorem q973 : (Jvm.Cond.code ({ cls := "java/util/ArrayList", name := "grow", desc := "(I)[Ljava/lang/Object;" } : Jvm.MethodName) prog_42_method_6_code (4 : Nat) (Option.some (Jvm.ClassFile.FieldType.array (Jvm.ClassFile.FieldType.object "java/lang/Object")))) ∈ lw_all := lw_g (lw_at lw_m4 124 rfl) rfl
theorem q974 : (Jvm.Cond.methodLink "java/util/ArrayList" (73 : Nat) ({ cls := "jdk/internal/util/ArraysSupport", name := "newLength", desc := "(III)I" } : Jvm.MethodName)) ∈ lw_all := lw_g (lw_at lw_m4 125 rfl) rfl
theorem q984 : (Jvm.Cond.methodLink "java/util/ArrayList" (66 : Nat) ({ cls := "java/util/Arrays", name := "copyOf", desc := "([Ljava/lang/Object;I)[Ljava/lang/Object;" } : Jvm.MethodName)) ∈ lw_all := lw_g (lw_at lw_m4 135 rfl) rfl
theorem q999 : (Jvm.Cond.methodLink "java/util/ArrayList" (79 : Nat) ({ cls := "java/lang/Math", name := "max", desc := "(II)I" } : Jvm.MethodName)) ∈ lw_all := lw_g (lw_at lw_m4 150 rfl) rfl
theorem q1000 : (Jvm.Cond.classLink "java/util/ArrayList" (7 : Nat) "java/lang/Object") ∈ lw_all := lw_g (lw_at lw_m4 151 rfl) rfl
theorem q1088 : (Jvm.Cond.selects "java/util/ArrayList" ({ cls := "java/util/AbstractList", name := "listIterator", desc := "(I)Ljava/util/ListIterator;" } : Jvm.MethodName) ({ cls := "java/util/ArrayList", name := "listIterator", desc := "(I)Ljava/util/ListIterator;" } : Jvm.MethodName)) ∈ lw_all := lw_g (lw_at lw_m4 239 rfl) rfl
theorem q1089 : (Jvm.Cond.instanceMethod ({ cls := "java/util/ArrayList", name := "listIterator", desc := "(I)Ljava/util/ListIterator;" } : Jvm.MethodName)) ∈ lw_all := lw_g (lw_at lw_m5 0 rfl) rfl
theorem q1090 : (Jvm.Cond.code ({ cls := "java/util/ArrayList", name := "listIterator", desc := "(I)Ljava/util/ListIterator;" } : Jvm.MethodName) prog_42_method_53_code (2 : Nat) (Option.some (Jvm.ClassFile.FieldType.object "java/util/ListIterator"))) ∈ lw_all := lw_g (lw_at lw_m5 1 rfl) rfl
theorem q1091 : (Jvm.Cond.methodLink "java/util/ArrayList" (135 : Nat) ({ cls := "java/util/ArrayList", name := "rangeCheckForAdd", desc := "(I)V" } : Jvm.MethodName)) ∈ lw_all := lw_g (lw_at lw_m5 2 rfl) rfl
theorem q1092 : (Jvm.Cond.privateMethod ({ cls := "java/util/ArrayList", name := "rangeCheckForAdd", desc := "(I)V" } : Jvm.MethodName)) ∈ lw_tbl := lw_at lw_m5 3 rfl
theorem q1093 : (Jvm.Cond.instanceMethod ({ cls := "java/util/ArrayList", name := "rangeCheckForAdd", desc := "(I)V" } : Jvm.MethodName)) ∈ lw_all := lw_g (lw_at lw_m5 4 rfl) rfl
theorem q1094 : (Jvm.Cond.code ({ cls := "java/util/ArrayList", name := "rangeCheckForAdd", desc := "(I)V" } : Jvm.MethodName) prog_42_method_45_code (2 : Nat) (Option.none : Option Jvm.ClassFile.FieldType)) ∈ lw_all := lw_g (lw_at lw_m5 5 rfl) rfl
theorem q1095 : (Jvm.Cond.classLink "java/util/ArrayList" (262 : Nat) "java/util/ArrayList$ListItr") ∈ lw_all := lw_g (lw_at lw_m5 6 rfl) rfl
theorem q1097 : (Jvm.Cond.methodLink "java/util/ArrayList" (264 : Nat) ({ cls := "java/util/ArrayList$ListItr", name := "<init>", desc := "(Ljava/util/ArrayList;I)V" } : Jvm.MethodName)) ∈ lw_all := lw_g (lw_at lw_m5 8 rfl) rfl
theorem q1170 : (Jvm.Cond.selects "java/util/ArrayList" ({ cls := "java/util/AbstractList", name := "size", desc := "()I" } : Jvm.MethodName) ({ cls := "java/util/ArrayList", name := "size", desc := "()I" } : Jvm.MethodName)) ∈ lw_all := lw_g (lw_at lw_m5 81 rfl) rfl
theorem q1201 : (Jvm.Cond.selects "java/util/ArrayList" ({ cls := "java/util/AbstractList", name := "get", desc := "(I)Ljava/lang/Object;" } : Jvm.MethodName) ({ cls := "java/util/ArrayList", name := "get", desc := "(I)Ljava/lang/Object;" } : Jvm.MethodName)) ∈ lw_all := lw_g (lw_at lw_m5 112 rfl) rfl
theorem q2663 : (Jvm.Cond.selects "java/util/ArrayList" ({ cls := "java/util/ArrayList", name := "size", desc := "()I" } : Jvm.MethodName) ({ cls := "java/util/ArrayList", name := "size", desc := "()I" } : Jvm.MethodName)) ∈ lw_all := lw_g (lw_at lw_m11 134 rfl) rfl
theorem q2664 : (Jvm.Cond.selects "java/util/ArrayList" ({ cls := "java/util/ArrayList", name := "get", desc := "(I)Ljava/lang/Object;" } : Jvm.MethodName) ({ cls := "java/util/ArrayList", name := "get", desc := "(I)Ljava/lang/Object;" } : Jvm.MethodName)) ∈ lw_all := lw_g (lw_at lw_m11 135 rfl) rfl
theorem q2677 : (Jvm.Cond.selects "java/util/ArrayList" ({ cls := "java/util/AbstractCollection", name := "size", desc := "()I" } : Jvm.MethodName) ({ cls := "java/util/ArrayList", name := "size", desc := "()I" } : Jvm.MethodName)) ∈ lw_all := lw_g (lw_at lw_m11 148 rfl) rfl
theorem q2691 : (Jvm.Cond.castable "java/util/ArrayList" "java/lang/Object") ∈ lw_tbl := lw_at lw_m11 162 rfl
theorem in_J14 : ∀ w ∈ wsJ140, w ∈ lw_all := lw_in wsJ140 [480, 476, 478] (by decide +kernel) (by decide +kernel)
/-! java/util/BitSet -/
set_option maxRecDepth 100000
def RJ15 : String := "java/util/BitSet"
def TJ15 : u_T := fun k => match k with
  | 0 => ("java/util/BitSet", "words", "[J", false)
  | 1 => ("java/util/BitSet", "wordsInUse", "I", false)
  | _ => ("java/util/BitSet", "sizeIsSticky", "Z", false)
def tyJ15 : Nat → FieldType := fun k => match k with
  | 0 => .array .long
  | 1 => .int
  | _ => .boolean
abbrev wsJ150 : List Cond := u_ws RJ15 TJ15 3
theorem nmJ15 : ∀ a, a < 3 → ∀ b, b < 3 → a ≠ b → (TJ15 a).2.1 ≠ (TJ15 b).2.1 := by decide +kernel
theorem tyJ15_ok : ∀ k, k < 3 → parseFieldDescriptor (TJ15 k).2.2.1 = some (tyJ15 k) := by decide +kernel
abbrev cJ15_init : ByteArray := prog_46_method_5_code
def yJ15_init : MethodName := ⟨RJ15, "<init>", "(I)V"⟩
def dkwJ15_init_2 : List UInt8 := [27, 182, 0, 27, 42, 4, 181, 0, 24, 177]
abbrev dktJ15_init_2 : List UInt8 := dkwJ15_init_2 ++ []
def dkwJ15_init_1 : List UInt8 := [187, 0, 33, 89, 183, 0, 35, 18, 36, 182, 0, 38, 27, 182, 0, 42, 182, 0, 45, 183, 0, 49, 191, 42]
abbrev dktJ15_init_1 : List UInt8 := dkwJ15_init_1 ++ dktJ15_init_2
def dkwJ15_init_0 : List UInt8 := [42, 183, 0, 21, 42, 3, 181, 0, 7, 42, 3, 181, 0, 24, 27, 156, 0, 30, 187, 0, 31, 89]
abbrev dktJ15_init_0 : List UInt8 := dkwJ15_init_0 ++ dktJ15_init_1
theorem dksJ15_init_0 : cJ15_init.data.toList.drop 0 = dktJ15_init_0 := by decide +kernel
theorem dksJ15_init_1 : cJ15_init.data.toList.drop 22 = dktJ15_init_1 := dk_seg dksJ15_init_0 22 rfl rfl
theorem dksJ15_init_2 : cJ15_init.data.toList.drop 46 = dktJ15_init_2 := dk_seg dksJ15_init_1 24 rfl rfl
theorem dJ15_init_0 : decode cJ15_init 0 = .ok (.aload_n 0, 1) := dk_42 (dk_at dksJ15_init_0 0 rfl rfl)
theorem dJ15_init_1 : decode cJ15_init 1 = .ok (.invokespecial 21, 3) := dk_183 0 21 (dk_at dksJ15_init_0 1 rfl rfl)
theorem dJ15_init_4 : decode cJ15_init 4 = .ok (.aload_n 0, 1) := dk_42 (dk_at dksJ15_init_0 4 rfl rfl)
theorem dJ15_init_5 : decode cJ15_init 5 = .ok (.iconst 0, 1) := dk_3 (dk_at dksJ15_init_0 5 rfl rfl)
theorem dJ15_init_6 : decode cJ15_init 6 = .ok (.putfield 7, 3) := dk_181 0 7 (dk_at dksJ15_init_0 6 rfl rfl)
theorem dJ15_init_9 : decode cJ15_init 9 = .ok (.aload_n 0, 1) := dk_42 (dk_at dksJ15_init_0 9 rfl rfl)
theorem dJ15_init_10 : decode cJ15_init 10 = .ok (.iconst 0, 1) := dk_3 (dk_at dksJ15_init_0 10 rfl rfl)
theorem dJ15_init_11 : decode cJ15_init 11 = .ok (.putfield 24, 3) := dk_181 0 24 (dk_at dksJ15_init_0 11 rfl rfl)
theorem dJ15_init_14 : decode cJ15_init 14 = .ok (.iload_n 1, 1) := dk_27 (dk_at dksJ15_init_0 14 rfl rfl)
theorem dJ15_init_15 : decode cJ15_init 15 = .ok (.ifCond .ge 30, 3) := dk_156 0 30 (dk_at dksJ15_init_0 15 rfl rfl)
theorem dJ15_init_18 : decode cJ15_init 18 = .ok (.new 31, 3) := dk_187 0 31 (dk_at dksJ15_init_0 18 rfl rfl)
theorem dJ15_init_21 : decode cJ15_init 21 = .ok (.dup, 1) := dk_89 (dk_at dksJ15_init_0 21 rfl rfl)
theorem dJ15_init_22 : decode cJ15_init 22 = .ok (.new 33, 3) := dk_187 0 33 (dk_at dksJ15_init_1 0 rfl rfl)
theorem dJ15_init_25 : decode cJ15_init 25 = .ok (.dup, 1) := dk_89 (dk_at dksJ15_init_1 3 rfl rfl)
theorem dJ15_init_26 : decode cJ15_init 26 = .ok (.invokespecial 35, 3) := dk_183 0 35 (dk_at dksJ15_init_1 4 rfl rfl)
theorem dJ15_init_29 : decode cJ15_init 29 = .ok (.ldc 36, 2) := dk_18 36 (dk_at dksJ15_init_1 7 rfl rfl)
theorem dJ15_init_31 : decode cJ15_init 31 = .ok (.invokevirtual 38, 3) := dk_182 0 38 (dk_at dksJ15_init_1 9 rfl rfl)
theorem dJ15_init_34 : decode cJ15_init 34 = .ok (.iload_n 1, 1) := dk_27 (dk_at dksJ15_init_1 12 rfl rfl)
theorem dJ15_init_35 : decode cJ15_init 35 = .ok (.invokevirtual 42, 3) := dk_182 0 42 (dk_at dksJ15_init_1 13 rfl rfl)
theorem dJ15_init_38 : decode cJ15_init 38 = .ok (.invokevirtual 45, 3) := dk_182 0 45 (dk_at dksJ15_init_1 16 rfl rfl)
theorem dJ15_init_41 : decode cJ15_init 41 = .ok (.invokespecial 49, 3) := dk_183 0 49 (dk_at dksJ15_init_1 19 rfl rfl)
theorem dJ15_init_44 : decode cJ15_init 44 = .ok (.athrow, 1) := dk_191 (dk_at dksJ15_init_1 22 rfl rfl)
theorem dJ15_init_45 : decode cJ15_init 45 = .ok (.aload_n 0, 1) := dk_42 (dk_at dksJ15_init_1 23 rfl rfl)
theorem dJ15_init_46 : decode cJ15_init 46 = .ok (.iload_n 1, 1) := dk_27 (dk_at dksJ15_init_2 0 rfl rfl)
theorem dJ15_init_47 : decode cJ15_init 47 = .ok (.invokevirtual 27, 3) := dk_182 0 27 (dk_at dksJ15_init_2 1 rfl rfl)
theorem dJ15_init_50 : decode cJ15_init 50 = .ok (.aload_n 0, 1) := dk_42 (dk_at dksJ15_init_2 4 rfl rfl)
theorem dJ15_init_51 : decode cJ15_init 51 = .ok (.iconst 1, 1) := dk_4 (dk_at dksJ15_init_2 5 rfl rfl)
theorem dJ15_init_52 : decode cJ15_init 52 = .ok (.putfield 24, 3) := dk_181 0 24 (dk_at dksJ15_init_2 6 rfl rfl)
theorem dJ15_init_55 : decode cJ15_init 55 = .ok (.return_, 1) := dk_177 (dk_at dksJ15_init_2 9 rfl rfl)
abbrev cJ15_initWords : ByteArray := prog_46_method_6_code
def yJ15_initWords : MethodName := ⟨RJ15, "initWords", "(I)V"⟩
def dkwJ15_initWords_0 : List UInt8 := [42, 27, 4, 100, 184, 0, 52, 4, 96, 188, 11, 181, 0, 11, 177]
abbrev dktJ15_initWords_0 : List UInt8 := dkwJ15_initWords_0 ++ []
theorem dksJ15_initWords_0 : cJ15_initWords.data.toList.drop 0 = dktJ15_initWords_0 := by decide +kernel
theorem dJ15_initWords_0 : decode cJ15_initWords 0 = .ok (.aload_n 0, 1) := dk_42 (dk_at dksJ15_initWords_0 0 rfl rfl)
theorem dJ15_initWords_1 : decode cJ15_initWords 1 = .ok (.iload_n 1, 1) := dk_27 (dk_at dksJ15_initWords_0 1 rfl rfl)
theorem dJ15_initWords_2 : decode cJ15_initWords 2 = .ok (.iconst 1, 1) := dk_4 (dk_at dksJ15_initWords_0 2 rfl rfl)
theorem dJ15_initWords_3 : decode cJ15_initWords 3 = .ok (.isub, 1) := dk_100 (dk_at dksJ15_initWords_0 3 rfl rfl)
theorem dJ15_initWords_4 : decode cJ15_initWords 4 = .ok (.invokestatic 52, 3) := dk_184 0 52 (dk_at dksJ15_initWords_0 4 rfl rfl)
theorem dJ15_initWords_7 : decode cJ15_initWords 7 = .ok (.iconst 1, 1) := dk_4 (dk_at dksJ15_initWords_0 7 rfl rfl)
theorem dJ15_initWords_8 : decode cJ15_initWords 8 = .ok (.iadd, 1) := dk_96 (dk_at dksJ15_initWords_0 8 rfl rfl)
theorem dJ15_initWords_9 : decode cJ15_initWords 9 = .ok (.newarray .long, 2) := dk_188_11 (dk_at dksJ15_initWords_0 9 rfl rfl)
theorem dJ15_initWords_11 : decode cJ15_initWords 11 = .ok (.putfield 11, 3) := dk_181 0 11 (dk_at dksJ15_initWords_0 11 rfl rfl)
theorem dJ15_initWords_14 : decode cJ15_initWords 14 = .ok (.return_, 1) := dk_177 (dk_at dksJ15_initWords_0 14 rfl rfl)
abbrev cJ15_wordIndex : ByteArray := prog_46_method_1_code
def yJ15_wordIndex : MethodName := ⟨RJ15, "wordIndex", "(I)I"⟩
def dkwJ15_wordIndex_0 : List UInt8 := [26, 16, 6, 122, 172]
abbrev dktJ15_wordIndex_0 : List UInt8 := dkwJ15_wordIndex_0 ++ []
theorem dksJ15_wordIndex_0 : cJ15_wordIndex.data.toList.drop 0 = dktJ15_wordIndex_0 := by decide +kernel
theorem dJ15_wordIndex_0 : decode cJ15_wordIndex 0 = .ok (.iload_n 0, 1) := dk_26 (dk_at dksJ15_wordIndex_0 0 rfl rfl)
theorem dJ15_wordIndex_1 : decode cJ15_wordIndex 1 = .ok (.bipush 6, 2) := dk_16 6 (dk_at dksJ15_wordIndex_0 1 rfl rfl)
theorem dJ15_wordIndex_3 : decode cJ15_wordIndex 3 = .ok (.ishr, 1) := dk_122 (dk_at dksJ15_wordIndex_0 3 rfl rfl)
theorem dJ15_wordIndex_4 : decode cJ15_wordIndex 4 = .ok (.ireturn, 1) := dk_172 (dk_at dksJ15_wordIndex_0 4 rfl rfl)
abbrev cJ15_clear : ByteArray := prog_46_method_25_code
def yJ15_clear : MethodName := ⟨RJ15, "clear", "()V"⟩
def dkwJ15_clear_1 : List UInt8 := [167, 255, 232, 177]
abbrev dktJ15_clear_1 : List UInt8 := dkwJ15_clear_1 ++ []
def dkwJ15_clear_0 : List UInt8 := [42, 180, 0, 7, 158, 0, 23, 42, 180, 0, 11, 42, 89, 180, 0, 7, 4, 100, 90, 181, 0, 7, 9, 80]
abbrev dktJ15_clear_0 : List UInt8 := dkwJ15_clear_0 ++ dktJ15_clear_1
theorem dksJ15_clear_0 : cJ15_clear.data.toList.drop 0 = dktJ15_clear_0 := by decide +kernel
theorem dksJ15_clear_1 : cJ15_clear.data.toList.drop 24 = dktJ15_clear_1 := dk_seg dksJ15_clear_0 24 rfl rfl
theorem dJ15_clear_0 : decode cJ15_clear 0 = .ok (.aload_n 0, 1) := dk_42 (dk_at dksJ15_clear_0 0 rfl rfl)
theorem dJ15_clear_1 : decode cJ15_clear 1 = .ok (.getfield 7, 3) := dk_180 0 7 (dk_at dksJ15_clear_0 1 rfl rfl)
theorem dJ15_clear_4 : decode cJ15_clear 4 = .ok (.ifCond .le 23, 3) := dk_158 0 23 (dk_at dksJ15_clear_0 4 rfl rfl)
theorem dJ15_clear_7 : decode cJ15_clear 7 = .ok (.aload_n 0, 1) := dk_42 (dk_at dksJ15_clear_0 7 rfl rfl)
theorem dJ15_clear_8 : decode cJ15_clear 8 = .ok (.getfield 11, 3) := dk_180 0 11 (dk_at dksJ15_clear_0 8 rfl rfl)
theorem dJ15_clear_11 : decode cJ15_clear 11 = .ok (.aload_n 0, 1) := dk_42 (dk_at dksJ15_clear_0 11 rfl rfl)
theorem dJ15_clear_12 : decode cJ15_clear 12 = .ok (.dup, 1) := dk_89 (dk_at dksJ15_clear_0 12 rfl rfl)
theorem dJ15_clear_13 : decode cJ15_clear 13 = .ok (.getfield 7, 3) := dk_180 0 7 (dk_at dksJ15_clear_0 13 rfl rfl)
theorem dJ15_clear_16 : decode cJ15_clear 16 = .ok (.iconst 1, 1) := dk_4 (dk_at dksJ15_clear_0 16 rfl rfl)
theorem dJ15_clear_17 : decode cJ15_clear 17 = .ok (.isub, 1) := dk_100 (dk_at dksJ15_clear_0 17 rfl rfl)
theorem dJ15_clear_18 : decode cJ15_clear 18 = .ok (.dup_x1, 1) := dk_90 (dk_at dksJ15_clear_0 18 rfl rfl)
theorem dJ15_clear_19 : decode cJ15_clear 19 = .ok (.putfield 7, 3) := dk_181 0 7 (dk_at dksJ15_clear_0 19 rfl rfl)
theorem dJ15_clear_22 : decode cJ15_clear 22 = .ok (.lconst 0, 1) := dk_9 (dk_at dksJ15_clear_0 22 rfl rfl)
theorem dJ15_clear_23 : decode cJ15_clear 23 = .ok (.lastore, 1) := dk_80 (dk_at dksJ15_clear_0 23 rfl rfl)
theorem dJ15_clear_24 : decode cJ15_clear 24 = .ok (.goto (-24), 3) := dk_167 255 232 (dk_at dksJ15_clear_1 0 rfl rfl)
theorem dJ15_clear_27 : decode cJ15_clear 27 = .ok (.return_, 1) := dk_177 (dk_at dksJ15_clear_1 3 rfl rfl)
abbrev cJ15_set : ByteArray := prog_46_method_19_code
def yJ15_set : MethodName := ⟨RJ15, "set", "(I)V"⟩
def dkwJ15_set_2 : List UInt8 := [10, 27, 121, 129, 80, 42, 182, 0, 56, 177]
abbrev dktJ15_set_2 : List UInt8 := dkwJ15_set_2 ++ []
def dkwJ15_set_1 : List UInt8 := [182, 0, 45, 183, 0, 146, 191, 27, 184, 0, 52, 61, 42, 28, 182, 0, 155, 42, 180, 0, 11, 28, 92, 47]
abbrev dktJ15_set_1 : List UInt8 := dkwJ15_set_1 ++ dktJ15_set_2
def dkwJ15_set_0 : List UInt8 := [27, 156, 0, 30, 187, 0, 142, 89, 187, 0, 33, 89, 183, 0, 35, 18, 153, 182, 0, 38, 27, 182, 0, 42]
abbrev dktJ15_set_0 : List UInt8 := dkwJ15_set_0 ++ dktJ15_set_1
theorem dksJ15_set_0 : cJ15_set.data.toList.drop 0 = dktJ15_set_0 := by decide +kernel
theorem dksJ15_set_1 : cJ15_set.data.toList.drop 24 = dktJ15_set_1 := dk_seg dksJ15_set_0 24 rfl rfl
theorem dksJ15_set_2 : cJ15_set.data.toList.drop 48 = dktJ15_set_2 := dk_seg dksJ15_set_1 24 rfl rfl
theorem dJ15_set_0 : decode cJ15_set 0 = .ok (.iload_n 1, 1) := dk_27 (dk_at dksJ15_set_0 0 rfl rfl)
theorem dJ15_set_1 : decode cJ15_set 1 = .ok (.ifCond .ge 30, 3) := dk_156 0 30 (dk_at dksJ15_set_0 1 rfl rfl)
theorem dJ15_set_4 : decode cJ15_set 4 = .ok (.new 142, 3) := dk_187 0 142 (dk_at dksJ15_set_0 4 rfl rfl)
theorem dJ15_set_7 : decode cJ15_set 7 = .ok (.dup, 1) := dk_89 (dk_at dksJ15_set_0 7 rfl rfl)
theorem dJ15_set_8 : decode cJ15_set 8 = .ok (.new 33, 3) := dk_187 0 33 (dk_at dksJ15_set_0 8 rfl rfl)
theorem dJ15_set_11 : decode cJ15_set 11 = .ok (.dup, 1) := dk_89 (dk_at dksJ15_set_0 11 rfl rfl)
theorem dJ15_set_12 : decode cJ15_set 12 = .ok (.invokespecial 35, 3) := dk_183 0 35 (dk_at dksJ15_set_0 12 rfl rfl)
theorem dJ15_set_15 : decode cJ15_set 15 = .ok (.ldc 153, 2) := dk_18 153 (dk_at dksJ15_set_0 15 rfl rfl)
theorem dJ15_set_17 : decode cJ15_set 17 = .ok (.invokevirtual 38, 3) := dk_182 0 38 (dk_at dksJ15_set_0 17 rfl rfl)
theorem dJ15_set_20 : decode cJ15_set 20 = .ok (.iload_n 1, 1) := dk_27 (dk_at dksJ15_set_0 20 rfl rfl)
theorem dJ15_set_21 : decode cJ15_set 21 = .ok (.invokevirtual 42, 3) := dk_182 0 42 (dk_at dksJ15_set_0 21 rfl rfl)
theorem dJ15_set_24 : decode cJ15_set 24 = .ok (.invokevirtual 45, 3) := dk_182 0 45 (dk_at dksJ15_set_1 0 rfl rfl)
theorem dJ15_set_27 : decode cJ15_set 27 = .ok (.invokespecial 146, 3) := dk_183 0 146 (dk_at dksJ15_set_1 3 rfl rfl)
theorem dJ15_set_30 : decode cJ15_set 30 = .ok (.athrow, 1) := dk_191 (dk_at dksJ15_set_1 6 rfl rfl)
theorem dJ15_set_31 : decode cJ15_set 31 = .ok (.iload_n 1, 1) := dk_27 (dk_at dksJ15_set_1 7 rfl rfl)
theorem dJ15_set_32 : decode cJ15_set 32 = .ok (.invokestatic 52, 3) := dk_184 0 52 (dk_at dksJ15_set_1 8 rfl rfl)
theorem dJ15_set_35 : decode cJ15_set 35 = .ok (.istore_n 2, 1) := dk_61 (dk_at dksJ15_set_1 11 rfl rfl)
theorem dJ15_set_36 : decode cJ15_set 36 = .ok (.aload_n 0, 1) := dk_42 (dk_at dksJ15_set_1 12 rfl rfl)
theorem dJ15_set_37 : decode cJ15_set 37 = .ok (.iload_n 2, 1) := dk_28 (dk_at dksJ15_set_1 13 rfl rfl)
theorem dJ15_set_38 : decode cJ15_set 38 = .ok (.invokevirtual 155, 3) := dk_182 0 155 (dk_at dksJ15_set_1 14 rfl rfl)
theorem dJ15_set_41 : decode cJ15_set 41 = .ok (.aload_n 0, 1) := dk_42 (dk_at dksJ15_set_1 17 rfl rfl)
theorem dJ15_set_42 : decode cJ15_set 42 = .ok (.getfield 11, 3) := dk_180 0 11 (dk_at dksJ15_set_1 18 rfl rfl)
theorem dJ15_set_45 : decode cJ15_set 45 = .ok (.iload_n 2, 1) := dk_28 (dk_at dksJ15_set_1 21 rfl rfl)
theorem dJ15_set_46 : decode cJ15_set 46 = .ok (.dup2, 1) := dk_92 (dk_at dksJ15_set_1 22 rfl rfl)
theorem dJ15_set_47 : decode cJ15_set 47 = .ok (.laload, 1) := dk_47 (dk_at dksJ15_set_1 23 rfl rfl)
theorem dJ15_set_48 : decode cJ15_set 48 = .ok (.lconst 1, 1) := dk_10 (dk_at dksJ15_set_2 0 rfl rfl)
theorem dJ15_set_49 : decode cJ15_set 49 = .ok (.iload_n 1, 1) := dk_27 (dk_at dksJ15_set_2 1 rfl rfl)
theorem dJ15_set_50 : decode cJ15_set 50 = .ok (.lshl, 1) := dk_121 (dk_at dksJ15_set_2 2 rfl rfl)
theorem dJ15_set_51 : decode cJ15_set 51 = .ok (.lor, 1) := dk_129 (dk_at dksJ15_set_2 3 rfl rfl)
theorem dJ15_set_52 : decode cJ15_set 52 = .ok (.lastore, 1) := dk_80 (dk_at dksJ15_set_2 4 rfl rfl)
theorem dJ15_set_53 : decode cJ15_set 53 = .ok (.aload_n 0, 1) := dk_42 (dk_at dksJ15_set_2 5 rfl rfl)
theorem dJ15_set_54 : decode cJ15_set 54 = .ok (.invokevirtual 56, 3) := dk_182 0 56 (dk_at dksJ15_set_2 6 rfl rfl)
theorem dJ15_set_57 : decode cJ15_set 57 = .ok (.return_, 1) := dk_177 (dk_at dksJ15_set_2 9 rfl rfl)
abbrev cJ15_expandTo : ByteArray := prog_46_method_15_code
def yJ15_expandTo : MethodName := ⟨RJ15, "expandTo", "(I)V"⟩
def dkwJ15_expandTo_0 : List UInt8 := [27, 4, 96, 61, 42, 180, 0, 7, 28, 162, 0, 13, 42, 28, 182, 0, 139, 42, 28, 181, 0, 7, 177]
abbrev dktJ15_expandTo_0 : List UInt8 := dkwJ15_expandTo_0 ++ []
theorem dksJ15_expandTo_0 : cJ15_expandTo.data.toList.drop 0 = dktJ15_expandTo_0 := by decide +kernel
theorem dJ15_expandTo_0 : decode cJ15_expandTo 0 = .ok (.iload_n 1, 1) := dk_27 (dk_at dksJ15_expandTo_0 0 rfl rfl)
theorem dJ15_expandTo_1 : decode cJ15_expandTo 1 = .ok (.iconst 1, 1) := dk_4 (dk_at dksJ15_expandTo_0 1 rfl rfl)
theorem dJ15_expandTo_2 : decode cJ15_expandTo 2 = .ok (.iadd, 1) := dk_96 (dk_at dksJ15_expandTo_0 2 rfl rfl)
theorem dJ15_expandTo_3 : decode cJ15_expandTo 3 = .ok (.istore_n 2, 1) := dk_61 (dk_at dksJ15_expandTo_0 3 rfl rfl)
theorem dJ15_expandTo_4 : decode cJ15_expandTo 4 = .ok (.aload_n 0, 1) := dk_42 (dk_at dksJ15_expandTo_0 4 rfl rfl)
theorem dJ15_expandTo_5 : decode cJ15_expandTo 5 = .ok (.getfield 7, 3) := dk_180 0 7 (dk_at dksJ15_expandTo_0 5 rfl rfl)
theorem dJ15_expandTo_8 : decode cJ15_expandTo 8 = .ok (.iload_n 2, 1) := dk_28 (dk_at dksJ15_expandTo_0 8 rfl rfl)
theorem dJ15_expandTo_9 : decode cJ15_expandTo 9 = .ok (.if_icmp .ge 13, 3) := dk_162 0 13 (dk_at dksJ15_expandTo_0 9 rfl rfl)
theorem dJ15_expandTo_12 : decode cJ15_expandTo 12 = .ok (.aload_n 0, 1) := dk_42 (dk_at dksJ15_expandTo_0 12 rfl rfl)
theorem dJ15_expandTo_13 : decode cJ15_expandTo 13 = .ok (.iload_n 2, 1) := dk_28 (dk_at dksJ15_expandTo_0 13 rfl rfl)
theorem dJ15_expandTo_14 : decode cJ15_expandTo 14 = .ok (.invokevirtual 139, 3) := dk_182 0 139 (dk_at dksJ15_expandTo_0 14 rfl rfl)
theorem dJ15_expandTo_17 : decode cJ15_expandTo 17 = .ok (.aload_n 0, 1) := dk_42 (dk_at dksJ15_expandTo_0 17 rfl rfl)
theorem dJ15_expandTo_18 : decode cJ15_expandTo 18 = .ok (.iload_n 2, 1) := dk_28 (dk_at dksJ15_expandTo_0 18 rfl rfl)
theorem dJ15_expandTo_19 : decode cJ15_expandTo 19 = .ok (.putfield 7, 3) := dk_181 0 7 (dk_at dksJ15_expandTo_0 19 rfl rfl)
theorem dJ15_expandTo_22 : decode cJ15_expandTo 22 = .ok (.return_, 1) := dk_177 (dk_at dksJ15_expandTo_0 22 rfl rfl)
abbrev cJ15_ensureCapacity : ByteArray := prog_46_method_14_code
def yJ15_ensureCapacity : MethodName := ⟨RJ15, "ensureCapacity", "(I)V"⟩
def dkwJ15_ensureCapacity_1 : List UInt8 := [180, 0, 11, 28, 184, 0, 59, 181, 0, 11, 42, 3, 181, 0, 24, 177]
abbrev dktJ15_ensureCapacity_1 : List UInt8 := dkwJ15_ensureCapacity_1 ++ []
def dkwJ15_ensureCapacity_0 : List UInt8 := [42, 180, 0, 11, 190, 27, 162, 0, 32, 5, 42, 180, 0, 11, 190, 104, 27, 184, 0, 133, 61, 42, 42]
abbrev dktJ15_ensureCapacity_0 : List UInt8 := dkwJ15_ensureCapacity_0 ++ dktJ15_ensureCapacity_1
theorem dksJ15_ensureCapacity_0 : cJ15_ensureCapacity.data.toList.drop 0 = dktJ15_ensureCapacity_0 := by decide +kernel
theorem dksJ15_ensureCapacity_1 : cJ15_ensureCapacity.data.toList.drop 23 = dktJ15_ensureCapacity_1 := dk_seg dksJ15_ensureCapacity_0 23 rfl rfl
theorem dJ15_ensureCapacity_0 : decode cJ15_ensureCapacity 0 = .ok (.aload_n 0, 1) := dk_42 (dk_at dksJ15_ensureCapacity_0 0 rfl rfl)
theorem dJ15_ensureCapacity_1 : decode cJ15_ensureCapacity 1 = .ok (.getfield 11, 3) := dk_180 0 11 (dk_at dksJ15_ensureCapacity_0 1 rfl rfl)
theorem dJ15_ensureCapacity_4 : decode cJ15_ensureCapacity 4 = .ok (.arraylength, 1) := dk_190 (dk_at dksJ15_ensureCapacity_0 4 rfl rfl)
theorem dJ15_ensureCapacity_5 : decode cJ15_ensureCapacity 5 = .ok (.iload_n 1, 1) := dk_27 (dk_at dksJ15_ensureCapacity_0 5 rfl rfl)
theorem dJ15_ensureCapacity_6 : decode cJ15_ensureCapacity 6 = .ok (.if_icmp .ge 32, 3) := dk_162 0 32 (dk_at dksJ15_ensureCapacity_0 6 rfl rfl)
theorem dJ15_ensureCapacity_9 : decode cJ15_ensureCapacity 9 = .ok (.iconst 2, 1) := dk_5 (dk_at dksJ15_ensureCapacity_0 9 rfl rfl)
theorem dJ15_ensureCapacity_10 : decode cJ15_ensureCapacity 10 = .ok (.aload_n 0, 1) := dk_42 (dk_at dksJ15_ensureCapacity_0 10 rfl rfl)
theorem dJ15_ensureCapacity_11 : decode cJ15_ensureCapacity 11 = .ok (.getfield 11, 3) := dk_180 0 11 (dk_at dksJ15_ensureCapacity_0 11 rfl rfl)
theorem dJ15_ensureCapacity_14 : decode cJ15_ensureCapacity 14 = .ok (.arraylength, 1) := dk_190 (dk_at dksJ15_ensureCapacity_0 14 rfl rfl)
theorem dJ15_ensureCapacity_15 : decode cJ15_ensureCapacity 15 = .ok (.imul, 1) := dk_104 (dk_at dksJ15_ensureCapacity_0 15 rfl rfl)
theorem dJ15_ensureCapacity_16 : decode cJ15_ensureCapacity 16 = .ok (.iload_n 1, 1) := dk_27 (dk_at dksJ15_ensureCapacity_0 16 rfl rfl)
theorem dJ15_ensureCapacity_17 : decode cJ15_ensureCapacity 17 = .ok (.invokestatic 133, 3) := dk_184 0 133 (dk_at dksJ15_ensureCapacity_0 17 rfl rfl)
theorem dJ15_ensureCapacity_20 : decode cJ15_ensureCapacity 20 = .ok (.istore_n 2, 1) := dk_61 (dk_at dksJ15_ensureCapacity_0 20 rfl rfl)
theorem dJ15_ensureCapacity_21 : decode cJ15_ensureCapacity 21 = .ok (.aload_n 0, 1) := dk_42 (dk_at dksJ15_ensureCapacity_0 21 rfl rfl)
theorem dJ15_ensureCapacity_22 : decode cJ15_ensureCapacity 22 = .ok (.aload_n 0, 1) := dk_42 (dk_at dksJ15_ensureCapacity_0 22 rfl rfl)
theorem dJ15_ensureCapacity_23 : decode cJ15_ensureCapacity 23 = .ok (.getfield 11, 3) := dk_180 0 11 (dk_at dksJ15_ensureCapacity_1 0 rfl rfl)
theorem dJ15_ensureCapacity_26 : decode cJ15_ensureCapacity 26 = .ok (.iload_n 2, 1) := dk_28 (dk_at dksJ15_ensureCapacity_1 3 rfl rfl)
theorem dJ15_ensureCapacity_27 : decode cJ15_ensureCapacity 27 = .ok (.invokestatic 59, 3) := dk_184 0 59 (dk_at dksJ15_ensureCapacity_1 4 rfl rfl)
theorem dJ15_ensureCapacity_30 : decode cJ15_ensureCapacity 30 = .ok (.putfield 11, 3) := dk_181 0 11 (dk_at dksJ15_ensureCapacity_1 7 rfl rfl)
theorem dJ15_ensureCapacity_33 : decode cJ15_ensureCapacity 33 = .ok (.aload_n 0, 1) := dk_42 (dk_at dksJ15_ensureCapacity_1 10 rfl rfl)
theorem dJ15_ensureCapacity_34 : decode cJ15_ensureCapacity 34 = .ok (.iconst 0, 1) := dk_3 (dk_at dksJ15_ensureCapacity_1 11 rfl rfl)
theorem dJ15_ensureCapacity_35 : decode cJ15_ensureCapacity 35 = .ok (.putfield 24, 3) := dk_181 0 24 (dk_at dksJ15_ensureCapacity_1 12 rfl rfl)
theorem dJ15_ensureCapacity_38 : decode cJ15_ensureCapacity 38 = .ok (.return_, 1) := dk_177 (dk_at dksJ15_ensureCapacity_1 15 rfl rfl)
abbrev cJ15_checkInvariants : ByteArray := prog_46_method_2_code
def yJ15_checkInvariants : MethodName := ⟨RJ15, "checkInvariants", "()V"⟩
def dkwJ15_checkInvariants_4 : List UInt8 := [180, 0, 7, 47, 9, 148, 153, 0, 11, 187, 0, 15, 89, 183, 0, 17, 191, 177]
abbrev dktJ15_checkInvariants_4 : List UInt8 := dkwJ15_checkInvariants_4 ++ []
def dkwJ15_checkInvariants_3 : List UInt8 := [178, 0, 3, 154, 0, 37, 42, 180, 0, 7, 42, 180, 0, 11, 190, 159, 0, 25, 42, 180, 0, 11, 42]
abbrev dktJ15_checkInvariants_3 : List UInt8 := dkwJ15_checkInvariants_3 ++ dktJ15_checkInvariants_4
def dkwJ15_checkInvariants_2 : List UInt8 := [155, 0, 15, 42, 180, 0, 7, 42, 180, 0, 11, 190, 164, 0, 11, 187, 0, 15, 89, 183, 0, 17, 191]
abbrev dktJ15_checkInvariants_2 : List UInt8 := dkwJ15_checkInvariants_2 ++ dktJ15_checkInvariants_3
def dkwJ15_checkInvariants_1 : List UInt8 := [9, 148, 154, 0, 11, 187, 0, 15, 89, 183, 0, 17, 191, 178, 0, 3, 154, 0, 30, 42, 180, 0, 7]
abbrev dktJ15_checkInvariants_1 : List UInt8 := dkwJ15_checkInvariants_1 ++ dktJ15_checkInvariants_2
def dkwJ15_checkInvariants_0 : List UInt8 := [178, 0, 3, 154, 0, 34, 42, 180, 0, 7, 153, 0, 27, 42, 180, 0, 11, 42, 180, 0, 7, 4, 100, 47]
abbrev dktJ15_checkInvariants_0 : List UInt8 := dkwJ15_checkInvariants_0 ++ dktJ15_checkInvariants_1
theorem dksJ15_checkInvariants_0 : cJ15_checkInvariants.data.toList.drop 0 = dktJ15_checkInvariants_0 := by decide +kernel
theorem dksJ15_checkInvariants_1 : cJ15_checkInvariants.data.toList.drop 24 = dktJ15_checkInvariants_1 := dk_seg dksJ15_checkInvariants_0 24 rfl rfl
theorem dksJ15_checkInvariants_2 : cJ15_checkInvariants.data.toList.drop 47 = dktJ15_checkInvariants_2 := dk_seg dksJ15_checkInvariants_1 23 rfl rfl
theorem dksJ15_checkInvariants_3 : cJ15_checkInvariants.data.toList.drop 70 = dktJ15_checkInvariants_3 := dk_seg dksJ15_checkInvariants_2 23 rfl rfl
theorem dksJ15_checkInvariants_4 : cJ15_checkInvariants.data.toList.drop 93 = dktJ15_checkInvariants_4 := dk_seg dksJ15_checkInvariants_3 23 rfl rfl
theorem dJ15_checkInvariants_0 : decode cJ15_checkInvariants 0 = .ok (.getstatic 3, 3) := dk_178 0 3 (dk_at dksJ15_checkInvariants_0 0 rfl rfl)
theorem dJ15_checkInvariants_3 : decode cJ15_checkInvariants 3 = .ok (.ifCond .ne 34, 3) := dk_154 0 34 (dk_at dksJ15_checkInvariants_0 3 rfl rfl)
theorem dJ15_checkInvariants_6 : decode cJ15_checkInvariants 6 = .ok (.aload_n 0, 1) := dk_42 (dk_at dksJ15_checkInvariants_0 6 rfl rfl)
theorem dJ15_checkInvariants_7 : decode cJ15_checkInvariants 7 = .ok (.getfield 7, 3) := dk_180 0 7 (dk_at dksJ15_checkInvariants_0 7 rfl rfl)
theorem dJ15_checkInvariants_10 : decode cJ15_checkInvariants 10 = .ok (.ifCond .eq 27, 3) := dk_153 0 27 (dk_at dksJ15_checkInvariants_0 10 rfl rfl)
theorem dJ15_checkInvariants_13 : decode cJ15_checkInvariants 13 = .ok (.aload_n 0, 1) := dk_42 (dk_at dksJ15_checkInvariants_0 13 rfl rfl)
theorem dJ15_checkInvariants_14 : decode cJ15_checkInvariants 14 = .ok (.getfield 11, 3) := dk_180 0 11 (dk_at dksJ15_checkInvariants_0 14 rfl rfl)
theorem dJ15_checkInvariants_17 : decode cJ15_checkInvariants 17 = .ok (.aload_n 0, 1) := dk_42 (dk_at dksJ15_checkInvariants_0 17 rfl rfl)
theorem dJ15_checkInvariants_18 : decode cJ15_checkInvariants 18 = .ok (.getfield 7, 3) := dk_180 0 7 (dk_at dksJ15_checkInvariants_0 18 rfl rfl)
theorem dJ15_checkInvariants_21 : decode cJ15_checkInvariants 21 = .ok (.iconst 1, 1) := dk_4 (dk_at dksJ15_checkInvariants_0 21 rfl rfl)
theorem dJ15_checkInvariants_22 : decode cJ15_checkInvariants 22 = .ok (.isub, 1) := dk_100 (dk_at dksJ15_checkInvariants_0 22 rfl rfl)
theorem dJ15_checkInvariants_23 : decode cJ15_checkInvariants 23 = .ok (.laload, 1) := dk_47 (dk_at dksJ15_checkInvariants_0 23 rfl rfl)
theorem dJ15_checkInvariants_24 : decode cJ15_checkInvariants 24 = .ok (.lconst 0, 1) := dk_9 (dk_at dksJ15_checkInvariants_1 0 rfl rfl)
theorem dJ15_checkInvariants_25 : decode cJ15_checkInvariants 25 = .ok (.lcmp, 1) := dk_148 (dk_at dksJ15_checkInvariants_1 1 rfl rfl)
theorem dJ15_checkInvariants_26 : decode cJ15_checkInvariants 26 = .ok (.ifCond .ne 11, 3) := dk_154 0 11 (dk_at dksJ15_checkInvariants_1 2 rfl rfl)
theorem dJ15_checkInvariants_29 : decode cJ15_checkInvariants 29 = .ok (.new 15, 3) := dk_187 0 15 (dk_at dksJ15_checkInvariants_1 5 rfl rfl)
theorem dJ15_checkInvariants_32 : decode cJ15_checkInvariants 32 = .ok (.dup, 1) := dk_89 (dk_at dksJ15_checkInvariants_1 8 rfl rfl)
theorem dJ15_checkInvariants_33 : decode cJ15_checkInvariants 33 = .ok (.invokespecial 17, 3) := dk_183 0 17 (dk_at dksJ15_checkInvariants_1 9 rfl rfl)
theorem dJ15_checkInvariants_36 : decode cJ15_checkInvariants 36 = .ok (.athrow, 1) := dk_191 (dk_at dksJ15_checkInvariants_1 12 rfl rfl)
theorem dJ15_checkInvariants_37 : decode cJ15_checkInvariants 37 = .ok (.getstatic 3, 3) := dk_178 0 3 (dk_at dksJ15_checkInvariants_1 13 rfl rfl)
theorem dJ15_checkInvariants_40 : decode cJ15_checkInvariants 40 = .ok (.ifCond .ne 30, 3) := dk_154 0 30 (dk_at dksJ15_checkInvariants_1 16 rfl rfl)
theorem dJ15_checkInvariants_43 : decode cJ15_checkInvariants 43 = .ok (.aload_n 0, 1) := dk_42 (dk_at dksJ15_checkInvariants_1 19 rfl rfl)
theorem dJ15_checkInvariants_44 : decode cJ15_checkInvariants 44 = .ok (.getfield 7, 3) := dk_180 0 7 (dk_at dksJ15_checkInvariants_1 20 rfl rfl)
theorem dJ15_checkInvariants_47 : decode cJ15_checkInvariants 47 = .ok (.ifCond .lt 15, 3) := dk_155 0 15 (dk_at dksJ15_checkInvariants_2 0 rfl rfl)
theorem dJ15_checkInvariants_50 : decode cJ15_checkInvariants 50 = .ok (.aload_n 0, 1) := dk_42 (dk_at dksJ15_checkInvariants_2 3 rfl rfl)
theorem dJ15_checkInvariants_51 : decode cJ15_checkInvariants 51 = .ok (.getfield 7, 3) := dk_180 0 7 (dk_at dksJ15_checkInvariants_2 4 rfl rfl)
theorem dJ15_checkInvariants_54 : decode cJ15_checkInvariants 54 = .ok (.aload_n 0, 1) := dk_42 (dk_at dksJ15_checkInvariants_2 7 rfl rfl)
theorem dJ15_checkInvariants_55 : decode cJ15_checkInvariants 55 = .ok (.getfield 11, 3) := dk_180 0 11 (dk_at dksJ15_checkInvariants_2 8 rfl rfl)
theorem dJ15_checkInvariants_58 : decode cJ15_checkInvariants 58 = .ok (.arraylength, 1) := dk_190 (dk_at dksJ15_checkInvariants_2 11 rfl rfl)
theorem dJ15_checkInvariants_59 : decode cJ15_checkInvariants 59 = .ok (.if_icmp .le 11, 3) := dk_164 0 11 (dk_at dksJ15_checkInvariants_2 12 rfl rfl)
theorem dJ15_checkInvariants_62 : decode cJ15_checkInvariants 62 = .ok (.new 15, 3) := dk_187 0 15 (dk_at dksJ15_checkInvariants_2 15 rfl rfl)
theorem dJ15_checkInvariants_65 : decode cJ15_checkInvariants 65 = .ok (.dup, 1) := dk_89 (dk_at dksJ15_checkInvariants_2 18 rfl rfl)
theorem dJ15_checkInvariants_66 : decode cJ15_checkInvariants 66 = .ok (.invokespecial 17, 3) := dk_183 0 17 (dk_at dksJ15_checkInvariants_2 19 rfl rfl)
theorem dJ15_checkInvariants_69 : decode cJ15_checkInvariants 69 = .ok (.athrow, 1) := dk_191 (dk_at dksJ15_checkInvariants_2 22 rfl rfl)
theorem dJ15_checkInvariants_70 : decode cJ15_checkInvariants 70 = .ok (.getstatic 3, 3) := dk_178 0 3 (dk_at dksJ15_checkInvariants_3 0 rfl rfl)
theorem dJ15_checkInvariants_73 : decode cJ15_checkInvariants 73 = .ok (.ifCond .ne 37, 3) := dk_154 0 37 (dk_at dksJ15_checkInvariants_3 3 rfl rfl)
theorem dJ15_checkInvariants_76 : decode cJ15_checkInvariants 76 = .ok (.aload_n 0, 1) := dk_42 (dk_at dksJ15_checkInvariants_3 6 rfl rfl)
theorem dJ15_checkInvariants_77 : decode cJ15_checkInvariants 77 = .ok (.getfield 7, 3) := dk_180 0 7 (dk_at dksJ15_checkInvariants_3 7 rfl rfl)
theorem dJ15_checkInvariants_80 : decode cJ15_checkInvariants 80 = .ok (.aload_n 0, 1) := dk_42 (dk_at dksJ15_checkInvariants_3 10 rfl rfl)
theorem dJ15_checkInvariants_81 : decode cJ15_checkInvariants 81 = .ok (.getfield 11, 3) := dk_180 0 11 (dk_at dksJ15_checkInvariants_3 11 rfl rfl)
theorem dJ15_checkInvariants_84 : decode cJ15_checkInvariants 84 = .ok (.arraylength, 1) := dk_190 (dk_at dksJ15_checkInvariants_3 14 rfl rfl)
theorem dJ15_checkInvariants_85 : decode cJ15_checkInvariants 85 = .ok (.if_icmp .eq 25, 3) := dk_159 0 25 (dk_at dksJ15_checkInvariants_3 15 rfl rfl)
theorem dJ15_checkInvariants_88 : decode cJ15_checkInvariants 88 = .ok (.aload_n 0, 1) := dk_42 (dk_at dksJ15_checkInvariants_3 18 rfl rfl)
theorem dJ15_checkInvariants_89 : decode cJ15_checkInvariants 89 = .ok (.getfield 11, 3) := dk_180 0 11 (dk_at dksJ15_checkInvariants_3 19 rfl rfl)
theorem dJ15_checkInvariants_92 : decode cJ15_checkInvariants 92 = .ok (.aload_n 0, 1) := dk_42 (dk_at dksJ15_checkInvariants_3 22 rfl rfl)
theorem dJ15_checkInvariants_93 : decode cJ15_checkInvariants 93 = .ok (.getfield 7, 3) := dk_180 0 7 (dk_at dksJ15_checkInvariants_4 0 rfl rfl)
theorem dJ15_checkInvariants_96 : decode cJ15_checkInvariants 96 = .ok (.laload, 1) := dk_47 (dk_at dksJ15_checkInvariants_4 3 rfl rfl)
theorem dJ15_checkInvariants_97 : decode cJ15_checkInvariants 97 = .ok (.lconst 0, 1) := dk_9 (dk_at dksJ15_checkInvariants_4 4 rfl rfl)
theorem dJ15_checkInvariants_98 : decode cJ15_checkInvariants 98 = .ok (.lcmp, 1) := dk_148 (dk_at dksJ15_checkInvariants_4 5 rfl rfl)
theorem dJ15_checkInvariants_99 : decode cJ15_checkInvariants 99 = .ok (.ifCond .eq 11, 3) := dk_153 0 11 (dk_at dksJ15_checkInvariants_4 6 rfl rfl)
theorem dJ15_checkInvariants_102 : decode cJ15_checkInvariants 102 = .ok (.new 15, 3) := dk_187 0 15 (dk_at dksJ15_checkInvariants_4 9 rfl rfl)
theorem dJ15_checkInvariants_105 : decode cJ15_checkInvariants 105 = .ok (.dup, 1) := dk_89 (dk_at dksJ15_checkInvariants_4 12 rfl rfl)
theorem dJ15_checkInvariants_106 : decode cJ15_checkInvariants 106 = .ok (.invokespecial 17, 3) := dk_183 0 17 (dk_at dksJ15_checkInvariants_4 13 rfl rfl)
theorem dJ15_checkInvariants_109 : decode cJ15_checkInvariants 109 = .ok (.athrow, 1) := dk_191 (dk_at dksJ15_checkInvariants_4 16 rfl rfl)
theorem dJ15_checkInvariants_110 : decode cJ15_checkInvariants 110 = .ok (.return_, 1) := dk_177 (dk_at dksJ15_checkInvariants_4 17 rfl rfl)
abbrev cJ15_get : ByteArray := prog_46_method_26_code
def yJ15_get : MethodName := ⟨RJ15, "get", "(I)Z"⟩
def dkwJ15_get_2 : List UInt8 := [42, 180, 0, 11, 28, 47, 10, 27, 121, 127, 9, 148, 153, 0, 7, 4, 167, 0, 4, 3, 172]
abbrev dktJ15_get_2 : List UInt8 := dkwJ15_get_2 ++ []
def dkwJ15_get_1 : List UInt8 := [182, 0, 45, 183, 0, 146, 191, 42, 182, 0, 56, 27, 184, 0, 52, 61, 28, 42, 180, 0, 7, 162, 0, 22]
abbrev dktJ15_get_1 : List UInt8 := dkwJ15_get_1 ++ dktJ15_get_2
def dkwJ15_get_0 : List UInt8 := [27, 156, 0, 30, 187, 0, 142, 89, 187, 0, 33, 89, 183, 0, 35, 18, 153, 182, 0, 38, 27, 182, 0, 42]
abbrev dktJ15_get_0 : List UInt8 := dkwJ15_get_0 ++ dktJ15_get_1
theorem dksJ15_get_0 : cJ15_get.data.toList.drop 0 = dktJ15_get_0 := by decide +kernel
theorem dksJ15_get_1 : cJ15_get.data.toList.drop 24 = dktJ15_get_1 := dk_seg dksJ15_get_0 24 rfl rfl
theorem dksJ15_get_2 : cJ15_get.data.toList.drop 48 = dktJ15_get_2 := dk_seg dksJ15_get_1 24 rfl rfl
theorem dJ15_get_0 : decode cJ15_get 0 = .ok (.iload_n 1, 1) := dk_27 (dk_at dksJ15_get_0 0 rfl rfl)
theorem dJ15_get_1 : decode cJ15_get 1 = .ok (.ifCond .ge 30, 3) := dk_156 0 30 (dk_at dksJ15_get_0 1 rfl rfl)
theorem dJ15_get_4 : decode cJ15_get 4 = .ok (.new 142, 3) := dk_187 0 142 (dk_at dksJ15_get_0 4 rfl rfl)
theorem dJ15_get_7 : decode cJ15_get 7 = .ok (.dup, 1) := dk_89 (dk_at dksJ15_get_0 7 rfl rfl)
theorem dJ15_get_8 : decode cJ15_get 8 = .ok (.new 33, 3) := dk_187 0 33 (dk_at dksJ15_get_0 8 rfl rfl)
theorem dJ15_get_11 : decode cJ15_get 11 = .ok (.dup, 1) := dk_89 (dk_at dksJ15_get_0 11 rfl rfl)
theorem dJ15_get_12 : decode cJ15_get 12 = .ok (.invokespecial 35, 3) := dk_183 0 35 (dk_at dksJ15_get_0 12 rfl rfl)
theorem dJ15_get_15 : decode cJ15_get 15 = .ok (.ldc 153, 2) := dk_18 153 (dk_at dksJ15_get_0 15 rfl rfl)
theorem dJ15_get_17 : decode cJ15_get 17 = .ok (.invokevirtual 38, 3) := dk_182 0 38 (dk_at dksJ15_get_0 17 rfl rfl)
theorem dJ15_get_20 : decode cJ15_get 20 = .ok (.iload_n 1, 1) := dk_27 (dk_at dksJ15_get_0 20 rfl rfl)
theorem dJ15_get_21 : decode cJ15_get 21 = .ok (.invokevirtual 42, 3) := dk_182 0 42 (dk_at dksJ15_get_0 21 rfl rfl)
theorem dJ15_get_24 : decode cJ15_get 24 = .ok (.invokevirtual 45, 3) := dk_182 0 45 (dk_at dksJ15_get_1 0 rfl rfl)
theorem dJ15_get_27 : decode cJ15_get 27 = .ok (.invokespecial 146, 3) := dk_183 0 146 (dk_at dksJ15_get_1 3 rfl rfl)
theorem dJ15_get_30 : decode cJ15_get 30 = .ok (.athrow, 1) := dk_191 (dk_at dksJ15_get_1 6 rfl rfl)
theorem dJ15_get_31 : decode cJ15_get 31 = .ok (.aload_n 0, 1) := dk_42 (dk_at dksJ15_get_1 7 rfl rfl)
theorem dJ15_get_32 : decode cJ15_get 32 = .ok (.invokevirtual 56, 3) := dk_182 0 56 (dk_at dksJ15_get_1 8 rfl rfl)
theorem dJ15_get_35 : decode cJ15_get 35 = .ok (.iload_n 1, 1) := dk_27 (dk_at dksJ15_get_1 11 rfl rfl)
theorem dJ15_get_36 : decode cJ15_get 36 = .ok (.invokestatic 52, 3) := dk_184 0 52 (dk_at dksJ15_get_1 12 rfl rfl)
theorem dJ15_get_39 : decode cJ15_get 39 = .ok (.istore_n 2, 1) := dk_61 (dk_at dksJ15_get_1 15 rfl rfl)
theorem dJ15_get_40 : decode cJ15_get 40 = .ok (.iload_n 2, 1) := dk_28 (dk_at dksJ15_get_1 16 rfl rfl)
theorem dJ15_get_41 : decode cJ15_get 41 = .ok (.aload_n 0, 1) := dk_42 (dk_at dksJ15_get_1 17 rfl rfl)
theorem dJ15_get_42 : decode cJ15_get 42 = .ok (.getfield 7, 3) := dk_180 0 7 (dk_at dksJ15_get_1 18 rfl rfl)
theorem dJ15_get_45 : decode cJ15_get 45 = .ok (.if_icmp .ge 22, 3) := dk_162 0 22 (dk_at dksJ15_get_1 21 rfl rfl)
theorem dJ15_get_48 : decode cJ15_get 48 = .ok (.aload_n 0, 1) := dk_42 (dk_at dksJ15_get_2 0 rfl rfl)
theorem dJ15_get_49 : decode cJ15_get 49 = .ok (.getfield 11, 3) := dk_180 0 11 (dk_at dksJ15_get_2 1 rfl rfl)
theorem dJ15_get_52 : decode cJ15_get 52 = .ok (.iload_n 2, 1) := dk_28 (dk_at dksJ15_get_2 4 rfl rfl)
theorem dJ15_get_53 : decode cJ15_get 53 = .ok (.laload, 1) := dk_47 (dk_at dksJ15_get_2 5 rfl rfl)
theorem dJ15_get_54 : decode cJ15_get 54 = .ok (.lconst 1, 1) := dk_10 (dk_at dksJ15_get_2 6 rfl rfl)
theorem dJ15_get_55 : decode cJ15_get 55 = .ok (.iload_n 1, 1) := dk_27 (dk_at dksJ15_get_2 7 rfl rfl)
theorem dJ15_get_56 : decode cJ15_get 56 = .ok (.lshl, 1) := dk_121 (dk_at dksJ15_get_2 8 rfl rfl)
theorem dJ15_get_57 : decode cJ15_get 57 = .ok (.land, 1) := dk_127 (dk_at dksJ15_get_2 9 rfl rfl)
theorem dJ15_get_58 : decode cJ15_get 58 = .ok (.lconst 0, 1) := dk_9 (dk_at dksJ15_get_2 10 rfl rfl)
theorem dJ15_get_59 : decode cJ15_get 59 = .ok (.lcmp, 1) := dk_148 (dk_at dksJ15_get_2 11 rfl rfl)
theorem dJ15_get_60 : decode cJ15_get 60 = .ok (.ifCond .eq 7, 3) := dk_153 0 7 (dk_at dksJ15_get_2 12 rfl rfl)
theorem dJ15_get_63 : decode cJ15_get 63 = .ok (.iconst 1, 1) := dk_4 (dk_at dksJ15_get_2 15 rfl rfl)
theorem dJ15_get_64 : decode cJ15_get 64 = .ok (.goto 4, 3) := dk_167 0 4 (dk_at dksJ15_get_2 16 rfl rfl)
theorem dJ15_get_67 : decode cJ15_get 67 = .ok (.iconst 0, 1) := dk_3 (dk_at dksJ15_get_2 19 rfl rfl)
theorem dJ15_get_68 : decode cJ15_get 68 = .ok (.ireturn, 1) := dk_172 (dk_at dksJ15_get_2 20 rfl rfl)
abbrev cJ15_set_2 : ByteArray := prog_46_method_21_code
def yJ15_set_2 : MethodName := ⟨RJ15, "set", "(II)V"⟩
def dkwJ15_set_2_5 : List UInt8 := [42, 182, 0, 56, 177]
abbrev dktJ15_set_2_5 : List UInt8 := dkwJ15_set_2_5 ++ []
def dkwJ15_set_2_4 : List UInt8 := [21, 9, 20, 0, 165, 80, 132, 9, 1, 167, 255, 236, 42, 180, 0, 11, 21, 4, 92, 47, 22, 7, 129, 80]
abbrev dktJ15_set_2_4 : List UInt8 := dkwJ15_set_2_4 ++ dktJ15_set_2_5
def dkwJ15_set_2_3 : List UInt8 := [29, 92, 47, 22, 5, 129, 80, 29, 4, 96, 54, 9, 21, 9, 21, 4, 162, 0, 19, 42, 180, 0, 11]
abbrev dktJ15_set_2_3 : List UInt8 := dkwJ15_set_2_3 ++ dktJ15_set_2_4
def dkwJ15_set_2_2 : List UInt8 := [160, 0, 20, 42, 180, 0, 11, 29, 92, 47, 22, 5, 22, 7, 127, 129, 80, 167, 0, 54, 42, 180, 0, 11]
abbrev dktJ15_set_2_2 : List UInt8 := dkwJ15_set_2_2 ++ dktJ15_set_2_3
def dkwJ15_set_2_1 : List UInt8 := [42, 21, 4, 182, 0, 155, 20, 0, 165, 27, 121, 55, 5, 20, 0, 165, 28, 116, 125, 55, 7, 29, 21, 4]
abbrev dktJ15_set_2_1 : List UInt8 := dkwJ15_set_2_1 ++ dktJ15_set_2_2
def dkwJ15_set_2_0 : List UInt8 := [27, 28, 184, 0, 161, 27, 28, 160, 0, 4, 177, 27, 184, 0, 52, 62, 28, 4, 100, 184, 0, 52, 54, 4]
abbrev dktJ15_set_2_0 : List UInt8 := dkwJ15_set_2_0 ++ dktJ15_set_2_1
theorem dksJ15_set_2_0 : cJ15_set_2.data.toList.drop 0 = dktJ15_set_2_0 := by decide +kernel
theorem dksJ15_set_2_1 : cJ15_set_2.data.toList.drop 24 = dktJ15_set_2_1 := dk_seg dksJ15_set_2_0 24 rfl rfl
theorem dksJ15_set_2_2 : cJ15_set_2.data.toList.drop 48 = dktJ15_set_2_2 := dk_seg dksJ15_set_2_1 24 rfl rfl
theorem dksJ15_set_2_3 : cJ15_set_2.data.toList.drop 72 = dktJ15_set_2_3 := dk_seg dksJ15_set_2_2 24 rfl rfl
theorem dksJ15_set_2_4 : cJ15_set_2.data.toList.drop 95 = dktJ15_set_2_4 := dk_seg dksJ15_set_2_3 23 rfl rfl
theorem dksJ15_set_2_5 : cJ15_set_2.data.toList.drop 119 = dktJ15_set_2_5 := dk_seg dksJ15_set_2_4 24 rfl rfl
theorem dJ15_set_2_0 : decode cJ15_set_2 0 = .ok (.iload_n 1, 1) := dk_27 (dk_at dksJ15_set_2_0 0 rfl rfl)
theorem dJ15_set_2_1 : decode cJ15_set_2 1 = .ok (.iload_n 2, 1) := dk_28 (dk_at dksJ15_set_2_0 1 rfl rfl)
theorem dJ15_set_2_2 : decode cJ15_set_2 2 = .ok (.invokestatic 161, 3) := dk_184 0 161 (dk_at dksJ15_set_2_0 2 rfl rfl)
theorem dJ15_set_2_5 : decode cJ15_set_2 5 = .ok (.iload_n 1, 1) := dk_27 (dk_at dksJ15_set_2_0 5 rfl rfl)
theorem dJ15_set_2_6 : decode cJ15_set_2 6 = .ok (.iload_n 2, 1) := dk_28 (dk_at dksJ15_set_2_0 6 rfl rfl)
theorem dJ15_set_2_7 : decode cJ15_set_2 7 = .ok (.if_icmp .ne 4, 3) := dk_160 0 4 (dk_at dksJ15_set_2_0 7 rfl rfl)
theorem dJ15_set_2_10 : decode cJ15_set_2 10 = .ok (.return_, 1) := dk_177 (dk_at dksJ15_set_2_0 10 rfl rfl)
theorem dJ15_set_2_11 : decode cJ15_set_2 11 = .ok (.iload_n 1, 1) := dk_27 (dk_at dksJ15_set_2_0 11 rfl rfl)
theorem dJ15_set_2_12 : decode cJ15_set_2 12 = .ok (.invokestatic 52, 3) := dk_184 0 52 (dk_at dksJ15_set_2_0 12 rfl rfl)
theorem dJ15_set_2_15 : decode cJ15_set_2 15 = .ok (.istore_n 3, 1) := dk_62 (dk_at dksJ15_set_2_0 15 rfl rfl)
theorem dJ15_set_2_16 : decode cJ15_set_2 16 = .ok (.iload_n 2, 1) := dk_28 (dk_at dksJ15_set_2_0 16 rfl rfl)
theorem dJ15_set_2_17 : decode cJ15_set_2 17 = .ok (.iconst 1, 1) := dk_4 (dk_at dksJ15_set_2_0 17 rfl rfl)
theorem dJ15_set_2_18 : decode cJ15_set_2 18 = .ok (.isub, 1) := dk_100 (dk_at dksJ15_set_2_0 18 rfl rfl)
theorem dJ15_set_2_19 : decode cJ15_set_2 19 = .ok (.invokestatic 52, 3) := dk_184 0 52 (dk_at dksJ15_set_2_0 19 rfl rfl)
theorem dJ15_set_2_22 : decode cJ15_set_2 22 = .ok (.istore 4, 2) := dk_54 4 (dk_at dksJ15_set_2_0 22 rfl rfl)
theorem dJ15_set_2_24 : decode cJ15_set_2 24 = .ok (.aload_n 0, 1) := dk_42 (dk_at dksJ15_set_2_1 0 rfl rfl)
theorem dJ15_set_2_25 : decode cJ15_set_2 25 = .ok (.iload 4, 2) := dk_21 4 (dk_at dksJ15_set_2_1 1 rfl rfl)
theorem dJ15_set_2_27 : decode cJ15_set_2 27 = .ok (.invokevirtual 155, 3) := dk_182 0 155 (dk_at dksJ15_set_2_1 3 rfl rfl)
theorem dJ15_set_2_30 : decode cJ15_set_2 30 = .ok (.ldc2_w 165, 3) := dk_20 0 165 (dk_at dksJ15_set_2_1 6 rfl rfl)
theorem dJ15_set_2_33 : decode cJ15_set_2 33 = .ok (.iload_n 1, 1) := dk_27 (dk_at dksJ15_set_2_1 9 rfl rfl)
theorem dJ15_set_2_34 : decode cJ15_set_2 34 = .ok (.lshl, 1) := dk_121 (dk_at dksJ15_set_2_1 10 rfl rfl)
theorem dJ15_set_2_35 : decode cJ15_set_2 35 = .ok (.lstore 5, 2) := dk_55 5 (dk_at dksJ15_set_2_1 11 rfl rfl)
theorem dJ15_set_2_37 : decode cJ15_set_2 37 = .ok (.ldc2_w 165, 3) := dk_20 0 165 (dk_at dksJ15_set_2_1 13 rfl rfl)
theorem dJ15_set_2_40 : decode cJ15_set_2 40 = .ok (.iload_n 2, 1) := dk_28 (dk_at dksJ15_set_2_1 16 rfl rfl)
theorem dJ15_set_2_41 : decode cJ15_set_2 41 = .ok (.ineg, 1) := dk_116 (dk_at dksJ15_set_2_1 17 rfl rfl)
theorem dJ15_set_2_42 : decode cJ15_set_2 42 = .ok (.lushr, 1) := dk_125 (dk_at dksJ15_set_2_1 18 rfl rfl)
theorem dJ15_set_2_43 : decode cJ15_set_2 43 = .ok (.lstore 7, 2) := dk_55 7 (dk_at dksJ15_set_2_1 19 rfl rfl)
theorem dJ15_set_2_45 : decode cJ15_set_2 45 = .ok (.iload_n 3, 1) := dk_29 (dk_at dksJ15_set_2_1 21 rfl rfl)
theorem dJ15_set_2_46 : decode cJ15_set_2 46 = .ok (.iload 4, 2) := dk_21 4 (dk_at dksJ15_set_2_1 22 rfl rfl)
theorem dJ15_set_2_48 : decode cJ15_set_2 48 = .ok (.if_icmp .ne 20, 3) := dk_160 0 20 (dk_at dksJ15_set_2_2 0 rfl rfl)
theorem dJ15_set_2_51 : decode cJ15_set_2 51 = .ok (.aload_n 0, 1) := dk_42 (dk_at dksJ15_set_2_2 3 rfl rfl)
theorem dJ15_set_2_52 : decode cJ15_set_2 52 = .ok (.getfield 11, 3) := dk_180 0 11 (dk_at dksJ15_set_2_2 4 rfl rfl)
theorem dJ15_set_2_55 : decode cJ15_set_2 55 = .ok (.iload_n 3, 1) := dk_29 (dk_at dksJ15_set_2_2 7 rfl rfl)
theorem dJ15_set_2_56 : decode cJ15_set_2 56 = .ok (.dup2, 1) := dk_92 (dk_at dksJ15_set_2_2 8 rfl rfl)
theorem dJ15_set_2_57 : decode cJ15_set_2 57 = .ok (.laload, 1) := dk_47 (dk_at dksJ15_set_2_2 9 rfl rfl)
theorem dJ15_set_2_58 : decode cJ15_set_2 58 = .ok (.lload 5, 2) := dk_22 5 (dk_at dksJ15_set_2_2 10 rfl rfl)
theorem dJ15_set_2_60 : decode cJ15_set_2 60 = .ok (.lload 7, 2) := dk_22 7 (dk_at dksJ15_set_2_2 12 rfl rfl)
theorem dJ15_set_2_62 : decode cJ15_set_2 62 = .ok (.land, 1) := dk_127 (dk_at dksJ15_set_2_2 14 rfl rfl)
theorem dJ15_set_2_63 : decode cJ15_set_2 63 = .ok (.lor, 1) := dk_129 (dk_at dksJ15_set_2_2 15 rfl rfl)
theorem dJ15_set_2_64 : decode cJ15_set_2 64 = .ok (.lastore, 1) := dk_80 (dk_at dksJ15_set_2_2 16 rfl rfl)
theorem dJ15_set_2_65 : decode cJ15_set_2 65 = .ok (.goto 54, 3) := dk_167 0 54 (dk_at dksJ15_set_2_2 17 rfl rfl)
theorem dJ15_set_2_68 : decode cJ15_set_2 68 = .ok (.aload_n 0, 1) := dk_42 (dk_at dksJ15_set_2_2 20 rfl rfl)
theorem dJ15_set_2_69 : decode cJ15_set_2 69 = .ok (.getfield 11, 3) := dk_180 0 11 (dk_at dksJ15_set_2_2 21 rfl rfl)
theorem dJ15_set_2_72 : decode cJ15_set_2 72 = .ok (.iload_n 3, 1) := dk_29 (dk_at dksJ15_set_2_3 0 rfl rfl)
theorem dJ15_set_2_73 : decode cJ15_set_2 73 = .ok (.dup2, 1) := dk_92 (dk_at dksJ15_set_2_3 1 rfl rfl)
theorem dJ15_set_2_74 : decode cJ15_set_2 74 = .ok (.laload, 1) := dk_47 (dk_at dksJ15_set_2_3 2 rfl rfl)
theorem dJ15_set_2_75 : decode cJ15_set_2 75 = .ok (.lload 5, 2) := dk_22 5 (dk_at dksJ15_set_2_3 3 rfl rfl)
theorem dJ15_set_2_77 : decode cJ15_set_2 77 = .ok (.lor, 1) := dk_129 (dk_at dksJ15_set_2_3 5 rfl rfl)
theorem dJ15_set_2_78 : decode cJ15_set_2 78 = .ok (.lastore, 1) := dk_80 (dk_at dksJ15_set_2_3 6 rfl rfl)
theorem dJ15_set_2_79 : decode cJ15_set_2 79 = .ok (.iload_n 3, 1) := dk_29 (dk_at dksJ15_set_2_3 7 rfl rfl)
theorem dJ15_set_2_80 : decode cJ15_set_2 80 = .ok (.iconst 1, 1) := dk_4 (dk_at dksJ15_set_2_3 8 rfl rfl)
theorem dJ15_set_2_81 : decode cJ15_set_2 81 = .ok (.iadd, 1) := dk_96 (dk_at dksJ15_set_2_3 9 rfl rfl)
theorem dJ15_set_2_82 : decode cJ15_set_2 82 = .ok (.istore 9, 2) := dk_54 9 (dk_at dksJ15_set_2_3 10 rfl rfl)
theorem dJ15_set_2_84 : decode cJ15_set_2 84 = .ok (.iload 9, 2) := dk_21 9 (dk_at dksJ15_set_2_3 12 rfl rfl)
theorem dJ15_set_2_86 : decode cJ15_set_2 86 = .ok (.iload 4, 2) := dk_21 4 (dk_at dksJ15_set_2_3 14 rfl rfl)
theorem dJ15_set_2_88 : decode cJ15_set_2 88 = .ok (.if_icmp .ge 19, 3) := dk_162 0 19 (dk_at dksJ15_set_2_3 16 rfl rfl)
theorem dJ15_set_2_91 : decode cJ15_set_2 91 = .ok (.aload_n 0, 1) := dk_42 (dk_at dksJ15_set_2_3 19 rfl rfl)
theorem dJ15_set_2_92 : decode cJ15_set_2 92 = .ok (.getfield 11, 3) := dk_180 0 11 (dk_at dksJ15_set_2_3 20 rfl rfl)
theorem dJ15_set_2_95 : decode cJ15_set_2 95 = .ok (.iload 9, 2) := dk_21 9 (dk_at dksJ15_set_2_4 0 rfl rfl)
theorem dJ15_set_2_97 : decode cJ15_set_2 97 = .ok (.ldc2_w 165, 3) := dk_20 0 165 (dk_at dksJ15_set_2_4 2 rfl rfl)
theorem dJ15_set_2_100 : decode cJ15_set_2 100 = .ok (.lastore, 1) := dk_80 (dk_at dksJ15_set_2_4 5 rfl rfl)
theorem dJ15_set_2_101 : decode cJ15_set_2 101 = .ok (.iinc 9 1, 3) := dk_132 9 1 (dk_at dksJ15_set_2_4 6 rfl rfl)
theorem dJ15_set_2_104 : decode cJ15_set_2 104 = .ok (.goto (-20), 3) := dk_167 255 236 (dk_at dksJ15_set_2_4 9 rfl rfl)
theorem dJ15_set_2_107 : decode cJ15_set_2 107 = .ok (.aload_n 0, 1) := dk_42 (dk_at dksJ15_set_2_4 12 rfl rfl)
theorem dJ15_set_2_108 : decode cJ15_set_2 108 = .ok (.getfield 11, 3) := dk_180 0 11 (dk_at dksJ15_set_2_4 13 rfl rfl)
theorem dJ15_set_2_111 : decode cJ15_set_2 111 = .ok (.iload 4, 2) := dk_21 4 (dk_at dksJ15_set_2_4 16 rfl rfl)
theorem dJ15_set_2_113 : decode cJ15_set_2 113 = .ok (.dup2, 1) := dk_92 (dk_at dksJ15_set_2_4 18 rfl rfl)
theorem dJ15_set_2_114 : decode cJ15_set_2 114 = .ok (.laload, 1) := dk_47 (dk_at dksJ15_set_2_4 19 rfl rfl)
theorem dJ15_set_2_115 : decode cJ15_set_2 115 = .ok (.lload 7, 2) := dk_22 7 (dk_at dksJ15_set_2_4 20 rfl rfl)
theorem dJ15_set_2_117 : decode cJ15_set_2 117 = .ok (.lor, 1) := dk_129 (dk_at dksJ15_set_2_4 22 rfl rfl)
theorem dJ15_set_2_118 : decode cJ15_set_2 118 = .ok (.lastore, 1) := dk_80 (dk_at dksJ15_set_2_4 23 rfl rfl)
theorem dJ15_set_2_119 : decode cJ15_set_2 119 = .ok (.aload_n 0, 1) := dk_42 (dk_at dksJ15_set_2_5 0 rfl rfl)
theorem dJ15_set_2_120 : decode cJ15_set_2 120 = .ok (.invokevirtual 56, 3) := dk_182 0 56 (dk_at dksJ15_set_2_5 1 rfl rfl)
theorem dJ15_set_2_123 : decode cJ15_set_2 123 = .ok (.return_, 1) := dk_177 (dk_at dksJ15_set_2_5 4 rfl rfl)
abbrev cJ15_checkRange : ByteArray := prog_46_method_16_code
def yJ15_checkRange : MethodName := ⟨RJ15, "checkRange", "(II)V"⟩
def dkwJ15_checkRange_4 : List UInt8 := [182, 0, 42, 182, 0, 45, 183, 0, 146, 191, 177]
abbrev dktJ15_checkRange_4 : List UInt8 := dkwJ15_checkRange_4 ++ []
def dkwJ15_checkRange_3 : List UInt8 := [187, 0, 33, 89, 183, 0, 35, 18, 149, 182, 0, 38, 26, 182, 0, 42, 18, 151, 182, 0, 38, 27]
abbrev dktJ15_checkRange_3 : List UInt8 := dkwJ15_checkRange_3 ++ dktJ15_checkRange_4
def dkwJ15_checkRange_2 : List UInt8 := [182, 0, 38, 27, 182, 0, 42, 182, 0, 45, 183, 0, 146, 191, 26, 27, 164, 0, 39, 187, 0, 142, 89]
abbrev dktJ15_checkRange_2 : List UInt8 := dkwJ15_checkRange_2 ++ dktJ15_checkRange_3
def dkwJ15_checkRange_1 : List UInt8 := [182, 0, 45, 183, 0, 146, 191, 27, 156, 0, 30, 187, 0, 142, 89, 187, 0, 33, 89, 183, 0, 35, 18, 147]
abbrev dktJ15_checkRange_1 : List UInt8 := dkwJ15_checkRange_1 ++ dktJ15_checkRange_2
def dkwJ15_checkRange_0 : List UInt8 := [26, 156, 0, 30, 187, 0, 142, 89, 187, 0, 33, 89, 183, 0, 35, 18, 144, 182, 0, 38, 26, 182, 0, 42]
abbrev dktJ15_checkRange_0 : List UInt8 := dkwJ15_checkRange_0 ++ dktJ15_checkRange_1
theorem dksJ15_checkRange_0 : cJ15_checkRange.data.toList.drop 0 = dktJ15_checkRange_0 := by decide +kernel
theorem dksJ15_checkRange_1 : cJ15_checkRange.data.toList.drop 24 = dktJ15_checkRange_1 := dk_seg dksJ15_checkRange_0 24 rfl rfl
theorem dksJ15_checkRange_2 : cJ15_checkRange.data.toList.drop 48 = dktJ15_checkRange_2 := dk_seg dksJ15_checkRange_1 24 rfl rfl
theorem dksJ15_checkRange_3 : cJ15_checkRange.data.toList.drop 71 = dktJ15_checkRange_3 := dk_seg dksJ15_checkRange_2 23 rfl rfl
theorem dksJ15_checkRange_4 : cJ15_checkRange.data.toList.drop 93 = dktJ15_checkRange_4 := dk_seg dksJ15_checkRange_3 22 rfl rfl
theorem dJ15_checkRange_0 : decode cJ15_checkRange 0 = .ok (.iload_n 0, 1) := dk_26 (dk_at dksJ15_checkRange_0 0 rfl rfl)
theorem dJ15_checkRange_1 : decode cJ15_checkRange 1 = .ok (.ifCond .ge 30, 3) := dk_156 0 30 (dk_at dksJ15_checkRange_0 1 rfl rfl)
theorem dJ15_checkRange_4 : decode cJ15_checkRange 4 = .ok (.new 142, 3) := dk_187 0 142 (dk_at dksJ15_checkRange_0 4 rfl rfl)
theorem dJ15_checkRange_7 : decode cJ15_checkRange 7 = .ok (.dup, 1) := dk_89 (dk_at dksJ15_checkRange_0 7 rfl rfl)
theorem dJ15_checkRange_8 : decode cJ15_checkRange 8 = .ok (.new 33, 3) := dk_187 0 33 (dk_at dksJ15_checkRange_0 8 rfl rfl)
theorem dJ15_checkRange_11 : decode cJ15_checkRange 11 = .ok (.dup, 1) := dk_89 (dk_at dksJ15_checkRange_0 11 rfl rfl)
theorem dJ15_checkRange_12 : decode cJ15_checkRange 12 = .ok (.invokespecial 35, 3) := dk_183 0 35 (dk_at dksJ15_checkRange_0 12 rfl rfl)
theorem dJ15_checkRange_15 : decode cJ15_checkRange 15 = .ok (.ldc 144, 2) := dk_18 144 (dk_at dksJ15_checkRange_0 15 rfl rfl)
theorem dJ15_checkRange_17 : decode cJ15_checkRange 17 = .ok (.invokevirtual 38, 3) := dk_182 0 38 (dk_at dksJ15_checkRange_0 17 rfl rfl)
theorem dJ15_checkRange_20 : decode cJ15_checkRange 20 = .ok (.iload_n 0, 1) := dk_26 (dk_at dksJ15_checkRange_0 20 rfl rfl)
theorem dJ15_checkRange_21 : decode cJ15_checkRange 21 = .ok (.invokevirtual 42, 3) := dk_182 0 42 (dk_at dksJ15_checkRange_0 21 rfl rfl)
theorem dJ15_checkRange_24 : decode cJ15_checkRange 24 = .ok (.invokevirtual 45, 3) := dk_182 0 45 (dk_at dksJ15_checkRange_1 0 rfl rfl)
theorem dJ15_checkRange_27 : decode cJ15_checkRange 27 = .ok (.invokespecial 146, 3) := dk_183 0 146 (dk_at dksJ15_checkRange_1 3 rfl rfl)
theorem dJ15_checkRange_30 : decode cJ15_checkRange 30 = .ok (.athrow, 1) := dk_191 (dk_at dksJ15_checkRange_1 6 rfl rfl)
theorem dJ15_checkRange_31 : decode cJ15_checkRange 31 = .ok (.iload_n 1, 1) := dk_27 (dk_at dksJ15_checkRange_1 7 rfl rfl)
theorem dJ15_checkRange_32 : decode cJ15_checkRange 32 = .ok (.ifCond .ge 30, 3) := dk_156 0 30 (dk_at dksJ15_checkRange_1 8 rfl rfl)
theorem dJ15_checkRange_35 : decode cJ15_checkRange 35 = .ok (.new 142, 3) := dk_187 0 142 (dk_at dksJ15_checkRange_1 11 rfl rfl)
theorem dJ15_checkRange_38 : decode cJ15_checkRange 38 = .ok (.dup, 1) := dk_89 (dk_at dksJ15_checkRange_1 14 rfl rfl)
theorem dJ15_checkRange_39 : decode cJ15_checkRange 39 = .ok (.new 33, 3) := dk_187 0 33 (dk_at dksJ15_checkRange_1 15 rfl rfl)
theorem dJ15_checkRange_42 : decode cJ15_checkRange 42 = .ok (.dup, 1) := dk_89 (dk_at dksJ15_checkRange_1 18 rfl rfl)
theorem dJ15_checkRange_43 : decode cJ15_checkRange 43 = .ok (.invokespecial 35, 3) := dk_183 0 35 (dk_at dksJ15_checkRange_1 19 rfl rfl)
theorem dJ15_checkRange_46 : decode cJ15_checkRange 46 = .ok (.ldc 147, 2) := dk_18 147 (dk_at dksJ15_checkRange_1 22 rfl rfl)
theorem dJ15_checkRange_48 : decode cJ15_checkRange 48 = .ok (.invokevirtual 38, 3) := dk_182 0 38 (dk_at dksJ15_checkRange_2 0 rfl rfl)
theorem dJ15_checkRange_51 : decode cJ15_checkRange 51 = .ok (.iload_n 1, 1) := dk_27 (dk_at dksJ15_checkRange_2 3 rfl rfl)
theorem dJ15_checkRange_52 : decode cJ15_checkRange 52 = .ok (.invokevirtual 42, 3) := dk_182 0 42 (dk_at dksJ15_checkRange_2 4 rfl rfl)
theorem dJ15_checkRange_55 : decode cJ15_checkRange 55 = .ok (.invokevirtual 45, 3) := dk_182 0 45 (dk_at dksJ15_checkRange_2 7 rfl rfl)
theorem dJ15_checkRange_58 : decode cJ15_checkRange 58 = .ok (.invokespecial 146, 3) := dk_183 0 146 (dk_at dksJ15_checkRange_2 10 rfl rfl)
theorem dJ15_checkRange_61 : decode cJ15_checkRange 61 = .ok (.athrow, 1) := dk_191 (dk_at dksJ15_checkRange_2 13 rfl rfl)
theorem dJ15_checkRange_62 : decode cJ15_checkRange 62 = .ok (.iload_n 0, 1) := dk_26 (dk_at dksJ15_checkRange_2 14 rfl rfl)
theorem dJ15_checkRange_63 : decode cJ15_checkRange 63 = .ok (.iload_n 1, 1) := dk_27 (dk_at dksJ15_checkRange_2 15 rfl rfl)
theorem dJ15_checkRange_64 : decode cJ15_checkRange 64 = .ok (.if_icmp .le 39, 3) := dk_164 0 39 (dk_at dksJ15_checkRange_2 16 rfl rfl)
theorem dJ15_checkRange_67 : decode cJ15_checkRange 67 = .ok (.new 142, 3) := dk_187 0 142 (dk_at dksJ15_checkRange_2 19 rfl rfl)
theorem dJ15_checkRange_70 : decode cJ15_checkRange 70 = .ok (.dup, 1) := dk_89 (dk_at dksJ15_checkRange_2 22 rfl rfl)
theorem dJ15_checkRange_71 : decode cJ15_checkRange 71 = .ok (.new 33, 3) := dk_187 0 33 (dk_at dksJ15_checkRange_3 0 rfl rfl)
theorem dJ15_checkRange_74 : decode cJ15_checkRange 74 = .ok (.dup, 1) := dk_89 (dk_at dksJ15_checkRange_3 3 rfl rfl)
theorem dJ15_checkRange_75 : decode cJ15_checkRange 75 = .ok (.invokespecial 35, 3) := dk_183 0 35 (dk_at dksJ15_checkRange_3 4 rfl rfl)
theorem dJ15_checkRange_78 : decode cJ15_checkRange 78 = .ok (.ldc 149, 2) := dk_18 149 (dk_at dksJ15_checkRange_3 7 rfl rfl)
theorem dJ15_checkRange_80 : decode cJ15_checkRange 80 = .ok (.invokevirtual 38, 3) := dk_182 0 38 (dk_at dksJ15_checkRange_3 9 rfl rfl)
theorem dJ15_checkRange_83 : decode cJ15_checkRange 83 = .ok (.iload_n 0, 1) := dk_26 (dk_at dksJ15_checkRange_3 12 rfl rfl)
theorem dJ15_checkRange_84 : decode cJ15_checkRange 84 = .ok (.invokevirtual 42, 3) := dk_182 0 42 (dk_at dksJ15_checkRange_3 13 rfl rfl)
theorem dJ15_checkRange_87 : decode cJ15_checkRange 87 = .ok (.ldc 151, 2) := dk_18 151 (dk_at dksJ15_checkRange_3 16 rfl rfl)
theorem dJ15_checkRange_89 : decode cJ15_checkRange 89 = .ok (.invokevirtual 38, 3) := dk_182 0 38 (dk_at dksJ15_checkRange_3 18 rfl rfl)
theorem dJ15_checkRange_92 : decode cJ15_checkRange 92 = .ok (.iload_n 1, 1) := dk_27 (dk_at dksJ15_checkRange_3 21 rfl rfl)
theorem dJ15_checkRange_93 : decode cJ15_checkRange 93 = .ok (.invokevirtual 42, 3) := dk_182 0 42 (dk_at dksJ15_checkRange_4 0 rfl rfl)
theorem dJ15_checkRange_96 : decode cJ15_checkRange 96 = .ok (.invokevirtual 45, 3) := dk_182 0 45 (dk_at dksJ15_checkRange_4 3 rfl rfl)
theorem dJ15_checkRange_99 : decode cJ15_checkRange 99 = .ok (.invokespecial 146, 3) := dk_183 0 146 (dk_at dksJ15_checkRange_4 6 rfl rfl)
theorem dJ15_checkRange_102 : decode cJ15_checkRange 102 = .ok (.athrow, 1) := dk_191 (dk_at dksJ15_checkRange_4 9 rfl rfl)
theorem dJ15_checkRange_103 : decode cJ15_checkRange 103 = .ok (.return_, 1) := dk_177 (dk_at dksJ15_checkRange_4 10 rfl rfl)
abbrev cJ15_nextSetBit : ByteArray := prog_46_method_28_code
def yJ15_nextSetBit : MethodName := ⟨RJ15, "nextSetBit", "(I)I"⟩
def dkwJ15_nextSetBit_4 : List UInt8 := [28, 47, 66, 167, 255, 220]
abbrev dktJ15_nextSetBit_4 : List UInt8 := dkwJ15_nextSetBit_4 ++ []
def dkwJ15_nextSetBit_3 : List UInt8 := [104, 33, 184, 0, 182, 96, 172, 132, 2, 1, 28, 42, 180, 0, 7, 160, 0, 5, 2, 172, 42, 180, 0, 11]
abbrev dktJ15_nextSetBit_3 : List UInt8 := dkwJ15_nextSetBit_3 ++ dktJ15_nextSetBit_4
def dkwJ15_nextSetBit_2 : List UInt8 := [2, 172, 42, 180, 0, 11, 28, 47, 20, 0, 165, 27, 121, 127, 66, 33, 9, 148, 153, 0, 13, 28, 16, 64]
abbrev dktJ15_nextSetBit_2 : List UInt8 := dkwJ15_nextSetBit_2 ++ dktJ15_nextSetBit_3
def dkwJ15_nextSetBit_1 : List UInt8 := [182, 0, 45, 183, 0, 146, 191, 42, 182, 0, 56, 27, 184, 0, 52, 61, 28, 42, 180, 0, 7, 161, 0, 5]
abbrev dktJ15_nextSetBit_1 : List UInt8 := dkwJ15_nextSetBit_1 ++ dktJ15_nextSetBit_2
def dkwJ15_nextSetBit_0 : List UInt8 := [27, 156, 0, 30, 187, 0, 142, 89, 187, 0, 33, 89, 183, 0, 35, 18, 144, 182, 0, 38, 27, 182, 0, 42]
abbrev dktJ15_nextSetBit_0 : List UInt8 := dkwJ15_nextSetBit_0 ++ dktJ15_nextSetBit_1
theorem dksJ15_nextSetBit_0 : cJ15_nextSetBit.data.toList.drop 0 = dktJ15_nextSetBit_0 := by decide +kernel
theorem dksJ15_nextSetBit_1 : cJ15_nextSetBit.data.toList.drop 24 = dktJ15_nextSetBit_1 := dk_seg dksJ15_nextSetBit_0 24 rfl rfl
theorem dksJ15_nextSetBit_2 : cJ15_nextSetBit.data.toList.drop 48 = dktJ15_nextSetBit_2 := dk_seg dksJ15_nextSetBit_1 24 rfl rfl
theorem dksJ15_nextSetBit_3 : cJ15_nextSetBit.data.toList.drop 72 = dktJ15_nextSetBit_3 := dk_seg dksJ15_nextSetBit_2 24 rfl rfl
theorem dksJ15_nextSetBit_4 : cJ15_nextSetBit.data.toList.drop 96 = dktJ15_nextSetBit_4 := dk_seg dksJ15_nextSetBit_3 24 rfl rfl
theorem dJ15_nextSetBit_0 : decode cJ15_nextSetBit 0 = .ok (.iload_n 1, 1) := dk_27 (dk_at dksJ15_nextSetBit_0 0 rfl rfl)
theorem dJ15_nextSetBit_1 : decode cJ15_nextSetBit 1 = .ok (.ifCond .ge 30, 3) := dk_156 0 30 (dk_at dksJ15_nextSetBit_0 1 rfl rfl)
theorem dJ15_nextSetBit_4 : decode cJ15_nextSetBit 4 = .ok (.new 142, 3) := dk_187 0 142 (dk_at dksJ15_nextSetBit_0 4 rfl rfl)
theorem dJ15_nextSetBit_7 : decode cJ15_nextSetBit 7 = .ok (.dup, 1) := dk_89 (dk_at dksJ15_nextSetBit_0 7 rfl rfl)
theorem dJ15_nextSetBit_8 : decode cJ15_nextSetBit 8 = .ok (.new 33, 3) := dk_187 0 33 (dk_at dksJ15_nextSetBit_0 8 rfl rfl)
theorem dJ15_nextSetBit_11 : decode cJ15_nextSetBit 11 = .ok (.dup, 1) := dk_89 (dk_at dksJ15_nextSetBit_0 11 rfl rfl)
theorem dJ15_nextSetBit_12 : decode cJ15_nextSetBit 12 = .ok (.invokespecial 35, 3) := dk_183 0 35 (dk_at dksJ15_nextSetBit_0 12 rfl rfl)
theorem dJ15_nextSetBit_15 : decode cJ15_nextSetBit 15 = .ok (.ldc 144, 2) := dk_18 144 (dk_at dksJ15_nextSetBit_0 15 rfl rfl)
theorem dJ15_nextSetBit_17 : decode cJ15_nextSetBit 17 = .ok (.invokevirtual 38, 3) := dk_182 0 38 (dk_at dksJ15_nextSetBit_0 17 rfl rfl)
theorem dJ15_nextSetBit_20 : decode cJ15_nextSetBit 20 = .ok (.iload_n 1, 1) := dk_27 (dk_at dksJ15_nextSetBit_0 20 rfl rfl)
theorem dJ15_nextSetBit_21 : decode cJ15_nextSetBit 21 = .ok (.invokevirtual 42, 3) := dk_182 0 42 (dk_at dksJ15_nextSetBit_0 21 rfl rfl)
theorem dJ15_nextSetBit_24 : decode cJ15_nextSetBit 24 = .ok (.invokevirtual 45, 3) := dk_182 0 45 (dk_at dksJ15_nextSetBit_1 0 rfl rfl)
theorem dJ15_nextSetBit_27 : decode cJ15_nextSetBit 27 = .ok (.invokespecial 146, 3) := dk_183 0 146 (dk_at dksJ15_nextSetBit_1 3 rfl rfl)
theorem dJ15_nextSetBit_30 : decode cJ15_nextSetBit 30 = .ok (.athrow, 1) := dk_191 (dk_at dksJ15_nextSetBit_1 6 rfl rfl)
theorem dJ15_nextSetBit_31 : decode cJ15_nextSetBit 31 = .ok (.aload_n 0, 1) := dk_42 (dk_at dksJ15_nextSetBit_1 7 rfl rfl)
theorem dJ15_nextSetBit_32 : decode cJ15_nextSetBit 32 = .ok (.invokevirtual 56, 3) := dk_182 0 56 (dk_at dksJ15_nextSetBit_1 8 rfl rfl)
theorem dJ15_nextSetBit_35 : decode cJ15_nextSetBit 35 = .ok (.iload_n 1, 1) := dk_27 (dk_at dksJ15_nextSetBit_1 11 rfl rfl)
theorem dJ15_nextSetBit_36 : decode cJ15_nextSetBit 36 = .ok (.invokestatic 52, 3) := dk_184 0 52 (dk_at dksJ15_nextSetBit_1 12 rfl rfl)
theorem dJ15_nextSetBit_39 : decode cJ15_nextSetBit 39 = .ok (.istore_n 2, 1) := dk_61 (dk_at dksJ15_nextSetBit_1 15 rfl rfl)
theorem dJ15_nextSetBit_40 : decode cJ15_nextSetBit 40 = .ok (.iload_n 2, 1) := dk_28 (dk_at dksJ15_nextSetBit_1 16 rfl rfl)
theorem dJ15_nextSetBit_41 : decode cJ15_nextSetBit 41 = .ok (.aload_n 0, 1) := dk_42 (dk_at dksJ15_nextSetBit_1 17 rfl rfl)
theorem dJ15_nextSetBit_42 : decode cJ15_nextSetBit 42 = .ok (.getfield 7, 3) := dk_180 0 7 (dk_at dksJ15_nextSetBit_1 18 rfl rfl)
theorem dJ15_nextSetBit_45 : decode cJ15_nextSetBit 45 = .ok (.if_icmp .lt 5, 3) := dk_161 0 5 (dk_at dksJ15_nextSetBit_1 21 rfl rfl)
theorem dJ15_nextSetBit_48 : decode cJ15_nextSetBit 48 = .ok (.iconst (-1), 1) := dk_2 (dk_at dksJ15_nextSetBit_2 0 rfl rfl)
theorem dJ15_nextSetBit_49 : decode cJ15_nextSetBit 49 = .ok (.ireturn, 1) := dk_172 (dk_at dksJ15_nextSetBit_2 1 rfl rfl)
theorem dJ15_nextSetBit_50 : decode cJ15_nextSetBit 50 = .ok (.aload_n 0, 1) := dk_42 (dk_at dksJ15_nextSetBit_2 2 rfl rfl)
theorem dJ15_nextSetBit_51 : decode cJ15_nextSetBit 51 = .ok (.getfield 11, 3) := dk_180 0 11 (dk_at dksJ15_nextSetBit_2 3 rfl rfl)
theorem dJ15_nextSetBit_54 : decode cJ15_nextSetBit 54 = .ok (.iload_n 2, 1) := dk_28 (dk_at dksJ15_nextSetBit_2 6 rfl rfl)
theorem dJ15_nextSetBit_55 : decode cJ15_nextSetBit 55 = .ok (.laload, 1) := dk_47 (dk_at dksJ15_nextSetBit_2 7 rfl rfl)
theorem dJ15_nextSetBit_56 : decode cJ15_nextSetBit 56 = .ok (.ldc2_w 165, 3) := dk_20 0 165 (dk_at dksJ15_nextSetBit_2 8 rfl rfl)
theorem dJ15_nextSetBit_59 : decode cJ15_nextSetBit 59 = .ok (.iload_n 1, 1) := dk_27 (dk_at dksJ15_nextSetBit_2 11 rfl rfl)
theorem dJ15_nextSetBit_60 : decode cJ15_nextSetBit 60 = .ok (.lshl, 1) := dk_121 (dk_at dksJ15_nextSetBit_2 12 rfl rfl)
theorem dJ15_nextSetBit_61 : decode cJ15_nextSetBit 61 = .ok (.land, 1) := dk_127 (dk_at dksJ15_nextSetBit_2 13 rfl rfl)
theorem dJ15_nextSetBit_62 : decode cJ15_nextSetBit 62 = .ok (.lstore_n 3, 1) := dk_66 (dk_at dksJ15_nextSetBit_2 14 rfl rfl)
theorem dJ15_nextSetBit_63 : decode cJ15_nextSetBit 63 = .ok (.lload_n 3, 1) := dk_33 (dk_at dksJ15_nextSetBit_2 15 rfl rfl)
theorem dJ15_nextSetBit_64 : decode cJ15_nextSetBit 64 = .ok (.lconst 0, 1) := dk_9 (dk_at dksJ15_nextSetBit_2 16 rfl rfl)
theorem dJ15_nextSetBit_65 : decode cJ15_nextSetBit 65 = .ok (.lcmp, 1) := dk_148 (dk_at dksJ15_nextSetBit_2 17 rfl rfl)
theorem dJ15_nextSetBit_66 : decode cJ15_nextSetBit 66 = .ok (.ifCond .eq 13, 3) := dk_153 0 13 (dk_at dksJ15_nextSetBit_2 18 rfl rfl)
theorem dJ15_nextSetBit_69 : decode cJ15_nextSetBit 69 = .ok (.iload_n 2, 1) := dk_28 (dk_at dksJ15_nextSetBit_2 21 rfl rfl)
theorem dJ15_nextSetBit_70 : decode cJ15_nextSetBit 70 = .ok (.bipush 64, 2) := dk_16 64 (dk_at dksJ15_nextSetBit_2 22 rfl rfl)
theorem dJ15_nextSetBit_72 : decode cJ15_nextSetBit 72 = .ok (.imul, 1) := dk_104 (dk_at dksJ15_nextSetBit_3 0 rfl rfl)
theorem dJ15_nextSetBit_73 : decode cJ15_nextSetBit 73 = .ok (.lload_n 3, 1) := dk_33 (dk_at dksJ15_nextSetBit_3 1 rfl rfl)
theorem dJ15_nextSetBit_74 : decode cJ15_nextSetBit 74 = .ok (.invokestatic 182, 3) := dk_184 0 182 (dk_at dksJ15_nextSetBit_3 2 rfl rfl)
theorem dJ15_nextSetBit_77 : decode cJ15_nextSetBit 77 = .ok (.iadd, 1) := dk_96 (dk_at dksJ15_nextSetBit_3 5 rfl rfl)
theorem dJ15_nextSetBit_78 : decode cJ15_nextSetBit 78 = .ok (.ireturn, 1) := dk_172 (dk_at dksJ15_nextSetBit_3 6 rfl rfl)
theorem dJ15_nextSetBit_79 : decode cJ15_nextSetBit 79 = .ok (.iinc 2 1, 3) := dk_132 2 1 (dk_at dksJ15_nextSetBit_3 7 rfl rfl)
theorem dJ15_nextSetBit_82 : decode cJ15_nextSetBit 82 = .ok (.iload_n 2, 1) := dk_28 (dk_at dksJ15_nextSetBit_3 10 rfl rfl)
theorem dJ15_nextSetBit_83 : decode cJ15_nextSetBit 83 = .ok (.aload_n 0, 1) := dk_42 (dk_at dksJ15_nextSetBit_3 11 rfl rfl)
theorem dJ15_nextSetBit_84 : decode cJ15_nextSetBit 84 = .ok (.getfield 7, 3) := dk_180 0 7 (dk_at dksJ15_nextSetBit_3 12 rfl rfl)
theorem dJ15_nextSetBit_87 : decode cJ15_nextSetBit 87 = .ok (.if_icmp .ne 5, 3) := dk_160 0 5 (dk_at dksJ15_nextSetBit_3 15 rfl rfl)
theorem dJ15_nextSetBit_90 : decode cJ15_nextSetBit 90 = .ok (.iconst (-1), 1) := dk_2 (dk_at dksJ15_nextSetBit_3 18 rfl rfl)
theorem dJ15_nextSetBit_91 : decode cJ15_nextSetBit 91 = .ok (.ireturn, 1) := dk_172 (dk_at dksJ15_nextSetBit_3 19 rfl rfl)
theorem dJ15_nextSetBit_92 : decode cJ15_nextSetBit 92 = .ok (.aload_n 0, 1) := dk_42 (dk_at dksJ15_nextSetBit_3 20 rfl rfl)
theorem dJ15_nextSetBit_93 : decode cJ15_nextSetBit 93 = .ok (.getfield 11, 3) := dk_180 0 11 (dk_at dksJ15_nextSetBit_3 21 rfl rfl)
theorem dJ15_nextSetBit_96 : decode cJ15_nextSetBit 96 = .ok (.iload_n 2, 1) := dk_28 (dk_at dksJ15_nextSetBit_4 0 rfl rfl)
theorem dJ15_nextSetBit_97 : decode cJ15_nextSetBit 97 = .ok (.laload, 1) := dk_47 (dk_at dksJ15_nextSetBit_4 1 rfl rfl)
theorem dJ15_nextSetBit_98 : decode cJ15_nextSetBit 98 = .ok (.lstore_n 3, 1) := dk_66 (dk_at dksJ15_nextSetBit_4 2 rfl rfl)
theorem dJ15_nextSetBit_99 : decode cJ15_nextSetBit 99 = .ok (.goto (-36), 3) := dk_167 255 220 (dk_at dksJ15_nextSetBit_4 3 rfl rfl)
abbrev cJ15_clear_2 : ByteArray := prog_46_method_23_code
def yJ15_clear_2 : MethodName := ⟨RJ15, "clear", "(I)V"⟩
def dkwJ15_clear_2_2 : List UInt8 := [180, 0, 11, 28, 92, 47, 10, 27, 121, 20, 0, 165, 131, 127, 80, 42, 182, 0, 158, 42, 182, 0, 56, 177]
abbrev dktJ15_clear_2_2 : List UInt8 := dkwJ15_clear_2_2 ++ []
def dkwJ15_clear_2_1 : List UInt8 := [182, 0, 45, 183, 0, 146, 191, 27, 184, 0, 52, 61, 28, 42, 180, 0, 7, 161, 0, 4, 177, 42]
abbrev dktJ15_clear_2_1 : List UInt8 := dkwJ15_clear_2_1 ++ dktJ15_clear_2_2
def dkwJ15_clear_2_0 : List UInt8 := [27, 156, 0, 30, 187, 0, 142, 89, 187, 0, 33, 89, 183, 0, 35, 18, 153, 182, 0, 38, 27, 182, 0, 42]
abbrev dktJ15_clear_2_0 : List UInt8 := dkwJ15_clear_2_0 ++ dktJ15_clear_2_1
theorem dksJ15_clear_2_0 : cJ15_clear_2.data.toList.drop 0 = dktJ15_clear_2_0 := by decide +kernel
theorem dksJ15_clear_2_1 : cJ15_clear_2.data.toList.drop 24 = dktJ15_clear_2_1 := dk_seg dksJ15_clear_2_0 24 rfl rfl
theorem dksJ15_clear_2_2 : cJ15_clear_2.data.toList.drop 46 = dktJ15_clear_2_2 := dk_seg dksJ15_clear_2_1 22 rfl rfl
theorem dJ15_clear_2_0 : decode cJ15_clear_2 0 = .ok (.iload_n 1, 1) := dk_27 (dk_at dksJ15_clear_2_0 0 rfl rfl)
theorem dJ15_clear_2_1 : decode cJ15_clear_2 1 = .ok (.ifCond .ge 30, 3) := dk_156 0 30 (dk_at dksJ15_clear_2_0 1 rfl rfl)
theorem dJ15_clear_2_4 : decode cJ15_clear_2 4 = .ok (.new 142, 3) := dk_187 0 142 (dk_at dksJ15_clear_2_0 4 rfl rfl)
theorem dJ15_clear_2_7 : decode cJ15_clear_2 7 = .ok (.dup, 1) := dk_89 (dk_at dksJ15_clear_2_0 7 rfl rfl)
theorem dJ15_clear_2_8 : decode cJ15_clear_2 8 = .ok (.new 33, 3) := dk_187 0 33 (dk_at dksJ15_clear_2_0 8 rfl rfl)
theorem dJ15_clear_2_11 : decode cJ15_clear_2 11 = .ok (.dup, 1) := dk_89 (dk_at dksJ15_clear_2_0 11 rfl rfl)
theorem dJ15_clear_2_12 : decode cJ15_clear_2 12 = .ok (.invokespecial 35, 3) := dk_183 0 35 (dk_at dksJ15_clear_2_0 12 rfl rfl)
theorem dJ15_clear_2_15 : decode cJ15_clear_2 15 = .ok (.ldc 153, 2) := dk_18 153 (dk_at dksJ15_clear_2_0 15 rfl rfl)
theorem dJ15_clear_2_17 : decode cJ15_clear_2 17 = .ok (.invokevirtual 38, 3) := dk_182 0 38 (dk_at dksJ15_clear_2_0 17 rfl rfl)
theorem dJ15_clear_2_20 : decode cJ15_clear_2 20 = .ok (.iload_n 1, 1) := dk_27 (dk_at dksJ15_clear_2_0 20 rfl rfl)
theorem dJ15_clear_2_21 : decode cJ15_clear_2 21 = .ok (.invokevirtual 42, 3) := dk_182 0 42 (dk_at dksJ15_clear_2_0 21 rfl rfl)
theorem dJ15_clear_2_24 : decode cJ15_clear_2 24 = .ok (.invokevirtual 45, 3) := dk_182 0 45 (dk_at dksJ15_clear_2_1 0 rfl rfl)
theorem dJ15_clear_2_27 : decode cJ15_clear_2 27 = .ok (.invokespecial 146, 3) := dk_183 0 146 (dk_at dksJ15_clear_2_1 3 rfl rfl)
theorem dJ15_clear_2_30 : decode cJ15_clear_2 30 = .ok (.athrow, 1) := dk_191 (dk_at dksJ15_clear_2_1 6 rfl rfl)
theorem dJ15_clear_2_31 : decode cJ15_clear_2 31 = .ok (.iload_n 1, 1) := dk_27 (dk_at dksJ15_clear_2_1 7 rfl rfl)
theorem dJ15_clear_2_32 : decode cJ15_clear_2 32 = .ok (.invokestatic 52, 3) := dk_184 0 52 (dk_at dksJ15_clear_2_1 8 rfl rfl)
theorem dJ15_clear_2_35 : decode cJ15_clear_2 35 = .ok (.istore_n 2, 1) := dk_61 (dk_at dksJ15_clear_2_1 11 rfl rfl)
theorem dJ15_clear_2_36 : decode cJ15_clear_2 36 = .ok (.iload_n 2, 1) := dk_28 (dk_at dksJ15_clear_2_1 12 rfl rfl)
theorem dJ15_clear_2_37 : decode cJ15_clear_2 37 = .ok (.aload_n 0, 1) := dk_42 (dk_at dksJ15_clear_2_1 13 rfl rfl)
theorem dJ15_clear_2_38 : decode cJ15_clear_2 38 = .ok (.getfield 7, 3) := dk_180 0 7 (dk_at dksJ15_clear_2_1 14 rfl rfl)
theorem dJ15_clear_2_41 : decode cJ15_clear_2 41 = .ok (.if_icmp .lt 4, 3) := dk_161 0 4 (dk_at dksJ15_clear_2_1 17 rfl rfl)
theorem dJ15_clear_2_44 : decode cJ15_clear_2 44 = .ok (.return_, 1) := dk_177 (dk_at dksJ15_clear_2_1 20 rfl rfl)
theorem dJ15_clear_2_45 : decode cJ15_clear_2 45 = .ok (.aload_n 0, 1) := dk_42 (dk_at dksJ15_clear_2_1 21 rfl rfl)
theorem dJ15_clear_2_46 : decode cJ15_clear_2 46 = .ok (.getfield 11, 3) := dk_180 0 11 (dk_at dksJ15_clear_2_2 0 rfl rfl)
theorem dJ15_clear_2_49 : decode cJ15_clear_2 49 = .ok (.iload_n 2, 1) := dk_28 (dk_at dksJ15_clear_2_2 3 rfl rfl)
theorem dJ15_clear_2_50 : decode cJ15_clear_2 50 = .ok (.dup2, 1) := dk_92 (dk_at dksJ15_clear_2_2 4 rfl rfl)
theorem dJ15_clear_2_51 : decode cJ15_clear_2 51 = .ok (.laload, 1) := dk_47 (dk_at dksJ15_clear_2_2 5 rfl rfl)
theorem dJ15_clear_2_52 : decode cJ15_clear_2 52 = .ok (.lconst 1, 1) := dk_10 (dk_at dksJ15_clear_2_2 6 rfl rfl)
theorem dJ15_clear_2_53 : decode cJ15_clear_2 53 = .ok (.iload_n 1, 1) := dk_27 (dk_at dksJ15_clear_2_2 7 rfl rfl)
theorem dJ15_clear_2_54 : decode cJ15_clear_2 54 = .ok (.lshl, 1) := dk_121 (dk_at dksJ15_clear_2_2 8 rfl rfl)
theorem dJ15_clear_2_55 : decode cJ15_clear_2 55 = .ok (.ldc2_w 165, 3) := dk_20 0 165 (dk_at dksJ15_clear_2_2 9 rfl rfl)
theorem dJ15_clear_2_58 : decode cJ15_clear_2 58 = .ok (.lxor, 1) := dk_131 (dk_at dksJ15_clear_2_2 12 rfl rfl)
theorem dJ15_clear_2_59 : decode cJ15_clear_2 59 = .ok (.land, 1) := dk_127 (dk_at dksJ15_clear_2_2 13 rfl rfl)
theorem dJ15_clear_2_60 : decode cJ15_clear_2 60 = .ok (.lastore, 1) := dk_80 (dk_at dksJ15_clear_2_2 14 rfl rfl)
theorem dJ15_clear_2_61 : decode cJ15_clear_2 61 = .ok (.aload_n 0, 1) := dk_42 (dk_at dksJ15_clear_2_2 15 rfl rfl)
theorem dJ15_clear_2_62 : decode cJ15_clear_2 62 = .ok (.invokevirtual 158, 3) := dk_182 0 158 (dk_at dksJ15_clear_2_2 16 rfl rfl)
theorem dJ15_clear_2_65 : decode cJ15_clear_2 65 = .ok (.aload_n 0, 1) := dk_42 (dk_at dksJ15_clear_2_2 19 rfl rfl)
theorem dJ15_clear_2_66 : decode cJ15_clear_2 66 = .ok (.invokevirtual 56, 3) := dk_182 0 56 (dk_at dksJ15_clear_2_2 20 rfl rfl)
theorem dJ15_clear_2_69 : decode cJ15_clear_2 69 = .ok (.return_, 1) := dk_177 (dk_at dksJ15_clear_2_2 23 rfl rfl)
abbrev cJ15_recalculateWordsInUse : ByteArray := prog_46_method_3_code
def yJ15_recalculateWordsInUse : MethodName := ⟨RJ15, "recalculateWordsInUse", "()V"⟩
def dkwJ15_recalculateWordsInUse_1 : List UInt8 := [167, 0, 9, 132, 1, 255, 167, 255, 235, 42, 27, 4, 96, 181, 0, 7, 177]
abbrev dktJ15_recalculateWordsInUse_1 : List UInt8 := dkwJ15_recalculateWordsInUse_1 ++ []
def dkwJ15_recalculateWordsInUse_0 : List UInt8 := [42, 180, 0, 7, 4, 100, 60, 27, 155, 0, 23, 42, 180, 0, 11, 27, 47, 9, 148, 153, 0, 6]
abbrev dktJ15_recalculateWordsInUse_0 : List UInt8 := dkwJ15_recalculateWordsInUse_0 ++ dktJ15_recalculateWordsInUse_1
theorem dksJ15_recalculateWordsInUse_0 : cJ15_recalculateWordsInUse.data.toList.drop 0 = dktJ15_recalculateWordsInUse_0 := by decide +kernel
theorem dksJ15_recalculateWordsInUse_1 : cJ15_recalculateWordsInUse.data.toList.drop 22 = dktJ15_recalculateWordsInUse_1 := dk_seg dksJ15_recalculateWordsInUse_0 22 rfl rfl
theorem dJ15_recalculateWordsInUse_0 : decode cJ15_recalculateWordsInUse 0 = .ok (.aload_n 0, 1) := dk_42 (dk_at dksJ15_recalculateWordsInUse_0 0 rfl rfl)
theorem dJ15_recalculateWordsInUse_1 : decode cJ15_recalculateWordsInUse 1 = .ok (.getfield 7, 3) := dk_180 0 7 (dk_at dksJ15_recalculateWordsInUse_0 1 rfl rfl)
theorem dJ15_recalculateWordsInUse_4 : decode cJ15_recalculateWordsInUse 4 = .ok (.iconst 1, 1) := dk_4 (dk_at dksJ15_recalculateWordsInUse_0 4 rfl rfl)
theorem dJ15_recalculateWordsInUse_5 : decode cJ15_recalculateWordsInUse 5 = .ok (.isub, 1) := dk_100 (dk_at dksJ15_recalculateWordsInUse_0 5 rfl rfl)
theorem dJ15_recalculateWordsInUse_6 : decode cJ15_recalculateWordsInUse 6 = .ok (.istore_n 1, 1) := dk_60 (dk_at dksJ15_recalculateWordsInUse_0 6 rfl rfl)
theorem dJ15_recalculateWordsInUse_7 : decode cJ15_recalculateWordsInUse 7 = .ok (.iload_n 1, 1) := dk_27 (dk_at dksJ15_recalculateWordsInUse_0 7 rfl rfl)
theorem dJ15_recalculateWordsInUse_8 : decode cJ15_recalculateWordsInUse 8 = .ok (.ifCond .lt 23, 3) := dk_155 0 23 (dk_at dksJ15_recalculateWordsInUse_0 8 rfl rfl)
theorem dJ15_recalculateWordsInUse_11 : decode cJ15_recalculateWordsInUse 11 = .ok (.aload_n 0, 1) := dk_42 (dk_at dksJ15_recalculateWordsInUse_0 11 rfl rfl)
theorem dJ15_recalculateWordsInUse_12 : decode cJ15_recalculateWordsInUse 12 = .ok (.getfield 11, 3) := dk_180 0 11 (dk_at dksJ15_recalculateWordsInUse_0 12 rfl rfl)
theorem dJ15_recalculateWordsInUse_15 : decode cJ15_recalculateWordsInUse 15 = .ok (.iload_n 1, 1) := dk_27 (dk_at dksJ15_recalculateWordsInUse_0 15 rfl rfl)
theorem dJ15_recalculateWordsInUse_16 : decode cJ15_recalculateWordsInUse 16 = .ok (.laload, 1) := dk_47 (dk_at dksJ15_recalculateWordsInUse_0 16 rfl rfl)
theorem dJ15_recalculateWordsInUse_17 : decode cJ15_recalculateWordsInUse 17 = .ok (.lconst 0, 1) := dk_9 (dk_at dksJ15_recalculateWordsInUse_0 17 rfl rfl)
theorem dJ15_recalculateWordsInUse_18 : decode cJ15_recalculateWordsInUse 18 = .ok (.lcmp, 1) := dk_148 (dk_at dksJ15_recalculateWordsInUse_0 18 rfl rfl)
theorem dJ15_recalculateWordsInUse_19 : decode cJ15_recalculateWordsInUse 19 = .ok (.ifCond .eq 6, 3) := dk_153 0 6 (dk_at dksJ15_recalculateWordsInUse_0 19 rfl rfl)
theorem dJ15_recalculateWordsInUse_22 : decode cJ15_recalculateWordsInUse 22 = .ok (.goto 9, 3) := dk_167 0 9 (dk_at dksJ15_recalculateWordsInUse_1 0 rfl rfl)
theorem dJ15_recalculateWordsInUse_25 : decode cJ15_recalculateWordsInUse 25 = .ok (.iinc 1 (-1), 3) := dk_132 1 255 (dk_at dksJ15_recalculateWordsInUse_1 3 rfl rfl)
theorem dJ15_recalculateWordsInUse_28 : decode cJ15_recalculateWordsInUse 28 = .ok (.goto (-21), 3) := dk_167 255 235 (dk_at dksJ15_recalculateWordsInUse_1 6 rfl rfl)
theorem dJ15_recalculateWordsInUse_31 : decode cJ15_recalculateWordsInUse 31 = .ok (.aload_n 0, 1) := dk_42 (dk_at dksJ15_recalculateWordsInUse_1 9 rfl rfl)
theorem dJ15_recalculateWordsInUse_32 : decode cJ15_recalculateWordsInUse 32 = .ok (.iload_n 1, 1) := dk_27 (dk_at dksJ15_recalculateWordsInUse_1 10 rfl rfl)
theorem dJ15_recalculateWordsInUse_33 : decode cJ15_recalculateWordsInUse 33 = .ok (.iconst 1, 1) := dk_4 (dk_at dksJ15_recalculateWordsInUse_1 11 rfl rfl)
theorem dJ15_recalculateWordsInUse_34 : decode cJ15_recalculateWordsInUse 34 = .ok (.iadd, 1) := dk_96 (dk_at dksJ15_recalculateWordsInUse_1 12 rfl rfl)
theorem dJ15_recalculateWordsInUse_35 : decode cJ15_recalculateWordsInUse 35 = .ok (.putfield 7, 3) := dk_181 0 7 (dk_at dksJ15_recalculateWordsInUse_1 13 rfl rfl)
theorem dJ15_recalculateWordsInUse_38 : decode cJ15_recalculateWordsInUse 38 = .ok (.return_, 1) := dk_177 (dk_at dksJ15_recalculateWordsInUse_1 16 rfl rfl)
theorem q153 : (Jvm.Cond.initialized "java/util/BitSet") ∈ lw_all := lw_g (lw_at lw_m1 24 rfl) rfl
theorem q305 : (Jvm.Cond.selects "java/util/BitSet" ({ cls := "java/lang/Object", name := "getClass", desc := "()Ljava/lang/Class;" } : Jvm.MethodName) ({ cls := "java/lang/Object", name := "getClass", desc := "()Ljava/lang/Class;" } : Jvm.MethodName)) ∈ lw_all := lw_g (lw_at lw_m1 176 rfl) rfl
theorem q565 : (Jvm.Cond.instantiable "java/util/BitSet" (3 : Nat)) ∈ lw_all := lw_g (lw_at lw_m2 196 rfl) rfl
theorem q568 : (Jvm.Cond.instanceMethod ({ cls := "java/util/BitSet", name := "<init>", desc := "(I)V" } : Jvm.MethodName)) ∈ lw_all := lw_g (lw_at lw_m2 199 rfl) rfl
theorem q569 : (Jvm.Cond.code ({ cls := "java/util/BitSet", name := "<init>", desc := "(I)V" } : Jvm.MethodName) prog_46_method_5_code (2 : Nat) (Option.none : Option Jvm.ClassFile.FieldType)) ∈ lw_all := lw_g (lw_at lw_m2 200 rfl) rfl
theorem q570 : (Jvm.Cond.methodLink "java/util/BitSet" (21 : Nat) ({ cls := "java/lang/Object", name := "<init>", desc := "()V" } : Jvm.MethodName)) ∈ lw_all := lw_g (lw_at lw_m2 201 rfl) rfl
theorem q571 : (Jvm.Cond.methodLink "java/util/BitSet" (27 : Nat) ({ cls := "java/util/BitSet", name := "initWords", desc := "(I)V" } : Jvm.MethodName)) ∈ lw_all := lw_g (lw_at lw_m2 202 rfl) rfl
theorem q572 : (Jvm.Cond.privateMethod ({ cls := "java/util/BitSet", name := "initWords", desc := "(I)V" } : Jvm.MethodName)) ∈ lw_tbl := lw_at lw_m2 203 rfl
theorem q573 : (Jvm.Cond.instanceMethod ({ cls := "java/util/BitSet", name := "initWords", desc := "(I)V" } : Jvm.MethodName)) ∈ lw_all := lw_g (lw_at lw_m2 204 rfl) rfl
theorem q574 : (Jvm.Cond.code ({ cls := "java/util/BitSet", name := "initWords", desc := "(I)V" } : Jvm.MethodName) prog_46_method_6_code (2 : Nat) (Option.none : Option Jvm.ClassFile.FieldType)) ∈ lw_all := lw_g (lw_at lw_m2 205 rfl) rfl
theorem q575 : (Jvm.Cond.methodLink "java/util/BitSet" (52 : Nat) ({ cls := "java/util/BitSet", name := "wordIndex", desc := "(I)I" } : Jvm.MethodName)) ∈ lw_all := lw_g (lw_at lw_m2 206 rfl) rfl
theorem q576 : (Jvm.Cond.static ({ cls := "java/util/BitSet", name := "wordIndex", desc := "(I)I" } : Jvm.MethodName)) ∈ lw_all := lw_g (lw_at lw_m2 207 rfl) rfl
theorem q577 : (Jvm.Cond.code ({ cls := "java/util/BitSet", name := "wordIndex", desc := "(I)I" } : Jvm.MethodName) prog_46_method_1_code (1 : Nat) (Option.some Jvm.ClassFile.FieldType.int)) ∈ lw_all := lw_g (lw_at lw_m2 208 rfl) rfl
theorem q578 : (Jvm.Cond.fieldLink "java/util/BitSet" (11 : Nat) "java/util/BitSet" "words" "[J") ∈ lw_all := lw_g (lw_at lw_m2 209 rfl) rfl
theorem q579 : (Jvm.Cond.fieldLink "java/util/BitSet" (7 : Nat) "java/util/BitSet" "wordsInUse" "I") ∈ lw_all := lw_g (lw_at lw_m2 210 rfl) rfl
theorem q580 : (Jvm.Cond.fieldLink "java/util/BitSet" (24 : Nat) "java/util/BitSet" "sizeIsSticky" "Z") ∈ lw_all := lw_g (lw_at lw_m2 211 rfl) rfl
theorem q581 : (Jvm.Cond.lays "java/util/BitSet" "java/util/BitSet" "words" "[J") ∈ lw_all := lw_g (lw_at lw_m2 212 rfl) rfl
theorem q582 : (Jvm.Cond.soleField "java/util/BitSet" "words") ∈ lw_all := lw_g (lw_at lw_m2 213 rfl) rfl
theorem q583 : (Jvm.Cond.lays "java/util/BitSet" "java/util/BitSet" "wordsInUse" "I") ∈ lw_all := lw_g (lw_at lw_m2 214 rfl) rfl
theorem q584 : (Jvm.Cond.soleField "java/util/BitSet" "wordsInUse") ∈ lw_all := lw_g (lw_at lw_m2 215 rfl) rfl
theorem q585 : (Jvm.Cond.lays "java/util/BitSet" "java/util/BitSet" "sizeIsSticky" "Z") ∈ lw_all := lw_g (lw_at lw_m2 216 rfl) rfl
theorem q586 : (Jvm.Cond.soleField "java/util/BitSet" "sizeIsSticky") ∈ lw_all := lw_g (lw_at lw_m2 217 rfl) rfl
theorem q587 : (Jvm.Cond.superclass "java/util/BitSet" "java/lang/Object") ∈ lw_all := lw_g (lw_at lw_m2 218 rfl) rfl
theorem q1727 : (Jvm.Cond.instanceMethod ({ cls := "java/util/BitSet", name := "clear", desc := "()V" } : Jvm.MethodName)) ∈ lw_all := lw_g (lw_at lw_m7 158 rfl) rfl
theorem q1728 : (Jvm.Cond.selects "java/util/BitSet" ({ cls := "java/util/BitSet", name := "clear", desc := "()V" } : Jvm.MethodName) ({ cls := "java/util/BitSet", name := "clear", desc := "()V" } : Jvm.MethodName)) ∈ lw_all := lw_g (lw_at lw_m7 159 rfl) rfl
theorem q1729 : (Jvm.Cond.code ({ cls := "java/util/BitSet", name := "clear", desc := "()V" } : Jvm.MethodName) prog_46_method_25_code (1 : Nat) (Option.none : Option Jvm.ClassFile.FieldType)) ∈ lw_all := lw_g (lw_at lw_m7 160 rfl) rfl
theorem q1736 : (Jvm.Cond.instanceMethod ({ cls := "java/util/BitSet", name := "set", desc := "(I)V" } : Jvm.MethodName)) ∈ lw_all := lw_g (lw_at lw_m7 167 rfl) rfl
theorem q1737 : (Jvm.Cond.selects "java/util/BitSet" ({ cls := "java/util/BitSet", name := "set", desc := "(I)V" } : Jvm.MethodName) ({ cls := "java/util/BitSet", name := "set", desc := "(I)V" } : Jvm.MethodName)) ∈ lw_all := lw_g (lw_at lw_m7 168 rfl) rfl
theorem q1738 : (Jvm.Cond.code ({ cls := "java/util/BitSet", name := "set", desc := "(I)V" } : Jvm.MethodName) prog_46_method_19_code (3 : Nat) (Option.none : Option Jvm.ClassFile.FieldType)) ∈ lw_all := lw_g (lw_at lw_m7 169 rfl) rfl
theorem q1739 : (Jvm.Cond.methodLink "java/util/BitSet" (155 : Nat) ({ cls := "java/util/BitSet", name := "expandTo", desc := "(I)V" } : Jvm.MethodName)) ∈ lw_all := lw_g (lw_at lw_m7 170 rfl) rfl
theorem q1740 : (Jvm.Cond.privateMethod ({ cls := "java/util/BitSet", name := "expandTo", desc := "(I)V" } : Jvm.MethodName)) ∈ lw_tbl := lw_at lw_m7 171 rfl
theorem q1741 : (Jvm.Cond.instanceMethod ({ cls := "java/util/BitSet", name := "expandTo", desc := "(I)V" } : Jvm.MethodName)) ∈ lw_all := lw_g (lw_at lw_m7 172 rfl) rfl
theorem q1742 : (Jvm.Cond.code ({ cls := "java/util/BitSet", name := "expandTo", desc := "(I)V" } : Jvm.MethodName) prog_46_method_15_code (3 : Nat) (Option.none : Option Jvm.ClassFile.FieldType)) ∈ lw_all := lw_g (lw_at lw_m7 173 rfl) rfl
theorem q1743 : (Jvm.Cond.methodLink "java/util/BitSet" (139 : Nat) ({ cls := "java/util/BitSet", name := "ensureCapacity", desc := "(I)V" } : Jvm.MethodName)) ∈ lw_all := lw_g (lw_at lw_m7 174 rfl) rfl
theorem q1744 : (Jvm.Cond.privateMethod ({ cls := "java/util/BitSet", name := "ensureCapacity", desc := "(I)V" } : Jvm.MethodName)) ∈ lw_tbl := lw_at lw_m7 175 rfl
theorem q1745 : (Jvm.Cond.instanceMethod ({ cls := "java/util/BitSet", name := "ensureCapacity", desc := "(I)V" } : Jvm.MethodName)) ∈ lw_all := lw_g (lw_at lw_m7 176 rfl) rfl
theorem q1746 : (Jvm.Cond.code ({ cls := "java/util/BitSet", name := "ensureCapacity", desc := "(I)V" } : Jvm.MethodName) prog_46_method_14_code (3 : Nat) (Option.none : Option Jvm.ClassFile.FieldType)) ∈ lw_all := lw_g (lw_at lw_m7 177 rfl) rfl
theorem q1747 : (Jvm.Cond.methodLink "java/util/BitSet" (133 : Nat) ({ cls := "java/lang/Math", name := "max", desc := "(II)I" } : Jvm.MethodName)) ∈ lw_all := lw_g (lw_at lw_m7 178 rfl) rfl
theorem q1748 : (Jvm.Cond.methodLink "java/util/BitSet" (59 : Nat) ({ cls := "java/util/Arrays", name := "copyOf", desc := "([JI)[J" } : Jvm.MethodName)) ∈ lw_all := lw_g (lw_at lw_m7 179 rfl) rfl
theorem q1756 : (Jvm.Cond.methodLink "java/util/BitSet" (56 : Nat) ({ cls := "java/util/BitSet", name := "checkInvariants", desc := "()V" } : Jvm.MethodName)) ∈ lw_all := lw_g (lw_at lw_m7 187 rfl) rfl
theorem q1757 : (Jvm.Cond.privateMethod ({ cls := "java/util/BitSet", name := "checkInvariants", desc := "()V" } : Jvm.MethodName)) ∈ lw_tbl := lw_at lw_m7 188 rfl
theorem q1758 : (Jvm.Cond.instanceMethod ({ cls := "java/util/BitSet", name := "checkInvariants", desc := "()V" } : Jvm.MethodName)) ∈ lw_all := lw_g (lw_at lw_m7 189 rfl) rfl
theorem q1759 : (Jvm.Cond.code ({ cls := "java/util/BitSet", name := "checkInvariants", desc := "()V" } : Jvm.MethodName) prog_46_method_2_code (1 : Nat) (Option.none : Option Jvm.ClassFile.FieldType)) ∈ lw_all := lw_g (lw_at lw_m7 190 rfl) rfl
theorem q1760 : (Jvm.Cond.fieldLink "java/util/BitSet" (3 : Nat) "java/util/BitSet" "$assertionsDisabled" "Z") ∈ lw_all := lw_g (lw_at lw_m7 191 rfl) rfl
theorem q1761 : (Jvm.Cond.laysStatic "java/util/BitSet" "$assertionsDisabled" "Z") ∈ lw_tbl := lw_at lw_m7 192 rfl
theorem q1795 : (Jvm.Cond.instanceMethod ({ cls := "java/util/BitSet", name := "get", desc := "(I)Z" } : Jvm.MethodName)) ∈ lw_all := lw_g (lw_at lw_m7 226 rfl) rfl
theorem q1796 : (Jvm.Cond.selects "java/util/BitSet" ({ cls := "java/util/BitSet", name := "get", desc := "(I)Z" } : Jvm.MethodName) ({ cls := "java/util/BitSet", name := "get", desc := "(I)Z" } : Jvm.MethodName)) ∈ lw_all := lw_g (lw_at lw_m7 227 rfl) rfl
theorem q1797 : (Jvm.Cond.code ({ cls := "java/util/BitSet", name := "get", desc := "(I)Z" } : Jvm.MethodName) prog_46_method_26_code (3 : Nat) (Option.some Jvm.ClassFile.FieldType.boolean)) ∈ lw_all := lw_g (lw_at lw_m7 228 rfl) rfl
theorem q2003 : (Jvm.Cond.instanceMethod ({ cls := "java/util/BitSet", name := "set", desc := "(II)V" } : Jvm.MethodName)) ∈ lw_all := lw_g (lw_at lw_m8 194 rfl) rfl
theorem q2004 : (Jvm.Cond.selects "java/util/BitSet" ({ cls := "java/util/BitSet", name := "set", desc := "(II)V" } : Jvm.MethodName) ({ cls := "java/util/BitSet", name := "set", desc := "(II)V" } : Jvm.MethodName)) ∈ lw_all := lw_g (lw_at lw_m8 195 rfl) rfl
theorem q2005 : (Jvm.Cond.code ({ cls := "java/util/BitSet", name := "set", desc := "(II)V" } : Jvm.MethodName) prog_46_method_21_code (10 : Nat) (Option.none : Option Jvm.ClassFile.FieldType)) ∈ lw_all := lw_g (lw_at lw_m8 196 rfl) rfl
theorem q2006 : (Jvm.Cond.methodLink "java/util/BitSet" (161 : Nat) ({ cls := "java/util/BitSet", name := "checkRange", desc := "(II)V" } : Jvm.MethodName)) ∈ lw_all := lw_g (lw_at lw_m8 197 rfl) rfl
theorem q2007 : (Jvm.Cond.static ({ cls := "java/util/BitSet", name := "checkRange", desc := "(II)V" } : Jvm.MethodName)) ∈ lw_all := lw_g (lw_at lw_m8 198 rfl) rfl
theorem q2008 : (Jvm.Cond.code ({ cls := "java/util/BitSet", name := "checkRange", desc := "(II)V" } : Jvm.MethodName) prog_46_method_16_code (2 : Nat) (Option.none : Option Jvm.ClassFile.FieldType)) ∈ lw_all := lw_g (lw_at lw_m8 199 rfl) rfl
theorem q2009 : (Jvm.Cond.constantLong "java/util/BitSet" (165 : Nat) (-1 : Int64)) ∈ lw_all := lw_g (lw_at lw_m8 200 rfl) rfl
theorem q2011 : (Jvm.Cond.instanceMethod ({ cls := "java/util/BitSet", name := "nextSetBit", desc := "(I)I" } : Jvm.MethodName)) ∈ lw_all := lw_g (lw_at lw_m8 202 rfl) rfl
theorem q2012 : (Jvm.Cond.selects "java/util/BitSet" ({ cls := "java/util/BitSet", name := "nextSetBit", desc := "(I)I" } : Jvm.MethodName) ({ cls := "java/util/BitSet", name := "nextSetBit", desc := "(I)I" } : Jvm.MethodName)) ∈ lw_all := lw_g (lw_at lw_m8 203 rfl) rfl
theorem q2013 : (Jvm.Cond.code ({ cls := "java/util/BitSet", name := "nextSetBit", desc := "(I)I" } : Jvm.MethodName) prog_46_method_28_code (5 : Nat) (Option.some Jvm.ClassFile.FieldType.int)) ∈ lw_all := lw_g (lw_at lw_m8 204 rfl) rfl
theorem q2014 : (Jvm.Cond.methodLink "java/util/BitSet" (182 : Nat) ({ cls := "java/lang/Long", name := "numberOfTrailingZeros", desc := "(J)I" } : Jvm.MethodName)) ∈ lw_all := lw_g (lw_at lw_m8 205 rfl) rfl
theorem q2019 : (Jvm.Cond.instanceMethod ({ cls := "java/util/BitSet", name := "clear", desc := "(I)V" } : Jvm.MethodName)) ∈ lw_all := lw_g (lw_at lw_m8 210 rfl) rfl
theorem q2020 : (Jvm.Cond.selects "java/util/BitSet" ({ cls := "java/util/BitSet", name := "clear", desc := "(I)V" } : Jvm.MethodName) ({ cls := "java/util/BitSet", name := "clear", desc := "(I)V" } : Jvm.MethodName)) ∈ lw_all := lw_g (lw_at lw_m8 211 rfl) rfl
theorem q2021 : (Jvm.Cond.code ({ cls := "java/util/BitSet", name := "clear", desc := "(I)V" } : Jvm.MethodName) prog_46_method_23_code (3 : Nat) (Option.none : Option Jvm.ClassFile.FieldType)) ∈ lw_all := lw_g (lw_at lw_m8 212 rfl) rfl
theorem q2022 : (Jvm.Cond.methodLink "java/util/BitSet" (158 : Nat) ({ cls := "java/util/BitSet", name := "recalculateWordsInUse", desc := "()V" } : Jvm.MethodName)) ∈ lw_all := lw_g (lw_at lw_m8 213 rfl) rfl
theorem q2023 : (Jvm.Cond.privateMethod ({ cls := "java/util/BitSet", name := "recalculateWordsInUse", desc := "()V" } : Jvm.MethodName)) ∈ lw_tbl := lw_at lw_m8 214 rfl
theorem q2024 : (Jvm.Cond.instanceMethod ({ cls := "java/util/BitSet", name := "recalculateWordsInUse", desc := "()V" } : Jvm.MethodName)) ∈ lw_all := lw_g (lw_at lw_m8 215 rfl) rfl
theorem q2025 : (Jvm.Cond.code ({ cls := "java/util/BitSet", name := "recalculateWordsInUse", desc := "()V" } : Jvm.MethodName) prog_46_method_3_code (2 : Nat) (Option.none : Option Jvm.ClassFile.FieldType)) ∈ lw_all := lw_g (lw_at lw_m8 216 rfl) rfl
theorem q2681 : (Jvm.Cond.castable "java/util/BitSet" "java/lang/Object") ∈ lw_tbl := lw_at lw_m11 152 rfl
theorem in_J15 : ∀ w ∈ wsJ150, w ∈ lw_all := lw_in wsJ150 [581, 583, 585] (by decide +kernel) (by decide +kernel)
/-! java/util/ArrayDeque -/
set_option maxRecDepth 100000
def RJ16 : String := "java/util/ArrayDeque"
def TJ16 : u_T := fun k => match k with
  | 0 => ("java/util/ArrayDeque", "elements", "[Ljava/lang/Object;", false)
  | 1 => ("java/util/ArrayDeque", "head", "I", false)
  | _ => ("java/util/ArrayDeque", "tail", "I", false)
def tyJ16 : Nat → FieldType := fun k => match k with
  | 0 => .array (.object "java/lang/Object")
  | 1 => .int
  | _ => .int
abbrev wsJ160 : List Cond := u_ws RJ16 TJ16 3
theorem nmJ16 : ∀ a, a < 3 → ∀ b, b < 3 → a ≠ b → (TJ16 a).2.1 ≠ (TJ16 b).2.1 := by decide +kernel
theorem tyJ16_ok : ∀ k, k < 3 → parseFieldDescriptor (TJ16 k).2.2.1 = some (tyJ16 k) := by decide +kernel
abbrev cJ16_init : ByteArray := prog_41_method_3_code
def yJ16_init : MethodName := ⟨RJ16, "<init>", "()V"⟩
def dkwJ16_init_0 : List UInt8 := [42, 183, 0, 42, 42, 16, 17, 189, 0, 47, 181, 0, 3, 177]
abbrev dktJ16_init_0 : List UInt8 := dkwJ16_init_0 ++ []
theorem dksJ16_init_0 : cJ16_init.data.toList.drop 0 = dktJ16_init_0 := by decide +kernel
theorem dJ16_init_0 : decode cJ16_init 0 = .ok (.aload_n 0, 1) := dk_42 (dk_at dksJ16_init_0 0 rfl rfl)
theorem dJ16_init_1 : decode cJ16_init 1 = .ok (.invokespecial 42, 3) := dk_183 0 42 (dk_at dksJ16_init_0 1 rfl rfl)
theorem dJ16_init_4 : decode cJ16_init 4 = .ok (.aload_n 0, 1) := dk_42 (dk_at dksJ16_init_0 4 rfl rfl)
theorem dJ16_init_5 : decode cJ16_init 5 = .ok (.bipush 17, 2) := dk_16 17 (dk_at dksJ16_init_0 5 rfl rfl)
theorem dJ16_init_7 : decode cJ16_init 7 = .ok (.anewarray 47, 3) := dk_189 0 47 (dk_at dksJ16_init_0 7 rfl rfl)
theorem dJ16_init_10 : decode cJ16_init 10 = .ok (.putfield 3, 3) := dk_181 0 3 (dk_at dksJ16_init_0 10 rfl rfl)
theorem dJ16_init_13 : decode cJ16_init 13 = .ok (.return_, 1) := dk_177 (dk_at dksJ16_init_0 13 rfl rfl)
abbrev cJ16_clear : ByteArray := prog_41_method_53_code
def yJ16_clear : MethodName := ⟨RJ16, "clear", "()V"⟩
def dkwJ16_clear_1 : List UInt8 := [181, 0, 24, 177]
abbrev dktJ16_clear_1 : List UInt8 := dkwJ16_clear_1 ++ []
def dkwJ16_clear_0 : List UInt8 := [42, 180, 0, 3, 42, 180, 0, 24, 42, 180, 0, 20, 184, 0, 181, 42, 42, 3, 90, 181, 0, 20]
abbrev dktJ16_clear_0 : List UInt8 := dkwJ16_clear_0 ++ dktJ16_clear_1
theorem dksJ16_clear_0 : cJ16_clear.data.toList.drop 0 = dktJ16_clear_0 := by decide +kernel
theorem dksJ16_clear_1 : cJ16_clear.data.toList.drop 22 = dktJ16_clear_1 := dk_seg dksJ16_clear_0 22 rfl rfl
theorem dJ16_clear_0 : decode cJ16_clear 0 = .ok (.aload_n 0, 1) := dk_42 (dk_at dksJ16_clear_0 0 rfl rfl)
theorem dJ16_clear_1 : decode cJ16_clear 1 = .ok (.getfield 3, 3) := dk_180 0 3 (dk_at dksJ16_clear_0 1 rfl rfl)
theorem dJ16_clear_4 : decode cJ16_clear 4 = .ok (.aload_n 0, 1) := dk_42 (dk_at dksJ16_clear_0 4 rfl rfl)
theorem dJ16_clear_5 : decode cJ16_clear 5 = .ok (.getfield 24, 3) := dk_180 0 24 (dk_at dksJ16_clear_0 5 rfl rfl)
theorem dJ16_clear_8 : decode cJ16_clear 8 = .ok (.aload_n 0, 1) := dk_42 (dk_at dksJ16_clear_0 8 rfl rfl)
theorem dJ16_clear_9 : decode cJ16_clear 9 = .ok (.getfield 20, 3) := dk_180 0 20 (dk_at dksJ16_clear_0 9 rfl rfl)
theorem dJ16_clear_12 : decode cJ16_clear 12 = .ok (.invokestatic 181, 3) := dk_184 0 181 (dk_at dksJ16_clear_0 12 rfl rfl)
theorem dJ16_clear_15 : decode cJ16_clear 15 = .ok (.aload_n 0, 1) := dk_42 (dk_at dksJ16_clear_0 15 rfl rfl)
theorem dJ16_clear_16 : decode cJ16_clear 16 = .ok (.aload_n 0, 1) := dk_42 (dk_at dksJ16_clear_0 16 rfl rfl)
theorem dJ16_clear_17 : decode cJ16_clear 17 = .ok (.iconst 0, 1) := dk_3 (dk_at dksJ16_clear_0 17 rfl rfl)
theorem dJ16_clear_18 : decode cJ16_clear 18 = .ok (.dup_x1, 1) := dk_90 (dk_at dksJ16_clear_0 18 rfl rfl)
theorem dJ16_clear_19 : decode cJ16_clear 19 = .ok (.putfield 20, 3) := dk_181 0 20 (dk_at dksJ16_clear_0 19 rfl rfl)
theorem dJ16_clear_22 : decode cJ16_clear 22 = .ok (.putfield 24, 3) := dk_181 0 24 (dk_at dksJ16_clear_1 0 rfl rfl)
theorem dJ16_clear_25 : decode cJ16_clear 25 = .ok (.return_, 1) := dk_177 (dk_at dksJ16_clear_1 3 rfl rfl)
abbrev cJ16_circularClear : ByteArray := prog_41_method_54_code
def yJ16_circularClear : MethodName := ⟨RJ16, "circularClear", "([Ljava/lang/Object;II)V"⟩
def dkwJ16_circularClear_1 : List UInt8 := [167, 255, 244, 29, 28, 160, 0, 6, 167, 0, 10, 3, 60, 28, 62, 167, 255, 229, 177]
abbrev dktJ16_circularClear_1 : List UInt8 := dkwJ16_circularClear_1 ++ []
def dkwJ16_circularClear_0 : List UInt8 := [27, 28, 163, 0, 7, 28, 167, 0, 5, 42, 190, 62, 27, 29, 162, 0, 13, 42, 27, 1, 83, 132, 1, 1]
abbrev dktJ16_circularClear_0 : List UInt8 := dkwJ16_circularClear_0 ++ dktJ16_circularClear_1
theorem dksJ16_circularClear_0 : cJ16_circularClear.data.toList.drop 0 = dktJ16_circularClear_0 := by decide +kernel
theorem dksJ16_circularClear_1 : cJ16_circularClear.data.toList.drop 24 = dktJ16_circularClear_1 := dk_seg dksJ16_circularClear_0 24 rfl rfl
theorem dJ16_circularClear_0 : decode cJ16_circularClear 0 = .ok (.iload_n 1, 1) := dk_27 (dk_at dksJ16_circularClear_0 0 rfl rfl)
theorem dJ16_circularClear_1 : decode cJ16_circularClear 1 = .ok (.iload_n 2, 1) := dk_28 (dk_at dksJ16_circularClear_0 1 rfl rfl)
theorem dJ16_circularClear_2 : decode cJ16_circularClear 2 = .ok (.if_icmp .gt 7, 3) := dk_163 0 7 (dk_at dksJ16_circularClear_0 2 rfl rfl)
theorem dJ16_circularClear_5 : decode cJ16_circularClear 5 = .ok (.iload_n 2, 1) := dk_28 (dk_at dksJ16_circularClear_0 5 rfl rfl)
theorem dJ16_circularClear_6 : decode cJ16_circularClear 6 = .ok (.goto 5, 3) := dk_167 0 5 (dk_at dksJ16_circularClear_0 6 rfl rfl)
theorem dJ16_circularClear_9 : decode cJ16_circularClear 9 = .ok (.aload_n 0, 1) := dk_42 (dk_at dksJ16_circularClear_0 9 rfl rfl)
theorem dJ16_circularClear_10 : decode cJ16_circularClear 10 = .ok (.arraylength, 1) := dk_190 (dk_at dksJ16_circularClear_0 10 rfl rfl)
theorem dJ16_circularClear_11 : decode cJ16_circularClear 11 = .ok (.istore_n 3, 1) := dk_62 (dk_at dksJ16_circularClear_0 11 rfl rfl)
theorem dJ16_circularClear_12 : decode cJ16_circularClear 12 = .ok (.iload_n 1, 1) := dk_27 (dk_at dksJ16_circularClear_0 12 rfl rfl)
theorem dJ16_circularClear_13 : decode cJ16_circularClear 13 = .ok (.iload_n 3, 1) := dk_29 (dk_at dksJ16_circularClear_0 13 rfl rfl)
theorem dJ16_circularClear_14 : decode cJ16_circularClear 14 = .ok (.if_icmp .ge 13, 3) := dk_162 0 13 (dk_at dksJ16_circularClear_0 14 rfl rfl)
theorem dJ16_circularClear_17 : decode cJ16_circularClear 17 = .ok (.aload_n 0, 1) := dk_42 (dk_at dksJ16_circularClear_0 17 rfl rfl)
theorem dJ16_circularClear_18 : decode cJ16_circularClear 18 = .ok (.iload_n 1, 1) := dk_27 (dk_at dksJ16_circularClear_0 18 rfl rfl)
theorem dJ16_circularClear_19 : decode cJ16_circularClear 19 = .ok (.aconst_null, 1) := dk_1 (dk_at dksJ16_circularClear_0 19 rfl rfl)
theorem dJ16_circularClear_20 : decode cJ16_circularClear 20 = .ok (.aastore, 1) := dk_83 (dk_at dksJ16_circularClear_0 20 rfl rfl)
theorem dJ16_circularClear_21 : decode cJ16_circularClear 21 = .ok (.iinc 1 1, 3) := dk_132 1 1 (dk_at dksJ16_circularClear_0 21 rfl rfl)
theorem dJ16_circularClear_24 : decode cJ16_circularClear 24 = .ok (.goto (-12), 3) := dk_167 255 244 (dk_at dksJ16_circularClear_1 0 rfl rfl)
theorem dJ16_circularClear_27 : decode cJ16_circularClear 27 = .ok (.iload_n 3, 1) := dk_29 (dk_at dksJ16_circularClear_1 3 rfl rfl)
theorem dJ16_circularClear_28 : decode cJ16_circularClear 28 = .ok (.iload_n 2, 1) := dk_28 (dk_at dksJ16_circularClear_1 4 rfl rfl)
theorem dJ16_circularClear_29 : decode cJ16_circularClear 29 = .ok (.if_icmp .ne 6, 3) := dk_160 0 6 (dk_at dksJ16_circularClear_1 5 rfl rfl)
theorem dJ16_circularClear_32 : decode cJ16_circularClear 32 = .ok (.goto 10, 3) := dk_167 0 10 (dk_at dksJ16_circularClear_1 8 rfl rfl)
theorem dJ16_circularClear_35 : decode cJ16_circularClear 35 = .ok (.iconst 0, 1) := dk_3 (dk_at dksJ16_circularClear_1 11 rfl rfl)
theorem dJ16_circularClear_36 : decode cJ16_circularClear 36 = .ok (.istore_n 1, 1) := dk_60 (dk_at dksJ16_circularClear_1 12 rfl rfl)
theorem dJ16_circularClear_37 : decode cJ16_circularClear 37 = .ok (.iload_n 2, 1) := dk_28 (dk_at dksJ16_circularClear_1 13 rfl rfl)
theorem dJ16_circularClear_38 : decode cJ16_circularClear 38 = .ok (.istore_n 3, 1) := dk_62 (dk_at dksJ16_circularClear_1 14 rfl rfl)
theorem dJ16_circularClear_39 : decode cJ16_circularClear 39 = .ok (.goto (-27), 3) := dk_167 255 229 (dk_at dksJ16_circularClear_1 15 rfl rfl)
theorem dJ16_circularClear_42 : decode cJ16_circularClear 42 = .ok (.return_, 1) := dk_177 (dk_at dksJ16_circularClear_1 18 rfl rfl)
abbrev cJ16_size : ByteArray := prog_41_method_37_code
def yJ16_size : MethodName := ⟨RJ16, "size", "()I"⟩
def dkwJ16_size_0 : List UInt8 := [42, 180, 0, 20, 42, 180, 0, 24, 42, 180, 0, 3, 190, 184, 0, 127, 172]
abbrev dktJ16_size_0 : List UInt8 := dkwJ16_size_0 ++ []
theorem dksJ16_size_0 : cJ16_size.data.toList.drop 0 = dktJ16_size_0 := by decide +kernel
theorem dJ16_size_0 : decode cJ16_size 0 = .ok (.aload_n 0, 1) := dk_42 (dk_at dksJ16_size_0 0 rfl rfl)
theorem dJ16_size_1 : decode cJ16_size 1 = .ok (.getfield 20, 3) := dk_180 0 20 (dk_at dksJ16_size_0 1 rfl rfl)
theorem dJ16_size_4 : decode cJ16_size 4 = .ok (.aload_n 0, 1) := dk_42 (dk_at dksJ16_size_0 4 rfl rfl)
theorem dJ16_size_5 : decode cJ16_size 5 = .ok (.getfield 24, 3) := dk_180 0 24 (dk_at dksJ16_size_0 5 rfl rfl)
theorem dJ16_size_8 : decode cJ16_size 8 = .ok (.aload_n 0, 1) := dk_42 (dk_at dksJ16_size_0 8 rfl rfl)
theorem dJ16_size_9 : decode cJ16_size 9 = .ok (.getfield 3, 3) := dk_180 0 3 (dk_at dksJ16_size_0 9 rfl rfl)
theorem dJ16_size_12 : decode cJ16_size 12 = .ok (.arraylength, 1) := dk_190 (dk_at dksJ16_size_0 12 rfl rfl)
theorem dJ16_size_13 : decode cJ16_size 13 = .ok (.invokestatic 127, 3) := dk_184 0 127 (dk_at dksJ16_size_0 13 rfl rfl)
theorem dJ16_size_16 : decode cJ16_size 16 = .ok (.ireturn, 1) := dk_172 (dk_at dksJ16_size_0 16 rfl rfl)
abbrev cJ16_sub : ByteArray := prog_41_method_9_code
def yJ16_sub : MethodName := ⟨RJ16, "sub", "(III)I"⟩
def dkwJ16_sub_0 : List UInt8 := [26, 27, 100, 89, 59, 156, 0, 7, 26, 28, 96, 59, 26, 172]
abbrev dktJ16_sub_0 : List UInt8 := dkwJ16_sub_0 ++ []
theorem dksJ16_sub_0 : cJ16_sub.data.toList.drop 0 = dktJ16_sub_0 := by decide +kernel
theorem dJ16_sub_0 : decode cJ16_sub 0 = .ok (.iload_n 0, 1) := dk_26 (dk_at dksJ16_sub_0 0 rfl rfl)
theorem dJ16_sub_1 : decode cJ16_sub 1 = .ok (.iload_n 1, 1) := dk_27 (dk_at dksJ16_sub_0 1 rfl rfl)
theorem dJ16_sub_2 : decode cJ16_sub 2 = .ok (.isub, 1) := dk_100 (dk_at dksJ16_sub_0 2 rfl rfl)
theorem dJ16_sub_3 : decode cJ16_sub 3 = .ok (.dup, 1) := dk_89 (dk_at dksJ16_sub_0 3 rfl rfl)
theorem dJ16_sub_4 : decode cJ16_sub 4 = .ok (.istore_n 0, 1) := dk_59 (dk_at dksJ16_sub_0 4 rfl rfl)
theorem dJ16_sub_5 : decode cJ16_sub 5 = .ok (.ifCond .ge 7, 3) := dk_156 0 7 (dk_at dksJ16_sub_0 5 rfl rfl)
theorem dJ16_sub_8 : decode cJ16_sub 8 = .ok (.iload_n 0, 1) := dk_26 (dk_at dksJ16_sub_0 8 rfl rfl)
theorem dJ16_sub_9 : decode cJ16_sub 9 = .ok (.iload_n 2, 1) := dk_28 (dk_at dksJ16_sub_0 9 rfl rfl)
theorem dJ16_sub_10 : decode cJ16_sub 10 = .ok (.iadd, 1) := dk_96 (dk_at dksJ16_sub_0 10 rfl rfl)
theorem dJ16_sub_11 : decode cJ16_sub 11 = .ok (.istore_n 0, 1) := dk_59 (dk_at dksJ16_sub_0 11 rfl rfl)
theorem dJ16_sub_12 : decode cJ16_sub 12 = .ok (.iload_n 0, 1) := dk_26 (dk_at dksJ16_sub_0 12 rfl rfl)
theorem dJ16_sub_13 : decode cJ16_sub 13 = .ok (.ireturn, 1) := dk_172 (dk_at dksJ16_sub_0 13 rfl rfl)
abbrev cJ16_pollFirst : ByteArray := prog_41_method_20_code
def yJ16_pollFirst : MethodName := ⟨RJ16, "pollFirst", "()Ljava/lang/Object;"⟩
def dkwJ16_pollFirst_1 : List UInt8 := [42, 28, 43, 190, 184, 0, 74, 181, 0, 24, 45, 176]
abbrev dktJ16_pollFirst_1 : List UInt8 := dkwJ16_pollFirst_1 ++ []
def dkwJ16_pollFirst_0 : List UInt8 := [42, 180, 0, 3, 89, 76, 42, 180, 0, 24, 89, 61, 184, 0, 103, 78, 45, 198, 0, 17, 43, 28, 1, 83]
abbrev dktJ16_pollFirst_0 : List UInt8 := dkwJ16_pollFirst_0 ++ dktJ16_pollFirst_1
theorem dksJ16_pollFirst_0 : cJ16_pollFirst.data.toList.drop 0 = dktJ16_pollFirst_0 := by decide +kernel
theorem dksJ16_pollFirst_1 : cJ16_pollFirst.data.toList.drop 24 = dktJ16_pollFirst_1 := dk_seg dksJ16_pollFirst_0 24 rfl rfl
theorem dJ16_pollFirst_0 : decode cJ16_pollFirst 0 = .ok (.aload_n 0, 1) := dk_42 (dk_at dksJ16_pollFirst_0 0 rfl rfl)
theorem dJ16_pollFirst_1 : decode cJ16_pollFirst 1 = .ok (.getfield 3, 3) := dk_180 0 3 (dk_at dksJ16_pollFirst_0 1 rfl rfl)
theorem dJ16_pollFirst_4 : decode cJ16_pollFirst 4 = .ok (.dup, 1) := dk_89 (dk_at dksJ16_pollFirst_0 4 rfl rfl)
theorem dJ16_pollFirst_5 : decode cJ16_pollFirst 5 = .ok (.astore_n 1, 1) := dk_76 (dk_at dksJ16_pollFirst_0 5 rfl rfl)
theorem dJ16_pollFirst_6 : decode cJ16_pollFirst 6 = .ok (.aload_n 0, 1) := dk_42 (dk_at dksJ16_pollFirst_0 6 rfl rfl)
theorem dJ16_pollFirst_7 : decode cJ16_pollFirst 7 = .ok (.getfield 24, 3) := dk_180 0 24 (dk_at dksJ16_pollFirst_0 7 rfl rfl)
theorem dJ16_pollFirst_10 : decode cJ16_pollFirst 10 = .ok (.dup, 1) := dk_89 (dk_at dksJ16_pollFirst_0 10 rfl rfl)
theorem dJ16_pollFirst_11 : decode cJ16_pollFirst 11 = .ok (.istore_n 2, 1) := dk_61 (dk_at dksJ16_pollFirst_0 11 rfl rfl)
theorem dJ16_pollFirst_12 : decode cJ16_pollFirst 12 = .ok (.invokestatic 103, 3) := dk_184 0 103 (dk_at dksJ16_pollFirst_0 12 rfl rfl)
theorem dJ16_pollFirst_15 : decode cJ16_pollFirst 15 = .ok (.astore_n 3, 1) := dk_78 (dk_at dksJ16_pollFirst_0 15 rfl rfl)
theorem dJ16_pollFirst_16 : decode cJ16_pollFirst 16 = .ok (.aload_n 3, 1) := dk_45 (dk_at dksJ16_pollFirst_0 16 rfl rfl)
theorem dJ16_pollFirst_17 : decode cJ16_pollFirst 17 = .ok (.ifnull 17, 3) := dk_198 0 17 (dk_at dksJ16_pollFirst_0 17 rfl rfl)
theorem dJ16_pollFirst_20 : decode cJ16_pollFirst 20 = .ok (.aload_n 1, 1) := dk_43 (dk_at dksJ16_pollFirst_0 20 rfl rfl)
theorem dJ16_pollFirst_21 : decode cJ16_pollFirst 21 = .ok (.iload_n 2, 1) := dk_28 (dk_at dksJ16_pollFirst_0 21 rfl rfl)
theorem dJ16_pollFirst_22 : decode cJ16_pollFirst 22 = .ok (.aconst_null, 1) := dk_1 (dk_at dksJ16_pollFirst_0 22 rfl rfl)
theorem dJ16_pollFirst_23 : decode cJ16_pollFirst 23 = .ok (.aastore, 1) := dk_83 (dk_at dksJ16_pollFirst_0 23 rfl rfl)
theorem dJ16_pollFirst_24 : decode cJ16_pollFirst 24 = .ok (.aload_n 0, 1) := dk_42 (dk_at dksJ16_pollFirst_1 0 rfl rfl)
theorem dJ16_pollFirst_25 : decode cJ16_pollFirst 25 = .ok (.iload_n 2, 1) := dk_28 (dk_at dksJ16_pollFirst_1 1 rfl rfl)
theorem dJ16_pollFirst_26 : decode cJ16_pollFirst 26 = .ok (.aload_n 1, 1) := dk_43 (dk_at dksJ16_pollFirst_1 2 rfl rfl)
theorem dJ16_pollFirst_27 : decode cJ16_pollFirst 27 = .ok (.arraylength, 1) := dk_190 (dk_at dksJ16_pollFirst_1 3 rfl rfl)
theorem dJ16_pollFirst_28 : decode cJ16_pollFirst 28 = .ok (.invokestatic 74, 3) := dk_184 0 74 (dk_at dksJ16_pollFirst_1 4 rfl rfl)
theorem dJ16_pollFirst_31 : decode cJ16_pollFirst 31 = .ok (.putfield 24, 3) := dk_181 0 24 (dk_at dksJ16_pollFirst_1 7 rfl rfl)
theorem dJ16_pollFirst_34 : decode cJ16_pollFirst 34 = .ok (.aload_n 3, 1) := dk_45 (dk_at dksJ16_pollFirst_1 10 rfl rfl)
theorem dJ16_pollFirst_35 : decode cJ16_pollFirst 35 = .ok (.areturn, 1) := dk_176 (dk_at dksJ16_pollFirst_1 11 rfl rfl)
abbrev cJ16_elementAt : ByteArray := prog_41_method_10_code
def yJ16_elementAt : MethodName := ⟨RJ16, "elementAt", "([Ljava/lang/Object;I)Ljava/lang/Object;"⟩
def dkwJ16_elementAt_0 : List UInt8 := [42, 27, 50, 176]
abbrev dktJ16_elementAt_0 : List UInt8 := dkwJ16_elementAt_0 ++ []
theorem dksJ16_elementAt_0 : cJ16_elementAt.data.toList.drop 0 = dktJ16_elementAt_0 := by decide +kernel
theorem dJ16_elementAt_0 : decode cJ16_elementAt 0 = .ok (.aload_n 0, 1) := dk_42 (dk_at dksJ16_elementAt_0 0 rfl rfl)
theorem dJ16_elementAt_1 : decode cJ16_elementAt 1 = .ok (.iload_n 1, 1) := dk_27 (dk_at dksJ16_elementAt_0 1 rfl rfl)
theorem dJ16_elementAt_2 : decode cJ16_elementAt 2 = .ok (.aaload, 1) := dk_50 (dk_at dksJ16_elementAt_0 2 rfl rfl)
theorem dJ16_elementAt_3 : decode cJ16_elementAt 3 = .ok (.areturn, 1) := dk_176 (dk_at dksJ16_elementAt_0 3 rfl rfl)
abbrev cJ16_inc : ByteArray := prog_41_method_6_code
def yJ16_inc : MethodName := ⟨RJ16, "inc", "(II)I"⟩
def dkwJ16_inc_0 : List UInt8 := [132, 0, 1, 26, 27, 161, 0, 5, 3, 59, 26, 172]
abbrev dktJ16_inc_0 : List UInt8 := dkwJ16_inc_0 ++ []
theorem dksJ16_inc_0 : cJ16_inc.data.toList.drop 0 = dktJ16_inc_0 := by decide +kernel
theorem dJ16_inc_0 : decode cJ16_inc 0 = .ok (.iinc 0 1, 3) := dk_132 0 1 (dk_at dksJ16_inc_0 0 rfl rfl)
theorem dJ16_inc_3 : decode cJ16_inc 3 = .ok (.iload_n 0, 1) := dk_26 (dk_at dksJ16_inc_0 3 rfl rfl)
theorem dJ16_inc_4 : decode cJ16_inc 4 = .ok (.iload_n 1, 1) := dk_27 (dk_at dksJ16_inc_0 4 rfl rfl)
theorem dJ16_inc_5 : decode cJ16_inc 5 = .ok (.if_icmp .lt 5, 3) := dk_161 0 5 (dk_at dksJ16_inc_0 5 rfl rfl)
theorem dJ16_inc_8 : decode cJ16_inc 8 = .ok (.iconst 0, 1) := dk_3 (dk_at dksJ16_inc_0 8 rfl rfl)
theorem dJ16_inc_9 : decode cJ16_inc 9 = .ok (.istore_n 0, 1) := dk_59 (dk_at dksJ16_inc_0 9 rfl rfl)
theorem dJ16_inc_10 : decode cJ16_inc 10 = .ok (.iload_n 0, 1) := dk_26 (dk_at dksJ16_inc_0 10 rfl rfl)
theorem dJ16_inc_11 : decode cJ16_inc 11 = .ok (.ireturn, 1) := dk_172 (dk_at dksJ16_inc_0 11 rfl rfl)
abbrev cJ16_addLast : ByteArray := prog_41_method_13_code
def yJ16_addLast : MethodName := ⟨RJ16, "addLast", "(Ljava/lang/Object;)V"⟩
def dkwJ16_addLast_2 : List UInt8 := [182, 0, 71, 177]
abbrev dktJ16_addLast_2 : List UInt8 := dkwJ16_addLast_2 ++ []
def dkwJ16_addLast_1 : List UInt8 := [42, 180, 0, 24, 42, 42, 180, 0, 20, 44, 190, 184, 0, 74, 90, 181, 0, 20, 160, 0, 8, 42, 4]
abbrev dktJ16_addLast_1 : List UInt8 := dkwJ16_addLast_1 ++ dktJ16_addLast_2
def dkwJ16_addLast_0 : List UInt8 := [43, 199, 0, 11, 187, 0, 65, 89, 183, 0, 67, 191, 42, 180, 0, 3, 77, 44, 42, 180, 0, 20, 43, 83]
abbrev dktJ16_addLast_0 : List UInt8 := dkwJ16_addLast_0 ++ dktJ16_addLast_1
theorem dksJ16_addLast_0 : cJ16_addLast.data.toList.drop 0 = dktJ16_addLast_0 := by decide +kernel
theorem dksJ16_addLast_1 : cJ16_addLast.data.toList.drop 24 = dktJ16_addLast_1 := dk_seg dksJ16_addLast_0 24 rfl rfl
theorem dksJ16_addLast_2 : cJ16_addLast.data.toList.drop 47 = dktJ16_addLast_2 := dk_seg dksJ16_addLast_1 23 rfl rfl
theorem dJ16_addLast_0 : decode cJ16_addLast 0 = .ok (.aload_n 1, 1) := dk_43 (dk_at dksJ16_addLast_0 0 rfl rfl)
theorem dJ16_addLast_1 : decode cJ16_addLast 1 = .ok (.ifnonnull 11, 3) := dk_199 0 11 (dk_at dksJ16_addLast_0 1 rfl rfl)
theorem dJ16_addLast_4 : decode cJ16_addLast 4 = .ok (.new 65, 3) := dk_187 0 65 (dk_at dksJ16_addLast_0 4 rfl rfl)
theorem dJ16_addLast_7 : decode cJ16_addLast 7 = .ok (.dup, 1) := dk_89 (dk_at dksJ16_addLast_0 7 rfl rfl)
theorem dJ16_addLast_8 : decode cJ16_addLast 8 = .ok (.invokespecial 67, 3) := dk_183 0 67 (dk_at dksJ16_addLast_0 8 rfl rfl)
theorem dJ16_addLast_11 : decode cJ16_addLast 11 = .ok (.athrow, 1) := dk_191 (dk_at dksJ16_addLast_0 11 rfl rfl)
theorem dJ16_addLast_12 : decode cJ16_addLast 12 = .ok (.aload_n 0, 1) := dk_42 (dk_at dksJ16_addLast_0 12 rfl rfl)
theorem dJ16_addLast_13 : decode cJ16_addLast 13 = .ok (.getfield 3, 3) := dk_180 0 3 (dk_at dksJ16_addLast_0 13 rfl rfl)
theorem dJ16_addLast_16 : decode cJ16_addLast 16 = .ok (.astore_n 2, 1) := dk_77 (dk_at dksJ16_addLast_0 16 rfl rfl)
theorem dJ16_addLast_17 : decode cJ16_addLast 17 = .ok (.aload_n 2, 1) := dk_44 (dk_at dksJ16_addLast_0 17 rfl rfl)
theorem dJ16_addLast_18 : decode cJ16_addLast 18 = .ok (.aload_n 0, 1) := dk_42 (dk_at dksJ16_addLast_0 18 rfl rfl)
theorem dJ16_addLast_19 : decode cJ16_addLast 19 = .ok (.getfield 20, 3) := dk_180 0 20 (dk_at dksJ16_addLast_0 19 rfl rfl)
theorem dJ16_addLast_22 : decode cJ16_addLast 22 = .ok (.aload_n 1, 1) := dk_43 (dk_at dksJ16_addLast_0 22 rfl rfl)
theorem dJ16_addLast_23 : decode cJ16_addLast 23 = .ok (.aastore, 1) := dk_83 (dk_at dksJ16_addLast_0 23 rfl rfl)
theorem dJ16_addLast_24 : decode cJ16_addLast 24 = .ok (.aload_n 0, 1) := dk_42 (dk_at dksJ16_addLast_1 0 rfl rfl)
theorem dJ16_addLast_25 : decode cJ16_addLast 25 = .ok (.getfield 24, 3) := dk_180 0 24 (dk_at dksJ16_addLast_1 1 rfl rfl)
theorem dJ16_addLast_28 : decode cJ16_addLast 28 = .ok (.aload_n 0, 1) := dk_42 (dk_at dksJ16_addLast_1 4 rfl rfl)
theorem dJ16_addLast_29 : decode cJ16_addLast 29 = .ok (.aload_n 0, 1) := dk_42 (dk_at dksJ16_addLast_1 5 rfl rfl)
theorem dJ16_addLast_30 : decode cJ16_addLast 30 = .ok (.getfield 20, 3) := dk_180 0 20 (dk_at dksJ16_addLast_1 6 rfl rfl)
theorem dJ16_addLast_33 : decode cJ16_addLast 33 = .ok (.aload_n 2, 1) := dk_44 (dk_at dksJ16_addLast_1 9 rfl rfl)
theorem dJ16_addLast_34 : decode cJ16_addLast 34 = .ok (.arraylength, 1) := dk_190 (dk_at dksJ16_addLast_1 10 rfl rfl)
theorem dJ16_addLast_35 : decode cJ16_addLast 35 = .ok (.invokestatic 74, 3) := dk_184 0 74 (dk_at dksJ16_addLast_1 11 rfl rfl)
theorem dJ16_addLast_38 : decode cJ16_addLast 38 = .ok (.dup_x1, 1) := dk_90 (dk_at dksJ16_addLast_1 14 rfl rfl)
theorem dJ16_addLast_39 : decode cJ16_addLast 39 = .ok (.putfield 20, 3) := dk_181 0 20 (dk_at dksJ16_addLast_1 15 rfl rfl)
theorem dJ16_addLast_42 : decode cJ16_addLast 42 = .ok (.if_icmp .ne 8, 3) := dk_160 0 8 (dk_at dksJ16_addLast_1 18 rfl rfl)
theorem dJ16_addLast_45 : decode cJ16_addLast 45 = .ok (.aload_n 0, 1) := dk_42 (dk_at dksJ16_addLast_1 21 rfl rfl)
theorem dJ16_addLast_46 : decode cJ16_addLast 46 = .ok (.iconst 1, 1) := dk_4 (dk_at dksJ16_addLast_1 22 rfl rfl)
theorem dJ16_addLast_47 : decode cJ16_addLast 47 = .ok (.invokevirtual 71, 3) := dk_182 0 71 (dk_at dksJ16_addLast_2 0 rfl rfl)
theorem dJ16_addLast_50 : decode cJ16_addLast 50 = .ok (.return_, 1) := dk_177 (dk_at dksJ16_addLast_2 3 rfl rfl)
abbrev cJ16_grow : ByteArray := prog_41_method_1_code
def yJ16_grow : MethodName := ⟨RJ16, "grow", "(I)V"⟩
def dkwJ16_grow_7 : List UInt8 := [177]
abbrev dktJ16_grow_7 : List UInt8 := dkwJ16_grow_7 ++ []
def dkwJ16_grow_6 : List UInt8 := [181, 0, 24, 54, 8, 21, 7, 21, 8, 162, 0, 15, 25, 5, 21, 7, 1, 83, 132, 7, 1, 167, 255, 240]
abbrev dktJ16_grow_6 : List UInt8 := dkwJ16_grow_6 ++ dktJ16_grow_7
def dkwJ16_grow_5 : List UInt8 := [42, 180, 0, 24, 100, 184, 0, 27, 42, 180, 0, 24, 54, 7, 42, 89, 180, 0, 24, 21, 6, 96, 90]
abbrev dktJ16_grow_5 : List UInt8 := dkwJ16_grow_5 ++ dktJ16_grow_6
def dkwJ16_grow_4 : List UInt8 := [198, 0, 71, 29, 28, 100, 54, 6, 25, 5, 42, 180, 0, 24, 25, 5, 42, 180, 0, 24, 21, 6, 96, 28]
abbrev dktJ16_grow_4 : List UInt8 := dkwJ16_grow_4 ++ dktJ16_grow_5
def dkwJ16_grow_3 : List UInt8 := [180, 0, 24, 161, 0, 24, 42, 180, 0, 20, 42, 180, 0, 24, 160, 0, 81, 25, 5, 42, 180, 0, 24, 50]
abbrev dktJ16_grow_3 : List UInt8 := dkwJ16_grow_3 ++ dktJ16_grow_4
def dkwJ16_grow_2 : List UInt8 := [182, 0, 10, 62, 42, 42, 180, 0, 3, 29, 184, 0, 14, 90, 181, 0, 3, 58, 5, 42, 180, 0, 20, 42]
abbrev dktJ16_grow_2 : List UInt8 := dkwJ16_grow_2 ++ dktJ16_grow_3
def dkwJ16_grow_1 : List UInt8 := [21, 4, 27, 161, 0, 15, 28, 21, 4, 96, 89, 62, 18, 9, 100, 158, 0, 11, 42, 27, 21, 4]
abbrev dktJ16_grow_1 : List UInt8 := dkwJ16_grow_1 ++ dktJ16_grow_2
def dkwJ16_grow_0 : List UInt8 := [42, 180, 0, 3, 190, 61, 28, 16, 64, 162, 0, 9, 28, 5, 96, 167, 0, 6, 28, 4, 122, 54, 4]
abbrev dktJ16_grow_0 : List UInt8 := dkwJ16_grow_0 ++ dktJ16_grow_1
theorem dksJ16_grow_0 : cJ16_grow.data.toList.drop 0 = dktJ16_grow_0 := by decide +kernel
theorem dksJ16_grow_1 : cJ16_grow.data.toList.drop 23 = dktJ16_grow_1 := dk_seg dksJ16_grow_0 23 rfl rfl
theorem dksJ16_grow_2 : cJ16_grow.data.toList.drop 45 = dktJ16_grow_2 := dk_seg dksJ16_grow_1 22 rfl rfl
theorem dksJ16_grow_3 : cJ16_grow.data.toList.drop 69 = dktJ16_grow_3 := dk_seg dksJ16_grow_2 24 rfl rfl
theorem dksJ16_grow_4 : cJ16_grow.data.toList.drop 93 = dktJ16_grow_4 := dk_seg dksJ16_grow_3 24 rfl rfl
theorem dksJ16_grow_5 : cJ16_grow.data.toList.drop 117 = dktJ16_grow_5 := dk_seg dksJ16_grow_4 24 rfl rfl
theorem dksJ16_grow_6 : cJ16_grow.data.toList.drop 140 = dktJ16_grow_6 := dk_seg dksJ16_grow_5 23 rfl rfl
theorem dksJ16_grow_7 : cJ16_grow.data.toList.drop 164 = dktJ16_grow_7 := dk_seg dksJ16_grow_6 24 rfl rfl
theorem dJ16_grow_0 : decode cJ16_grow 0 = .ok (.aload_n 0, 1) := dk_42 (dk_at dksJ16_grow_0 0 rfl rfl)
theorem dJ16_grow_1 : decode cJ16_grow 1 = .ok (.getfield 3, 3) := dk_180 0 3 (dk_at dksJ16_grow_0 1 rfl rfl)
theorem dJ16_grow_4 : decode cJ16_grow 4 = .ok (.arraylength, 1) := dk_190 (dk_at dksJ16_grow_0 4 rfl rfl)
theorem dJ16_grow_5 : decode cJ16_grow 5 = .ok (.istore_n 2, 1) := dk_61 (dk_at dksJ16_grow_0 5 rfl rfl)
theorem dJ16_grow_6 : decode cJ16_grow 6 = .ok (.iload_n 2, 1) := dk_28 (dk_at dksJ16_grow_0 6 rfl rfl)
theorem dJ16_grow_7 : decode cJ16_grow 7 = .ok (.bipush 64, 2) := dk_16 64 (dk_at dksJ16_grow_0 7 rfl rfl)
theorem dJ16_grow_9 : decode cJ16_grow 9 = .ok (.if_icmp .ge 9, 3) := dk_162 0 9 (dk_at dksJ16_grow_0 9 rfl rfl)
theorem dJ16_grow_12 : decode cJ16_grow 12 = .ok (.iload_n 2, 1) := dk_28 (dk_at dksJ16_grow_0 12 rfl rfl)
theorem dJ16_grow_13 : decode cJ16_grow 13 = .ok (.iconst 2, 1) := dk_5 (dk_at dksJ16_grow_0 13 rfl rfl)
theorem dJ16_grow_14 : decode cJ16_grow 14 = .ok (.iadd, 1) := dk_96 (dk_at dksJ16_grow_0 14 rfl rfl)
theorem dJ16_grow_15 : decode cJ16_grow 15 = .ok (.goto 6, 3) := dk_167 0 6 (dk_at dksJ16_grow_0 15 rfl rfl)
theorem dJ16_grow_18 : decode cJ16_grow 18 = .ok (.iload_n 2, 1) := dk_28 (dk_at dksJ16_grow_0 18 rfl rfl)
theorem dJ16_grow_19 : decode cJ16_grow 19 = .ok (.iconst 1, 1) := dk_4 (dk_at dksJ16_grow_0 19 rfl rfl)
theorem dJ16_grow_20 : decode cJ16_grow 20 = .ok (.ishr, 1) := dk_122 (dk_at dksJ16_grow_0 20 rfl rfl)
theorem dJ16_grow_21 : decode cJ16_grow 21 = .ok (.istore 4, 2) := dk_54 4 (dk_at dksJ16_grow_0 21 rfl rfl)
theorem dJ16_grow_23 : decode cJ16_grow 23 = .ok (.iload 4, 2) := dk_21 4 (dk_at dksJ16_grow_1 0 rfl rfl)
theorem dJ16_grow_25 : decode cJ16_grow 25 = .ok (.iload_n 1, 1) := dk_27 (dk_at dksJ16_grow_1 2 rfl rfl)
theorem dJ16_grow_26 : decode cJ16_grow 26 = .ok (.if_icmp .lt 15, 3) := dk_161 0 15 (dk_at dksJ16_grow_1 3 rfl rfl)
theorem dJ16_grow_29 : decode cJ16_grow 29 = .ok (.iload_n 2, 1) := dk_28 (dk_at dksJ16_grow_1 6 rfl rfl)
theorem dJ16_grow_30 : decode cJ16_grow 30 = .ok (.iload 4, 2) := dk_21 4 (dk_at dksJ16_grow_1 7 rfl rfl)
theorem dJ16_grow_32 : decode cJ16_grow 32 = .ok (.iadd, 1) := dk_96 (dk_at dksJ16_grow_1 9 rfl rfl)
theorem dJ16_grow_33 : decode cJ16_grow 33 = .ok (.dup, 1) := dk_89 (dk_at dksJ16_grow_1 10 rfl rfl)
theorem dJ16_grow_34 : decode cJ16_grow 34 = .ok (.istore_n 3, 1) := dk_62 (dk_at dksJ16_grow_1 11 rfl rfl)
theorem dJ16_grow_35 : decode cJ16_grow 35 = .ok (.ldc 9, 2) := dk_18 9 (dk_at dksJ16_grow_1 12 rfl rfl)
theorem dJ16_grow_37 : decode cJ16_grow 37 = .ok (.isub, 1) := dk_100 (dk_at dksJ16_grow_1 14 rfl rfl)
theorem dJ16_grow_38 : decode cJ16_grow 38 = .ok (.ifCond .le 11, 3) := dk_158 0 11 (dk_at dksJ16_grow_1 15 rfl rfl)
theorem dJ16_grow_41 : decode cJ16_grow 41 = .ok (.aload_n 0, 1) := dk_42 (dk_at dksJ16_grow_1 18 rfl rfl)
theorem dJ16_grow_42 : decode cJ16_grow 42 = .ok (.iload_n 1, 1) := dk_27 (dk_at dksJ16_grow_1 19 rfl rfl)
theorem dJ16_grow_43 : decode cJ16_grow 43 = .ok (.iload 4, 2) := dk_21 4 (dk_at dksJ16_grow_1 20 rfl rfl)
theorem dJ16_grow_45 : decode cJ16_grow 45 = .ok (.invokevirtual 10, 3) := dk_182 0 10 (dk_at dksJ16_grow_2 0 rfl rfl)
theorem dJ16_grow_48 : decode cJ16_grow 48 = .ok (.istore_n 3, 1) := dk_62 (dk_at dksJ16_grow_2 3 rfl rfl)
theorem dJ16_grow_49 : decode cJ16_grow 49 = .ok (.aload_n 0, 1) := dk_42 (dk_at dksJ16_grow_2 4 rfl rfl)
theorem dJ16_grow_50 : decode cJ16_grow 50 = .ok (.aload_n 0, 1) := dk_42 (dk_at dksJ16_grow_2 5 rfl rfl)
theorem dJ16_grow_51 : decode cJ16_grow 51 = .ok (.getfield 3, 3) := dk_180 0 3 (dk_at dksJ16_grow_2 6 rfl rfl)
theorem dJ16_grow_54 : decode cJ16_grow 54 = .ok (.iload_n 3, 1) := dk_29 (dk_at dksJ16_grow_2 9 rfl rfl)
theorem dJ16_grow_55 : decode cJ16_grow 55 = .ok (.invokestatic 14, 3) := dk_184 0 14 (dk_at dksJ16_grow_2 10 rfl rfl)
theorem dJ16_grow_58 : decode cJ16_grow 58 = .ok (.dup_x1, 1) := dk_90 (dk_at dksJ16_grow_2 13 rfl rfl)
theorem dJ16_grow_59 : decode cJ16_grow 59 = .ok (.putfield 3, 3) := dk_181 0 3 (dk_at dksJ16_grow_2 14 rfl rfl)
theorem dJ16_grow_62 : decode cJ16_grow 62 = .ok (.astore 5, 2) := dk_58 5 (dk_at dksJ16_grow_2 17 rfl rfl)
theorem dJ16_grow_64 : decode cJ16_grow 64 = .ok (.aload_n 0, 1) := dk_42 (dk_at dksJ16_grow_2 19 rfl rfl)
theorem dJ16_grow_65 : decode cJ16_grow 65 = .ok (.getfield 20, 3) := dk_180 0 20 (dk_at dksJ16_grow_2 20 rfl rfl)
theorem dJ16_grow_68 : decode cJ16_grow 68 = .ok (.aload_n 0, 1) := dk_42 (dk_at dksJ16_grow_2 23 rfl rfl)
theorem dJ16_grow_69 : decode cJ16_grow 69 = .ok (.getfield 24, 3) := dk_180 0 24 (dk_at dksJ16_grow_3 0 rfl rfl)
theorem dJ16_grow_72 : decode cJ16_grow 72 = .ok (.if_icmp .lt 24, 3) := dk_161 0 24 (dk_at dksJ16_grow_3 3 rfl rfl)
theorem dJ16_grow_75 : decode cJ16_grow 75 = .ok (.aload_n 0, 1) := dk_42 (dk_at dksJ16_grow_3 6 rfl rfl)
theorem dJ16_grow_76 : decode cJ16_grow 76 = .ok (.getfield 20, 3) := dk_180 0 20 (dk_at dksJ16_grow_3 7 rfl rfl)
theorem dJ16_grow_79 : decode cJ16_grow 79 = .ok (.aload_n 0, 1) := dk_42 (dk_at dksJ16_grow_3 10 rfl rfl)
theorem dJ16_grow_80 : decode cJ16_grow 80 = .ok (.getfield 24, 3) := dk_180 0 24 (dk_at dksJ16_grow_3 11 rfl rfl)
theorem dJ16_grow_83 : decode cJ16_grow 83 = .ok (.if_icmp .ne 81, 3) := dk_160 0 81 (dk_at dksJ16_grow_3 14 rfl rfl)
theorem dJ16_grow_86 : decode cJ16_grow 86 = .ok (.aload 5, 2) := dk_25 5 (dk_at dksJ16_grow_3 17 rfl rfl)
theorem dJ16_grow_88 : decode cJ16_grow 88 = .ok (.aload_n 0, 1) := dk_42 (dk_at dksJ16_grow_3 19 rfl rfl)
theorem dJ16_grow_89 : decode cJ16_grow 89 = .ok (.getfield 24, 3) := dk_180 0 24 (dk_at dksJ16_grow_3 20 rfl rfl)
theorem dJ16_grow_92 : decode cJ16_grow 92 = .ok (.aaload, 1) := dk_50 (dk_at dksJ16_grow_3 23 rfl rfl)
theorem dJ16_grow_93 : decode cJ16_grow 93 = .ok (.ifnull 71, 3) := dk_198 0 71 (dk_at dksJ16_grow_4 0 rfl rfl)
theorem dJ16_grow_96 : decode cJ16_grow 96 = .ok (.iload_n 3, 1) := dk_29 (dk_at dksJ16_grow_4 3 rfl rfl)
theorem dJ16_grow_97 : decode cJ16_grow 97 = .ok (.iload_n 2, 1) := dk_28 (dk_at dksJ16_grow_4 4 rfl rfl)
theorem dJ16_grow_98 : decode cJ16_grow 98 = .ok (.isub, 1) := dk_100 (dk_at dksJ16_grow_4 5 rfl rfl)
theorem dJ16_grow_99 : decode cJ16_grow 99 = .ok (.istore 6, 2) := dk_54 6 (dk_at dksJ16_grow_4 6 rfl rfl)
theorem dJ16_grow_101 : decode cJ16_grow 101 = .ok (.aload 5, 2) := dk_25 5 (dk_at dksJ16_grow_4 8 rfl rfl)
theorem dJ16_grow_103 : decode cJ16_grow 103 = .ok (.aload_n 0, 1) := dk_42 (dk_at dksJ16_grow_4 10 rfl rfl)
theorem dJ16_grow_104 : decode cJ16_grow 104 = .ok (.getfield 24, 3) := dk_180 0 24 (dk_at dksJ16_grow_4 11 rfl rfl)
theorem dJ16_grow_107 : decode cJ16_grow 107 = .ok (.aload 5, 2) := dk_25 5 (dk_at dksJ16_grow_4 14 rfl rfl)
theorem dJ16_grow_109 : decode cJ16_grow 109 = .ok (.aload_n 0, 1) := dk_42 (dk_at dksJ16_grow_4 16 rfl rfl)
theorem dJ16_grow_110 : decode cJ16_grow 110 = .ok (.getfield 24, 3) := dk_180 0 24 (dk_at dksJ16_grow_4 17 rfl rfl)
theorem dJ16_grow_113 : decode cJ16_grow 113 = .ok (.iload 6, 2) := dk_21 6 (dk_at dksJ16_grow_4 20 rfl rfl)
theorem dJ16_grow_115 : decode cJ16_grow 115 = .ok (.iadd, 1) := dk_96 (dk_at dksJ16_grow_4 22 rfl rfl)
theorem dJ16_grow_116 : decode cJ16_grow 116 = .ok (.iload_n 2, 1) := dk_28 (dk_at dksJ16_grow_4 23 rfl rfl)
theorem dJ16_grow_117 : decode cJ16_grow 117 = .ok (.aload_n 0, 1) := dk_42 (dk_at dksJ16_grow_5 0 rfl rfl)
theorem dJ16_grow_118 : decode cJ16_grow 118 = .ok (.getfield 24, 3) := dk_180 0 24 (dk_at dksJ16_grow_5 1 rfl rfl)
theorem dJ16_grow_121 : decode cJ16_grow 121 = .ok (.isub, 1) := dk_100 (dk_at dksJ16_grow_5 4 rfl rfl)
theorem dJ16_grow_122 : decode cJ16_grow 122 = .ok (.invokestatic 27, 3) := dk_184 0 27 (dk_at dksJ16_grow_5 5 rfl rfl)
theorem dJ16_grow_125 : decode cJ16_grow 125 = .ok (.aload_n 0, 1) := dk_42 (dk_at dksJ16_grow_5 8 rfl rfl)
theorem dJ16_grow_126 : decode cJ16_grow 126 = .ok (.getfield 24, 3) := dk_180 0 24 (dk_at dksJ16_grow_5 9 rfl rfl)
theorem dJ16_grow_129 : decode cJ16_grow 129 = .ok (.istore 7, 2) := dk_54 7 (dk_at dksJ16_grow_5 12 rfl rfl)
theorem dJ16_grow_131 : decode cJ16_grow 131 = .ok (.aload_n 0, 1) := dk_42 (dk_at dksJ16_grow_5 14 rfl rfl)
theorem dJ16_grow_132 : decode cJ16_grow 132 = .ok (.dup, 1) := dk_89 (dk_at dksJ16_grow_5 15 rfl rfl)
theorem dJ16_grow_133 : decode cJ16_grow 133 = .ok (.getfield 24, 3) := dk_180 0 24 (dk_at dksJ16_grow_5 16 rfl rfl)
theorem dJ16_grow_136 : decode cJ16_grow 136 = .ok (.iload 6, 2) := dk_21 6 (dk_at dksJ16_grow_5 19 rfl rfl)
theorem dJ16_grow_138 : decode cJ16_grow 138 = .ok (.iadd, 1) := dk_96 (dk_at dksJ16_grow_5 21 rfl rfl)
theorem dJ16_grow_139 : decode cJ16_grow 139 = .ok (.dup_x1, 1) := dk_90 (dk_at dksJ16_grow_5 22 rfl rfl)
theorem dJ16_grow_140 : decode cJ16_grow 140 = .ok (.putfield 24, 3) := dk_181 0 24 (dk_at dksJ16_grow_6 0 rfl rfl)
theorem dJ16_grow_143 : decode cJ16_grow 143 = .ok (.istore 8, 2) := dk_54 8 (dk_at dksJ16_grow_6 3 rfl rfl)
theorem dJ16_grow_145 : decode cJ16_grow 145 = .ok (.iload 7, 2) := dk_21 7 (dk_at dksJ16_grow_6 5 rfl rfl)
theorem dJ16_grow_147 : decode cJ16_grow 147 = .ok (.iload 8, 2) := dk_21 8 (dk_at dksJ16_grow_6 7 rfl rfl)
theorem dJ16_grow_149 : decode cJ16_grow 149 = .ok (.if_icmp .ge 15, 3) := dk_162 0 15 (dk_at dksJ16_grow_6 9 rfl rfl)
theorem dJ16_grow_152 : decode cJ16_grow 152 = .ok (.aload 5, 2) := dk_25 5 (dk_at dksJ16_grow_6 12 rfl rfl)
theorem dJ16_grow_154 : decode cJ16_grow 154 = .ok (.iload 7, 2) := dk_21 7 (dk_at dksJ16_grow_6 14 rfl rfl)
theorem dJ16_grow_156 : decode cJ16_grow 156 = .ok (.aconst_null, 1) := dk_1 (dk_at dksJ16_grow_6 16 rfl rfl)
theorem dJ16_grow_157 : decode cJ16_grow 157 = .ok (.aastore, 1) := dk_83 (dk_at dksJ16_grow_6 17 rfl rfl)
theorem dJ16_grow_158 : decode cJ16_grow 158 = .ok (.iinc 7 1, 3) := dk_132 7 1 (dk_at dksJ16_grow_6 18 rfl rfl)
theorem dJ16_grow_161 : decode cJ16_grow 161 = .ok (.goto (-16), 3) := dk_167 255 240 (dk_at dksJ16_grow_6 21 rfl rfl)
theorem dJ16_grow_164 : decode cJ16_grow 164 = .ok (.return_, 1) := dk_177 (dk_at dksJ16_grow_7 0 rfl rfl)
abbrev cJ16_newCapacity : ByteArray := prog_41_method_2_code
def yJ16_newCapacity : MethodName := ⟨RJ16, "newCapacity", "(II)I"⟩
def dkwJ16_newCapacity_2 : List UInt8 := [18, 9, 100, 156, 0, 9, 29, 28, 96, 167, 0, 5, 18, 9, 172]
abbrev dktJ16_newCapacity_2 : List UInt8 := dkwJ16_newCapacity_2 ++ []
def dkwJ16_newCapacity_1 : List UInt8 := [187, 0, 33, 89, 18, 35, 183, 0, 37, 191, 18, 41, 172, 27, 28, 164, 0, 6, 21, 4, 172, 29, 28, 96]
abbrev dktJ16_newCapacity_1 : List UInt8 := dkwJ16_newCapacity_1 ++ dktJ16_newCapacity_2
def dkwJ16_newCapacity_0 : List UInt8 := [42, 180, 0, 3, 190, 62, 29, 27, 96, 89, 54, 4, 18, 9, 100, 158, 0, 21, 21, 4, 156, 0, 13]
abbrev dktJ16_newCapacity_0 : List UInt8 := dkwJ16_newCapacity_0 ++ dktJ16_newCapacity_1
theorem dksJ16_newCapacity_0 : cJ16_newCapacity.data.toList.drop 0 = dktJ16_newCapacity_0 := by decide +kernel
theorem dksJ16_newCapacity_1 : cJ16_newCapacity.data.toList.drop 23 = dktJ16_newCapacity_1 := dk_seg dksJ16_newCapacity_0 23 rfl rfl
theorem dksJ16_newCapacity_2 : cJ16_newCapacity.data.toList.drop 47 = dktJ16_newCapacity_2 := dk_seg dksJ16_newCapacity_1 24 rfl rfl
theorem dJ16_newCapacity_0 : decode cJ16_newCapacity 0 = .ok (.aload_n 0, 1) := dk_42 (dk_at dksJ16_newCapacity_0 0 rfl rfl)
theorem dJ16_newCapacity_1 : decode cJ16_newCapacity 1 = .ok (.getfield 3, 3) := dk_180 0 3 (dk_at dksJ16_newCapacity_0 1 rfl rfl)
theorem dJ16_newCapacity_4 : decode cJ16_newCapacity 4 = .ok (.arraylength, 1) := dk_190 (dk_at dksJ16_newCapacity_0 4 rfl rfl)
theorem dJ16_newCapacity_5 : decode cJ16_newCapacity 5 = .ok (.istore_n 3, 1) := dk_62 (dk_at dksJ16_newCapacity_0 5 rfl rfl)
theorem dJ16_newCapacity_6 : decode cJ16_newCapacity 6 = .ok (.iload_n 3, 1) := dk_29 (dk_at dksJ16_newCapacity_0 6 rfl rfl)
theorem dJ16_newCapacity_7 : decode cJ16_newCapacity 7 = .ok (.iload_n 1, 1) := dk_27 (dk_at dksJ16_newCapacity_0 7 rfl rfl)
theorem dJ16_newCapacity_8 : decode cJ16_newCapacity 8 = .ok (.iadd, 1) := dk_96 (dk_at dksJ16_newCapacity_0 8 rfl rfl)
theorem dJ16_newCapacity_9 : decode cJ16_newCapacity 9 = .ok (.dup, 1) := dk_89 (dk_at dksJ16_newCapacity_0 9 rfl rfl)
theorem dJ16_newCapacity_10 : decode cJ16_newCapacity 10 = .ok (.istore 4, 2) := dk_54 4 (dk_at dksJ16_newCapacity_0 10 rfl rfl)
theorem dJ16_newCapacity_12 : decode cJ16_newCapacity 12 = .ok (.ldc 9, 2) := dk_18 9 (dk_at dksJ16_newCapacity_0 12 rfl rfl)
theorem dJ16_newCapacity_14 : decode cJ16_newCapacity 14 = .ok (.isub, 1) := dk_100 (dk_at dksJ16_newCapacity_0 14 rfl rfl)
theorem dJ16_newCapacity_15 : decode cJ16_newCapacity 15 = .ok (.ifCond .le 21, 3) := dk_158 0 21 (dk_at dksJ16_newCapacity_0 15 rfl rfl)
theorem dJ16_newCapacity_18 : decode cJ16_newCapacity 18 = .ok (.iload 4, 2) := dk_21 4 (dk_at dksJ16_newCapacity_0 18 rfl rfl)
theorem dJ16_newCapacity_20 : decode cJ16_newCapacity 20 = .ok (.ifCond .ge 13, 3) := dk_156 0 13 (dk_at dksJ16_newCapacity_0 20 rfl rfl)
theorem dJ16_newCapacity_23 : decode cJ16_newCapacity 23 = .ok (.new 33, 3) := dk_187 0 33 (dk_at dksJ16_newCapacity_1 0 rfl rfl)
theorem dJ16_newCapacity_26 : decode cJ16_newCapacity 26 = .ok (.dup, 1) := dk_89 (dk_at dksJ16_newCapacity_1 3 rfl rfl)
theorem dJ16_newCapacity_27 : decode cJ16_newCapacity 27 = .ok (.ldc 35, 2) := dk_18 35 (dk_at dksJ16_newCapacity_1 4 rfl rfl)
theorem dJ16_newCapacity_29 : decode cJ16_newCapacity 29 = .ok (.invokespecial 37, 3) := dk_183 0 37 (dk_at dksJ16_newCapacity_1 6 rfl rfl)
theorem dJ16_newCapacity_32 : decode cJ16_newCapacity 32 = .ok (.athrow, 1) := dk_191 (dk_at dksJ16_newCapacity_1 9 rfl rfl)
theorem dJ16_newCapacity_33 : decode cJ16_newCapacity 33 = .ok (.ldc 41, 2) := dk_18 41 (dk_at dksJ16_newCapacity_1 10 rfl rfl)
theorem dJ16_newCapacity_35 : decode cJ16_newCapacity 35 = .ok (.ireturn, 1) := dk_172 (dk_at dksJ16_newCapacity_1 12 rfl rfl)
theorem dJ16_newCapacity_36 : decode cJ16_newCapacity 36 = .ok (.iload_n 1, 1) := dk_27 (dk_at dksJ16_newCapacity_1 13 rfl rfl)
theorem dJ16_newCapacity_37 : decode cJ16_newCapacity 37 = .ok (.iload_n 2, 1) := dk_28 (dk_at dksJ16_newCapacity_1 14 rfl rfl)
theorem dJ16_newCapacity_38 : decode cJ16_newCapacity 38 = .ok (.if_icmp .le 6, 3) := dk_164 0 6 (dk_at dksJ16_newCapacity_1 15 rfl rfl)
theorem dJ16_newCapacity_41 : decode cJ16_newCapacity 41 = .ok (.iload 4, 2) := dk_21 4 (dk_at dksJ16_newCapacity_1 18 rfl rfl)
theorem dJ16_newCapacity_43 : decode cJ16_newCapacity 43 = .ok (.ireturn, 1) := dk_172 (dk_at dksJ16_newCapacity_1 20 rfl rfl)
theorem dJ16_newCapacity_44 : decode cJ16_newCapacity 44 = .ok (.iload_n 3, 1) := dk_29 (dk_at dksJ16_newCapacity_1 21 rfl rfl)
theorem dJ16_newCapacity_45 : decode cJ16_newCapacity 45 = .ok (.iload_n 2, 1) := dk_28 (dk_at dksJ16_newCapacity_1 22 rfl rfl)
theorem dJ16_newCapacity_46 : decode cJ16_newCapacity 46 = .ok (.iadd, 1) := dk_96 (dk_at dksJ16_newCapacity_1 23 rfl rfl)
theorem dJ16_newCapacity_47 : decode cJ16_newCapacity 47 = .ok (.ldc 9, 2) := dk_18 9 (dk_at dksJ16_newCapacity_2 0 rfl rfl)
theorem dJ16_newCapacity_49 : decode cJ16_newCapacity 49 = .ok (.isub, 1) := dk_100 (dk_at dksJ16_newCapacity_2 2 rfl rfl)
theorem dJ16_newCapacity_50 : decode cJ16_newCapacity 50 = .ok (.ifCond .ge 9, 3) := dk_156 0 9 (dk_at dksJ16_newCapacity_2 3 rfl rfl)
theorem dJ16_newCapacity_53 : decode cJ16_newCapacity 53 = .ok (.iload_n 3, 1) := dk_29 (dk_at dksJ16_newCapacity_2 6 rfl rfl)
theorem dJ16_newCapacity_54 : decode cJ16_newCapacity 54 = .ok (.iload_n 2, 1) := dk_28 (dk_at dksJ16_newCapacity_2 7 rfl rfl)
theorem dJ16_newCapacity_55 : decode cJ16_newCapacity 55 = .ok (.iadd, 1) := dk_96 (dk_at dksJ16_newCapacity_2 8 rfl rfl)
theorem dJ16_newCapacity_56 : decode cJ16_newCapacity 56 = .ok (.goto 5, 3) := dk_167 0 5 (dk_at dksJ16_newCapacity_2 9 rfl rfl)
theorem dJ16_newCapacity_59 : decode cJ16_newCapacity 59 = .ok (.ldc 9, 2) := dk_18 9 (dk_at dksJ16_newCapacity_2 12 rfl rfl)
theorem dJ16_newCapacity_61 : decode cJ16_newCapacity 61 = .ok (.ireturn, 1) := dk_172 (dk_at dksJ16_newCapacity_2 14 rfl rfl)
abbrev cJ16_isEmpty : ByteArray := prog_41_method_38_code
def yJ16_isEmpty : MethodName := ⟨RJ16, "isEmpty", "()Z"⟩
def dkwJ16_isEmpty_0 : List UInt8 := [42, 180, 0, 24, 42, 180, 0, 20, 160, 0, 7, 4, 167, 0, 4, 3, 172]
abbrev dktJ16_isEmpty_0 : List UInt8 := dkwJ16_isEmpty_0 ++ []
theorem dksJ16_isEmpty_0 : cJ16_isEmpty.data.toList.drop 0 = dktJ16_isEmpty_0 := by decide +kernel
theorem dJ16_isEmpty_0 : decode cJ16_isEmpty 0 = .ok (.aload_n 0, 1) := dk_42 (dk_at dksJ16_isEmpty_0 0 rfl rfl)
theorem dJ16_isEmpty_1 : decode cJ16_isEmpty 1 = .ok (.getfield 24, 3) := dk_180 0 24 (dk_at dksJ16_isEmpty_0 1 rfl rfl)
theorem dJ16_isEmpty_4 : decode cJ16_isEmpty 4 = .ok (.aload_n 0, 1) := dk_42 (dk_at dksJ16_isEmpty_0 4 rfl rfl)
theorem dJ16_isEmpty_5 : decode cJ16_isEmpty 5 = .ok (.getfield 20, 3) := dk_180 0 20 (dk_at dksJ16_isEmpty_0 5 rfl rfl)
theorem dJ16_isEmpty_8 : decode cJ16_isEmpty 8 = .ok (.if_icmp .ne 7, 3) := dk_160 0 7 (dk_at dksJ16_isEmpty_0 8 rfl rfl)
theorem dJ16_isEmpty_11 : decode cJ16_isEmpty 11 = .ok (.iconst 1, 1) := dk_4 (dk_at dksJ16_isEmpty_0 11 rfl rfl)
theorem dJ16_isEmpty_12 : decode cJ16_isEmpty 12 = .ok (.goto 4, 3) := dk_167 0 4 (dk_at dksJ16_isEmpty_0 12 rfl rfl)
theorem dJ16_isEmpty_15 : decode cJ16_isEmpty 15 = .ok (.iconst 0, 1) := dk_3 (dk_at dksJ16_isEmpty_0 15 rfl rfl)
theorem dJ16_isEmpty_16 : decode cJ16_isEmpty 16 = .ok (.ireturn, 1) := dk_172 (dk_at dksJ16_isEmpty_0 16 rfl rfl)
abbrev cJ16_pollLast : ByteArray := prog_41_method_21_code
def yJ16_pollLast : MethodName := ⟨RJ16, "pollLast", "()Ljava/lang/Object;"⟩
def dkwJ16_pollLast_1 : List UInt8 := [198, 0, 12, 43, 42, 28, 90, 181, 0, 20, 1, 83, 45, 176]
abbrev dktJ16_pollLast_1 : List UInt8 := dkwJ16_pollLast_1 ++ []
def dkwJ16_pollLast_0 : List UInt8 := [42, 180, 0, 3, 89, 76, 42, 180, 0, 20, 43, 190, 184, 0, 68, 89, 61, 184, 0, 103, 78, 45]
abbrev dktJ16_pollLast_0 : List UInt8 := dkwJ16_pollLast_0 ++ dktJ16_pollLast_1
theorem dksJ16_pollLast_0 : cJ16_pollLast.data.toList.drop 0 = dktJ16_pollLast_0 := by decide +kernel
theorem dksJ16_pollLast_1 : cJ16_pollLast.data.toList.drop 22 = dktJ16_pollLast_1 := dk_seg dksJ16_pollLast_0 22 rfl rfl
theorem dJ16_pollLast_0 : decode cJ16_pollLast 0 = .ok (.aload_n 0, 1) := dk_42 (dk_at dksJ16_pollLast_0 0 rfl rfl)
theorem dJ16_pollLast_1 : decode cJ16_pollLast 1 = .ok (.getfield 3, 3) := dk_180 0 3 (dk_at dksJ16_pollLast_0 1 rfl rfl)
theorem dJ16_pollLast_4 : decode cJ16_pollLast 4 = .ok (.dup, 1) := dk_89 (dk_at dksJ16_pollLast_0 4 rfl rfl)
theorem dJ16_pollLast_5 : decode cJ16_pollLast 5 = .ok (.astore_n 1, 1) := dk_76 (dk_at dksJ16_pollLast_0 5 rfl rfl)
theorem dJ16_pollLast_6 : decode cJ16_pollLast 6 = .ok (.aload_n 0, 1) := dk_42 (dk_at dksJ16_pollLast_0 6 rfl rfl)
theorem dJ16_pollLast_7 : decode cJ16_pollLast 7 = .ok (.getfield 20, 3) := dk_180 0 20 (dk_at dksJ16_pollLast_0 7 rfl rfl)
theorem dJ16_pollLast_10 : decode cJ16_pollLast 10 = .ok (.aload_n 1, 1) := dk_43 (dk_at dksJ16_pollLast_0 10 rfl rfl)
theorem dJ16_pollLast_11 : decode cJ16_pollLast 11 = .ok (.arraylength, 1) := dk_190 (dk_at dksJ16_pollLast_0 11 rfl rfl)
theorem dJ16_pollLast_12 : decode cJ16_pollLast 12 = .ok (.invokestatic 68, 3) := dk_184 0 68 (dk_at dksJ16_pollLast_0 12 rfl rfl)
theorem dJ16_pollLast_15 : decode cJ16_pollLast 15 = .ok (.dup, 1) := dk_89 (dk_at dksJ16_pollLast_0 15 rfl rfl)
theorem dJ16_pollLast_16 : decode cJ16_pollLast 16 = .ok (.istore_n 2, 1) := dk_61 (dk_at dksJ16_pollLast_0 16 rfl rfl)
theorem dJ16_pollLast_17 : decode cJ16_pollLast 17 = .ok (.invokestatic 103, 3) := dk_184 0 103 (dk_at dksJ16_pollLast_0 17 rfl rfl)
theorem dJ16_pollLast_20 : decode cJ16_pollLast 20 = .ok (.astore_n 3, 1) := dk_78 (dk_at dksJ16_pollLast_0 20 rfl rfl)
theorem dJ16_pollLast_21 : decode cJ16_pollLast 21 = .ok (.aload_n 3, 1) := dk_45 (dk_at dksJ16_pollLast_0 21 rfl rfl)
theorem dJ16_pollLast_22 : decode cJ16_pollLast 22 = .ok (.ifnull 12, 3) := dk_198 0 12 (dk_at dksJ16_pollLast_1 0 rfl rfl)
theorem dJ16_pollLast_25 : decode cJ16_pollLast 25 = .ok (.aload_n 1, 1) := dk_43 (dk_at dksJ16_pollLast_1 3 rfl rfl)
theorem dJ16_pollLast_26 : decode cJ16_pollLast 26 = .ok (.aload_n 0, 1) := dk_42 (dk_at dksJ16_pollLast_1 4 rfl rfl)
theorem dJ16_pollLast_27 : decode cJ16_pollLast 27 = .ok (.iload_n 2, 1) := dk_28 (dk_at dksJ16_pollLast_1 5 rfl rfl)
theorem dJ16_pollLast_28 : decode cJ16_pollLast 28 = .ok (.dup_x1, 1) := dk_90 (dk_at dksJ16_pollLast_1 6 rfl rfl)
theorem dJ16_pollLast_29 : decode cJ16_pollLast 29 = .ok (.putfield 20, 3) := dk_181 0 20 (dk_at dksJ16_pollLast_1 7 rfl rfl)
theorem dJ16_pollLast_32 : decode cJ16_pollLast 32 = .ok (.aconst_null, 1) := dk_1 (dk_at dksJ16_pollLast_1 10 rfl rfl)
theorem dJ16_pollLast_33 : decode cJ16_pollLast 33 = .ok (.aastore, 1) := dk_83 (dk_at dksJ16_pollLast_1 11 rfl rfl)
theorem dJ16_pollLast_34 : decode cJ16_pollLast 34 = .ok (.aload_n 3, 1) := dk_45 (dk_at dksJ16_pollLast_1 12 rfl rfl)
theorem dJ16_pollLast_35 : decode cJ16_pollLast 35 = .ok (.areturn, 1) := dk_176 (dk_at dksJ16_pollLast_1 13 rfl rfl)
abbrev cJ16_dec : ByteArray := prog_41_method_7_code
def yJ16_dec : MethodName := ⟨RJ16, "dec", "(II)I"⟩
def dkwJ16_dec_0 : List UInt8 := [132, 0, 255, 26, 156, 0, 7, 27, 4, 100, 59, 26, 172]
abbrev dktJ16_dec_0 : List UInt8 := dkwJ16_dec_0 ++ []
theorem dksJ16_dec_0 : cJ16_dec.data.toList.drop 0 = dktJ16_dec_0 := by decide +kernel
theorem dJ16_dec_0 : decode cJ16_dec 0 = .ok (.iinc 0 (-1), 3) := dk_132 0 255 (dk_at dksJ16_dec_0 0 rfl rfl)
theorem dJ16_dec_3 : decode cJ16_dec 3 = .ok (.iload_n 0, 1) := dk_26 (dk_at dksJ16_dec_0 3 rfl rfl)
theorem dJ16_dec_4 : decode cJ16_dec 4 = .ok (.ifCond .ge 7, 3) := dk_156 0 7 (dk_at dksJ16_dec_0 4 rfl rfl)
theorem dJ16_dec_7 : decode cJ16_dec 7 = .ok (.iload_n 1, 1) := dk_27 (dk_at dksJ16_dec_0 7 rfl rfl)
theorem dJ16_dec_8 : decode cJ16_dec 8 = .ok (.iconst 1, 1) := dk_4 (dk_at dksJ16_dec_0 8 rfl rfl)
theorem dJ16_dec_9 : decode cJ16_dec 9 = .ok (.isub, 1) := dk_100 (dk_at dksJ16_dec_0 9 rfl rfl)
theorem dJ16_dec_10 : decode cJ16_dec 10 = .ok (.istore_n 0, 1) := dk_59 (dk_at dksJ16_dec_0 10 rfl rfl)
theorem dJ16_dec_11 : decode cJ16_dec 11 = .ok (.iload_n 0, 1) := dk_26 (dk_at dksJ16_dec_0 11 rfl rfl)
theorem dJ16_dec_12 : decode cJ16_dec 12 = .ok (.ireturn, 1) := dk_172 (dk_at dksJ16_dec_0 12 rfl rfl)
theorem q155 : (Jvm.Cond.initialized "java/util/ArrayDeque") ∈ lw_all := lw_g (lw_at lw_m1 26 rfl) rfl
theorem q302 : (Jvm.Cond.selects "java/util/ArrayDeque" ({ cls := "java/lang/Object", name := "getClass", desc := "()Ljava/lang/Class;" } : Jvm.MethodName) ({ cls := "java/lang/Object", name := "getClass", desc := "()Ljava/lang/Class;" } : Jvm.MethodName)) ∈ lw_all := lw_g (lw_at lw_m1 173 rfl) rfl
theorem q642 : (Jvm.Cond.instantiable "java/util/ArrayDeque" (3 : Nat)) ∈ lw_all := lw_g (lw_at lw_m3 33 rfl) rfl
theorem q644 : (Jvm.Cond.instanceMethod ({ cls := "java/util/ArrayDeque", name := "<init>", desc := "()V" } : Jvm.MethodName)) ∈ lw_all := lw_g (lw_at lw_m3 35 rfl) rfl
theorem q645 : (Jvm.Cond.code ({ cls := "java/util/ArrayDeque", name := "<init>", desc := "()V" } : Jvm.MethodName) prog_41_method_3_code (1 : Nat) (Option.none : Option Jvm.ClassFile.FieldType)) ∈ lw_all := lw_g (lw_at lw_m3 36 rfl) rfl
theorem q646 : (Jvm.Cond.methodLink "java/util/ArrayDeque" (42 : Nat) ({ cls := "java/util/AbstractCollection", name := "<init>", desc := "()V" } : Jvm.MethodName)) ∈ lw_all := lw_g (lw_at lw_m3 37 rfl) rfl
theorem q647 : (Jvm.Cond.classLink "java/util/ArrayDeque" (47 : Nat) "java/lang/Object") ∈ lw_all := lw_g (lw_at lw_m3 38 rfl) rfl
theorem q648 : (Jvm.Cond.fieldLink "java/util/ArrayDeque" (3 : Nat) "java/util/ArrayDeque" "elements" "[Ljava/lang/Object;") ∈ lw_all := lw_g (lw_at lw_m3 39 rfl) rfl
theorem q649 : (Jvm.Cond.fieldLink "java/util/ArrayDeque" (24 : Nat) "java/util/ArrayDeque" "head" "I") ∈ lw_all := lw_g (lw_at lw_m3 40 rfl) rfl
theorem q650 : (Jvm.Cond.fieldLink "java/util/ArrayDeque" (20 : Nat) "java/util/ArrayDeque" "tail" "I") ∈ lw_all := lw_g (lw_at lw_m3 41 rfl) rfl
theorem q651 : (Jvm.Cond.lays "java/util/ArrayDeque" "java/util/ArrayDeque" "elements" "[Ljava/lang/Object;") ∈ lw_all := lw_g (lw_at lw_m3 42 rfl) rfl
theorem q652 : (Jvm.Cond.soleField "java/util/ArrayDeque" "elements") ∈ lw_all := lw_g (lw_at lw_m3 43 rfl) rfl
theorem q653 : (Jvm.Cond.lays "java/util/ArrayDeque" "java/util/ArrayDeque" "head" "I") ∈ lw_all := lw_g (lw_at lw_m3 44 rfl) rfl
theorem q654 : (Jvm.Cond.soleField "java/util/ArrayDeque" "head") ∈ lw_all := lw_g (lw_at lw_m3 45 rfl) rfl
theorem q655 : (Jvm.Cond.lays "java/util/ArrayDeque" "java/util/ArrayDeque" "tail" "I") ∈ lw_all := lw_g (lw_at lw_m3 46 rfl) rfl
theorem q656 : (Jvm.Cond.soleField "java/util/ArrayDeque" "tail") ∈ lw_all := lw_g (lw_at lw_m3 47 rfl) rfl
theorem q657 : (Jvm.Cond.superclass "java/util/ArrayDeque" "java/util/AbstractCollection") ∈ lw_all := lw_g (lw_at lw_m3 48 rfl) rfl
theorem q1448 : (Jvm.Cond.instanceMethod ({ cls := "java/util/ArrayDeque", name := "clear", desc := "()V" } : Jvm.MethodName)) ∈ lw_all := lw_g (lw_at lw_m6 119 rfl) rfl
theorem q1449 : (Jvm.Cond.selects "java/util/ArrayDeque" ({ cls := "java/util/ArrayDeque", name := "clear", desc := "()V" } : Jvm.MethodName) ({ cls := "java/util/ArrayDeque", name := "clear", desc := "()V" } : Jvm.MethodName)) ∈ lw_all := lw_g (lw_at lw_m6 120 rfl) rfl
theorem q1450 : (Jvm.Cond.code ({ cls := "java/util/ArrayDeque", name := "clear", desc := "()V" } : Jvm.MethodName) prog_41_method_53_code (1 : Nat) (Option.none : Option Jvm.ClassFile.FieldType)) ∈ lw_all := lw_g (lw_at lw_m6 121 rfl) rfl
theorem q1451 : (Jvm.Cond.methodLink "java/util/ArrayDeque" (181 : Nat) ({ cls := "java/util/ArrayDeque", name := "circularClear", desc := "([Ljava/lang/Object;II)V" } : Jvm.MethodName)) ∈ lw_all := lw_g (lw_at lw_m6 122 rfl) rfl
theorem q1452 : (Jvm.Cond.static ({ cls := "java/util/ArrayDeque", name := "circularClear", desc := "([Ljava/lang/Object;II)V" } : Jvm.MethodName)) ∈ lw_all := lw_g (lw_at lw_m6 123 rfl) rfl
theorem q1453 : (Jvm.Cond.code ({ cls := "java/util/ArrayDeque", name := "circularClear", desc := "([Ljava/lang/Object;II)V" } : Jvm.MethodName) prog_41_method_54_code (4 : Nat) (Option.none : Option Jvm.ClassFile.FieldType)) ∈ lw_all := lw_g (lw_at lw_m6 124 rfl) rfl
theorem q1488 : (Jvm.Cond.instanceMethod ({ cls := "java/util/ArrayDeque", name := "size", desc := "()I" } : Jvm.MethodName)) ∈ lw_all := lw_g (lw_at lw_m6 159 rfl) rfl
theorem q1489 : (Jvm.Cond.selects "java/util/ArrayDeque" ({ cls := "java/util/ArrayDeque", name := "size", desc := "()I" } : Jvm.MethodName) ({ cls := "java/util/ArrayDeque", name := "size", desc := "()I" } : Jvm.MethodName)) ∈ lw_all := lw_g (lw_at lw_m6 160 rfl) rfl
theorem q1490 : (Jvm.Cond.code ({ cls := "java/util/ArrayDeque", name := "size", desc := "()I" } : Jvm.MethodName) prog_41_method_37_code (1 : Nat) (Option.some Jvm.ClassFile.FieldType.int)) ∈ lw_all := lw_g (lw_at lw_m6 161 rfl) rfl
theorem q1491 : (Jvm.Cond.methodLink "java/util/ArrayDeque" (127 : Nat) ({ cls := "java/util/ArrayDeque", name := "sub", desc := "(III)I" } : Jvm.MethodName)) ∈ lw_all := lw_g (lw_at lw_m6 162 rfl) rfl
theorem q1492 : (Jvm.Cond.static ({ cls := "java/util/ArrayDeque", name := "sub", desc := "(III)I" } : Jvm.MethodName)) ∈ lw_all := lw_g (lw_at lw_m6 163 rfl) rfl
theorem q1493 : (Jvm.Cond.code ({ cls := "java/util/ArrayDeque", name := "sub", desc := "(III)I" } : Jvm.MethodName) prog_41_method_9_code (3 : Nat) (Option.some Jvm.ClassFile.FieldType.int)) ∈ lw_all := lw_g (lw_at lw_m6 164 rfl) rfl
theorem q1495 : (Jvm.Cond.instanceMethod ({ cls := "java/util/ArrayDeque", name := "pollFirst", desc := "()Ljava/lang/Object;" } : Jvm.MethodName)) ∈ lw_all := lw_g (lw_at lw_m6 166 rfl) rfl
theorem q1496 : (Jvm.Cond.selects "java/util/ArrayDeque" ({ cls := "java/util/ArrayDeque", name := "pollFirst", desc := "()Ljava/lang/Object;" } : Jvm.MethodName) ({ cls := "java/util/ArrayDeque", name := "pollFirst", desc := "()Ljava/lang/Object;" } : Jvm.MethodName)) ∈ lw_all := lw_g (lw_at lw_m6 167 rfl) rfl
theorem q1497 : (Jvm.Cond.code ({ cls := "java/util/ArrayDeque", name := "pollFirst", desc := "()Ljava/lang/Object;" } : Jvm.MethodName) prog_41_method_20_code (4 : Nat) (Option.some (Jvm.ClassFile.FieldType.object "java/lang/Object"))) ∈ lw_all := lw_g (lw_at lw_m6 168 rfl) rfl
theorem q1498 : (Jvm.Cond.methodLink "java/util/ArrayDeque" (103 : Nat) ({ cls := "java/util/ArrayDeque", name := "elementAt", desc := "([Ljava/lang/Object;I)Ljava/lang/Object;" } : Jvm.MethodName)) ∈ lw_all := lw_g (lw_at lw_m6 169 rfl) rfl
theorem q1499 : (Jvm.Cond.static ({ cls := "java/util/ArrayDeque", name := "elementAt", desc := "([Ljava/lang/Object;I)Ljava/lang/Object;" } : Jvm.MethodName)) ∈ lw_all := lw_g (lw_at lw_m6 170 rfl) rfl
theorem q1500 : (Jvm.Cond.code ({ cls := "java/util/ArrayDeque", name := "elementAt", desc := "([Ljava/lang/Object;I)Ljava/lang/Object;" } : Jvm.MethodName) prog_41_method_10_code (2 : Nat) (Option.some (Jvm.ClassFile.FieldType.object "java/lang/Object"))) ∈ lw_all := lw_g (lw_at lw_m6 171 rfl) rfl
theorem q1501 : (Jvm.Cond.methodLink "java/util/ArrayDeque" (74 : Nat) ({ cls := "java/util/ArrayDeque", name := "inc", desc := "(II)I" } : Jvm.MethodName)) ∈ lw_all := lw_g (lw_at lw_m6 172 rfl) rfl
theorem q1502 : (Jvm.Cond.static ({ cls := "java/util/ArrayDeque", name := "inc", desc := "(II)I" } : Jvm.MethodName)) ∈ lw_all := lw_g (lw_at lw_m6 173 rfl) rfl
theorem q1503 : (Jvm.Cond.code ({ cls := "java/util/ArrayDeque", name := "inc", desc := "(II)I" } : Jvm.MethodName) prog_41_method_6_code (2 : Nat) (Option.some Jvm.ClassFile.FieldType.int)) ∈ lw_all := lw_g (lw_at lw_m6 174 rfl) rfl
theorem q1512 : (Jvm.Cond.instanceMethod ({ cls := "java/util/ArrayDeque", name := "addLast", desc := "(Ljava/lang/Object;)V" } : Jvm.MethodName)) ∈ lw_all := lw_g (lw_at lw_m6 183 rfl) rfl
theorem q1513 : (Jvm.Cond.selects "java/util/ArrayDeque" ({ cls := "java/util/ArrayDeque", name := "addLast", desc := "(Ljava/lang/Object;)V" } : Jvm.MethodName) ({ cls := "java/util/ArrayDeque", name := "addLast", desc := "(Ljava/lang/Object;)V" } : Jvm.MethodName)) ∈ lw_all := lw_g (lw_at lw_m6 184 rfl) rfl
theorem q1514 : (Jvm.Cond.code ({ cls := "java/util/ArrayDeque", name := "addLast", desc := "(Ljava/lang/Object;)V" } : Jvm.MethodName) prog_41_method_13_code (3 : Nat) (Option.none : Option Jvm.ClassFile.FieldType)) ∈ lw_all := lw_g (lw_at lw_m6 185 rfl) rfl
theorem q1515 : (Jvm.Cond.methodLink "java/util/ArrayDeque" (71 : Nat) ({ cls := "java/util/ArrayDeque", name := "grow", desc := "(I)V" } : Jvm.MethodName)) ∈ lw_all := lw_g (lw_at lw_m6 186 rfl) rfl
theorem q1516 : (Jvm.Cond.privateMethod ({ cls := "java/util/ArrayDeque", name := "grow", desc := "(I)V" } : Jvm.MethodName)) ∈ lw_tbl := lw_at lw_m6 187 rfl
theorem q1517 : (Jvm.Cond.instanceMethod ({ cls := "java/util/ArrayDeque", name := "grow", desc := "(I)V" } : Jvm.MethodName)) ∈ lw_all := lw_g (lw_at lw_m6 188 rfl) rfl
theorem q1518 : (Jvm.Cond.code ({ cls := "java/util/ArrayDeque", name := "grow", desc := "(I)V" } : Jvm.MethodName) prog_41_method_1_code (9 : Nat) (Option.none : Option Jvm.ClassFile.FieldType)) ∈ lw_all := lw_g (lw_at lw_m6 189 rfl) rfl
theorem q1519 : (Jvm.Cond.constant "java/util/ArrayDeque" (9 : Nat) (2147483639 : Int32)) ∈ lw_all := lw_g (lw_at lw_m6 190 rfl) rfl
theorem q1520 : (Jvm.Cond.methodLink "java/util/ArrayDeque" (10 : Nat) ({ cls := "java/util/ArrayDeque", name := "newCapacity", desc := "(II)I" } : Jvm.MethodName)) ∈ lw_all := lw_g (lw_at lw_m6 191 rfl) rfl
theorem q1521 : (Jvm.Cond.privateMethod ({ cls := "java/util/ArrayDeque", name := "newCapacity", desc := "(II)I" } : Jvm.MethodName)) ∈ lw_tbl := lw_at lw_m6 192 rfl
theorem q1522 : (Jvm.Cond.instanceMethod ({ cls := "java/util/ArrayDeque", name := "newCapacity", desc := "(II)I" } : Jvm.MethodName)) ∈ lw_all := lw_g (lw_at lw_m6 193 rfl) rfl
theorem q1523 : (Jvm.Cond.code ({ cls := "java/util/ArrayDeque", name := "newCapacity", desc := "(II)I" } : Jvm.MethodName) prog_41_method_2_code (5 : Nat) (Option.some Jvm.ClassFile.FieldType.int)) ∈ lw_all := lw_g (lw_at lw_m6 194 rfl) rfl
theorem q1524 : (Jvm.Cond.constant "java/util/ArrayDeque" (41 : Nat) (2147483647 : Int32)) ∈ lw_all := lw_g (lw_at lw_m6 195 rfl) rfl
theorem q1525 : (Jvm.Cond.methodLink "java/util/ArrayDeque" (14 : Nat) ({ cls := "java/util/Arrays", name := "copyOf", desc := "([Ljava/lang/Object;I)[Ljava/lang/Object;" } : Jvm.MethodName)) ∈ lw_all := lw_g (lw_at lw_m6 196 rfl) rfl
theorem q1526 : (Jvm.Cond.methodLink "java/util/ArrayDeque" (27 : Nat) ({ cls := "java/lang/System", name := "arraycopy", desc := "(Ljava/lang/Object;ILjava/lang/Object;II)V" } : Jvm.MethodName)) ∈ lw_all := lw_g (lw_at lw_m6 197 rfl) rfl
theorem q1834 : (Jvm.Cond.instanceMethod ({ cls := "java/util/ArrayDeque", name := "isEmpty", desc := "()Z" } : Jvm.MethodName)) ∈ lw_all := lw_g (lw_at lw_m8 25 rfl) rfl
theorem q1835 : (Jvm.Cond.selects "java/util/ArrayDeque" ({ cls := "java/util/ArrayDeque", name := "isEmpty", desc := "()Z" } : Jvm.MethodName) ({ cls := "java/util/ArrayDeque", name := "isEmpty", desc := "()Z" } : Jvm.MethodName)) ∈ lw_all := lw_g (lw_at lw_m8 26 rfl) rfl
theorem q1836 : (Jvm.Cond.code ({ cls := "java/util/ArrayDeque", name := "isEmpty", desc := "()Z" } : Jvm.MethodName) prog_41_method_38_code (1 : Nat) (Option.some Jvm.ClassFile.FieldType.boolean)) ∈ lw_all := lw_g (lw_at lw_m8 27 rfl) rfl
theorem q1838 : (Jvm.Cond.instanceMethod ({ cls := "java/util/ArrayDeque", name := "pollLast", desc := "()Ljava/lang/Object;" } : Jvm.MethodName)) ∈ lw_all := lw_g (lw_at lw_m8 29 rfl) rfl
theorem q1839 : (Jvm.Cond.selects "java/util/ArrayDeque" ({ cls := "java/util/ArrayDeque", name := "pollLast", desc := "()Ljava/lang/Object;" } : Jvm.MethodName) ({ cls := "java/util/ArrayDeque", name := "pollLast", desc := "()Ljava/lang/Object;" } : Jvm.MethodName)) ∈ lw_all := lw_g (lw_at lw_m8 30 rfl) rfl
theorem q1840 : (Jvm.Cond.code ({ cls := "java/util/ArrayDeque", name := "pollLast", desc := "()Ljava/lang/Object;" } : Jvm.MethodName) prog_41_method_21_code (4 : Nat) (Option.some (Jvm.ClassFile.FieldType.object "java/lang/Object"))) ∈ lw_all := lw_g (lw_at lw_m8 31 rfl) rfl
theorem q1841 : (Jvm.Cond.methodLink "java/util/ArrayDeque" (68 : Nat) ({ cls := "java/util/ArrayDeque", name := "dec", desc := "(II)I" } : Jvm.MethodName)) ∈ lw_all := lw_g (lw_at lw_m8 32 rfl) rfl
theorem q1842 : (Jvm.Cond.static ({ cls := "java/util/ArrayDeque", name := "dec", desc := "(II)I" } : Jvm.MethodName)) ∈ lw_all := lw_g (lw_at lw_m8 33 rfl) rfl
theorem q1843 : (Jvm.Cond.code ({ cls := "java/util/ArrayDeque", name := "dec", desc := "(II)I" } : Jvm.MethodName) prog_41_method_7_code (2 : Nat) (Option.some Jvm.ClassFile.FieldType.int)) ∈ lw_all := lw_g (lw_at lw_m8 34 rfl) rfl
theorem q2676 : (Jvm.Cond.selects "java/util/ArrayDeque" ({ cls := "java/util/AbstractCollection", name := "size", desc := "()I" } : Jvm.MethodName) ({ cls := "java/util/ArrayDeque", name := "size", desc := "()I" } : Jvm.MethodName)) ∈ lw_all := lw_g (lw_at lw_m11 147 rfl) rfl
theorem q2695 : (Jvm.Cond.castable "java/util/ArrayDeque" "java/lang/Object") ∈ lw_tbl := lw_at lw_m11 166 rfl
theorem in_J16 : ∀ w ∈ wsJ160, w ∈ lw_all := lw_in wsJ160 [651, 653, 655] (by decide +kernel) (by decide +kernel)
/-! jdk/internal/util/Preconditions -/
set_option maxRecDepth 100000
def RJ17 : String := "jdk/internal/util/Preconditions"
abbrev cJ17_checkIndex : ByteArray := prog_67_method_11_code
def yJ17_checkIndex : MethodName := ⟨RJ17, "checkIndex", "(IILjava/util/function/BiFunction;)I"⟩
def dkwJ17_checkIndex_0 : List UInt8 := [26, 155, 0, 8, 26, 27, 161, 0, 10, 44, 26, 27, 184, 0, 95, 191, 26, 172]
abbrev dktJ17_checkIndex_0 : List UInt8 := dkwJ17_checkIndex_0 ++ []
theorem dksJ17_checkIndex_0 : cJ17_checkIndex.data.toList.drop 0 = dktJ17_checkIndex_0 := by decide +kernel
theorem dJ17_checkIndex_0 : decode cJ17_checkIndex 0 = .ok (.iload_n 0, 1) := dk_26 (dk_at dksJ17_checkIndex_0 0 rfl rfl)
theorem dJ17_checkIndex_1 : decode cJ17_checkIndex 1 = .ok (.ifCond .lt 8, 3) := dk_155 0 8 (dk_at dksJ17_checkIndex_0 1 rfl rfl)
theorem dJ17_checkIndex_4 : decode cJ17_checkIndex 4 = .ok (.iload_n 0, 1) := dk_26 (dk_at dksJ17_checkIndex_0 4 rfl rfl)
theorem dJ17_checkIndex_5 : decode cJ17_checkIndex 5 = .ok (.iload_n 1, 1) := dk_27 (dk_at dksJ17_checkIndex_0 5 rfl rfl)
theorem dJ17_checkIndex_6 : decode cJ17_checkIndex 6 = .ok (.if_icmp .lt 10, 3) := dk_161 0 10 (dk_at dksJ17_checkIndex_0 6 rfl rfl)
theorem dJ17_checkIndex_9 : decode cJ17_checkIndex 9 = .ok (.aload_n 2, 1) := dk_44 (dk_at dksJ17_checkIndex_0 9 rfl rfl)
theorem dJ17_checkIndex_10 : decode cJ17_checkIndex 10 = .ok (.iload_n 0, 1) := dk_26 (dk_at dksJ17_checkIndex_0 10 rfl rfl)
theorem dJ17_checkIndex_11 : decode cJ17_checkIndex 11 = .ok (.iload_n 1, 1) := dk_27 (dk_at dksJ17_checkIndex_0 11 rfl rfl)
theorem dJ17_checkIndex_12 : decode cJ17_checkIndex 12 = .ok (.invokestatic 95, 3) := dk_184 0 95 (dk_at dksJ17_checkIndex_0 12 rfl rfl)
theorem dJ17_checkIndex_15 : decode cJ17_checkIndex 15 = .ok (.athrow, 1) := dk_191 (dk_at dksJ17_checkIndex_0 15 rfl rfl)
theorem dJ17_checkIndex_16 : decode cJ17_checkIndex 16 = .ok (.iload_n 0, 1) := dk_26 (dk_at dksJ17_checkIndex_0 16 rfl rfl)
theorem dJ17_checkIndex_17 : decode cJ17_checkIndex 17 = .ok (.ireturn, 1) := dk_172 (dk_at dksJ17_checkIndex_0 17 rfl rfl)
abbrev cJ17_checkFromToIndex : ByteArray := prog_67_method_12_code
def yJ17_checkFromToIndex : MethodName := ⟨RJ17, "checkFromToIndex", "(IIILjava/util/function/BiFunction;)I"⟩
def dkwJ17_checkFromToIndex_0 : List UInt8 := [26, 155, 0, 13, 26, 27, 163, 0, 8, 27, 28, 164, 0, 11, 45, 26, 27, 28, 184, 0, 99, 191, 26, 172]
abbrev dktJ17_checkFromToIndex_0 : List UInt8 := dkwJ17_checkFromToIndex_0 ++ []
theorem dksJ17_checkFromToIndex_0 : cJ17_checkFromToIndex.data.toList.drop 0 = dktJ17_checkFromToIndex_0 := by decide +kernel
theorem dJ17_checkFromToIndex_0 : decode cJ17_checkFromToIndex 0 = .ok (.iload_n 0, 1) := dk_26 (dk_at dksJ17_checkFromToIndex_0 0 rfl rfl)
theorem dJ17_checkFromToIndex_1 : decode cJ17_checkFromToIndex 1 = .ok (.ifCond .lt 13, 3) := dk_155 0 13 (dk_at dksJ17_checkFromToIndex_0 1 rfl rfl)
theorem dJ17_checkFromToIndex_4 : decode cJ17_checkFromToIndex 4 = .ok (.iload_n 0, 1) := dk_26 (dk_at dksJ17_checkFromToIndex_0 4 rfl rfl)
theorem dJ17_checkFromToIndex_5 : decode cJ17_checkFromToIndex 5 = .ok (.iload_n 1, 1) := dk_27 (dk_at dksJ17_checkFromToIndex_0 5 rfl rfl)
theorem dJ17_checkFromToIndex_6 : decode cJ17_checkFromToIndex 6 = .ok (.if_icmp .gt 8, 3) := dk_163 0 8 (dk_at dksJ17_checkFromToIndex_0 6 rfl rfl)
theorem dJ17_checkFromToIndex_9 : decode cJ17_checkFromToIndex 9 = .ok (.iload_n 1, 1) := dk_27 (dk_at dksJ17_checkFromToIndex_0 9 rfl rfl)
theorem dJ17_checkFromToIndex_10 : decode cJ17_checkFromToIndex 10 = .ok (.iload_n 2, 1) := dk_28 (dk_at dksJ17_checkFromToIndex_0 10 rfl rfl)
theorem dJ17_checkFromToIndex_11 : decode cJ17_checkFromToIndex 11 = .ok (.if_icmp .le 11, 3) := dk_164 0 11 (dk_at dksJ17_checkFromToIndex_0 11 rfl rfl)
theorem dJ17_checkFromToIndex_14 : decode cJ17_checkFromToIndex 14 = .ok (.aload_n 3, 1) := dk_45 (dk_at dksJ17_checkFromToIndex_0 14 rfl rfl)
theorem dJ17_checkFromToIndex_15 : decode cJ17_checkFromToIndex 15 = .ok (.iload_n 0, 1) := dk_26 (dk_at dksJ17_checkFromToIndex_0 15 rfl rfl)
theorem dJ17_checkFromToIndex_16 : decode cJ17_checkFromToIndex 16 = .ok (.iload_n 1, 1) := dk_27 (dk_at dksJ17_checkFromToIndex_0 16 rfl rfl)
theorem dJ17_checkFromToIndex_17 : decode cJ17_checkFromToIndex 17 = .ok (.iload_n 2, 1) := dk_28 (dk_at dksJ17_checkFromToIndex_0 17 rfl rfl)
theorem dJ17_checkFromToIndex_18 : decode cJ17_checkFromToIndex 18 = .ok (.invokestatic 99, 3) := dk_184 0 99 (dk_at dksJ17_checkFromToIndex_0 18 rfl rfl)
theorem dJ17_checkFromToIndex_21 : decode cJ17_checkFromToIndex 21 = .ok (.athrow, 1) := dk_191 (dk_at dksJ17_checkFromToIndex_0 21 rfl rfl)
theorem dJ17_checkFromToIndex_22 : decode cJ17_checkFromToIndex 22 = .ok (.iload_n 0, 1) := dk_26 (dk_at dksJ17_checkFromToIndex_0 22 rfl rfl)
theorem dJ17_checkFromToIndex_23 : decode cJ17_checkFromToIndex 23 = .ok (.ireturn, 1) := dk_172 (dk_at dksJ17_checkFromToIndex_0 23 rfl rfl)
abbrev cJ17_checkFromIndexSize : ByteArray := prog_67_method_13_code
def yJ17_checkFromIndexSize : MethodName := ⟨RJ17, "checkFromIndexSize", "(IIILjava/util/function/BiFunction;)I"⟩
def dkwJ17_checkFromIndexSize_1 : List UInt8 := [172]
abbrev dktJ17_checkFromIndexSize_1 : List UInt8 := dkwJ17_checkFromIndexSize_1 ++ []
def dkwJ17_checkFromIndexSize_0 : List UInt8 := [28, 26, 128, 27, 128, 155, 0, 10, 27, 28, 26, 100, 164, 0, 11, 45, 26, 27, 28, 184, 0, 103, 191, 26]
abbrev dktJ17_checkFromIndexSize_0 : List UInt8 := dkwJ17_checkFromIndexSize_0 ++ dktJ17_checkFromIndexSize_1
theorem dksJ17_checkFromIndexSize_0 : cJ17_checkFromIndexSize.data.toList.drop 0 = dktJ17_checkFromIndexSize_0 := by decide +kernel
theorem dksJ17_checkFromIndexSize_1 : cJ17_checkFromIndexSize.data.toList.drop 24 = dktJ17_checkFromIndexSize_1 := dk_seg dksJ17_checkFromIndexSize_0 24 rfl rfl
theorem dJ17_checkFromIndexSize_0 : decode cJ17_checkFromIndexSize 0 = .ok (.iload_n 2, 1) := dk_28 (dk_at dksJ17_checkFromIndexSize_0 0 rfl rfl)
theorem dJ17_checkFromIndexSize_1 : decode cJ17_checkFromIndexSize 1 = .ok (.iload_n 0, 1) := dk_26 (dk_at dksJ17_checkFromIndexSize_0 1 rfl rfl)
theorem dJ17_checkFromIndexSize_2 : decode cJ17_checkFromIndexSize 2 = .ok (.ior, 1) := dk_128 (dk_at dksJ17_checkFromIndexSize_0 2 rfl rfl)
theorem dJ17_checkFromIndexSize_3 : decode cJ17_checkFromIndexSize 3 = .ok (.iload_n 1, 1) := dk_27 (dk_at dksJ17_checkFromIndexSize_0 3 rfl rfl)
theorem dJ17_checkFromIndexSize_4 : decode cJ17_checkFromIndexSize 4 = .ok (.ior, 1) := dk_128 (dk_at dksJ17_checkFromIndexSize_0 4 rfl rfl)
theorem dJ17_checkFromIndexSize_5 : decode cJ17_checkFromIndexSize 5 = .ok (.ifCond .lt 10, 3) := dk_155 0 10 (dk_at dksJ17_checkFromIndexSize_0 5 rfl rfl)
theorem dJ17_checkFromIndexSize_8 : decode cJ17_checkFromIndexSize 8 = .ok (.iload_n 1, 1) := dk_27 (dk_at dksJ17_checkFromIndexSize_0 8 rfl rfl)
theorem dJ17_checkFromIndexSize_9 : decode cJ17_checkFromIndexSize 9 = .ok (.iload_n 2, 1) := dk_28 (dk_at dksJ17_checkFromIndexSize_0 9 rfl rfl)
theorem dJ17_checkFromIndexSize_10 : decode cJ17_checkFromIndexSize 10 = .ok (.iload_n 0, 1) := dk_26 (dk_at dksJ17_checkFromIndexSize_0 10 rfl rfl)
theorem dJ17_checkFromIndexSize_11 : decode cJ17_checkFromIndexSize 11 = .ok (.isub, 1) := dk_100 (dk_at dksJ17_checkFromIndexSize_0 11 rfl rfl)
theorem dJ17_checkFromIndexSize_12 : decode cJ17_checkFromIndexSize 12 = .ok (.if_icmp .le 11, 3) := dk_164 0 11 (dk_at dksJ17_checkFromIndexSize_0 12 rfl rfl)
theorem dJ17_checkFromIndexSize_15 : decode cJ17_checkFromIndexSize 15 = .ok (.aload_n 3, 1) := dk_45 (dk_at dksJ17_checkFromIndexSize_0 15 rfl rfl)
theorem dJ17_checkFromIndexSize_16 : decode cJ17_checkFromIndexSize 16 = .ok (.iload_n 0, 1) := dk_26 (dk_at dksJ17_checkFromIndexSize_0 16 rfl rfl)
theorem dJ17_checkFromIndexSize_17 : decode cJ17_checkFromIndexSize 17 = .ok (.iload_n 1, 1) := dk_27 (dk_at dksJ17_checkFromIndexSize_0 17 rfl rfl)
theorem dJ17_checkFromIndexSize_18 : decode cJ17_checkFromIndexSize 18 = .ok (.iload_n 2, 1) := dk_28 (dk_at dksJ17_checkFromIndexSize_0 18 rfl rfl)
theorem dJ17_checkFromIndexSize_19 : decode cJ17_checkFromIndexSize 19 = .ok (.invokestatic 103, 3) := dk_184 0 103 (dk_at dksJ17_checkFromIndexSize_0 19 rfl rfl)
theorem dJ17_checkFromIndexSize_22 : decode cJ17_checkFromIndexSize 22 = .ok (.athrow, 1) := dk_191 (dk_at dksJ17_checkFromIndexSize_0 22 rfl rfl)
theorem dJ17_checkFromIndexSize_23 : decode cJ17_checkFromIndexSize 23 = .ok (.iload_n 0, 1) := dk_26 (dk_at dksJ17_checkFromIndexSize_0 23 rfl rfl)
theorem dJ17_checkFromIndexSize_24 : decode cJ17_checkFromIndexSize 24 = .ok (.ireturn, 1) := dk_172 (dk_at dksJ17_checkFromIndexSize_1 0 rfl rfl)
theorem q157 : (Jvm.Cond.initialized "jdk/internal/util/Preconditions") ∈ lw_all := lw_g (lw_at lw_m1 28 rfl) rfl
theorem q791 : (Jvm.Cond.static ({ cls := "jdk/internal/util/Preconditions", name := "checkIndex", desc := "(IILjava/util/function/BiFunction;)I" } : Jvm.MethodName)) ∈ lw_all := lw_g (lw_at lw_m3 182 rfl) rfl
theorem q792 : (Jvm.Cond.code ({ cls := "jdk/internal/util/Preconditions", name := "checkIndex", desc := "(IILjava/util/function/BiFunction;)I" } : Jvm.MethodName) prog_67_method_11_code (3 : Nat) (Option.some Jvm.ClassFile.FieldType.int)) ∈ lw_all := lw_g (lw_at lw_m3 183 rfl) rfl
theorem q850 : (Jvm.Cond.laysStatic "jdk/internal/util/Preconditions" "SIOOBE_FORMATTER" "Ljava/util/function/BiFunction;") ∈ lw_tbl := lw_at lw_m4 1 rfl
theorem q1319 : (Jvm.Cond.static ({ cls := "jdk/internal/util/Preconditions", name := "checkFromToIndex", desc := "(IIILjava/util/function/BiFunction;)I" } : Jvm.MethodName)) ∈ lw_all := lw_g (lw_at lw_m5 230 rfl) rfl
theorem q1320 : (Jvm.Cond.code ({ cls := "jdk/internal/util/Preconditions", name := "checkFromToIndex", desc := "(IIILjava/util/function/BiFunction;)I" } : Jvm.MethodName) prog_67_method_12_code (4 : Nat) (Option.some Jvm.ClassFile.FieldType.int)) ∈ lw_all := lw_g (lw_at lw_m5 231 rfl) rfl
theorem q1351 : (Jvm.Cond.static ({ cls := "jdk/internal/util/Preconditions", name := "checkFromIndexSize", desc := "(IIILjava/util/function/BiFunction;)I" } : Jvm.MethodName)) ∈ lw_all := lw_g (lw_at lw_m6 22 rfl) rfl
theorem q1352 : (Jvm.Cond.code ({ cls := "jdk/internal/util/Preconditions", name := "checkFromIndexSize", desc := "(IIILjava/util/function/BiFunction;)I" } : Jvm.MethodName) prog_67_method_13_code (4 : Nat) (Option.some Jvm.ClassFile.FieldType.int)) ∈ lw_all := lw_g (lw_at lw_m6 23 rfl) rfl
/-! java/lang/String -/
set_option maxRecDepth 100000
def RJ18 : String := "java/lang/String"
def TJ18 : u_T := fun k => match k with
  | 0 => ("java/lang/String", "value", "[B", true)
  | 1 => ("java/lang/String", "coder", "B", true)
  | 2 => ("java/lang/String", "hash", "I", false)
  | _ => ("java/lang/String", "hashIsZero", "Z", false)
def tyJ18 : Nat → FieldType := fun k => match k with
  | 0 => .array .byte
  | 1 => .byte
  | 2 => .int
  | _ => .boolean
abbrev wsJ180 : List Cond := u_ws RJ18 TJ18 4
theorem nmJ18 : ∀ a, a < 4 → ∀ b, b < 4 → a ≠ b → (TJ18 a).2.1 ≠ (TJ18 b).2.1 := by decide +kernel
theorem tyJ18_ok : ∀ k, k < 4 → parseFieldDescriptor (TJ18 k).2.2.1 = some (tyJ18 k) := by decide +kernel
abbrev cJ18_length : ByteArray := prog_28_method_54_code
def yJ18_length : MethodName := ⟨RJ18, "length", "()I"⟩
def dkwJ18_length_0 : List UInt8 := [42, 180, 0, 9, 190, 42, 182, 1, 79, 122, 172]
abbrev dktJ18_length_0 : List UInt8 := dkwJ18_length_0 ++ []
theorem dksJ18_length_0 : cJ18_length.data.toList.drop 0 = dktJ18_length_0 := by decide +kernel
theorem dJ18_length_0 : decode cJ18_length 0 = .ok (.aload_n 0, 1) := dk_42 (dk_at dksJ18_length_0 0 rfl rfl)
theorem dJ18_length_1 : decode cJ18_length 1 = .ok (.getfield 9, 3) := dk_180 0 9 (dk_at dksJ18_length_0 1 rfl rfl)
theorem dJ18_length_4 : decode cJ18_length 4 = .ok (.arraylength, 1) := dk_190 (dk_at dksJ18_length_0 4 rfl rfl)
theorem dJ18_length_5 : decode cJ18_length 5 = .ok (.aload_n 0, 1) := dk_42 (dk_at dksJ18_length_0 5 rfl rfl)
theorem dJ18_length_6 : decode cJ18_length 6 = .ok (.invokevirtual 335, 3) := dk_182 1 79 (dk_at dksJ18_length_0 6 rfl rfl)
theorem dJ18_length_9 : decode cJ18_length 9 = .ok (.ishr, 1) := dk_122 (dk_at dksJ18_length_0 9 rfl rfl)
theorem dJ18_length_10 : decode cJ18_length 10 = .ok (.ireturn, 1) := dk_172 (dk_at dksJ18_length_0 10 rfl rfl)
abbrev cJ18_coder : ByteArray := prog_28_method_152_code
def yJ18_coder : MethodName := ⟨RJ18, "coder", "()B"⟩
def dkwJ18_coder_0 : List UInt8 := [178, 0, 38, 153, 0, 10, 42, 180, 0, 15, 167, 0, 4, 4, 172]
abbrev dktJ18_coder_0 : List UInt8 := dkwJ18_coder_0 ++ []
theorem dksJ18_coder_0 : cJ18_coder.data.toList.drop 0 = dktJ18_coder_0 := by decide +kernel
theorem dJ18_coder_0 : decode cJ18_coder 0 = .ok (.getstatic 38, 3) := dk_178 0 38 (dk_at dksJ18_coder_0 0 rfl rfl)
theorem dJ18_coder_3 : decode cJ18_coder 3 = .ok (.ifCond .eq 10, 3) := dk_153 0 10 (dk_at dksJ18_coder_0 3 rfl rfl)
theorem dJ18_coder_6 : decode cJ18_coder 6 = .ok (.aload_n 0, 1) := dk_42 (dk_at dksJ18_coder_0 6 rfl rfl)
theorem dJ18_coder_7 : decode cJ18_coder 7 = .ok (.getfield 15, 3) := dk_180 0 15 (dk_at dksJ18_coder_0 7 rfl rfl)
theorem dJ18_coder_10 : decode cJ18_coder 10 = .ok (.goto 4, 3) := dk_167 0 4 (dk_at dksJ18_coder_0 10 rfl rfl)
theorem dJ18_coder_13 : decode cJ18_coder 13 = .ok (.iconst 1, 1) := dk_4 (dk_at dksJ18_coder_0 13 rfl rfl)
theorem dJ18_coder_14 : decode cJ18_coder 14 = .ok (.ireturn, 1) := dk_172 (dk_at dksJ18_coder_0 14 rfl rfl)
abbrev cJ18_charAt : ByteArray := prog_28_method_56_code
def yJ18_charAt : MethodName := ⟨RJ18, "charAt", "(I)C"⟩
def dkwJ18_charAt_1 : List UInt8 := [172]
abbrev dktJ18_charAt_1 : List UInt8 := dkwJ18_charAt_1 ++ []
def dkwJ18_charAt_0 : List UInt8 := [42, 182, 1, 236, 153, 0, 12, 42, 180, 0, 9, 27, 184, 1, 239, 172, 42, 180, 0, 9, 27, 184, 1, 242]
abbrev dktJ18_charAt_0 : List UInt8 := dkwJ18_charAt_0 ++ dktJ18_charAt_1
theorem dksJ18_charAt_0 : cJ18_charAt.data.toList.drop 0 = dktJ18_charAt_0 := by decide +kernel
theorem dksJ18_charAt_1 : cJ18_charAt.data.toList.drop 24 = dktJ18_charAt_1 := dk_seg dksJ18_charAt_0 24 rfl rfl
theorem dJ18_charAt_0 : decode cJ18_charAt 0 = .ok (.aload_n 0, 1) := dk_42 (dk_at dksJ18_charAt_0 0 rfl rfl)
theorem dJ18_charAt_1 : decode cJ18_charAt 1 = .ok (.invokevirtual 492, 3) := dk_182 1 236 (dk_at dksJ18_charAt_0 1 rfl rfl)
theorem dJ18_charAt_4 : decode cJ18_charAt 4 = .ok (.ifCond .eq 12, 3) := dk_153 0 12 (dk_at dksJ18_charAt_0 4 rfl rfl)
theorem dJ18_charAt_7 : decode cJ18_charAt 7 = .ok (.aload_n 0, 1) := dk_42 (dk_at dksJ18_charAt_0 7 rfl rfl)
theorem dJ18_charAt_8 : decode cJ18_charAt 8 = .ok (.getfield 9, 3) := dk_180 0 9 (dk_at dksJ18_charAt_0 8 rfl rfl)
theorem dJ18_charAt_11 : decode cJ18_charAt 11 = .ok (.iload_n 1, 1) := dk_27 (dk_at dksJ18_charAt_0 11 rfl rfl)
theorem dJ18_charAt_12 : decode cJ18_charAt 12 = .ok (.invokestatic 495, 3) := dk_184 1 239 (dk_at dksJ18_charAt_0 12 rfl rfl)
theorem dJ18_charAt_15 : decode cJ18_charAt 15 = .ok (.ireturn, 1) := dk_172 (dk_at dksJ18_charAt_0 15 rfl rfl)
theorem dJ18_charAt_16 : decode cJ18_charAt 16 = .ok (.aload_n 0, 1) := dk_42 (dk_at dksJ18_charAt_0 16 rfl rfl)
theorem dJ18_charAt_17 : decode cJ18_charAt 17 = .ok (.getfield 9, 3) := dk_180 0 9 (dk_at dksJ18_charAt_0 17 rfl rfl)
theorem dJ18_charAt_20 : decode cJ18_charAt 20 = .ok (.iload_n 1, 1) := dk_27 (dk_at dksJ18_charAt_0 20 rfl rfl)
theorem dJ18_charAt_21 : decode cJ18_charAt 21 = .ok (.invokestatic 498, 3) := dk_184 1 242 (dk_at dksJ18_charAt_0 21 rfl rfl)
theorem dJ18_charAt_24 : decode cJ18_charAt 24 = .ok (.ireturn, 1) := dk_172 (dk_at dksJ18_charAt_1 0 rfl rfl)
abbrev cJ18_isLatin1 : ByteArray := prog_28_method_154_code
def yJ18_isLatin1 : MethodName := ⟨RJ18, "isLatin1", "()Z"⟩
def dkwJ18_isLatin1_0 : List UInt8 := [178, 0, 38, 153, 0, 14, 42, 180, 0, 15, 154, 0, 7, 4, 167, 0, 4, 3, 172]
abbrev dktJ18_isLatin1_0 : List UInt8 := dkwJ18_isLatin1_0 ++ []
theorem dksJ18_isLatin1_0 : cJ18_isLatin1.data.toList.drop 0 = dktJ18_isLatin1_0 := by decide +kernel
theorem dJ18_isLatin1_0 : decode cJ18_isLatin1 0 = .ok (.getstatic 38, 3) := dk_178 0 38 (dk_at dksJ18_isLatin1_0 0 rfl rfl)
theorem dJ18_isLatin1_3 : decode cJ18_isLatin1 3 = .ok (.ifCond .eq 14, 3) := dk_153 0 14 (dk_at dksJ18_isLatin1_0 3 rfl rfl)
theorem dJ18_isLatin1_6 : decode cJ18_isLatin1 6 = .ok (.aload_n 0, 1) := dk_42 (dk_at dksJ18_isLatin1_0 6 rfl rfl)
theorem dJ18_isLatin1_7 : decode cJ18_isLatin1 7 = .ok (.getfield 15, 3) := dk_180 0 15 (dk_at dksJ18_isLatin1_0 7 rfl rfl)
theorem dJ18_isLatin1_10 : decode cJ18_isLatin1 10 = .ok (.ifCond .ne 7, 3) := dk_154 0 7 (dk_at dksJ18_isLatin1_0 10 rfl rfl)
theorem dJ18_isLatin1_13 : decode cJ18_isLatin1 13 = .ok (.iconst 1, 1) := dk_4 (dk_at dksJ18_isLatin1_0 13 rfl rfl)
theorem dJ18_isLatin1_14 : decode cJ18_isLatin1 14 = .ok (.goto 4, 3) := dk_167 0 4 (dk_at dksJ18_isLatin1_0 14 rfl rfl)
theorem dJ18_isLatin1_17 : decode cJ18_isLatin1 17 = .ok (.iconst 0, 1) := dk_3 (dk_at dksJ18_isLatin1_0 17 rfl rfl)
theorem dJ18_isLatin1_18 : decode cJ18_isLatin1 18 = .ok (.ireturn, 1) := dk_172 (dk_at dksJ18_isLatin1_0 18 rfl rfl)
abbrev cJ18_checkIndex : ByteArray := prog_28_method_155_code
def yJ18_checkIndex : MethodName := ⟨RJ18, "checkIndex", "(II)V"⟩
def dkwJ18_checkIndex_0 : List UInt8 := [26, 27, 178, 4, 29, 184, 4, 35, 87, 177]
abbrev dktJ18_checkIndex_0 : List UInt8 := dkwJ18_checkIndex_0 ++ []
theorem dksJ18_checkIndex_0 : cJ18_checkIndex.data.toList.drop 0 = dktJ18_checkIndex_0 := by decide +kernel
theorem dJ18_checkIndex_0 : decode cJ18_checkIndex 0 = .ok (.iload_n 0, 1) := dk_26 (dk_at dksJ18_checkIndex_0 0 rfl rfl)
theorem dJ18_checkIndex_1 : decode cJ18_checkIndex 1 = .ok (.iload_n 1, 1) := dk_27 (dk_at dksJ18_checkIndex_0 1 rfl rfl)
theorem dJ18_checkIndex_2 : decode cJ18_checkIndex 2 = .ok (.getstatic 1053, 3) := dk_178 4 29 (dk_at dksJ18_checkIndex_0 2 rfl rfl)
theorem dJ18_checkIndex_5 : decode cJ18_checkIndex 5 = .ok (.invokestatic 1059, 3) := dk_184 4 35 (dk_at dksJ18_checkIndex_0 5 rfl rfl)
theorem dJ18_checkIndex_8 : decode cJ18_checkIndex 8 = .ok (.pop, 1) := dk_87 (dk_at dksJ18_checkIndex_0 8 rfl rfl)
theorem dJ18_checkIndex_9 : decode cJ18_checkIndex 9 = .ok (.return_, 1) := dk_177 (dk_at dksJ18_checkIndex_0 9 rfl rfl)
abbrev cJ18_checkBoundsBeginEnd : ByteArray := prog_28_method_158_code
def yJ18_checkBoundsBeginEnd : MethodName := ⟨RJ18, "checkBoundsBeginEnd", "(III)V"⟩
def dkwJ18_checkBoundsBeginEnd_0 : List UInt8 := [26, 27, 28, 178, 4, 29, 184, 4, 38, 87, 177]
abbrev dktJ18_checkBoundsBeginEnd_0 : List UInt8 := dkwJ18_checkBoundsBeginEnd_0 ++ []
theorem dksJ18_checkBoundsBeginEnd_0 : cJ18_checkBoundsBeginEnd.data.toList.drop 0 = dktJ18_checkBoundsBeginEnd_0 := by decide +kernel
theorem dJ18_checkBoundsBeginEnd_0 : decode cJ18_checkBoundsBeginEnd 0 = .ok (.iload_n 0, 1) := dk_26 (dk_at dksJ18_checkBoundsBeginEnd_0 0 rfl rfl)
theorem dJ18_checkBoundsBeginEnd_1 : decode cJ18_checkBoundsBeginEnd 1 = .ok (.iload_n 1, 1) := dk_27 (dk_at dksJ18_checkBoundsBeginEnd_0 1 rfl rfl)
theorem dJ18_checkBoundsBeginEnd_2 : decode cJ18_checkBoundsBeginEnd 2 = .ok (.iload_n 2, 1) := dk_28 (dk_at dksJ18_checkBoundsBeginEnd_0 2 rfl rfl)
theorem dJ18_checkBoundsBeginEnd_3 : decode cJ18_checkBoundsBeginEnd 3 = .ok (.getstatic 1053, 3) := dk_178 4 29 (dk_at dksJ18_checkBoundsBeginEnd_0 3 rfl rfl)
theorem dJ18_checkBoundsBeginEnd_6 : decode cJ18_checkBoundsBeginEnd 6 = .ok (.invokestatic 1062, 3) := dk_184 4 38 (dk_at dksJ18_checkBoundsBeginEnd_0 6 rfl rfl)
theorem dJ18_checkBoundsBeginEnd_9 : decode cJ18_checkBoundsBeginEnd 9 = .ok (.pop, 1) := dk_87 (dk_at dksJ18_checkBoundsBeginEnd_0 9 rfl rfl)
theorem dJ18_checkBoundsBeginEnd_10 : decode cJ18_checkBoundsBeginEnd 10 = .ok (.return_, 1) := dk_177 (dk_at dksJ18_checkBoundsBeginEnd_0 10 rfl rfl)
abbrev cJ18_checkBoundsOffCount : ByteArray := prog_28_method_157_code
def yJ18_checkBoundsOffCount : MethodName := ⟨RJ18, "checkBoundsOffCount", "(III)I"⟩
def dkwJ18_checkBoundsOffCount_0 : List UInt8 := [26, 27, 28, 178, 4, 29, 184, 4, 41, 172]
abbrev dktJ18_checkBoundsOffCount_0 : List UInt8 := dkwJ18_checkBoundsOffCount_0 ++ []
theorem dksJ18_checkBoundsOffCount_0 : cJ18_checkBoundsOffCount.data.toList.drop 0 = dktJ18_checkBoundsOffCount_0 := by decide +kernel
theorem dJ18_checkBoundsOffCount_0 : decode cJ18_checkBoundsOffCount 0 = .ok (.iload_n 0, 1) := dk_26 (dk_at dksJ18_checkBoundsOffCount_0 0 rfl rfl)
theorem dJ18_checkBoundsOffCount_1 : decode cJ18_checkBoundsOffCount 1 = .ok (.iload_n 1, 1) := dk_27 (dk_at dksJ18_checkBoundsOffCount_0 1 rfl rfl)
theorem dJ18_checkBoundsOffCount_2 : decode cJ18_checkBoundsOffCount 2 = .ok (.iload_n 2, 1) := dk_28 (dk_at dksJ18_checkBoundsOffCount_0 2 rfl rfl)
theorem dJ18_checkBoundsOffCount_3 : decode cJ18_checkBoundsOffCount 3 = .ok (.getstatic 1053, 3) := dk_178 4 29 (dk_at dksJ18_checkBoundsOffCount_0 3 rfl rfl)
theorem dJ18_checkBoundsOffCount_6 : decode cJ18_checkBoundsOffCount 6 = .ok (.invokestatic 1065, 3) := dk_184 4 41 (dk_at dksJ18_checkBoundsOffCount_0 6 rfl rfl)
theorem dJ18_checkBoundsOffCount_9 : decode cJ18_checkBoundsOffCount 9 = .ok (.ireturn, 1) := dk_172 (dk_at dksJ18_checkBoundsOffCount_0 9 rfl rfl)
abbrev cJ18_getBytes : ByteArray := prog_28_method_147_code
def yJ18_getBytes : MethodName := ⟨RJ18, "getBytes", "([BIB)V"⟩
def dkwJ18_getBytes_1 : List UInt8 := [184, 0, 212, 167, 0, 18, 42, 180, 0, 9, 3, 43, 28, 42, 180, 0, 9, 190, 184, 0, 106, 177]
abbrev dktJ18_getBytes_1 : List UInt8 := dkwJ18_getBytes_1 ++ []
def dkwJ18_getBytes_0 : List UInt8 := [42, 182, 1, 79, 29, 160, 0, 23, 42, 180, 0, 9, 3, 43, 28, 29, 120, 42, 180, 0, 9, 190]
abbrev dktJ18_getBytes_0 : List UInt8 := dkwJ18_getBytes_0 ++ dktJ18_getBytes_1
theorem dksJ18_getBytes_0 : cJ18_getBytes.data.toList.drop 0 = dktJ18_getBytes_0 := by decide +kernel
theorem dksJ18_getBytes_1 : cJ18_getBytes.data.toList.drop 22 = dktJ18_getBytes_1 := dk_seg dksJ18_getBytes_0 22 rfl rfl
theorem dJ18_getBytes_0 : decode cJ18_getBytes 0 = .ok (.aload_n 0, 1) := dk_42 (dk_at dksJ18_getBytes_0 0 rfl rfl)
theorem dJ18_getBytes_1 : decode cJ18_getBytes 1 = .ok (.invokevirtual 335, 3) := dk_182 1 79 (dk_at dksJ18_getBytes_0 1 rfl rfl)
theorem dJ18_getBytes_4 : decode cJ18_getBytes 4 = .ok (.iload_n 3, 1) := dk_29 (dk_at dksJ18_getBytes_0 4 rfl rfl)
theorem dJ18_getBytes_5 : decode cJ18_getBytes 5 = .ok (.if_icmp .ne 23, 3) := dk_160 0 23 (dk_at dksJ18_getBytes_0 5 rfl rfl)
theorem dJ18_getBytes_8 : decode cJ18_getBytes 8 = .ok (.aload_n 0, 1) := dk_42 (dk_at dksJ18_getBytes_0 8 rfl rfl)
theorem dJ18_getBytes_9 : decode cJ18_getBytes 9 = .ok (.getfield 9, 3) := dk_180 0 9 (dk_at dksJ18_getBytes_0 9 rfl rfl)
theorem dJ18_getBytes_12 : decode cJ18_getBytes 12 = .ok (.iconst 0, 1) := dk_3 (dk_at dksJ18_getBytes_0 12 rfl rfl)
theorem dJ18_getBytes_13 : decode cJ18_getBytes 13 = .ok (.aload_n 1, 1) := dk_43 (dk_at dksJ18_getBytes_0 13 rfl rfl)
theorem dJ18_getBytes_14 : decode cJ18_getBytes 14 = .ok (.iload_n 2, 1) := dk_28 (dk_at dksJ18_getBytes_0 14 rfl rfl)
theorem dJ18_getBytes_15 : decode cJ18_getBytes 15 = .ok (.iload_n 3, 1) := dk_29 (dk_at dksJ18_getBytes_0 15 rfl rfl)
theorem dJ18_getBytes_16 : decode cJ18_getBytes 16 = .ok (.ishl, 1) := dk_120 (dk_at dksJ18_getBytes_0 16 rfl rfl)
theorem dJ18_getBytes_17 : decode cJ18_getBytes 17 = .ok (.aload_n 0, 1) := dk_42 (dk_at dksJ18_getBytes_0 17 rfl rfl)
theorem dJ18_getBytes_18 : decode cJ18_getBytes 18 = .ok (.getfield 9, 3) := dk_180 0 9 (dk_at dksJ18_getBytes_0 18 rfl rfl)
theorem dJ18_getBytes_21 : decode cJ18_getBytes 21 = .ok (.arraylength, 1) := dk_190 (dk_at dksJ18_getBytes_0 21 rfl rfl)
theorem dJ18_getBytes_22 : decode cJ18_getBytes 22 = .ok (.invokestatic 212, 3) := dk_184 0 212 (dk_at dksJ18_getBytes_1 0 rfl rfl)
theorem dJ18_getBytes_25 : decode cJ18_getBytes 25 = .ok (.goto 18, 3) := dk_167 0 18 (dk_at dksJ18_getBytes_1 3 rfl rfl)
theorem dJ18_getBytes_28 : decode cJ18_getBytes 28 = .ok (.aload_n 0, 1) := dk_42 (dk_at dksJ18_getBytes_1 6 rfl rfl)
theorem dJ18_getBytes_29 : decode cJ18_getBytes 29 = .ok (.getfield 9, 3) := dk_180 0 9 (dk_at dksJ18_getBytes_1 7 rfl rfl)
theorem dJ18_getBytes_32 : decode cJ18_getBytes 32 = .ok (.iconst 0, 1) := dk_3 (dk_at dksJ18_getBytes_1 10 rfl rfl)
theorem dJ18_getBytes_33 : decode cJ18_getBytes 33 = .ok (.aload_n 1, 1) := dk_43 (dk_at dksJ18_getBytes_1 11 rfl rfl)
theorem dJ18_getBytes_34 : decode cJ18_getBytes 34 = .ok (.iload_n 2, 1) := dk_28 (dk_at dksJ18_getBytes_1 12 rfl rfl)
theorem dJ18_getBytes_35 : decode cJ18_getBytes 35 = .ok (.aload_n 0, 1) := dk_42 (dk_at dksJ18_getBytes_1 13 rfl rfl)
theorem dJ18_getBytes_36 : decode cJ18_getBytes 36 = .ok (.getfield 9, 3) := dk_180 0 9 (dk_at dksJ18_getBytes_1 14 rfl rfl)
theorem dJ18_getBytes_39 : decode cJ18_getBytes 39 = .ok (.arraylength, 1) := dk_190 (dk_at dksJ18_getBytes_1 17 rfl rfl)
theorem dJ18_getBytes_40 : decode cJ18_getBytes 40 = .ok (.invokestatic 106, 3) := dk_184 0 106 (dk_at dksJ18_getBytes_1 18 rfl rfl)
theorem dJ18_getBytes_43 : decode cJ18_getBytes 43 = .ok (.return_, 1) := dk_177 (dk_at dksJ18_getBytes_1 21 rfl rfl)
abbrev cJ18_init : ByteArray := prog_28_method_53_code
def yJ18_init : MethodName := ⟨RJ18, "<init>", "(Ljava/lang/StringBuilder;)V"⟩
def dkwJ18_init_0 : List UInt8 := [42, 43, 1, 183, 1, 233, 177]
abbrev dktJ18_init_0 : List UInt8 := dkwJ18_init_0 ++ []
theorem dksJ18_init_0 : cJ18_init.data.toList.drop 0 = dktJ18_init_0 := by decide +kernel
theorem dJ18_init_0 : decode cJ18_init 0 = .ok (.aload_n 0, 1) := dk_42 (dk_at dksJ18_init_0 0 rfl rfl)
theorem dJ18_init_1 : decode cJ18_init 1 = .ok (.aload_n 1, 1) := dk_43 (dk_at dksJ18_init_0 1 rfl rfl)
theorem dJ18_init_2 : decode cJ18_init 2 = .ok (.aconst_null, 1) := dk_1 (dk_at dksJ18_init_0 2 rfl rfl)
theorem dJ18_init_3 : decode cJ18_init 3 = .ok (.invokespecial 489, 3) := dk_183 1 233 (dk_at dksJ18_init_0 3 rfl rfl)
theorem dJ18_init_6 : decode cJ18_init 6 = .ok (.return_, 1) := dk_177 (dk_at dksJ18_init_0 6 rfl rfl)
abbrev cJ18_init_2 : ByteArray := prog_28_method_150_code
def yJ18_init_2 : MethodName := ⟨RJ18, "<init>", "(Ljava/lang/AbstractStringBuilder;Ljava/lang/Void;)V"⟩
def dkwJ18_init_2_4 : List UInt8 := [181, 0, 9, 177]
abbrev dktJ18_init_2_4 : List UInt8 := dkwJ18_init_2_4 ++ []
def dkwJ18_init_2_3 : List UInt8 := [184, 0, 47, 181, 0, 15, 177, 42, 4, 181, 0, 15, 42, 45, 3, 21, 4, 4, 120, 184, 0, 54]
abbrev dktJ18_init_2_3 : List UInt8 := dkwJ18_init_2_3 ++ dktJ18_init_2_4
def dkwJ18_init_2_2 : List UInt8 := [180, 4, 24, 153, 0, 28, 42, 45, 3, 21, 4, 184, 4, 27, 181, 0, 9, 42, 42, 180, 0, 9, 21, 4]
abbrev dktJ18_init_2_2 : List UInt8 := dkwJ18_init_2_2 ++ dktJ18_init_2_3
def dkwJ18_init_2_1 : List UInt8 := [181, 0, 15, 42, 45, 3, 21, 4, 184, 0, 54, 181, 0, 9, 167, 0, 59, 178, 0, 38, 153, 0, 35, 43]
abbrev dktJ18_init_2_1 : List UInt8 := dkwJ18_init_2_1 ++ dktJ18_init_2_2
def dkwJ18_init_2_0 : List UInt8 := [42, 183, 0, 1, 43, 182, 2, 40, 78, 43, 182, 2, 37, 54, 4, 43, 182, 4, 23, 153, 0, 22, 42, 3]
abbrev dktJ18_init_2_0 : List UInt8 := dkwJ18_init_2_0 ++ dktJ18_init_2_1
theorem dksJ18_init_2_0 : cJ18_init_2.data.toList.drop 0 = dktJ18_init_2_0 := by decide +kernel
theorem dksJ18_init_2_1 : cJ18_init_2.data.toList.drop 24 = dktJ18_init_2_1 := dk_seg dksJ18_init_2_0 24 rfl rfl
theorem dksJ18_init_2_2 : cJ18_init_2.data.toList.drop 48 = dktJ18_init_2_2 := dk_seg dksJ18_init_2_1 24 rfl rfl
theorem dksJ18_init_2_3 : cJ18_init_2.data.toList.drop 72 = dktJ18_init_2_3 := dk_seg dksJ18_init_2_2 24 rfl rfl
theorem dksJ18_init_2_4 : cJ18_init_2.data.toList.drop 94 = dktJ18_init_2_4 := dk_seg dksJ18_init_2_3 22 rfl rfl
theorem dJ18_init_2_0 : decode cJ18_init_2 0 = .ok (.aload_n 0, 1) := dk_42 (dk_at dksJ18_init_2_0 0 rfl rfl)
theorem dJ18_init_2_1 : decode cJ18_init_2 1 = .ok (.invokespecial 1, 3) := dk_183 0 1 (dk_at dksJ18_init_2_0 1 rfl rfl)
theorem dJ18_init_2_4 : decode cJ18_init_2 4 = .ok (.aload_n 1, 1) := dk_43 (dk_at dksJ18_init_2_0 4 rfl rfl)
theorem dJ18_init_2_5 : decode cJ18_init_2 5 = .ok (.invokevirtual 552, 3) := dk_182 2 40 (dk_at dksJ18_init_2_0 5 rfl rfl)
theorem dJ18_init_2_8 : decode cJ18_init_2 8 = .ok (.astore_n 3, 1) := dk_78 (dk_at dksJ18_init_2_0 8 rfl rfl)
theorem dJ18_init_2_9 : decode cJ18_init_2 9 = .ok (.aload_n 1, 1) := dk_43 (dk_at dksJ18_init_2_0 9 rfl rfl)
theorem dJ18_init_2_10 : decode cJ18_init_2 10 = .ok (.invokevirtual 549, 3) := dk_182 2 37 (dk_at dksJ18_init_2_0 10 rfl rfl)
theorem dJ18_init_2_13 : decode cJ18_init_2 13 = .ok (.istore 4, 2) := dk_54 4 (dk_at dksJ18_init_2_0 13 rfl rfl)
theorem dJ18_init_2_15 : decode cJ18_init_2 15 = .ok (.aload_n 1, 1) := dk_43 (dk_at dksJ18_init_2_0 15 rfl rfl)
theorem dJ18_init_2_16 : decode cJ18_init_2 16 = .ok (.invokevirtual 1047, 3) := dk_182 4 23 (dk_at dksJ18_init_2_0 16 rfl rfl)
theorem dJ18_init_2_19 : decode cJ18_init_2 19 = .ok (.ifCond .eq 22, 3) := dk_153 0 22 (dk_at dksJ18_init_2_0 19 rfl rfl)
theorem dJ18_init_2_22 : decode cJ18_init_2 22 = .ok (.aload_n 0, 1) := dk_42 (dk_at dksJ18_init_2_0 22 rfl rfl)
theorem dJ18_init_2_23 : decode cJ18_init_2 23 = .ok (.iconst 0, 1) := dk_3 (dk_at dksJ18_init_2_0 23 rfl rfl)
theorem dJ18_init_2_24 : decode cJ18_init_2 24 = .ok (.putfield 15, 3) := dk_181 0 15 (dk_at dksJ18_init_2_1 0 rfl rfl)
theorem dJ18_init_2_27 : decode cJ18_init_2 27 = .ok (.aload_n 0, 1) := dk_42 (dk_at dksJ18_init_2_1 3 rfl rfl)
theorem dJ18_init_2_28 : decode cJ18_init_2 28 = .ok (.aload_n 3, 1) := dk_45 (dk_at dksJ18_init_2_1 4 rfl rfl)
theorem dJ18_init_2_29 : decode cJ18_init_2 29 = .ok (.iconst 0, 1) := dk_3 (dk_at dksJ18_init_2_1 5 rfl rfl)
theorem dJ18_init_2_30 : decode cJ18_init_2 30 = .ok (.iload 4, 2) := dk_21 4 (dk_at dksJ18_init_2_1 6 rfl rfl)
theorem dJ18_init_2_32 : decode cJ18_init_2 32 = .ok (.invokestatic 54, 3) := dk_184 0 54 (dk_at dksJ18_init_2_1 8 rfl rfl)
theorem dJ18_init_2_35 : decode cJ18_init_2 35 = .ok (.putfield 9, 3) := dk_181 0 9 (dk_at dksJ18_init_2_1 11 rfl rfl)
theorem dJ18_init_2_38 : decode cJ18_init_2 38 = .ok (.goto 59, 3) := dk_167 0 59 (dk_at dksJ18_init_2_1 14 rfl rfl)
theorem dJ18_init_2_41 : decode cJ18_init_2 41 = .ok (.getstatic 38, 3) := dk_178 0 38 (dk_at dksJ18_init_2_1 17 rfl rfl)
theorem dJ18_init_2_44 : decode cJ18_init_2 44 = .ok (.ifCond .eq 35, 3) := dk_153 0 35 (dk_at dksJ18_init_2_1 20 rfl rfl)
theorem dJ18_init_2_47 : decode cJ18_init_2 47 = .ok (.aload_n 1, 1) := dk_43 (dk_at dksJ18_init_2_1 23 rfl rfl)
theorem dJ18_init_2_48 : decode cJ18_init_2 48 = .ok (.getfield 1048, 3) := dk_180 4 24 (dk_at dksJ18_init_2_2 0 rfl rfl)
theorem dJ18_init_2_51 : decode cJ18_init_2 51 = .ok (.ifCond .eq 28, 3) := dk_153 0 28 (dk_at dksJ18_init_2_2 3 rfl rfl)
theorem dJ18_init_2_54 : decode cJ18_init_2 54 = .ok (.aload_n 0, 1) := dk_42 (dk_at dksJ18_init_2_2 6 rfl rfl)
theorem dJ18_init_2_55 : decode cJ18_init_2 55 = .ok (.aload_n 3, 1) := dk_45 (dk_at dksJ18_init_2_2 7 rfl rfl)
theorem dJ18_init_2_56 : decode cJ18_init_2 56 = .ok (.iconst 0, 1) := dk_3 (dk_at dksJ18_init_2_2 8 rfl rfl)
theorem dJ18_init_2_57 : decode cJ18_init_2 57 = .ok (.iload 4, 2) := dk_21 4 (dk_at dksJ18_init_2_2 9 rfl rfl)
theorem dJ18_init_2_59 : decode cJ18_init_2 59 = .ok (.invokestatic 1051, 3) := dk_184 4 27 (dk_at dksJ18_init_2_2 11 rfl rfl)
theorem dJ18_init_2_62 : decode cJ18_init_2 62 = .ok (.putfield 9, 3) := dk_181 0 9 (dk_at dksJ18_init_2_2 14 rfl rfl)
theorem dJ18_init_2_65 : decode cJ18_init_2 65 = .ok (.aload_n 0, 1) := dk_42 (dk_at dksJ18_init_2_2 17 rfl rfl)
theorem dJ18_init_2_66 : decode cJ18_init_2 66 = .ok (.aload_n 0, 1) := dk_42 (dk_at dksJ18_init_2_2 18 rfl rfl)
theorem dJ18_init_2_67 : decode cJ18_init_2 67 = .ok (.getfield 9, 3) := dk_180 0 9 (dk_at dksJ18_init_2_2 19 rfl rfl)
theorem dJ18_init_2_70 : decode cJ18_init_2 70 = .ok (.iload 4, 2) := dk_21 4 (dk_at dksJ18_init_2_2 22 rfl rfl)
theorem dJ18_init_2_72 : decode cJ18_init_2 72 = .ok (.invokestatic 47, 3) := dk_184 0 47 (dk_at dksJ18_init_2_3 0 rfl rfl)
theorem dJ18_init_2_75 : decode cJ18_init_2 75 = .ok (.putfield 15, 3) := dk_181 0 15 (dk_at dksJ18_init_2_3 3 rfl rfl)
theorem dJ18_init_2_78 : decode cJ18_init_2 78 = .ok (.return_, 1) := dk_177 (dk_at dksJ18_init_2_3 6 rfl rfl)
theorem dJ18_init_2_79 : decode cJ18_init_2 79 = .ok (.aload_n 0, 1) := dk_42 (dk_at dksJ18_init_2_3 7 rfl rfl)
theorem dJ18_init_2_80 : decode cJ18_init_2 80 = .ok (.iconst 1, 1) := dk_4 (dk_at dksJ18_init_2_3 8 rfl rfl)
theorem dJ18_init_2_81 : decode cJ18_init_2 81 = .ok (.putfield 15, 3) := dk_181 0 15 (dk_at dksJ18_init_2_3 9 rfl rfl)
theorem dJ18_init_2_84 : decode cJ18_init_2 84 = .ok (.aload_n 0, 1) := dk_42 (dk_at dksJ18_init_2_3 12 rfl rfl)
theorem dJ18_init_2_85 : decode cJ18_init_2 85 = .ok (.aload_n 3, 1) := dk_45 (dk_at dksJ18_init_2_3 13 rfl rfl)
theorem dJ18_init_2_86 : decode cJ18_init_2 86 = .ok (.iconst 0, 1) := dk_3 (dk_at dksJ18_init_2_3 14 rfl rfl)
theorem dJ18_init_2_87 : decode cJ18_init_2 87 = .ok (.iload 4, 2) := dk_21 4 (dk_at dksJ18_init_2_3 15 rfl rfl)
theorem dJ18_init_2_89 : decode cJ18_init_2 89 = .ok (.iconst 1, 1) := dk_4 (dk_at dksJ18_init_2_3 17 rfl rfl)
theorem dJ18_init_2_90 : decode cJ18_init_2 90 = .ok (.ishl, 1) := dk_120 (dk_at dksJ18_init_2_3 18 rfl rfl)
theorem dJ18_init_2_91 : decode cJ18_init_2 91 = .ok (.invokestatic 54, 3) := dk_184 0 54 (dk_at dksJ18_init_2_3 19 rfl rfl)
theorem dJ18_init_2_94 : decode cJ18_init_2 94 = .ok (.putfield 9, 3) := dk_181 0 9 (dk_at dksJ18_init_2_4 0 rfl rfl)
theorem dJ18_init_2_97 : decode cJ18_init_2 97 = .ok (.return_, 1) := dk_177 (dk_at dksJ18_init_2_4 3 rfl rfl)
theorem q158 : (Jvm.Cond.initialized "java/lang/String") ∈ lw_all := lw_g (lw_at lw_m1 29 rfl) rfl
theorem q299 : (Jvm.Cond.selects "java/lang/String" ({ cls := "java/lang/Object", name := "getClass", desc := "()Ljava/lang/Class;" } : Jvm.MethodName) ({ cls := "java/lang/Object", name := "getClass", desc := "()Ljava/lang/Class;" } : Jvm.MethodName)) ∈ lw_all := lw_g (lw_at lw_m1 170 rfl) rfl
theorem q826 : (Jvm.Cond.instanceMethod ({ cls := "java/lang/String", name := "length", desc := "()I" } : Jvm.MethodName)) ∈ lw_all := lw_g (lw_at lw_m3 217 rfl) rfl
theorem q827 : (Jvm.Cond.selects "java/lang/String" ({ cls := "java/lang/String", name := "length", desc := "()I" } : Jvm.MethodName) ({ cls := "java/lang/String", name := "length", desc := "()I" } : Jvm.MethodName)) ∈ lw_all := lw_g (lw_at lw_m3 218 rfl) rfl
theorem q828 : (Jvm.Cond.code ({ cls := "java/lang/String", name := "length", desc := "()I" } : Jvm.MethodName) prog_28_method_54_code (1 : Nat) (Option.some Jvm.ClassFile.FieldType.int)) ∈ lw_all := lw_g (lw_at lw_m3 219 rfl) rfl
theorem q829 : (Jvm.Cond.methodLink "java/lang/String" (335 : Nat) ({ cls := "java/lang/String", name := "coder", desc := "()B" } : Jvm.MethodName)) ∈ lw_all := lw_g (lw_at lw_m3 220 rfl) rfl
theorem q830 : (Jvm.Cond.instanceMethod ({ cls := "java/lang/String", name := "coder", desc := "()B" } : Jvm.MethodName)) ∈ lw_all := lw_g (lw_at lw_m3 221 rfl) rfl
theorem q831 : (Jvm.Cond.selects "java/lang/String" ({ cls := "java/lang/String", name := "coder", desc := "()B" } : Jvm.MethodName) ({ cls := "java/lang/String", name := "coder", desc := "()B" } : Jvm.MethodName)) ∈ lw_all := lw_g (lw_at lw_m3 222 rfl) rfl
theorem q832 : (Jvm.Cond.code ({ cls := "java/lang/String", name := "coder", desc := "()B" } : Jvm.MethodName) prog_28_method_152_code (1 : Nat) (Option.some Jvm.ClassFile.FieldType.byte)) ∈ lw_all := lw_g (lw_at lw_m3 223 rfl) rfl
theorem q833 : (Jvm.Cond.fieldLink "java/lang/String" (38 : Nat) "java/lang/String" "COMPACT_STRINGS" "Z") ∈ lw_all := lw_g (lw_at lw_m3 224 rfl) rfl
theorem q834 : (Jvm.Cond.laysStatic "java/lang/String" "COMPACT_STRINGS" "Z") ∈ lw_tbl := lw_at lw_m3 225 rfl
theorem q836 : (Jvm.Cond.instanceMethod ({ cls := "java/lang/String", name := "charAt", desc := "(I)C" } : Jvm.MethodName)) ∈ lw_all := lw_g (lw_at lw_m3 227 rfl) rfl
theorem q837 : (Jvm.Cond.selects "java/lang/String" ({ cls := "java/lang/String", name := "charAt", desc := "(I)C" } : Jvm.MethodName) ({ cls := "java/lang/String", name := "charAt", desc := "(I)C" } : Jvm.MethodName)) ∈ lw_all := lw_g (lw_at lw_m3 228 rfl) rfl
theorem q838 : (Jvm.Cond.code ({ cls := "java/lang/String", name := "charAt", desc := "(I)C" } : Jvm.MethodName) prog_28_method_56_code (2 : Nat) (Option.some Jvm.ClassFile.FieldType.char)) ∈ lw_all := lw_g (lw_at lw_m3 229 rfl) rfl
theorem q839 : (Jvm.Cond.methodLink "java/lang/String" (492 : Nat) ({ cls := "java/lang/String", name := "isLatin1", desc := "()Z" } : Jvm.MethodName)) ∈ lw_all := lw_g (lw_at lw_m3 230 rfl) rfl
theorem q840 : (Jvm.Cond.instanceMethod ({ cls := "java/lang/String", name := "isLatin1", desc := "()Z" } : Jvm.MethodName)) ∈ lw_all := lw_g (lw_at lw_m3 231 rfl) rfl
theorem q841 : (Jvm.Cond.selects "java/lang/String" ({ cls := "java/lang/String", name := "isLatin1", desc := "()Z" } : Jvm.MethodName) ({ cls := "java/lang/String", name := "isLatin1", desc := "()Z" } : Jvm.MethodName)) ∈ lw_all := lw_g (lw_at lw_m3 232 rfl) rfl
theorem q842 : (Jvm.Cond.code ({ cls := "java/lang/String", name := "isLatin1", desc := "()Z" } : Jvm.MethodName) prog_28_method_154_code (1 : Nat) (Option.some Jvm.ClassFile.FieldType.boolean)) ∈ lw_all := lw_g (lw_at lw_m3 233 rfl) rfl
theorem q843 : (Jvm.Cond.methodLink "java/lang/String" (495 : Nat) ({ cls := "java/lang/StringLatin1", name := "charAt", desc := "([BI)C" } : Jvm.MethodName)) ∈ lw_all := lw_g (lw_at lw_m3 234 rfl) rfl
theorem q847 : (Jvm.Cond.static ({ cls := "java/lang/String", name := "checkIndex", desc := "(II)V" } : Jvm.MethodName)) ∈ lw_all := lw_g (lw_at lw_m3 238 rfl) rfl
theorem q848 : (Jvm.Cond.code ({ cls := "java/lang/String", name := "checkIndex", desc := "(II)V" } : Jvm.MethodName) prog_28_method_155_code (2 : Nat) (Option.none : Option Jvm.ClassFile.FieldType)) ∈ lw_all := lw_g (lw_at lw_m3 239 rfl) rfl
theorem q849 : (Jvm.Cond.fieldLink "java/lang/String" (1053 : Nat) "jdk/internal/util/Preconditions" "SIOOBE_FORMATTER" "Ljava/util/function/BiFunction;") ∈ lw_all := lw_g (lw_at lw_m4 0 rfl) rfl
theorem q851 : (Jvm.Cond.methodLink "java/lang/String" (1059 : Nat) ({ cls := "jdk/internal/util/Preconditions", name := "checkIndex", desc := "(IILjava/util/function/BiFunction;)I" } : Jvm.MethodName)) ∈ lw_all := lw_g (lw_at lw_m4 2 rfl) rfl
theorem q852 : (Jvm.Cond.methodLink "java/lang/String" (498 : Nat) ({ cls := "java/lang/StringUTF16", name := "charAt", desc := "([BI)C" } : Jvm.MethodName)) ∈ lw_all := lw_g (lw_at lw_m4 3 rfl) rfl
theorem q1262 : (Jvm.Cond.fieldLink "java/lang/String" (1048 : Nat) "java/lang/AbstractStringBuilder" "maybeLatin1" "Z") ∈ lw_all := lw_g (lw_at lw_m5 173 rfl) rfl
theorem q1316 : (Jvm.Cond.static ({ cls := "java/lang/String", name := "checkBoundsBeginEnd", desc := "(III)V" } : Jvm.MethodName)) ∈ lw_all := lw_g (lw_at lw_m5 227 rfl) rfl
theorem q1317 : (Jvm.Cond.code ({ cls := "java/lang/String", name := "checkBoundsBeginEnd", desc := "(III)V" } : Jvm.MethodName) prog_28_method_158_code (3 : Nat) (Option.none : Option Jvm.ClassFile.FieldType)) ∈ lw_all := lw_g (lw_at lw_m5 228 rfl) rfl
theorem q1318 : (Jvm.Cond.methodLink "java/lang/String" (1062 : Nat) ({ cls := "jdk/internal/util/Preconditions", name := "checkFromToIndex", desc := "(IIILjava/util/function/BiFunction;)I" } : Jvm.MethodName)) ∈ lw_all := lw_g (lw_at lw_m5 229 rfl) rfl
theorem q1348 : (Jvm.Cond.static ({ cls := "java/lang/String", name := "checkBoundsOffCount", desc := "(III)I" } : Jvm.MethodName)) ∈ lw_all := lw_g (lw_at lw_m6 19 rfl) rfl
theorem q1349 : (Jvm.Cond.code ({ cls := "java/lang/String", name := "checkBoundsOffCount", desc := "(III)I" } : Jvm.MethodName) prog_28_method_157_code (3 : Nat) (Option.some Jvm.ClassFile.FieldType.int)) ∈ lw_all := lw_g (lw_at lw_m6 20 rfl) rfl
theorem q1350 : (Jvm.Cond.methodLink "java/lang/String" (1065 : Nat) ({ cls := "jdk/internal/util/Preconditions", name := "checkFromIndexSize", desc := "(IIILjava/util/function/BiFunction;)I" } : Jvm.MethodName)) ∈ lw_all := lw_g (lw_at lw_m6 21 rfl) rfl
theorem q1354 : (Jvm.Cond.instanceMethod ({ cls := "java/lang/String", name := "getBytes", desc := "([BIB)V" } : Jvm.MethodName)) ∈ lw_all := lw_g (lw_at lw_m6 25 rfl) rfl
theorem q1355 : (Jvm.Cond.selects "java/lang/String" ({ cls := "java/lang/String", name := "getBytes", desc := "([BIB)V" } : Jvm.MethodName) ({ cls := "java/lang/String", name := "getBytes", desc := "([BIB)V" } : Jvm.MethodName)) ∈ lw_all := lw_g (lw_at lw_m6 26 rfl) rfl
theorem q1356 : (Jvm.Cond.code ({ cls := "java/lang/String", name := "getBytes", desc := "([BIB)V" } : Jvm.MethodName) prog_28_method_147_code (4 : Nat) (Option.none : Option Jvm.ClassFile.FieldType)) ∈ lw_all := lw_g (lw_at lw_m6 27 rfl) rfl
theorem q1357 : (Jvm.Cond.methodLink "java/lang/String" (212 : Nat) ({ cls := "java/lang/System", name := "arraycopy", desc := "(Ljava/lang/Object;ILjava/lang/Object;II)V" } : Jvm.MethodName)) ∈ lw_all := lw_g (lw_at lw_m6 28 rfl) rfl
theorem q1358 : (Jvm.Cond.methodLink "java/lang/String" (106 : Nat) ({ cls := "java/lang/StringLatin1", name := "inflate", desc := "([BI[BII)V" } : Jvm.MethodName)) ∈ lw_all := lw_g (lw_at lw_m6 29 rfl) rfl
theorem q1365 : (Jvm.Cond.instantiable "java/lang/String" (4 : Nat)) ∈ lw_all := lw_g (lw_at lw_m6 36 rfl) rfl
theorem q1367 : (Jvm.Cond.instanceMethod ({ cls := "java/lang/String", name := "<init>", desc := "(Ljava/lang/StringBuilder;)V" } : Jvm.MethodName)) ∈ lw_all := lw_g (lw_at lw_m6 38 rfl) rfl
theorem q1368 : (Jvm.Cond.code ({ cls := "java/lang/String", name := "<init>", desc := "(Ljava/lang/StringBuilder;)V" } : Jvm.MethodName) prog_28_method_53_code (2 : Nat) (Option.none : Option Jvm.ClassFile.FieldType)) ∈ lw_all := lw_g (lw_at lw_m6 39 rfl) rfl
theorem q1369 : (Jvm.Cond.methodLink "java/lang/String" (489 : Nat) ({ cls := "java/lang/String", name := "<init>", desc := "(Ljava/lang/AbstractStringBuilder;Ljava/lang/Void;)V" } : Jvm.MethodName)) ∈ lw_all := lw_g (lw_at lw_m6 40 rfl) rfl
theorem q1370 : (Jvm.Cond.instanceMethod ({ cls := "java/lang/String", name := "<init>", desc := "(Ljava/lang/AbstractStringBuilder;Ljava/lang/Void;)V" } : Jvm.MethodName)) ∈ lw_all := lw_g (lw_at lw_m6 41 rfl) rfl
theorem q1371 : (Jvm.Cond.code ({ cls := "java/lang/String", name := "<init>", desc := "(Ljava/lang/AbstractStringBuilder;Ljava/lang/Void;)V" } : Jvm.MethodName) prog_28_method_150_code (5 : Nat) (Option.none : Option Jvm.ClassFile.FieldType)) ∈ lw_all := lw_g (lw_at lw_m6 42 rfl) rfl
theorem q1372 : (Jvm.Cond.methodLink "java/lang/String" (1 : Nat) ({ cls := "java/lang/Object", name := "<init>", desc := "()V" } : Jvm.MethodName)) ∈ lw_all := lw_g (lw_at lw_m6 43 rfl) rfl
theorem q1373 : (Jvm.Cond.methodLink "java/lang/String" (552 : Nat) ({ cls := "java/lang/AbstractStringBuilder", name := "getValue", desc := "()[B" } : Jvm.MethodName)) ∈ lw_all := lw_g (lw_at lw_m6 44 rfl) rfl
theorem q1378 : (Jvm.Cond.methodLink "java/lang/String" (549 : Nat) ({ cls := "java/lang/AbstractStringBuilder", name := "length", desc := "()I" } : Jvm.MethodName)) ∈ lw_all := lw_g (lw_at lw_m6 49 rfl) rfl
theorem q1386 : (Jvm.Cond.methodLink "java/lang/String" (1047 : Nat) ({ cls := "java/lang/AbstractStringBuilder", name := "isLatin1", desc := "()Z" } : Jvm.MethodName)) ∈ lw_all := lw_g (lw_at lw_m6 57 rfl) rfl
theorem q1387 : (Jvm.Cond.methodLink "java/lang/String" (54 : Nat) ({ cls := "java/util/Arrays", name := "copyOfRange", desc := "([BII)[B" } : Jvm.MethodName)) ∈ lw_all := lw_g (lw_at lw_m6 58 rfl) rfl
theorem q1396 : (Jvm.Cond.methodLink "java/lang/String" (1051 : Nat) ({ cls := "java/lang/StringUTF16", name := "compress", desc := "([BII)[B" } : Jvm.MethodName)) ∈ lw_all := lw_g (lw_at lw_m6 67 rfl) rfl
theorem q1403 : (Jvm.Cond.methodLink "java/lang/String" (47 : Nat) ({ cls := "java/lang/StringUTF16", name := "coderFromArrayLen", desc := "([BI)B" } : Jvm.MethodName)) ∈ lw_all := lw_g (lw_at lw_m6 74 rfl) rfl
theorem q1406 : (Jvm.Cond.fieldLink "java/lang/String" (9 : Nat) "java/lang/String" "value" "[B") ∈ lw_all := lw_g (lw_at lw_m6 77 rfl) rfl
theorem q1407 : (Jvm.Cond.fieldLink "java/lang/String" (15 : Nat) "java/lang/String" "coder" "B") ∈ lw_all := lw_g (lw_at lw_m6 78 rfl) rfl
theorem q1408 : (Jvm.Cond.laysFinal "java/lang/String" "java/lang/String" "value" "[B") ∈ lw_all := lw_g (lw_at lw_m6 79 rfl) rfl
theorem q1409 : (Jvm.Cond.soleField "java/lang/String" "value") ∈ lw_all := lw_g (lw_at lw_m6 80 rfl) rfl
theorem q1410 : (Jvm.Cond.laysFinal "java/lang/String" "java/lang/String" "coder" "B") ∈ lw_all := lw_g (lw_at lw_m6 81 rfl) rfl
theorem q1411 : (Jvm.Cond.soleField "java/lang/String" "coder") ∈ lw_all := lw_g (lw_at lw_m6 82 rfl) rfl
theorem q1412 : (Jvm.Cond.lays "java/lang/String" "java/lang/String" "hash" "I") ∈ lw_all := lw_g (lw_at lw_m6 83 rfl) rfl
theorem q1413 : (Jvm.Cond.soleField "java/lang/String" "hash") ∈ lw_all := lw_g (lw_at lw_m6 84 rfl) rfl
theorem q1414 : (Jvm.Cond.lays "java/lang/String" "java/lang/String" "hashIsZero" "Z") ∈ lw_all := lw_g (lw_at lw_m6 85 rfl) rfl
theorem q1415 : (Jvm.Cond.soleField "java/lang/String" "hashIsZero") ∈ lw_all := lw_g (lw_at lw_m6 86 rfl) rfl
theorem q1416 : (Jvm.Cond.superclass "java/lang/String" "java/lang/Object") ∈ lw_all := lw_g (lw_at lw_m6 87 rfl) rfl
theorem q2705 : (Jvm.Cond.castable "java/lang/String" "java/lang/Object") ∈ lw_tbl := lw_at lw_m11 176 rfl
theorem in_J18 : ∀ w ∈ wsJ180, w ∈ lw_all := lw_in wsJ180 [1408, 1410, 1412, 1414] (by decide +kernel) (by decide +kernel)
/-! java/lang/StringLatin1 -/
set_option maxRecDepth 100000
def RJ19 : String := "java/lang/StringLatin1"
abbrev cJ19_charAt : ByteArray := prog_30_method_2_code
def yJ19_charAt : MethodName := ⟨RJ19, "charAt", "([BI)C"⟩
def dkwJ19_charAt_0 : List UInt8 := [27, 42, 190, 184, 0, 9, 42, 27, 51, 17, 0, 255, 126, 146, 172]
abbrev dktJ19_charAt_0 : List UInt8 := dkwJ19_charAt_0 ++ []
theorem dksJ19_charAt_0 : cJ19_charAt.data.toList.drop 0 = dktJ19_charAt_0 := by decide +kernel
theorem dJ19_charAt_0 : decode cJ19_charAt 0 = .ok (.iload_n 1, 1) := dk_27 (dk_at dksJ19_charAt_0 0 rfl rfl)
theorem dJ19_charAt_1 : decode cJ19_charAt 1 = .ok (.aload_n 0, 1) := dk_42 (dk_at dksJ19_charAt_0 1 rfl rfl)
theorem dJ19_charAt_2 : decode cJ19_charAt 2 = .ok (.arraylength, 1) := dk_190 (dk_at dksJ19_charAt_0 2 rfl rfl)
theorem dJ19_charAt_3 : decode cJ19_charAt 3 = .ok (.invokestatic 9, 3) := dk_184 0 9 (dk_at dksJ19_charAt_0 3 rfl rfl)
theorem dJ19_charAt_6 : decode cJ19_charAt 6 = .ok (.aload_n 0, 1) := dk_42 (dk_at dksJ19_charAt_0 6 rfl rfl)
theorem dJ19_charAt_7 : decode cJ19_charAt 7 = .ok (.iload_n 1, 1) := dk_27 (dk_at dksJ19_charAt_0 7 rfl rfl)
theorem dJ19_charAt_8 : decode cJ19_charAt 8 = .ok (.baload, 1) := dk_51 (dk_at dksJ19_charAt_0 8 rfl rfl)
theorem dJ19_charAt_9 : decode cJ19_charAt 9 = .ok (.sipush 255, 3) := dk_17 0 255 (dk_at dksJ19_charAt_0 9 rfl rfl)
theorem dJ19_charAt_12 : decode cJ19_charAt 12 = .ok (.iand, 1) := dk_126 (dk_at dksJ19_charAt_0 12 rfl rfl)
theorem dJ19_charAt_13 : decode cJ19_charAt 13 = .ok (.i2c, 1) := dk_146 (dk_at dksJ19_charAt_0 13 rfl rfl)
theorem dJ19_charAt_14 : decode cJ19_charAt 14 = .ok (.ireturn, 1) := dk_172 (dk_at dksJ19_charAt_0 14 rfl rfl)
abbrev cJ19_inflate : ByteArray := prog_30_method_50_code
def yJ19_inflate : MethodName := ⟨RJ19, "inflate", "([BI[BII)V"⟩
def dkwJ19_inflate_0 : List UInt8 := [42, 27, 44, 29, 21, 4, 184, 0, 240, 177]
abbrev dktJ19_inflate_0 : List UInt8 := dkwJ19_inflate_0 ++ []
theorem dksJ19_inflate_0 : cJ19_inflate.data.toList.drop 0 = dktJ19_inflate_0 := by decide +kernel
theorem dJ19_inflate_0 : decode cJ19_inflate 0 = .ok (.aload_n 0, 1) := dk_42 (dk_at dksJ19_inflate_0 0 rfl rfl)
theorem dJ19_inflate_1 : decode cJ19_inflate 1 = .ok (.iload_n 1, 1) := dk_27 (dk_at dksJ19_inflate_0 1 rfl rfl)
theorem dJ19_inflate_2 : decode cJ19_inflate 2 = .ok (.aload_n 2, 1) := dk_44 (dk_at dksJ19_inflate_0 2 rfl rfl)
theorem dJ19_inflate_3 : decode cJ19_inflate 3 = .ok (.iload_n 3, 1) := dk_29 (dk_at dksJ19_inflate_0 3 rfl rfl)
theorem dJ19_inflate_4 : decode cJ19_inflate 4 = .ok (.iload 4, 2) := dk_21 4 (dk_at dksJ19_inflate_0 4 rfl rfl)
theorem dJ19_inflate_6 : decode cJ19_inflate 6 = .ok (.invokestatic 240, 3) := dk_184 0 240 (dk_at dksJ19_inflate_0 6 rfl rfl)
theorem dJ19_inflate_9 : decode cJ19_inflate 9 = .ok (.return_, 1) := dk_177 (dk_at dksJ19_inflate_0 9 rfl rfl)
theorem q159 : (Jvm.Cond.initialized "java/lang/StringLatin1") ∈ lw_all := lw_g (lw_at lw_m1 30 rfl) rfl
theorem q844 : (Jvm.Cond.static ({ cls := "java/lang/StringLatin1", name := "charAt", desc := "([BI)C" } : Jvm.MethodName)) ∈ lw_all := lw_g (lw_at lw_m3 235 rfl) rfl
theorem q845 : (Jvm.Cond.code ({ cls := "java/lang/StringLatin1", name := "charAt", desc := "([BI)C" } : Jvm.MethodName) prog_30_method_2_code (2 : Nat) (Option.some Jvm.ClassFile.FieldType.char)) ∈ lw_all := lw_g (lw_at lw_m3 236 rfl) rfl
theorem q846 : (Jvm.Cond.methodLink "java/lang/StringLatin1" (9 : Nat) ({ cls := "java/lang/String", name := "checkIndex", desc := "(II)V" } : Jvm.MethodName)) ∈ lw_all := lw_g (lw_at lw_m3 237 rfl) rfl
theorem q1339 : (Jvm.Cond.static ({ cls := "java/lang/StringLatin1", name := "inflate", desc := "([BI[BII)V" } : Jvm.MethodName)) ∈ lw_all := lw_g (lw_at lw_m6 10 rfl) rfl
theorem q1340 : (Jvm.Cond.code ({ cls := "java/lang/StringLatin1", name := "inflate", desc := "([BI[BII)V" } : Jvm.MethodName) prog_30_method_50_code (5 : Nat) (Option.none : Option Jvm.ClassFile.FieldType)) ∈ lw_all := lw_g (lw_at lw_m6 11 rfl) rfl
theorem q1341 : (Jvm.Cond.methodLink "java/lang/StringLatin1" (240 : Nat) ({ cls := "java/lang/StringUTF16", name := "inflate", desc := "([BI[BII)V" } : Jvm.MethodName)) ∈ lw_all := lw_g (lw_at lw_m6 12 rfl) rfl
/-! jdk/internal/util/ArraysSupport -/
set_option maxRecDepth 100000
def RJ21 : String := "jdk/internal/util/ArraysSupport"
abbrev cJ21_newLength : ByteArray := prog_66_method_27_code
def yJ21_newLength : MethodName := ⟨RJ21, "newLength", "(III)I"⟩
def dkwJ21_newLength_1 : List UInt8 := [184, 0, 201, 172]
abbrev dktJ21_newLength_1 : List UInt8 := dkwJ21_newLength_1 ++ []
def dkwJ21_newLength_0 : List UInt8 := [26, 27, 28, 184, 0, 194, 96, 62, 3, 29, 162, 0, 11, 29, 18, 200, 163, 0, 5, 29, 172, 26, 27]
abbrev dktJ21_newLength_0 : List UInt8 := dkwJ21_newLength_0 ++ dktJ21_newLength_1
theorem dksJ21_newLength_0 : cJ21_newLength.data.toList.drop 0 = dktJ21_newLength_0 := by decide +kernel
theorem dksJ21_newLength_1 : cJ21_newLength.data.toList.drop 23 = dktJ21_newLength_1 := dk_seg dksJ21_newLength_0 23 rfl rfl
theorem dJ21_newLength_0 : decode cJ21_newLength 0 = .ok (.iload_n 0, 1) := dk_26 (dk_at dksJ21_newLength_0 0 rfl rfl)
theorem dJ21_newLength_1 : decode cJ21_newLength 1 = .ok (.iload_n 1, 1) := dk_27 (dk_at dksJ21_newLength_0 1 rfl rfl)
theorem dJ21_newLength_2 : decode cJ21_newLength 2 = .ok (.iload_n 2, 1) := dk_28 (dk_at dksJ21_newLength_0 2 rfl rfl)
theorem dJ21_newLength_3 : decode cJ21_newLength 3 = .ok (.invokestatic 194, 3) := dk_184 0 194 (dk_at dksJ21_newLength_0 3 rfl rfl)
theorem dJ21_newLength_6 : decode cJ21_newLength 6 = .ok (.iadd, 1) := dk_96 (dk_at dksJ21_newLength_0 6 rfl rfl)
theorem dJ21_newLength_7 : decode cJ21_newLength 7 = .ok (.istore_n 3, 1) := dk_62 (dk_at dksJ21_newLength_0 7 rfl rfl)
theorem dJ21_newLength_8 : decode cJ21_newLength 8 = .ok (.iconst 0, 1) := dk_3 (dk_at dksJ21_newLength_0 8 rfl rfl)
theorem dJ21_newLength_9 : decode cJ21_newLength 9 = .ok (.iload_n 3, 1) := dk_29 (dk_at dksJ21_newLength_0 9 rfl rfl)
theorem dJ21_newLength_10 : decode cJ21_newLength 10 = .ok (.if_icmp .ge 11, 3) := dk_162 0 11 (dk_at dksJ21_newLength_0 10 rfl rfl)
theorem dJ21_newLength_13 : decode cJ21_newLength 13 = .ok (.iload_n 3, 1) := dk_29 (dk_at dksJ21_newLength_0 13 rfl rfl)
theorem dJ21_newLength_14 : decode cJ21_newLength 14 = .ok (.ldc 200, 2) := dk_18 200 (dk_at dksJ21_newLength_0 14 rfl rfl)
theorem dJ21_newLength_16 : decode cJ21_newLength 16 = .ok (.if_icmp .gt 5, 3) := dk_163 0 5 (dk_at dksJ21_newLength_0 16 rfl rfl)
theorem dJ21_newLength_19 : decode cJ21_newLength 19 = .ok (.iload_n 3, 1) := dk_29 (dk_at dksJ21_newLength_0 19 rfl rfl)
theorem dJ21_newLength_20 : decode cJ21_newLength 20 = .ok (.ireturn, 1) := dk_172 (dk_at dksJ21_newLength_0 20 rfl rfl)
theorem dJ21_newLength_21 : decode cJ21_newLength 21 = .ok (.iload_n 0, 1) := dk_26 (dk_at dksJ21_newLength_0 21 rfl rfl)
theorem dJ21_newLength_22 : decode cJ21_newLength 22 = .ok (.iload_n 1, 1) := dk_27 (dk_at dksJ21_newLength_0 22 rfl rfl)
theorem dJ21_newLength_23 : decode cJ21_newLength 23 = .ok (.invokestatic 201, 3) := dk_184 0 201 (dk_at dksJ21_newLength_1 0 rfl rfl)
theorem dJ21_newLength_26 : decode cJ21_newLength 26 = .ok (.ireturn, 1) := dk_172 (dk_at dksJ21_newLength_1 3 rfl rfl)
abbrev cJ21_hugeLength : ByteArray := prog_66_method_28_code
def yJ21_hugeLength : MethodName := ⟨RJ21, "hugeLength", "(II)I"⟩
def dkwJ21_hugeLength_2 : List UInt8 := [191, 28, 18, 200, 163, 0, 6, 18, 200, 172, 28, 172]
abbrev dktJ21_hugeLength_2 : List UInt8 := dkwJ21_hugeLength_2 ++ []
def dkwJ21_hugeLength_1 : List UInt8 := [26, 182, 0, 98, 18, 208, 182, 0, 94, 27, 182, 0, 98, 18, 210, 182, 0, 94, 182, 0, 101, 183, 0, 212]
abbrev dktJ21_hugeLength_1 : List UInt8 := dkwJ21_hugeLength_1 ++ dktJ21_hugeLength_2
def dkwJ21_hugeLength_0 : List UInt8 := [26, 27, 96, 61, 28, 156, 0, 44, 187, 0, 204, 89, 187, 0, 89, 89, 183, 0, 91, 18, 206, 182, 0, 94]
abbrev dktJ21_hugeLength_0 : List UInt8 := dkwJ21_hugeLength_0 ++ dktJ21_hugeLength_1
theorem dksJ21_hugeLength_0 : cJ21_hugeLength.data.toList.drop 0 = dktJ21_hugeLength_0 := by decide +kernel
theorem dksJ21_hugeLength_1 : cJ21_hugeLength.data.toList.drop 24 = dktJ21_hugeLength_1 := dk_seg dksJ21_hugeLength_0 24 rfl rfl
theorem dksJ21_hugeLength_2 : cJ21_hugeLength.data.toList.drop 48 = dktJ21_hugeLength_2 := dk_seg dksJ21_hugeLength_1 24 rfl rfl
theorem dJ21_hugeLength_0 : decode cJ21_hugeLength 0 = .ok (.iload_n 0, 1) := dk_26 (dk_at dksJ21_hugeLength_0 0 rfl rfl)
theorem dJ21_hugeLength_1 : decode cJ21_hugeLength 1 = .ok (.iload_n 1, 1) := dk_27 (dk_at dksJ21_hugeLength_0 1 rfl rfl)
theorem dJ21_hugeLength_2 : decode cJ21_hugeLength 2 = .ok (.iadd, 1) := dk_96 (dk_at dksJ21_hugeLength_0 2 rfl rfl)
theorem dJ21_hugeLength_3 : decode cJ21_hugeLength 3 = .ok (.istore_n 2, 1) := dk_61 (dk_at dksJ21_hugeLength_0 3 rfl rfl)
theorem dJ21_hugeLength_4 : decode cJ21_hugeLength 4 = .ok (.iload_n 2, 1) := dk_28 (dk_at dksJ21_hugeLength_0 4 rfl rfl)
theorem dJ21_hugeLength_5 : decode cJ21_hugeLength 5 = .ok (.ifCond .ge 44, 3) := dk_156 0 44 (dk_at dksJ21_hugeLength_0 5 rfl rfl)
theorem dJ21_hugeLength_8 : decode cJ21_hugeLength 8 = .ok (.new 204, 3) := dk_187 0 204 (dk_at dksJ21_hugeLength_0 8 rfl rfl)
theorem dJ21_hugeLength_11 : decode cJ21_hugeLength 11 = .ok (.dup, 1) := dk_89 (dk_at dksJ21_hugeLength_0 11 rfl rfl)
theorem dJ21_hugeLength_12 : decode cJ21_hugeLength 12 = .ok (.new 89, 3) := dk_187 0 89 (dk_at dksJ21_hugeLength_0 12 rfl rfl)
theorem dJ21_hugeLength_15 : decode cJ21_hugeLength 15 = .ok (.dup, 1) := dk_89 (dk_at dksJ21_hugeLength_0 15 rfl rfl)
theorem dJ21_hugeLength_16 : decode cJ21_hugeLength 16 = .ok (.invokespecial 91, 3) := dk_183 0 91 (dk_at dksJ21_hugeLength_0 16 rfl rfl)
theorem dJ21_hugeLength_19 : decode cJ21_hugeLength 19 = .ok (.ldc 206, 2) := dk_18 206 (dk_at dksJ21_hugeLength_0 19 rfl rfl)
theorem dJ21_hugeLength_21 : decode cJ21_hugeLength 21 = .ok (.invokevirtual 94, 3) := dk_182 0 94 (dk_at dksJ21_hugeLength_0 21 rfl rfl)
theorem dJ21_hugeLength_24 : decode cJ21_hugeLength 24 = .ok (.iload_n 0, 1) := dk_26 (dk_at dksJ21_hugeLength_1 0 rfl rfl)
theorem dJ21_hugeLength_25 : decode cJ21_hugeLength 25 = .ok (.invokevirtual 98, 3) := dk_182 0 98 (dk_at dksJ21_hugeLength_1 1 rfl rfl)
theorem dJ21_hugeLength_28 : decode cJ21_hugeLength 28 = .ok (.ldc 208, 2) := dk_18 208 (dk_at dksJ21_hugeLength_1 4 rfl rfl)
theorem dJ21_hugeLength_30 : decode cJ21_hugeLength 30 = .ok (.invokevirtual 94, 3) := dk_182 0 94 (dk_at dksJ21_hugeLength_1 6 rfl rfl)
theorem dJ21_hugeLength_33 : decode cJ21_hugeLength 33 = .ok (.iload_n 1, 1) := dk_27 (dk_at dksJ21_hugeLength_1 9 rfl rfl)
theorem dJ21_hugeLength_34 : decode cJ21_hugeLength 34 = .ok (.invokevirtual 98, 3) := dk_182 0 98 (dk_at dksJ21_hugeLength_1 10 rfl rfl)
theorem dJ21_hugeLength_37 : decode cJ21_hugeLength 37 = .ok (.ldc 210, 2) := dk_18 210 (dk_at dksJ21_hugeLength_1 13 rfl rfl)
theorem dJ21_hugeLength_39 : decode cJ21_hugeLength 39 = .ok (.invokevirtual 94, 3) := dk_182 0 94 (dk_at dksJ21_hugeLength_1 15 rfl rfl)
theorem dJ21_hugeLength_42 : decode cJ21_hugeLength 42 = .ok (.invokevirtual 101, 3) := dk_182 0 101 (dk_at dksJ21_hugeLength_1 18 rfl rfl)
theorem dJ21_hugeLength_45 : decode cJ21_hugeLength 45 = .ok (.invokespecial 212, 3) := dk_183 0 212 (dk_at dksJ21_hugeLength_1 21 rfl rfl)
theorem dJ21_hugeLength_48 : decode cJ21_hugeLength 48 = .ok (.athrow, 1) := dk_191 (dk_at dksJ21_hugeLength_2 0 rfl rfl)
theorem dJ21_hugeLength_49 : decode cJ21_hugeLength 49 = .ok (.iload_n 2, 1) := dk_28 (dk_at dksJ21_hugeLength_2 1 rfl rfl)
theorem dJ21_hugeLength_50 : decode cJ21_hugeLength 50 = .ok (.ldc 200, 2) := dk_18 200 (dk_at dksJ21_hugeLength_2 2 rfl rfl)
theorem dJ21_hugeLength_52 : decode cJ21_hugeLength 52 = .ok (.if_icmp .gt 6, 3) := dk_163 0 6 (dk_at dksJ21_hugeLength_2 4 rfl rfl)
theorem dJ21_hugeLength_55 : decode cJ21_hugeLength 55 = .ok (.ldc 200, 2) := dk_18 200 (dk_at dksJ21_hugeLength_2 7 rfl rfl)
theorem dJ21_hugeLength_57 : decode cJ21_hugeLength 57 = .ok (.ireturn, 1) := dk_172 (dk_at dksJ21_hugeLength_2 9 rfl rfl)
theorem dJ21_hugeLength_58 : decode cJ21_hugeLength 58 = .ok (.iload_n 2, 1) := dk_28 (dk_at dksJ21_hugeLength_2 10 rfl rfl)
theorem dJ21_hugeLength_59 : decode cJ21_hugeLength 59 = .ok (.ireturn, 1) := dk_172 (dk_at dksJ21_hugeLength_2 11 rfl rfl)
theorem q162 : (Jvm.Cond.initialized "jdk/internal/util/ArraysSupport") ∈ lw_all := lw_g (lw_at lw_m1 33 rfl) rfl
theorem q975 : (Jvm.Cond.static ({ cls := "jdk/internal/util/ArraysSupport", name := "newLength", desc := "(III)I" } : Jvm.MethodName)) ∈ lw_all := lw_g (lw_at lw_m4 126 rfl) rfl
theorem q976 : (Jvm.Cond.code ({ cls := "jdk/internal/util/ArraysSupport", name := "newLength", desc := "(III)I" } : Jvm.MethodName) prog_66_method_27_code (4 : Nat) (Option.some Jvm.ClassFile.FieldType.int)) ∈ lw_all := lw_g (lw_at lw_m4 127 rfl) rfl
theorem q977 : (Jvm.Cond.methodLink "jdk/internal/util/ArraysSupport" (194 : Nat) ({ cls := "java/lang/Math", name := "max", desc := "(II)I" } : Jvm.MethodName)) ∈ lw_all := lw_g (lw_at lw_m4 128 rfl) rfl
theorem q980 : (Jvm.Cond.constant "jdk/internal/util/ArraysSupport" (200 : Nat) (2147483639 : Int32)) ∈ lw_all := lw_g (lw_at lw_m4 131 rfl) rfl
theorem q981 : (Jvm.Cond.methodLink "jdk/internal/util/ArraysSupport" (201 : Nat) ({ cls := "jdk/internal/util/ArraysSupport", name := "hugeLength", desc := "(II)I" } : Jvm.MethodName)) ∈ lw_all := lw_g (lw_at lw_m4 132 rfl) rfl
theorem q982 : (Jvm.Cond.static ({ cls := "jdk/internal/util/ArraysSupport", name := "hugeLength", desc := "(II)I" } : Jvm.MethodName)) ∈ lw_all := lw_g (lw_at lw_m4 133 rfl) rfl
theorem q983 : (Jvm.Cond.code ({ cls := "jdk/internal/util/ArraysSupport", name := "hugeLength", desc := "(II)I" } : Jvm.MethodName) prog_66_method_28_code (3 : Nat) (Option.some Jvm.ClassFile.FieldType.int)) ∈ lw_all := lw_g (lw_at lw_m4 134 rfl) rfl
/-! java/lang/Math -/
set_option maxRecDepth 100000
def RJ22 : String := "java/lang/Math"
abbrev cJ22_max : ByteArray := prog_25_method_65_code
def yJ22_max : MethodName := ⟨RJ22, "max", "(II)I"⟩
def dkwJ22_max_0 : List UInt8 := [26, 27, 161, 0, 7, 26, 167, 0, 4, 27, 172]
abbrev dktJ22_max_0 : List UInt8 := dkwJ22_max_0 ++ []
theorem dksJ22_max_0 : cJ22_max.data.toList.drop 0 = dktJ22_max_0 := by decide +kernel
theorem dJ22_max_0 : decode cJ22_max 0 = .ok (.iload_n 0, 1) := dk_26 (dk_at dksJ22_max_0 0 rfl rfl)
theorem dJ22_max_1 : decode cJ22_max 1 = .ok (.iload_n 1, 1) := dk_27 (dk_at dksJ22_max_0 1 rfl rfl)
theorem dJ22_max_2 : decode cJ22_max 2 = .ok (.if_icmp .lt 7, 3) := dk_161 0 7 (dk_at dksJ22_max_0 2 rfl rfl)
theorem dJ22_max_5 : decode cJ22_max 5 = .ok (.iload_n 0, 1) := dk_26 (dk_at dksJ22_max_0 5 rfl rfl)
theorem dJ22_max_6 : decode cJ22_max 6 = .ok (.goto 4, 3) := dk_167 0 4 (dk_at dksJ22_max_0 6 rfl rfl)
theorem dJ22_max_9 : decode cJ22_max 9 = .ok (.iload_n 1, 1) := dk_27 (dk_at dksJ22_max_0 9 rfl rfl)
theorem dJ22_max_10 : decode cJ22_max 10 = .ok (.ireturn, 1) := dk_172 (dk_at dksJ22_max_0 10 rfl rfl)
abbrev cJ22_min : ByteArray := prog_25_method_69_code
def yJ22_min : MethodName := ⟨RJ22, "min", "(II)I"⟩
def dkwJ22_min_0 : List UInt8 := [26, 27, 163, 0, 7, 26, 167, 0, 4, 27, 172]
abbrev dktJ22_min_0 : List UInt8 := dkwJ22_min_0 ++ []
theorem dksJ22_min_0 : cJ22_min.data.toList.drop 0 = dktJ22_min_0 := by decide +kernel
theorem dJ22_min_0 : decode cJ22_min 0 = .ok (.iload_n 0, 1) := dk_26 (dk_at dksJ22_min_0 0 rfl rfl)
theorem dJ22_min_1 : decode cJ22_min 1 = .ok (.iload_n 1, 1) := dk_27 (dk_at dksJ22_min_0 1 rfl rfl)
theorem dJ22_min_2 : decode cJ22_min 2 = .ok (.if_icmp .gt 7, 3) := dk_163 0 7 (dk_at dksJ22_min_0 2 rfl rfl)
theorem dJ22_min_5 : decode cJ22_min 5 = .ok (.iload_n 0, 1) := dk_26 (dk_at dksJ22_min_0 5 rfl rfl)
theorem dJ22_min_6 : decode cJ22_min 6 = .ok (.goto 4, 3) := dk_167 0 4 (dk_at dksJ22_min_0 6 rfl rfl)
theorem dJ22_min_9 : decode cJ22_min 9 = .ok (.iload_n 1, 1) := dk_27 (dk_at dksJ22_min_0 9 rfl rfl)
theorem dJ22_min_10 : decode cJ22_min 10 = .ok (.ireturn, 1) := dk_172 (dk_at dksJ22_min_0 10 rfl rfl)
theorem q163 : (Jvm.Cond.initialized "java/lang/Math") ∈ lw_all := lw_g (lw_at lw_m1 34 rfl) rfl
theorem q978 : (Jvm.Cond.static ({ cls := "java/lang/Math", name := "max", desc := "(II)I" } : Jvm.MethodName)) ∈ lw_all := lw_g (lw_at lw_m4 129 rfl) rfl
theorem q979 : (Jvm.Cond.code ({ cls := "java/lang/Math", name := "max", desc := "(II)I" } : Jvm.MethodName) prog_25_method_65_code (2 : Nat) (Option.some Jvm.ClassFile.FieldType.int)) ∈ lw_all := lw_g (lw_at lw_m4 130 rfl) rfl
theorem q994 : (Jvm.Cond.static ({ cls := "java/lang/Math", name := "min", desc := "(II)I" } : Jvm.MethodName)) ∈ lw_all := lw_g (lw_at lw_m4 145 rfl) rfl
theorem q995 : (Jvm.Cond.code ({ cls := "java/lang/Math", name := "min", desc := "(II)I" } : Jvm.MethodName) prog_25_method_69_code (2 : Nat) (Option.some Jvm.ClassFile.FieldType.int)) ∈ lw_all := lw_g (lw_at lw_m4 146 rfl) rfl
/-! java/util/Arrays -/
set_option maxRecDepth 100000
def RJ23 : String := "java/util/Arrays"
abbrev cJ23_copyOf : ByteArray := prog_45_method_119_code
def yJ23_copyOf : MethodName := ⟨RJ23, "copyOf", "([Ljava/lang/Object;I)[Ljava/lang/Object;"⟩
def dkwJ23_copyOf_0 : List UInt8 := [42, 27, 42, 182, 0, 86, 184, 1, 44, 176]
abbrev dktJ23_copyOf_0 : List UInt8 := dkwJ23_copyOf_0 ++ []
theorem dksJ23_copyOf_0 : cJ23_copyOf.data.toList.drop 0 = dktJ23_copyOf_0 := by decide +kernel
theorem dJ23_copyOf_0 : decode cJ23_copyOf 0 = .ok (.aload_n 0, 1) := dk_42 (dk_at dksJ23_copyOf_0 0 rfl rfl)
theorem dJ23_copyOf_1 : decode cJ23_copyOf 1 = .ok (.iload_n 1, 1) := dk_27 (dk_at dksJ23_copyOf_0 1 rfl rfl)
theorem dJ23_copyOf_2 : decode cJ23_copyOf 2 = .ok (.aload_n 0, 1) := dk_42 (dk_at dksJ23_copyOf_0 2 rfl rfl)
theorem dJ23_copyOf_3 : decode cJ23_copyOf 3 = .ok (.invokevirtual 86, 3) := dk_182 0 86 (dk_at dksJ23_copyOf_0 3 rfl rfl)
theorem dJ23_copyOf_6 : decode cJ23_copyOf 6 = .ok (.invokestatic 300, 3) := dk_184 1 44 (dk_at dksJ23_copyOf_0 6 rfl rfl)
theorem dJ23_copyOf_9 : decode cJ23_copyOf 9 = .ok (.areturn, 1) := dk_176 (dk_at dksJ23_copyOf_0 9 rfl rfl)
abbrev cJ23_copyOf_2 : ByteArray := prog_45_method_120_code
def yJ23_copyOf_2 : MethodName := ⟨RJ23, "copyOf", "([Ljava/lang/Object;ILjava/lang/Class;)[Ljava/lang/Object;"⟩
def dkwJ23_copyOf_2_1 : List UInt8 := [78, 42, 3, 45, 3, 42, 190, 27, 184, 1, 48, 184, 0, 150, 45, 176]
abbrev dktJ23_copyOf_2_1 : List UInt8 := dkwJ23_copyOf_2_1 ++ []
def dkwJ23_copyOf_2_0 : List UInt8 := [44, 18, 110, 166, 0, 10, 27, 189, 0, 2, 167, 0, 14, 44, 182, 0, 90, 27, 184, 0, 95, 192, 0, 110]
abbrev dktJ23_copyOf_2_0 : List UInt8 := dkwJ23_copyOf_2_0 ++ dktJ23_copyOf_2_1
theorem dksJ23_copyOf_2_0 : cJ23_copyOf_2.data.toList.drop 0 = dktJ23_copyOf_2_0 := by decide +kernel
theorem dksJ23_copyOf_2_1 : cJ23_copyOf_2.data.toList.drop 24 = dktJ23_copyOf_2_1 := dk_seg dksJ23_copyOf_2_0 24 rfl rfl
theorem dJ23_copyOf_2_0 : decode cJ23_copyOf_2 0 = .ok (.aload_n 2, 1) := dk_44 (dk_at dksJ23_copyOf_2_0 0 rfl rfl)
theorem dJ23_copyOf_2_1 : decode cJ23_copyOf_2 1 = .ok (.ldc 110, 2) := dk_18 110 (dk_at dksJ23_copyOf_2_0 1 rfl rfl)
theorem dJ23_copyOf_2_3 : decode cJ23_copyOf_2 3 = .ok (.if_acmp .ne 10, 3) := dk_166 0 10 (dk_at dksJ23_copyOf_2_0 3 rfl rfl)
theorem dJ23_copyOf_2_6 : decode cJ23_copyOf_2 6 = .ok (.iload_n 1, 1) := dk_27 (dk_at dksJ23_copyOf_2_0 6 rfl rfl)
theorem dJ23_copyOf_2_7 : decode cJ23_copyOf_2 7 = .ok (.anewarray 2, 3) := dk_189 0 2 (dk_at dksJ23_copyOf_2_0 7 rfl rfl)
theorem dJ23_copyOf_2_10 : decode cJ23_copyOf_2 10 = .ok (.goto 14, 3) := dk_167 0 14 (dk_at dksJ23_copyOf_2_0 10 rfl rfl)
theorem dJ23_copyOf_2_13 : decode cJ23_copyOf_2 13 = .ok (.aload_n 2, 1) := dk_44 (dk_at dksJ23_copyOf_2_0 13 rfl rfl)
theorem dJ23_copyOf_2_14 : decode cJ23_copyOf_2 14 = .ok (.invokevirtual 90, 3) := dk_182 0 90 (dk_at dksJ23_copyOf_2_0 14 rfl rfl)
theorem dJ23_copyOf_2_17 : decode cJ23_copyOf_2 17 = .ok (.iload_n 1, 1) := dk_27 (dk_at dksJ23_copyOf_2_0 17 rfl rfl)
theorem dJ23_copyOf_2_18 : decode cJ23_copyOf_2 18 = .ok (.invokestatic 95, 3) := dk_184 0 95 (dk_at dksJ23_copyOf_2_0 18 rfl rfl)
theorem dJ23_copyOf_2_21 : decode cJ23_copyOf_2 21 = .ok (.checkcast 110, 3) := dk_192 0 110 (dk_at dksJ23_copyOf_2_0 21 rfl rfl)
theorem dJ23_copyOf_2_24 : decode cJ23_copyOf_2 24 = .ok (.astore_n 3, 1) := dk_78 (dk_at dksJ23_copyOf_2_1 0 rfl rfl)
theorem dJ23_copyOf_2_25 : decode cJ23_copyOf_2 25 = .ok (.aload_n 0, 1) := dk_42 (dk_at dksJ23_copyOf_2_1 1 rfl rfl)
theorem dJ23_copyOf_2_26 : decode cJ23_copyOf_2 26 = .ok (.iconst 0, 1) := dk_3 (dk_at dksJ23_copyOf_2_1 2 rfl rfl)
theorem dJ23_copyOf_2_27 : decode cJ23_copyOf_2 27 = .ok (.aload_n 3, 1) := dk_45 (dk_at dksJ23_copyOf_2_1 3 rfl rfl)
theorem dJ23_copyOf_2_28 : decode cJ23_copyOf_2 28 = .ok (.iconst 0, 1) := dk_3 (dk_at dksJ23_copyOf_2_1 4 rfl rfl)
theorem dJ23_copyOf_2_29 : decode cJ23_copyOf_2 29 = .ok (.aload_n 0, 1) := dk_42 (dk_at dksJ23_copyOf_2_1 5 rfl rfl)
theorem dJ23_copyOf_2_30 : decode cJ23_copyOf_2 30 = .ok (.arraylength, 1) := dk_190 (dk_at dksJ23_copyOf_2_1 6 rfl rfl)
theorem dJ23_copyOf_2_31 : decode cJ23_copyOf_2 31 = .ok (.iload_n 1, 1) := dk_27 (dk_at dksJ23_copyOf_2_1 7 rfl rfl)
theorem dJ23_copyOf_2_32 : decode cJ23_copyOf_2 32 = .ok (.invokestatic 304, 3) := dk_184 1 48 (dk_at dksJ23_copyOf_2_1 8 rfl rfl)
theorem dJ23_copyOf_2_35 : decode cJ23_copyOf_2 35 = .ok (.invokestatic 150, 3) := dk_184 0 150 (dk_at dksJ23_copyOf_2_1 11 rfl rfl)
theorem dJ23_copyOf_2_38 : decode cJ23_copyOf_2 38 = .ok (.aload_n 3, 1) := dk_45 (dk_at dksJ23_copyOf_2_1 14 rfl rfl)
theorem dJ23_copyOf_2_39 : decode cJ23_copyOf_2 39 = .ok (.areturn, 1) := dk_176 (dk_at dksJ23_copyOf_2_1 15 rfl rfl)
abbrev cJ23_copyOf_3 : ByteArray := prog_45_method_121_code
def yJ23_copyOf_3 : MethodName := ⟨RJ23, "copyOf", "([BI)[B"⟩
def dkwJ23_copyOf_3_1 : List UInt8 := [27, 184, 1, 48, 184, 0, 150, 44, 176]
abbrev dktJ23_copyOf_3_1 : List UInt8 := dkwJ23_copyOf_3_1 ++ []
def dkwJ23_copyOf_3_0 : List UInt8 := [27, 42, 190, 160, 0, 11, 42, 182, 1, 54, 192, 1, 55, 176, 27, 188, 8, 77, 42, 3, 44, 3, 42, 190]
abbrev dktJ23_copyOf_3_0 : List UInt8 := dkwJ23_copyOf_3_0 ++ dktJ23_copyOf_3_1
theorem dksJ23_copyOf_3_0 : cJ23_copyOf_3.data.toList.drop 0 = dktJ23_copyOf_3_0 := by decide +kernel
theorem dksJ23_copyOf_3_1 : cJ23_copyOf_3.data.toList.drop 24 = dktJ23_copyOf_3_1 := dk_seg dksJ23_copyOf_3_0 24 rfl rfl
theorem dJ23_copyOf_3_0 : decode cJ23_copyOf_3 0 = .ok (.iload_n 1, 1) := dk_27 (dk_at dksJ23_copyOf_3_0 0 rfl rfl)
theorem dJ23_copyOf_3_1 : decode cJ23_copyOf_3 1 = .ok (.aload_n 0, 1) := dk_42 (dk_at dksJ23_copyOf_3_0 1 rfl rfl)
theorem dJ23_copyOf_3_2 : decode cJ23_copyOf_3 2 = .ok (.arraylength, 1) := dk_190 (dk_at dksJ23_copyOf_3_0 2 rfl rfl)
theorem dJ23_copyOf_3_3 : decode cJ23_copyOf_3 3 = .ok (.if_icmp .ne 11, 3) := dk_160 0 11 (dk_at dksJ23_copyOf_3_0 3 rfl rfl)
theorem dJ23_copyOf_3_6 : decode cJ23_copyOf_3 6 = .ok (.aload_n 0, 1) := dk_42 (dk_at dksJ23_copyOf_3_0 6 rfl rfl)
theorem dJ23_copyOf_3_7 : decode cJ23_copyOf_3 7 = .ok (.invokevirtual 310, 3) := dk_182 1 54 (dk_at dksJ23_copyOf_3_0 7 rfl rfl)
theorem dJ23_copyOf_3_10 : decode cJ23_copyOf_3 10 = .ok (.checkcast 311, 3) := dk_192 1 55 (dk_at dksJ23_copyOf_3_0 10 rfl rfl)
theorem dJ23_copyOf_3_13 : decode cJ23_copyOf_3 13 = .ok (.areturn, 1) := dk_176 (dk_at dksJ23_copyOf_3_0 13 rfl rfl)
theorem dJ23_copyOf_3_14 : decode cJ23_copyOf_3 14 = .ok (.iload_n 1, 1) := dk_27 (dk_at dksJ23_copyOf_3_0 14 rfl rfl)
theorem dJ23_copyOf_3_15 : decode cJ23_copyOf_3 15 = .ok (.newarray .byte, 2) := dk_188_8 (dk_at dksJ23_copyOf_3_0 15 rfl rfl)
theorem dJ23_copyOf_3_17 : decode cJ23_copyOf_3 17 = .ok (.astore_n 2, 1) := dk_77 (dk_at dksJ23_copyOf_3_0 17 rfl rfl)
theorem dJ23_copyOf_3_18 : decode cJ23_copyOf_3 18 = .ok (.aload_n 0, 1) := dk_42 (dk_at dksJ23_copyOf_3_0 18 rfl rfl)
theorem dJ23_copyOf_3_19 : decode cJ23_copyOf_3 19 = .ok (.iconst 0, 1) := dk_3 (dk_at dksJ23_copyOf_3_0 19 rfl rfl)
theorem dJ23_copyOf_3_20 : decode cJ23_copyOf_3 20 = .ok (.aload_n 2, 1) := dk_44 (dk_at dksJ23_copyOf_3_0 20 rfl rfl)
theorem dJ23_copyOf_3_21 : decode cJ23_copyOf_3 21 = .ok (.iconst 0, 1) := dk_3 (dk_at dksJ23_copyOf_3_0 21 rfl rfl)
theorem dJ23_copyOf_3_22 : decode cJ23_copyOf_3 22 = .ok (.aload_n 0, 1) := dk_42 (dk_at dksJ23_copyOf_3_0 22 rfl rfl)
theorem dJ23_copyOf_3_23 : decode cJ23_copyOf_3 23 = .ok (.arraylength, 1) := dk_190 (dk_at dksJ23_copyOf_3_0 23 rfl rfl)
theorem dJ23_copyOf_3_24 : decode cJ23_copyOf_3 24 = .ok (.iload_n 1, 1) := dk_27 (dk_at dksJ23_copyOf_3_1 0 rfl rfl)
theorem dJ23_copyOf_3_25 : decode cJ23_copyOf_3 25 = .ok (.invokestatic 304, 3) := dk_184 1 48 (dk_at dksJ23_copyOf_3_1 1 rfl rfl)
theorem dJ23_copyOf_3_28 : decode cJ23_copyOf_3 28 = .ok (.invokestatic 150, 3) := dk_184 0 150 (dk_at dksJ23_copyOf_3_1 4 rfl rfl)
theorem dJ23_copyOf_3_31 : decode cJ23_copyOf_3 31 = .ok (.aload_n 2, 1) := dk_44 (dk_at dksJ23_copyOf_3_1 7 rfl rfl)
theorem dJ23_copyOf_3_32 : decode cJ23_copyOf_3 32 = .ok (.areturn, 1) := dk_176 (dk_at dksJ23_copyOf_3_1 8 rfl rfl)
abbrev cJ23_copyOfRange : ByteArray := prog_45_method_132_code
def yJ23_copyOfRange : MethodName := ⟨RJ23, "copyOfRange", "([BII)[B"⟩
def dkwJ23_copyOfRange_1 : List UInt8 := [176]
abbrev dktJ23_copyOfRange_1 : List UInt8 := dkwJ23_copyOfRange_1 ++ []
def dkwJ23_copyOfRange_0 : List UInt8 := [27, 154, 0, 9, 28, 42, 190, 159, 0, 10, 42, 27, 28, 184, 1, 83, 176, 42, 182, 1, 54, 192, 1, 55]
abbrev dktJ23_copyOfRange_0 : List UInt8 := dkwJ23_copyOfRange_0 ++ dktJ23_copyOfRange_1
theorem dksJ23_copyOfRange_0 : cJ23_copyOfRange.data.toList.drop 0 = dktJ23_copyOfRange_0 := by decide +kernel
theorem dksJ23_copyOfRange_1 : cJ23_copyOfRange.data.toList.drop 24 = dktJ23_copyOfRange_1 := dk_seg dksJ23_copyOfRange_0 24 rfl rfl
theorem dJ23_copyOfRange_0 : decode cJ23_copyOfRange 0 = .ok (.iload_n 1, 1) := dk_27 (dk_at dksJ23_copyOfRange_0 0 rfl rfl)
theorem dJ23_copyOfRange_1 : decode cJ23_copyOfRange 1 = .ok (.ifCond .ne 9, 3) := dk_154 0 9 (dk_at dksJ23_copyOfRange_0 1 rfl rfl)
theorem dJ23_copyOfRange_4 : decode cJ23_copyOfRange 4 = .ok (.iload_n 2, 1) := dk_28 (dk_at dksJ23_copyOfRange_0 4 rfl rfl)
theorem dJ23_copyOfRange_5 : decode cJ23_copyOfRange 5 = .ok (.aload_n 0, 1) := dk_42 (dk_at dksJ23_copyOfRange_0 5 rfl rfl)
theorem dJ23_copyOfRange_6 : decode cJ23_copyOfRange 6 = .ok (.arraylength, 1) := dk_190 (dk_at dksJ23_copyOfRange_0 6 rfl rfl)
theorem dJ23_copyOfRange_7 : decode cJ23_copyOfRange 7 = .ok (.if_icmp .eq 10, 3) := dk_159 0 10 (dk_at dksJ23_copyOfRange_0 7 rfl rfl)
theorem dJ23_copyOfRange_10 : decode cJ23_copyOfRange 10 = .ok (.aload_n 0, 1) := dk_42 (dk_at dksJ23_copyOfRange_0 10 rfl rfl)
theorem dJ23_copyOfRange_11 : decode cJ23_copyOfRange 11 = .ok (.iload_n 1, 1) := dk_27 (dk_at dksJ23_copyOfRange_0 11 rfl rfl)
theorem dJ23_copyOfRange_12 : decode cJ23_copyOfRange 12 = .ok (.iload_n 2, 1) := dk_28 (dk_at dksJ23_copyOfRange_0 12 rfl rfl)
theorem dJ23_copyOfRange_13 : decode cJ23_copyOfRange 13 = .ok (.invokestatic 339, 3) := dk_184 1 83 (dk_at dksJ23_copyOfRange_0 13 rfl rfl)
theorem dJ23_copyOfRange_16 : decode cJ23_copyOfRange 16 = .ok (.areturn, 1) := dk_176 (dk_at dksJ23_copyOfRange_0 16 rfl rfl)
theorem dJ23_copyOfRange_17 : decode cJ23_copyOfRange 17 = .ok (.aload_n 0, 1) := dk_42 (dk_at dksJ23_copyOfRange_0 17 rfl rfl)
theorem dJ23_copyOfRange_18 : decode cJ23_copyOfRange 18 = .ok (.invokevirtual 310, 3) := dk_182 1 54 (dk_at dksJ23_copyOfRange_0 18 rfl rfl)
theorem dJ23_copyOfRange_21 : decode cJ23_copyOfRange 21 = .ok (.checkcast 311, 3) := dk_192 1 55 (dk_at dksJ23_copyOfRange_0 21 rfl rfl)
theorem dJ23_copyOfRange_24 : decode cJ23_copyOfRange 24 = .ok (.areturn, 1) := dk_176 (dk_at dksJ23_copyOfRange_1 0 rfl rfl)
abbrev cJ23_copyOfRangeByte : ByteArray := prog_45_method_133_code
def yJ23_copyOfRangeByte : MethodName := ⟨RJ23, "copyOfRangeByte", "([BII)[B"⟩
def dkwJ23_copyOfRangeByte_1 : List UInt8 := [184, 1, 48, 184, 0, 150, 25, 4, 176]
abbrev dktJ23_copyOfRangeByte_1 : List UInt8 := dkwJ23_copyOfRangeByte_1 ++ []
def dkwJ23_copyOfRangeByte_0 : List UInt8 := [27, 28, 184, 1, 87, 28, 27, 100, 62, 29, 188, 8, 58, 4, 42, 27, 25, 4, 3, 42, 190, 27, 100, 29]
abbrev dktJ23_copyOfRangeByte_0 : List UInt8 := dkwJ23_copyOfRangeByte_0 ++ dktJ23_copyOfRangeByte_1
theorem dksJ23_copyOfRangeByte_0 : cJ23_copyOfRangeByte.data.toList.drop 0 = dktJ23_copyOfRangeByte_0 := by decide +kernel
theorem dksJ23_copyOfRangeByte_1 : cJ23_copyOfRangeByte.data.toList.drop 24 = dktJ23_copyOfRangeByte_1 := dk_seg dksJ23_copyOfRangeByte_0 24 rfl rfl
theorem dJ23_copyOfRangeByte_0 : decode cJ23_copyOfRangeByte 0 = .ok (.iload_n 1, 1) := dk_27 (dk_at dksJ23_copyOfRangeByte_0 0 rfl rfl)
theorem dJ23_copyOfRangeByte_1 : decode cJ23_copyOfRangeByte 1 = .ok (.iload_n 2, 1) := dk_28 (dk_at dksJ23_copyOfRangeByte_0 1 rfl rfl)
theorem dJ23_copyOfRangeByte_2 : decode cJ23_copyOfRangeByte 2 = .ok (.invokestatic 343, 3) := dk_184 1 87 (dk_at dksJ23_copyOfRangeByte_0 2 rfl rfl)
theorem dJ23_copyOfRangeByte_5 : decode cJ23_copyOfRangeByte 5 = .ok (.iload_n 2, 1) := dk_28 (dk_at dksJ23_copyOfRangeByte_0 5 rfl rfl)
theorem dJ23_copyOfRangeByte_6 : decode cJ23_copyOfRangeByte 6 = .ok (.iload_n 1, 1) := dk_27 (dk_at dksJ23_copyOfRangeByte_0 6 rfl rfl)
theorem dJ23_copyOfRangeByte_7 : decode cJ23_copyOfRangeByte 7 = .ok (.isub, 1) := dk_100 (dk_at dksJ23_copyOfRangeByte_0 7 rfl rfl)
theorem dJ23_copyOfRangeByte_8 : decode cJ23_copyOfRangeByte 8 = .ok (.istore_n 3, 1) := dk_62 (dk_at dksJ23_copyOfRangeByte_0 8 rfl rfl)
theorem dJ23_copyOfRangeByte_9 : decode cJ23_copyOfRangeByte 9 = .ok (.iload_n 3, 1) := dk_29 (dk_at dksJ23_copyOfRangeByte_0 9 rfl rfl)
theorem dJ23_copyOfRangeByte_10 : decode cJ23_copyOfRangeByte 10 = .ok (.newarray .byte, 2) := dk_188_8 (dk_at dksJ23_copyOfRangeByte_0 10 rfl rfl)
theorem dJ23_copyOfRangeByte_12 : decode cJ23_copyOfRangeByte 12 = .ok (.astore 4, 2) := dk_58 4 (dk_at dksJ23_copyOfRangeByte_0 12 rfl rfl)
theorem dJ23_copyOfRangeByte_14 : decode cJ23_copyOfRangeByte 14 = .ok (.aload_n 0, 1) := dk_42 (dk_at dksJ23_copyOfRangeByte_0 14 rfl rfl)
theorem dJ23_copyOfRangeByte_15 : decode cJ23_copyOfRangeByte 15 = .ok (.iload_n 1, 1) := dk_27 (dk_at dksJ23_copyOfRangeByte_0 15 rfl rfl)
theorem dJ23_copyOfRangeByte_16 : decode cJ23_copyOfRangeByte 16 = .ok (.aload 4, 2) := dk_25 4 (dk_at dksJ23_copyOfRangeByte_0 16 rfl rfl)
theorem dJ23_copyOfRangeByte_18 : decode cJ23_copyOfRangeByte 18 = .ok (.iconst 0, 1) := dk_3 (dk_at dksJ23_copyOfRangeByte_0 18 rfl rfl)
theorem dJ23_copyOfRangeByte_19 : decode cJ23_copyOfRangeByte 19 = .ok (.aload_n 0, 1) := dk_42 (dk_at dksJ23_copyOfRangeByte_0 19 rfl rfl)
theorem dJ23_copyOfRangeByte_20 : decode cJ23_copyOfRangeByte 20 = .ok (.arraylength, 1) := dk_190 (dk_at dksJ23_copyOfRangeByte_0 20 rfl rfl)
theorem dJ23_copyOfRangeByte_21 : decode cJ23_copyOfRangeByte 21 = .ok (.iload_n 1, 1) := dk_27 (dk_at dksJ23_copyOfRangeByte_0 21 rfl rfl)
theorem dJ23_copyOfRangeByte_22 : decode cJ23_copyOfRangeByte 22 = .ok (.isub, 1) := dk_100 (dk_at dksJ23_copyOfRangeByte_0 22 rfl rfl)
theorem dJ23_copyOfRangeByte_23 : decode cJ23_copyOfRangeByte 23 = .ok (.iload_n 3, 1) := dk_29 (dk_at dksJ23_copyOfRangeByte_0 23 rfl rfl)
theorem dJ23_copyOfRangeByte_24 : decode cJ23_copyOfRangeByte 24 = .ok (.invokestatic 304, 3) := dk_184 1 48 (dk_at dksJ23_copyOfRangeByte_1 0 rfl rfl)
theorem dJ23_copyOfRangeByte_27 : decode cJ23_copyOfRangeByte 27 = .ok (.invokestatic 150, 3) := dk_184 0 150 (dk_at dksJ23_copyOfRangeByte_1 3 rfl rfl)
theorem dJ23_copyOfRangeByte_30 : decode cJ23_copyOfRangeByte 30 = .ok (.aload 4, 2) := dk_25 4 (dk_at dksJ23_copyOfRangeByte_1 6 rfl rfl)
theorem dJ23_copyOfRangeByte_32 : decode cJ23_copyOfRangeByte 32 = .ok (.areturn, 1) := dk_176 (dk_at dksJ23_copyOfRangeByte_1 8 rfl rfl)
abbrev cJ23_checkLength : ByteArray := prog_45_method_131_code
def yJ23_checkLength : MethodName := ⟨RJ23, "checkLength", "(II)V"⟩
def dkwJ23_checkLength_1 : List UInt8 := [182, 0, 50, 27, 182, 0, 54, 182, 0, 61, 183, 0, 65, 191, 177]
abbrev dktJ23_checkLength_1 : List UInt8 := dkwJ23_checkLength_1 ++ []
def dkwJ23_checkLength_0 : List UInt8 := [27, 26, 162, 0, 35, 187, 0, 43, 89, 187, 0, 45, 89, 183, 0, 47, 26, 182, 0, 54, 19, 1, 81]
abbrev dktJ23_checkLength_0 : List UInt8 := dkwJ23_checkLength_0 ++ dktJ23_checkLength_1
theorem dksJ23_checkLength_0 : cJ23_checkLength.data.toList.drop 0 = dktJ23_checkLength_0 := by decide +kernel
theorem dksJ23_checkLength_1 : cJ23_checkLength.data.toList.drop 23 = dktJ23_checkLength_1 := dk_seg dksJ23_checkLength_0 23 rfl rfl
theorem dJ23_checkLength_0 : decode cJ23_checkLength 0 = .ok (.iload_n 1, 1) := dk_27 (dk_at dksJ23_checkLength_0 0 rfl rfl)
theorem dJ23_checkLength_1 : decode cJ23_checkLength 1 = .ok (.iload_n 0, 1) := dk_26 (dk_at dksJ23_checkLength_0 1 rfl rfl)
theorem dJ23_checkLength_2 : decode cJ23_checkLength 2 = .ok (.if_icmp .ge 35, 3) := dk_162 0 35 (dk_at dksJ23_checkLength_0 2 rfl rfl)
theorem dJ23_checkLength_5 : decode cJ23_checkLength 5 = .ok (.new 43, 3) := dk_187 0 43 (dk_at dksJ23_checkLength_0 5 rfl rfl)
theorem dJ23_checkLength_8 : decode cJ23_checkLength 8 = .ok (.dup, 1) := dk_89 (dk_at dksJ23_checkLength_0 8 rfl rfl)
theorem dJ23_checkLength_9 : decode cJ23_checkLength 9 = .ok (.new 45, 3) := dk_187 0 45 (dk_at dksJ23_checkLength_0 9 rfl rfl)
theorem dJ23_checkLength_12 : decode cJ23_checkLength 12 = .ok (.dup, 1) := dk_89 (dk_at dksJ23_checkLength_0 12 rfl rfl)
theorem dJ23_checkLength_13 : decode cJ23_checkLength 13 = .ok (.invokespecial 47, 3) := dk_183 0 47 (dk_at dksJ23_checkLength_0 13 rfl rfl)
theorem dJ23_checkLength_16 : decode cJ23_checkLength 16 = .ok (.iload_n 0, 1) := dk_26 (dk_at dksJ23_checkLength_0 16 rfl rfl)
theorem dJ23_checkLength_17 : decode cJ23_checkLength 17 = .ok (.invokevirtual 54, 3) := dk_182 0 54 (dk_at dksJ23_checkLength_0 17 rfl rfl)
theorem dJ23_checkLength_20 : decode cJ23_checkLength 20 = .ok (.ldc_w 337, 3) := dk_19 1 81 (dk_at dksJ23_checkLength_0 20 rfl rfl)
theorem dJ23_checkLength_23 : decode cJ23_checkLength 23 = .ok (.invokevirtual 50, 3) := dk_182 0 50 (dk_at dksJ23_checkLength_1 0 rfl rfl)
theorem dJ23_checkLength_26 : decode cJ23_checkLength 26 = .ok (.iload_n 1, 1) := dk_27 (dk_at dksJ23_checkLength_1 3 rfl rfl)
theorem dJ23_checkLength_27 : decode cJ23_checkLength 27 = .ok (.invokevirtual 54, 3) := dk_182 0 54 (dk_at dksJ23_checkLength_1 4 rfl rfl)
theorem dJ23_checkLength_30 : decode cJ23_checkLength 30 = .ok (.invokevirtual 61, 3) := dk_182 0 61 (dk_at dksJ23_checkLength_1 7 rfl rfl)
theorem dJ23_checkLength_33 : decode cJ23_checkLength 33 = .ok (.invokespecial 65, 3) := dk_183 0 65 (dk_at dksJ23_checkLength_1 10 rfl rfl)
theorem dJ23_checkLength_36 : decode cJ23_checkLength 36 = .ok (.athrow, 1) := dk_191 (dk_at dksJ23_checkLength_1 13 rfl rfl)
theorem dJ23_checkLength_37 : decode cJ23_checkLength 37 = .ok (.return_, 1) := dk_177 (dk_at dksJ23_checkLength_1 14 rfl rfl)
abbrev cJ23_copyOf_4 : ByteArray := prog_45_method_124_code
def yJ23_copyOf_4 : MethodName := ⟨RJ23, "copyOf", "([JI)[J"⟩
def dkwJ23_copyOf_4_1 : List UInt8 := [27, 184, 1, 48, 184, 0, 150, 44, 176]
abbrev dktJ23_copyOf_4_1 : List UInt8 := dkwJ23_copyOf_4_1 ++ []
def dkwJ23_copyOf_4_0 : List UInt8 := [27, 42, 190, 160, 0, 11, 42, 182, 1, 63, 192, 1, 64, 176, 27, 188, 11, 77, 42, 3, 44, 3, 42, 190]
abbrev dktJ23_copyOf_4_0 : List UInt8 := dkwJ23_copyOf_4_0 ++ dktJ23_copyOf_4_1
theorem dksJ23_copyOf_4_0 : cJ23_copyOf_4.data.toList.drop 0 = dktJ23_copyOf_4_0 := by decide +kernel
theorem dksJ23_copyOf_4_1 : cJ23_copyOf_4.data.toList.drop 24 = dktJ23_copyOf_4_1 := dk_seg dksJ23_copyOf_4_0 24 rfl rfl
theorem dJ23_copyOf_4_0 : decode cJ23_copyOf_4 0 = .ok (.iload_n 1, 1) := dk_27 (dk_at dksJ23_copyOf_4_0 0 rfl rfl)
theorem dJ23_copyOf_4_1 : decode cJ23_copyOf_4 1 = .ok (.aload_n 0, 1) := dk_42 (dk_at dksJ23_copyOf_4_0 1 rfl rfl)
theorem dJ23_copyOf_4_2 : decode cJ23_copyOf_4 2 = .ok (.arraylength, 1) := dk_190 (dk_at dksJ23_copyOf_4_0 2 rfl rfl)
theorem dJ23_copyOf_4_3 : decode cJ23_copyOf_4 3 = .ok (.if_icmp .ne 11, 3) := dk_160 0 11 (dk_at dksJ23_copyOf_4_0 3 rfl rfl)
theorem dJ23_copyOf_4_6 : decode cJ23_copyOf_4 6 = .ok (.aload_n 0, 1) := dk_42 (dk_at dksJ23_copyOf_4_0 6 rfl rfl)
theorem dJ23_copyOf_4_7 : decode cJ23_copyOf_4 7 = .ok (.invokevirtual 319, 3) := dk_182 1 63 (dk_at dksJ23_copyOf_4_0 7 rfl rfl)
theorem dJ23_copyOf_4_10 : decode cJ23_copyOf_4 10 = .ok (.checkcast 320, 3) := dk_192 1 64 (dk_at dksJ23_copyOf_4_0 10 rfl rfl)
theorem dJ23_copyOf_4_13 : decode cJ23_copyOf_4 13 = .ok (.areturn, 1) := dk_176 (dk_at dksJ23_copyOf_4_0 13 rfl rfl)
theorem dJ23_copyOf_4_14 : decode cJ23_copyOf_4 14 = .ok (.iload_n 1, 1) := dk_27 (dk_at dksJ23_copyOf_4_0 14 rfl rfl)
theorem dJ23_copyOf_4_15 : decode cJ23_copyOf_4 15 = .ok (.newarray .long, 2) := dk_188_11 (dk_at dksJ23_copyOf_4_0 15 rfl rfl)
theorem dJ23_copyOf_4_17 : decode cJ23_copyOf_4 17 = .ok (.astore_n 2, 1) := dk_77 (dk_at dksJ23_copyOf_4_0 17 rfl rfl)
theorem dJ23_copyOf_4_18 : decode cJ23_copyOf_4 18 = .ok (.aload_n 0, 1) := dk_42 (dk_at dksJ23_copyOf_4_0 18 rfl rfl)
theorem dJ23_copyOf_4_19 : decode cJ23_copyOf_4 19 = .ok (.iconst 0, 1) := dk_3 (dk_at dksJ23_copyOf_4_0 19 rfl rfl)
theorem dJ23_copyOf_4_20 : decode cJ23_copyOf_4 20 = .ok (.aload_n 2, 1) := dk_44 (dk_at dksJ23_copyOf_4_0 20 rfl rfl)
theorem dJ23_copyOf_4_21 : decode cJ23_copyOf_4 21 = .ok (.iconst 0, 1) := dk_3 (dk_at dksJ23_copyOf_4_0 21 rfl rfl)
theorem dJ23_copyOf_4_22 : decode cJ23_copyOf_4 22 = .ok (.aload_n 0, 1) := dk_42 (dk_at dksJ23_copyOf_4_0 22 rfl rfl)
theorem dJ23_copyOf_4_23 : decode cJ23_copyOf_4 23 = .ok (.arraylength, 1) := dk_190 (dk_at dksJ23_copyOf_4_0 23 rfl rfl)
theorem dJ23_copyOf_4_24 : decode cJ23_copyOf_4 24 = .ok (.iload_n 1, 1) := dk_27 (dk_at dksJ23_copyOf_4_1 0 rfl rfl)
theorem dJ23_copyOf_4_25 : decode cJ23_copyOf_4 25 = .ok (.invokestatic 304, 3) := dk_184 1 48 (dk_at dksJ23_copyOf_4_1 1 rfl rfl)
theorem dJ23_copyOf_4_28 : decode cJ23_copyOf_4 28 = .ok (.invokestatic 150, 3) := dk_184 0 150 (dk_at dksJ23_copyOf_4_1 4 rfl rfl)
theorem dJ23_copyOf_4_31 : decode cJ23_copyOf_4 31 = .ok (.aload_n 2, 1) := dk_44 (dk_at dksJ23_copyOf_4_1 7 rfl rfl)
theorem dJ23_copyOf_4_32 : decode cJ23_copyOf_4 32 = .ok (.areturn, 1) := dk_176 (dk_at dksJ23_copyOf_4_1 8 rfl rfl)
theorem q164 : (Jvm.Cond.initialized "java/util/Arrays") ∈ lw_all := lw_g (lw_at lw_m1 35 rfl) rfl
theorem q985 : (Jvm.Cond.static ({ cls := "java/util/Arrays", name := "copyOf", desc := "([Ljava/lang/Object;I)[Ljava/lang/Object;" } : Jvm.MethodName)) ∈ lw_all := lw_g (lw_at lw_m4 136 rfl) rfl
theorem q986 : (Jvm.Cond.code ({ cls := "java/util/Arrays", name := "copyOf", desc := "([Ljava/lang/Object;I)[Ljava/lang/Object;" } : Jvm.MethodName) prog_45_method_119_code (2 : Nat) (Option.some (Jvm.ClassFile.FieldType.array (Jvm.ClassFile.FieldType.object "java/lang/Object")))) ∈ lw_all := lw_g (lw_at lw_m4 137 rfl) rfl
theorem q987 : (Jvm.Cond.methodLink "java/util/Arrays" (86 : Nat) ({ cls := "java/lang/Object", name := "getClass", desc := "()Ljava/lang/Class;" } : Jvm.MethodName)) ∈ lw_all := lw_g (lw_at lw_m4 138 rfl) rfl
theorem q988 : (Jvm.Cond.methodLink "java/util/Arrays" (300 : Nat) ({ cls := "java/util/Arrays", name := "copyOf", desc := "([Ljava/lang/Object;ILjava/lang/Class;)[Ljava/lang/Object;" } : Jvm.MethodName)) ∈ lw_all := lw_g (lw_at lw_m4 139 rfl) rfl
theorem q989 : (Jvm.Cond.static ({ cls := "java/util/Arrays", name := "copyOf", desc := "([Ljava/lang/Object;ILjava/lang/Class;)[Ljava/lang/Object;" } : Jvm.MethodName)) ∈ lw_all := lw_g (lw_at lw_m4 140 rfl) rfl
theorem q990 : (Jvm.Cond.code ({ cls := "java/util/Arrays", name := "copyOf", desc := "([Ljava/lang/Object;ILjava/lang/Class;)[Ljava/lang/Object;" } : Jvm.MethodName) prog_45_method_120_code (4 : Nat) (Option.some (Jvm.ClassFile.FieldType.array (Jvm.ClassFile.FieldType.object "java/lang/Object")))) ∈ lw_all := lw_g (lw_at lw_m4 141 rfl) rfl
theorem q991 : (Jvm.Cond.classLink "java/util/Arrays" (110 : Nat) "[Ljava/lang/Object;") ∈ lw_all := lw_g (lw_at lw_m4 142 rfl) rfl
theorem q992 : (Jvm.Cond.classLink "java/util/Arrays" (2 : Nat) "java/lang/Object") ∈ lw_all := lw_g (lw_at lw_m4 143 rfl) rfl
theorem q993 : (Jvm.Cond.methodLink "java/util/Arrays" (304 : Nat) ({ cls := "java/lang/Math", name := "min", desc := "(II)I" } : Jvm.MethodName)) ∈ lw_all := lw_g (lw_at lw_m4 144 rfl) rfl
theorem q996 : (Jvm.Cond.methodLink "java/util/Arrays" (150 : Nat) ({ cls := "java/lang/System", name := "arraycopy", desc := "(Ljava/lang/Object;ILjava/lang/Object;II)V" } : Jvm.MethodName)) ∈ lw_all := lw_g (lw_at lw_m4 147 rfl) rfl
theorem q1295 : (Jvm.Cond.static ({ cls := "java/util/Arrays", name := "copyOf", desc := "([BI)[B" } : Jvm.MethodName)) ∈ lw_all := lw_g (lw_at lw_m5 206 rfl) rfl
theorem q1296 : (Jvm.Cond.code ({ cls := "java/util/Arrays", name := "copyOf", desc := "([BI)[B" } : Jvm.MethodName) prog_45_method_121_code (3 : Nat) (Option.some (Jvm.ClassFile.FieldType.array Jvm.ClassFile.FieldType.byte))) ∈ lw_all := lw_g (lw_at lw_m5 207 rfl) rfl
theorem q1297 : (Jvm.Cond.methodLink "java/util/Arrays" (310 : Nat) ({ cls := "[B", name := "clone", desc := "()Ljava/lang/Object;" } : Jvm.MethodName)) ∈ lw_all := lw_g (lw_at lw_m5 208 rfl) rfl
theorem q1303 : (Jvm.Cond.classLink "java/util/Arrays" (311 : Nat) "[B") ∈ lw_all := lw_g (lw_at lw_m5 214 rfl) rfl
theorem q1388 : (Jvm.Cond.static ({ cls := "java/util/Arrays", name := "copyOfRange", desc := "([BII)[B" } : Jvm.MethodName)) ∈ lw_all := lw_g (lw_at lw_m6 59 rfl) rfl
theorem q1389 : (Jvm.Cond.code ({ cls := "java/util/Arrays", name := "copyOfRange", desc := "([BII)[B" } : Jvm.MethodName) prog_45_method_132_code (3 : Nat) (Option.some (Jvm.ClassFile.FieldType.array Jvm.ClassFile.FieldType.byte))) ∈ lw_all := lw_g (lw_at lw_m6 60 rfl) rfl
theorem q1390 : (Jvm.Cond.methodLink "java/util/Arrays" (339 : Nat) ({ cls := "java/util/Arrays", name := "copyOfRangeByte", desc := "([BII)[B" } : Jvm.MethodName)) ∈ lw_all := lw_g (lw_at lw_m6 61 rfl) rfl
theorem q1391 : (Jvm.Cond.static ({ cls := "java/util/Arrays", name := "copyOfRangeByte", desc := "([BII)[B" } : Jvm.MethodName)) ∈ lw_all := lw_g (lw_at lw_m6 62 rfl) rfl
theorem q1392 : (Jvm.Cond.code ({ cls := "java/util/Arrays", name := "copyOfRangeByte", desc := "([BII)[B" } : Jvm.MethodName) prog_45_method_133_code (5 : Nat) (Option.some (Jvm.ClassFile.FieldType.array Jvm.ClassFile.FieldType.byte))) ∈ lw_all := lw_g (lw_at lw_m6 63 rfl) rfl
theorem q1393 : (Jvm.Cond.methodLink "java/util/Arrays" (343 : Nat) ({ cls := "java/util/Arrays", name := "checkLength", desc := "(II)V" } : Jvm.MethodName)) ∈ lw_all := lw_g (lw_at lw_m6 64 rfl) rfl
theorem q1394 : (Jvm.Cond.static ({ cls := "java/util/Arrays", name := "checkLength", desc := "(II)V" } : Jvm.MethodName)) ∈ lw_all := lw_g (lw_at lw_m6 65 rfl) rfl
theorem q1395 : (Jvm.Cond.code ({ cls := "java/util/Arrays", name := "checkLength", desc := "(II)V" } : Jvm.MethodName) prog_45_method_131_code (2 : Nat) (Option.none : Option Jvm.ClassFile.FieldType)) ∈ lw_all := lw_g (lw_at lw_m6 66 rfl) rfl
theorem q1749 : (Jvm.Cond.static ({ cls := "java/util/Arrays", name := "copyOf", desc := "([JI)[J" } : Jvm.MethodName)) ∈ lw_all := lw_g (lw_at lw_m7 180 rfl) rfl
theorem q1750 : (Jvm.Cond.code ({ cls := "java/util/Arrays", name := "copyOf", desc := "([JI)[J" } : Jvm.MethodName) prog_45_method_124_code (3 : Nat) (Option.some (Jvm.ClassFile.FieldType.array Jvm.ClassFile.FieldType.long))) ∈ lw_all := lw_g (lw_at lw_m7 181 rfl) rfl
theorem q1751 : (Jvm.Cond.methodLink "java/util/Arrays" (319 : Nat) ({ cls := "[J", name := "clone", desc := "()Ljava/lang/Object;" } : Jvm.MethodName)) ∈ lw_all := lw_g (lw_at lw_m7 182 rfl) rfl
theorem q1755 : (Jvm.Cond.classLink "java/util/Arrays" (320 : Nat) "[J") ∈ lw_all := lw_g (lw_at lw_m7 186 rfl) rfl
/-! java/util/LinkedList$Node -/
set_option maxRecDepth 100000
def RJ24 : String := "java/util/LinkedList$Node"
def TJ24 : u_T := fun k => match k with
  | 0 => ("java/util/LinkedList$Node", "item", "Ljava/lang/Object;", false)
  | 1 => ("java/util/LinkedList$Node", "next", "Ljava/util/LinkedList$Node;", false)
  | _ => ("java/util/LinkedList$Node", "prev", "Ljava/util/LinkedList$Node;", false)
def tyJ24 : Nat → FieldType := fun k => match k with
  | 0 => .object "java/lang/Object"
  | 1 => .object "java/util/LinkedList$Node"
  | _ => .object "java/util/LinkedList$Node"
abbrev wsJ240 : List Cond := u_ws RJ24 TJ24 3
theorem nmJ24 : ∀ a, a < 3 → ∀ b, b < 3 → a ≠ b → (TJ24 a).2.1 ≠ (TJ24 b).2.1 := by decide +kernel
theorem tyJ24_ok : ∀ k, k < 3 → parseFieldDescriptor (TJ24 k).2.2.1 = some (tyJ24 k) := by decide +kernel
abbrev cJ24_init : ByteArray := prog_58_method_1_code
def yJ24_init : MethodName := ⟨RJ24, "<init>", "(Ljava/util/LinkedList$Node;Ljava/lang/Object;Ljava/util/LinkedList$Node;)V"⟩
def dkwJ24_init_0 : List UInt8 := [42, 183, 0, 1, 42, 44, 181, 0, 7, 42, 45, 181, 0, 13, 42, 43, 181, 0, 17, 177]
abbrev dktJ24_init_0 : List UInt8 := dkwJ24_init_0 ++ []
theorem dksJ24_init_0 : cJ24_init.data.toList.drop 0 = dktJ24_init_0 := by decide +kernel
theorem dJ24_init_0 : decode cJ24_init 0 = .ok (.aload_n 0, 1) := dk_42 (dk_at dksJ24_init_0 0 rfl rfl)
theorem dJ24_init_1 : decode cJ24_init 1 = .ok (.invokespecial 1, 3) := dk_183 0 1 (dk_at dksJ24_init_0 1 rfl rfl)
theorem dJ24_init_4 : decode cJ24_init 4 = .ok (.aload_n 0, 1) := dk_42 (dk_at dksJ24_init_0 4 rfl rfl)
theorem dJ24_init_5 : decode cJ24_init 5 = .ok (.aload_n 2, 1) := dk_44 (dk_at dksJ24_init_0 5 rfl rfl)
theorem dJ24_init_6 : decode cJ24_init 6 = .ok (.putfield 7, 3) := dk_181 0 7 (dk_at dksJ24_init_0 6 rfl rfl)
theorem dJ24_init_9 : decode cJ24_init 9 = .ok (.aload_n 0, 1) := dk_42 (dk_at dksJ24_init_0 9 rfl rfl)
theorem dJ24_init_10 : decode cJ24_init 10 = .ok (.aload_n 3, 1) := dk_45 (dk_at dksJ24_init_0 10 rfl rfl)
theorem dJ24_init_11 : decode cJ24_init 11 = .ok (.putfield 13, 3) := dk_181 0 13 (dk_at dksJ24_init_0 11 rfl rfl)
theorem dJ24_init_14 : decode cJ24_init 14 = .ok (.aload_n 0, 1) := dk_42 (dk_at dksJ24_init_0 14 rfl rfl)
theorem dJ24_init_15 : decode cJ24_init 15 = .ok (.aload_n 1, 1) := dk_43 (dk_at dksJ24_init_0 15 rfl rfl)
theorem dJ24_init_16 : decode cJ24_init 16 = .ok (.putfield 17, 3) := dk_181 0 17 (dk_at dksJ24_init_0 16 rfl rfl)
theorem dJ24_init_19 : decode cJ24_init 19 = .ok (.return_, 1) := dk_177 (dk_at dksJ24_init_0 19 rfl rfl)
theorem q167 : (Jvm.Cond.initialized "java/util/LinkedList$Node") ∈ lw_all := lw_g (lw_at lw_m1 38 rfl) rfl
theorem q310 : (Jvm.Cond.selects "java/util/LinkedList$Node" ({ cls := "java/lang/Object", name := "getClass", desc := "()Ljava/lang/Class;" } : Jvm.MethodName) ({ cls := "java/lang/Object", name := "getClass", desc := "()Ljava/lang/Class;" } : Jvm.MethodName)) ∈ lw_all := lw_g (lw_at lw_m1 181 rfl) rfl
theorem q1040 : (Jvm.Cond.instantiable "java/util/LinkedList$Node" (3 : Nat)) ∈ lw_all := lw_g (lw_at lw_m4 191 rfl) rfl
theorem q1042 : (Jvm.Cond.instanceMethod ({ cls := "java/util/LinkedList$Node", name := "<init>", desc := "(Ljava/util/LinkedList$Node;Ljava/lang/Object;Ljava/util/LinkedList$Node;)V" } : Jvm.MethodName)) ∈ lw_all := lw_g (lw_at lw_m4 193 rfl) rfl
theorem q1043 : (Jvm.Cond.code ({ cls := "java/util/LinkedList$Node", name := "<init>", desc := "(Ljava/util/LinkedList$Node;Ljava/lang/Object;Ljava/util/LinkedList$Node;)V" } : Jvm.MethodName) prog_58_method_1_code (4 : Nat) (Option.none : Option Jvm.ClassFile.FieldType)) ∈ lw_all := lw_g (lw_at lw_m4 194 rfl) rfl
theorem q1044 : (Jvm.Cond.methodLink "java/util/LinkedList$Node" (1 : Nat) ({ cls := "java/lang/Object", name := "<init>", desc := "()V" } : Jvm.MethodName)) ∈ lw_all := lw_g (lw_at lw_m4 195 rfl) rfl
theorem q1045 : (Jvm.Cond.fieldLink "java/util/LinkedList$Node" (7 : Nat) "java/util/LinkedList$Node" "item" "Ljava/lang/Object;") ∈ lw_all := lw_g (lw_at lw_m4 196 rfl) rfl
theorem q1048 : (Jvm.Cond.fieldLink "java/util/LinkedList$Node" (13 : Nat) "java/util/LinkedList$Node" "next" "Ljava/util/LinkedList$Node;") ∈ lw_all := lw_g (lw_at lw_m4 199 rfl) rfl
theorem q1051 : (Jvm.Cond.fieldLink "java/util/LinkedList$Node" (17 : Nat) "java/util/LinkedList$Node" "prev" "Ljava/util/LinkedList$Node;") ∈ lw_all := lw_g (lw_at lw_m4 202 rfl) rfl
theorem q1053 : (Jvm.Cond.lays "java/util/LinkedList$Node" "java/util/LinkedList$Node" "item" "Ljava/lang/Object;") ∈ lw_all := lw_g (lw_at lw_m4 204 rfl) rfl
theorem q1054 : (Jvm.Cond.soleField "java/util/LinkedList$Node" "item") ∈ lw_all := lw_g (lw_at lw_m4 205 rfl) rfl
theorem q1055 : (Jvm.Cond.lays "java/util/LinkedList$Node" "java/util/LinkedList$Node" "next" "Ljava/util/LinkedList$Node;") ∈ lw_all := lw_g (lw_at lw_m4 206 rfl) rfl
theorem q1056 : (Jvm.Cond.soleField "java/util/LinkedList$Node" "next") ∈ lw_all := lw_g (lw_at lw_m4 207 rfl) rfl
theorem q1057 : (Jvm.Cond.lays "java/util/LinkedList$Node" "java/util/LinkedList$Node" "prev" "Ljava/util/LinkedList$Node;") ∈ lw_all := lw_g (lw_at lw_m4 208 rfl) rfl
theorem q1058 : (Jvm.Cond.soleField "java/util/LinkedList$Node" "prev") ∈ lw_all := lw_g (lw_at lw_m4 209 rfl) rfl
theorem q1059 : (Jvm.Cond.superclass "java/util/LinkedList$Node" "java/lang/Object") ∈ lw_all := lw_g (lw_at lw_m4 210 rfl) rfl
theorem q2699 : (Jvm.Cond.castable "java/util/LinkedList$Node" "java/lang/Object") ∈ lw_tbl := lw_at lw_m11 170 rfl
theorem in_J24 : ∀ w ∈ wsJ240, w ∈ lw_all := lw_in wsJ240 [1053, 1055, 1057] (by decide +kernel) (by decide +kernel)
/-! java/util/LinkedList$ListItr -/
set_option maxRecDepth 100000
def RJ28 : String := "java/util/LinkedList$ListItr"
def TJ28 : u_T := fun k => match k with
  | 0 => ("java/util/LinkedList$ListItr", "lastReturned", "Ljava/util/LinkedList$Node;", false)
  | 1 => ("java/util/LinkedList$ListItr", "next", "Ljava/util/LinkedList$Node;", false)
  | 2 => ("java/util/LinkedList$ListItr", "nextIndex", "I", false)
  | 3 => ("java/util/LinkedList$ListItr", "expectedModCount", "I", false)
  | _ => ("java/util/LinkedList$ListItr", "this$0", "Ljava/util/LinkedList;", true)
def tyJ28 : Nat → FieldType := fun k => match k with
  | 0 => .object "java/util/LinkedList$Node"
  | 1 => .object "java/util/LinkedList$Node"
  | 2 => .int
  | 3 => .int
  | _ => .object "java/util/LinkedList"
abbrev wsJ280 : List Cond := u_ws RJ28 TJ28 5
theorem nmJ28 : ∀ a, a < 5 → ∀ b, b < 5 → a ≠ b → (TJ28 a).2.1 ≠ (TJ28 b).2.1 := by decide +kernel
theorem tyJ28_ok : ∀ k, k < 5 → parseFieldDescriptor (TJ28 k).2.2.1 = some (tyJ28 k) := by decide +kernel
abbrev cJ28_init : ByteArray := prog_57_method_1_code
def yJ28_init : MethodName := ⟨RJ28, "<init>", "(Ljava/util/LinkedList;I)V"⟩
def dkwJ28_init_1 : List UInt8 := [180, 0, 22, 160, 0, 7, 1, 167, 0, 8, 43, 28, 182, 0, 25, 181, 0, 29, 42, 28, 181, 0, 33, 177]
abbrev dktJ28_init_1 : List UInt8 := dkwJ28_init_1 ++ []
def dkwJ28_init_0 : List UInt8 := [42, 43, 181, 0, 1, 42, 183, 0, 7, 42, 42, 180, 0, 1, 180, 0, 13, 181, 0, 19, 42, 28, 43]
abbrev dktJ28_init_0 : List UInt8 := dkwJ28_init_0 ++ dktJ28_init_1
theorem dksJ28_init_0 : cJ28_init.data.toList.drop 0 = dktJ28_init_0 := by decide +kernel
theorem dksJ28_init_1 : cJ28_init.data.toList.drop 23 = dktJ28_init_1 := dk_seg dksJ28_init_0 23 rfl rfl
theorem dJ28_init_0 : decode cJ28_init 0 = .ok (.aload_n 0, 1) := dk_42 (dk_at dksJ28_init_0 0 rfl rfl)
theorem dJ28_init_1 : decode cJ28_init 1 = .ok (.aload_n 1, 1) := dk_43 (dk_at dksJ28_init_0 1 rfl rfl)
theorem dJ28_init_2 : decode cJ28_init 2 = .ok (.putfield 1, 3) := dk_181 0 1 (dk_at dksJ28_init_0 2 rfl rfl)
theorem dJ28_init_5 : decode cJ28_init 5 = .ok (.aload_n 0, 1) := dk_42 (dk_at dksJ28_init_0 5 rfl rfl)
theorem dJ28_init_6 : decode cJ28_init 6 = .ok (.invokespecial 7, 3) := dk_183 0 7 (dk_at dksJ28_init_0 6 rfl rfl)
theorem dJ28_init_9 : decode cJ28_init 9 = .ok (.aload_n 0, 1) := dk_42 (dk_at dksJ28_init_0 9 rfl rfl)
theorem dJ28_init_10 : decode cJ28_init 10 = .ok (.aload_n 0, 1) := dk_42 (dk_at dksJ28_init_0 10 rfl rfl)
theorem dJ28_init_11 : decode cJ28_init 11 = .ok (.getfield 1, 3) := dk_180 0 1 (dk_at dksJ28_init_0 11 rfl rfl)
theorem dJ28_init_14 : decode cJ28_init 14 = .ok (.getfield 13, 3) := dk_180 0 13 (dk_at dksJ28_init_0 14 rfl rfl)
theorem dJ28_init_17 : decode cJ28_init 17 = .ok (.putfield 19, 3) := dk_181 0 19 (dk_at dksJ28_init_0 17 rfl rfl)
theorem dJ28_init_20 : decode cJ28_init 20 = .ok (.aload_n 0, 1) := dk_42 (dk_at dksJ28_init_0 20 rfl rfl)
theorem dJ28_init_21 : decode cJ28_init 21 = .ok (.iload_n 2, 1) := dk_28 (dk_at dksJ28_init_0 21 rfl rfl)
theorem dJ28_init_22 : decode cJ28_init 22 = .ok (.aload_n 1, 1) := dk_43 (dk_at dksJ28_init_0 22 rfl rfl)
theorem dJ28_init_23 : decode cJ28_init 23 = .ok (.getfield 22, 3) := dk_180 0 22 (dk_at dksJ28_init_1 0 rfl rfl)
theorem dJ28_init_26 : decode cJ28_init 26 = .ok (.if_icmp .ne 7, 3) := dk_160 0 7 (dk_at dksJ28_init_1 3 rfl rfl)
theorem dJ28_init_29 : decode cJ28_init 29 = .ok (.aconst_null, 1) := dk_1 (dk_at dksJ28_init_1 6 rfl rfl)
theorem dJ28_init_30 : decode cJ28_init 30 = .ok (.goto 8, 3) := dk_167 0 8 (dk_at dksJ28_init_1 7 rfl rfl)
theorem dJ28_init_33 : decode cJ28_init 33 = .ok (.aload_n 1, 1) := dk_43 (dk_at dksJ28_init_1 10 rfl rfl)
theorem dJ28_init_34 : decode cJ28_init 34 = .ok (.iload_n 2, 1) := dk_28 (dk_at dksJ28_init_1 11 rfl rfl)
theorem dJ28_init_35 : decode cJ28_init 35 = .ok (.invokevirtual 25, 3) := dk_182 0 25 (dk_at dksJ28_init_1 12 rfl rfl)
theorem dJ28_init_38 : decode cJ28_init 38 = .ok (.putfield 29, 3) := dk_181 0 29 (dk_at dksJ28_init_1 15 rfl rfl)
theorem dJ28_init_41 : decode cJ28_init 41 = .ok (.aload_n 0, 1) := dk_42 (dk_at dksJ28_init_1 18 rfl rfl)
theorem dJ28_init_42 : decode cJ28_init 42 = .ok (.iload_n 2, 1) := dk_28 (dk_at dksJ28_init_1 19 rfl rfl)
theorem dJ28_init_43 : decode cJ28_init 43 = .ok (.putfield 33, 3) := dk_181 0 33 (dk_at dksJ28_init_1 20 rfl rfl)
theorem dJ28_init_46 : decode cJ28_init 46 = .ok (.return_, 1) := dk_177 (dk_at dksJ28_init_1 23 rfl rfl)
abbrev cJ28_hasNext : ByteArray := prog_57_method_2_code
def yJ28_hasNext : MethodName := ⟨RJ28, "hasNext", "()Z"⟩
def dkwJ28_hasNext_0 : List UInt8 := [42, 180, 0, 33, 42, 180, 0, 1, 180, 0, 22, 162, 0, 7, 4, 167, 0, 4, 3, 172]
abbrev dktJ28_hasNext_0 : List UInt8 := dkwJ28_hasNext_0 ++ []
theorem dksJ28_hasNext_0 : cJ28_hasNext.data.toList.drop 0 = dktJ28_hasNext_0 := by decide +kernel
theorem dJ28_hasNext_0 : decode cJ28_hasNext 0 = .ok (.aload_n 0, 1) := dk_42 (dk_at dksJ28_hasNext_0 0 rfl rfl)
theorem dJ28_hasNext_1 : decode cJ28_hasNext 1 = .ok (.getfield 33, 3) := dk_180 0 33 (dk_at dksJ28_hasNext_0 1 rfl rfl)
theorem dJ28_hasNext_4 : decode cJ28_hasNext 4 = .ok (.aload_n 0, 1) := dk_42 (dk_at dksJ28_hasNext_0 4 rfl rfl)
theorem dJ28_hasNext_5 : decode cJ28_hasNext 5 = .ok (.getfield 1, 3) := dk_180 0 1 (dk_at dksJ28_hasNext_0 5 rfl rfl)
theorem dJ28_hasNext_8 : decode cJ28_hasNext 8 = .ok (.getfield 22, 3) := dk_180 0 22 (dk_at dksJ28_hasNext_0 8 rfl rfl)
theorem dJ28_hasNext_11 : decode cJ28_hasNext 11 = .ok (.if_icmp .ge 7, 3) := dk_162 0 7 (dk_at dksJ28_hasNext_0 11 rfl rfl)
theorem dJ28_hasNext_14 : decode cJ28_hasNext 14 = .ok (.iconst 1, 1) := dk_4 (dk_at dksJ28_hasNext_0 14 rfl rfl)
theorem dJ28_hasNext_15 : decode cJ28_hasNext 15 = .ok (.goto 4, 3) := dk_167 0 4 (dk_at dksJ28_hasNext_0 15 rfl rfl)
theorem dJ28_hasNext_18 : decode cJ28_hasNext 18 = .ok (.iconst 0, 1) := dk_3 (dk_at dksJ28_hasNext_0 18 rfl rfl)
theorem dJ28_hasNext_19 : decode cJ28_hasNext 19 = .ok (.ireturn, 1) := dk_172 (dk_at dksJ28_hasNext_0 19 rfl rfl)
abbrev cJ28_next : ByteArray := prog_57_method_3_code
def yJ28_next : MethodName := ⟨RJ28, "next", "()Ljava/lang/Object;"⟩
def dkwJ28_next_2 : List UInt8 := [42, 180, 0, 46, 180, 0, 52, 176]
abbrev dktJ28_next_2 : List UInt8 := dkwJ28_next_2 ++ []
def dkwJ28_next_1 : List UInt8 := [181, 0, 46, 42, 42, 180, 0, 29, 180, 0, 49, 181, 0, 29, 42, 89, 180, 0, 33, 4, 96, 181, 0, 33]
abbrev dktJ28_next_1 : List UInt8 := dkwJ28_next_1 ++ dktJ28_next_2
def dkwJ28_next_0 : List UInt8 := [42, 182, 0, 36, 42, 182, 0, 39, 154, 0, 11, 187, 0, 43, 89, 183, 0, 45, 191, 42, 42, 180, 0, 29]
abbrev dktJ28_next_0 : List UInt8 := dkwJ28_next_0 ++ dktJ28_next_1
theorem dksJ28_next_0 : cJ28_next.data.toList.drop 0 = dktJ28_next_0 := by decide +kernel
theorem dksJ28_next_1 : cJ28_next.data.toList.drop 24 = dktJ28_next_1 := dk_seg dksJ28_next_0 24 rfl rfl
theorem dksJ28_next_2 : cJ28_next.data.toList.drop 48 = dktJ28_next_2 := dk_seg dksJ28_next_1 24 rfl rfl
theorem dJ28_next_0 : decode cJ28_next 0 = .ok (.aload_n 0, 1) := dk_42 (dk_at dksJ28_next_0 0 rfl rfl)
theorem dJ28_next_1 : decode cJ28_next 1 = .ok (.invokevirtual 36, 3) := dk_182 0 36 (dk_at dksJ28_next_0 1 rfl rfl)
theorem dJ28_next_4 : decode cJ28_next 4 = .ok (.aload_n 0, 1) := dk_42 (dk_at dksJ28_next_0 4 rfl rfl)
theorem dJ28_next_5 : decode cJ28_next 5 = .ok (.invokevirtual 39, 3) := dk_182 0 39 (dk_at dksJ28_next_0 5 rfl rfl)
theorem dJ28_next_8 : decode cJ28_next 8 = .ok (.ifCond .ne 11, 3) := dk_154 0 11 (dk_at dksJ28_next_0 8 rfl rfl)
theorem dJ28_next_11 : decode cJ28_next 11 = .ok (.new 43, 3) := dk_187 0 43 (dk_at dksJ28_next_0 11 rfl rfl)
theorem dJ28_next_14 : decode cJ28_next 14 = .ok (.dup, 1) := dk_89 (dk_at dksJ28_next_0 14 rfl rfl)
theorem dJ28_next_15 : decode cJ28_next 15 = .ok (.invokespecial 45, 3) := dk_183 0 45 (dk_at dksJ28_next_0 15 rfl rfl)
theorem dJ28_next_18 : decode cJ28_next 18 = .ok (.athrow, 1) := dk_191 (dk_at dksJ28_next_0 18 rfl rfl)
theorem dJ28_next_19 : decode cJ28_next 19 = .ok (.aload_n 0, 1) := dk_42 (dk_at dksJ28_next_0 19 rfl rfl)
theorem dJ28_next_20 : decode cJ28_next 20 = .ok (.aload_n 0, 1) := dk_42 (dk_at dksJ28_next_0 20 rfl rfl)
theorem dJ28_next_21 : decode cJ28_next 21 = .ok (.getfield 29, 3) := dk_180 0 29 (dk_at dksJ28_next_0 21 rfl rfl)
theorem dJ28_next_24 : decode cJ28_next 24 = .ok (.putfield 46, 3) := dk_181 0 46 (dk_at dksJ28_next_1 0 rfl rfl)
theorem dJ28_next_27 : decode cJ28_next 27 = .ok (.aload_n 0, 1) := dk_42 (dk_at dksJ28_next_1 3 rfl rfl)
theorem dJ28_next_28 : decode cJ28_next 28 = .ok (.aload_n 0, 1) := dk_42 (dk_at dksJ28_next_1 4 rfl rfl)
theorem dJ28_next_29 : decode cJ28_next 29 = .ok (.getfield 29, 3) := dk_180 0 29 (dk_at dksJ28_next_1 5 rfl rfl)
theorem dJ28_next_32 : decode cJ28_next 32 = .ok (.getfield 49, 3) := dk_180 0 49 (dk_at dksJ28_next_1 8 rfl rfl)
theorem dJ28_next_35 : decode cJ28_next 35 = .ok (.putfield 29, 3) := dk_181 0 29 (dk_at dksJ28_next_1 11 rfl rfl)
theorem dJ28_next_38 : decode cJ28_next 38 = .ok (.aload_n 0, 1) := dk_42 (dk_at dksJ28_next_1 14 rfl rfl)
theorem dJ28_next_39 : decode cJ28_next 39 = .ok (.dup, 1) := dk_89 (dk_at dksJ28_next_1 15 rfl rfl)
theorem dJ28_next_40 : decode cJ28_next 40 = .ok (.getfield 33, 3) := dk_180 0 33 (dk_at dksJ28_next_1 16 rfl rfl)
theorem dJ28_next_43 : decode cJ28_next 43 = .ok (.iconst 1, 1) := dk_4 (dk_at dksJ28_next_1 19 rfl rfl)
theorem dJ28_next_44 : decode cJ28_next 44 = .ok (.iadd, 1) := dk_96 (dk_at dksJ28_next_1 20 rfl rfl)
theorem dJ28_next_45 : decode cJ28_next 45 = .ok (.putfield 33, 3) := dk_181 0 33 (dk_at dksJ28_next_1 21 rfl rfl)
theorem dJ28_next_48 : decode cJ28_next 48 = .ok (.aload_n 0, 1) := dk_42 (dk_at dksJ28_next_2 0 rfl rfl)
theorem dJ28_next_49 : decode cJ28_next 49 = .ok (.getfield 46, 3) := dk_180 0 46 (dk_at dksJ28_next_2 1 rfl rfl)
theorem dJ28_next_52 : decode cJ28_next 52 = .ok (.getfield 52, 3) := dk_180 0 52 (dk_at dksJ28_next_2 4 rfl rfl)
theorem dJ28_next_55 : decode cJ28_next 55 = .ok (.areturn, 1) := dk_176 (dk_at dksJ28_next_2 7 rfl rfl)
abbrev cJ28_checkForComodification : ByteArray := prog_57_method_12_code
def yJ28_checkForComodification : MethodName := ⟨RJ28, "checkForComodification", "()V"⟩
def dkwJ28_checkForComodification_0 : List UInt8 := [42, 180, 0, 1, 180, 0, 13, 42, 180, 0, 19, 159, 0, 11, 187, 0, 91, 89, 183, 0, 93, 191, 177]
abbrev dktJ28_checkForComodification_0 : List UInt8 := dkwJ28_checkForComodification_0 ++ []
theorem dksJ28_checkForComodification_0 : cJ28_checkForComodification.data.toList.drop 0 = dktJ28_checkForComodification_0 := by decide +kernel
theorem dJ28_checkForComodification_0 : decode cJ28_checkForComodification 0 = .ok (.aload_n 0, 1) := dk_42 (dk_at dksJ28_checkForComodification_0 0 rfl rfl)
theorem dJ28_checkForComodification_1 : decode cJ28_checkForComodification 1 = .ok (.getfield 1, 3) := dk_180 0 1 (dk_at dksJ28_checkForComodification_0 1 rfl rfl)
theorem dJ28_checkForComodification_4 : decode cJ28_checkForComodification 4 = .ok (.getfield 13, 3) := dk_180 0 13 (dk_at dksJ28_checkForComodification_0 4 rfl rfl)
theorem dJ28_checkForComodification_7 : decode cJ28_checkForComodification 7 = .ok (.aload_n 0, 1) := dk_42 (dk_at dksJ28_checkForComodification_0 7 rfl rfl)
theorem dJ28_checkForComodification_8 : decode cJ28_checkForComodification 8 = .ok (.getfield 19, 3) := dk_180 0 19 (dk_at dksJ28_checkForComodification_0 8 rfl rfl)
theorem dJ28_checkForComodification_11 : decode cJ28_checkForComodification 11 = .ok (.if_icmp .eq 11, 3) := dk_159 0 11 (dk_at dksJ28_checkForComodification_0 11 rfl rfl)
theorem dJ28_checkForComodification_14 : decode cJ28_checkForComodification 14 = .ok (.new 91, 3) := dk_187 0 91 (dk_at dksJ28_checkForComodification_0 14 rfl rfl)
theorem dJ28_checkForComodification_17 : decode cJ28_checkForComodification 17 = .ok (.dup, 1) := dk_89 (dk_at dksJ28_checkForComodification_0 17 rfl rfl)
theorem dJ28_checkForComodification_18 : decode cJ28_checkForComodification 18 = .ok (.invokespecial 93, 3) := dk_183 0 93 (dk_at dksJ28_checkForComodification_0 18 rfl rfl)
theorem dJ28_checkForComodification_21 : decode cJ28_checkForComodification 21 = .ok (.athrow, 1) := dk_191 (dk_at dksJ28_checkForComodification_0 21 rfl rfl)
theorem dJ28_checkForComodification_22 : decode cJ28_checkForComodification 22 = .ok (.return_, 1) := dk_177 (dk_at dksJ28_checkForComodification_0 22 rfl rfl)
theorem q172 : (Jvm.Cond.initialized "java/util/LinkedList$ListItr") ∈ lw_all := lw_g (lw_at lw_m1 43 rfl) rfl
theorem q309 : (Jvm.Cond.selects "java/util/LinkedList$ListItr" ({ cls := "java/lang/Object", name := "getClass", desc := "()Ljava/lang/Class;" } : Jvm.MethodName) ({ cls := "java/lang/Object", name := "getClass", desc := "()Ljava/lang/Class;" } : Jvm.MethodName)) ∈ lw_all := lw_g (lw_at lw_m1 180 rfl) rfl
theorem q416 : (Jvm.Cond.fieldLink "java/util/LinkedList$ListItr" (22 : Nat) "java/util/LinkedList" "size" "I") ∈ lw_all := lw_g (lw_at lw_m2 47 rfl) rfl
theorem q420 : (Jvm.Cond.fieldLink "java/util/LinkedList$ListItr" (13 : Nat) "java/util/LinkedList" "modCount" "I") ∈ lw_all := lw_g (lw_at lw_m2 51 rfl) rfl
theorem q1046 : (Jvm.Cond.fieldLink "java/util/LinkedList$ListItr" (52 : Nat) "java/util/LinkedList$Node" "item" "Ljava/lang/Object;") ∈ lw_all := lw_g (lw_at lw_m4 197 rfl) rfl
theorem q1049 : (Jvm.Cond.fieldLink "java/util/LinkedList$ListItr" (49 : Nat) "java/util/LinkedList$Node" "next" "Ljava/util/LinkedList$Node;") ∈ lw_all := lw_g (lw_at lw_m4 200 rfl) rfl
theorem q1134 : (Jvm.Cond.instantiable "java/util/LinkedList$ListItr" (5 : Nat)) ∈ lw_all := lw_g (lw_at lw_m5 45 rfl) rfl
theorem q1136 : (Jvm.Cond.instanceMethod ({ cls := "java/util/LinkedList$ListItr", name := "<init>", desc := "(Ljava/util/LinkedList;I)V" } : Jvm.MethodName)) ∈ lw_all := lw_g (lw_at lw_m5 47 rfl) rfl
theorem q1137 : (Jvm.Cond.code ({ cls := "java/util/LinkedList$ListItr", name := "<init>", desc := "(Ljava/util/LinkedList;I)V" } : Jvm.MethodName) prog_57_method_1_code (3 : Nat) (Option.none : Option Jvm.ClassFile.FieldType)) ∈ lw_all := lw_g (lw_at lw_m5 48 rfl) rfl
theorem q1138 : (Jvm.Cond.methodLink "java/util/LinkedList$ListItr" (7 : Nat) ({ cls := "java/lang/Object", name := "<init>", desc := "()V" } : Jvm.MethodName)) ∈ lw_all := lw_g (lw_at lw_m5 49 rfl) rfl
theorem q1139 : (Jvm.Cond.methodLink "java/util/LinkedList$ListItr" (25 : Nat) ({ cls := "java/util/LinkedList", name := "node", desc := "(I)Ljava/util/LinkedList$Node;" } : Jvm.MethodName)) ∈ lw_all := lw_g (lw_at lw_m5 50 rfl) rfl
theorem q1140 : (Jvm.Cond.fieldLink "java/util/LinkedList$ListItr" (46 : Nat) "java/util/LinkedList$ListItr" "lastReturned" "Ljava/util/LinkedList$Node;") ∈ lw_all := lw_g (lw_at lw_m5 51 rfl) rfl
theorem q1141 : (Jvm.Cond.fieldLink "java/util/LinkedList$ListItr" (29 : Nat) "java/util/LinkedList$ListItr" "next" "Ljava/util/LinkedList$Node;") ∈ lw_all := lw_g (lw_at lw_m5 52 rfl) rfl
theorem q1142 : (Jvm.Cond.fieldLink "java/util/LinkedList$ListItr" (33 : Nat) "java/util/LinkedList$ListItr" "nextIndex" "I") ∈ lw_all := lw_g (lw_at lw_m5 53 rfl) rfl
theorem q1143 : (Jvm.Cond.fieldLink "java/util/LinkedList$ListItr" (19 : Nat) "java/util/LinkedList$ListItr" "expectedModCount" "I") ∈ lw_all := lw_g (lw_at lw_m5 54 rfl) rfl
theorem q1144 : (Jvm.Cond.fieldLink "java/util/LinkedList$ListItr" (1 : Nat) "java/util/LinkedList$ListItr" "this$0" "Ljava/util/LinkedList;") ∈ lw_all := lw_g (lw_at lw_m5 55 rfl) rfl
theorem q1145 : (Jvm.Cond.lays "java/util/LinkedList$ListItr" "java/util/LinkedList$ListItr" "lastReturned" "Ljava/util/LinkedList$Node;") ∈ lw_all := lw_g (lw_at lw_m5 56 rfl) rfl
theorem q1146 : (Jvm.Cond.soleField "java/util/LinkedList$ListItr" "lastReturned") ∈ lw_all := lw_g (lw_at lw_m5 57 rfl) rfl
theorem q1147 : (Jvm.Cond.lays "java/util/LinkedList$ListItr" "java/util/LinkedList$ListItr" "next" "Ljava/util/LinkedList$Node;") ∈ lw_all := lw_g (lw_at lw_m5 58 rfl) rfl
theorem q1148 : (Jvm.Cond.soleField "java/util/LinkedList$ListItr" "next") ∈ lw_all := lw_g (lw_at lw_m5 59 rfl) rfl
theorem q1149 : (Jvm.Cond.lays "java/util/LinkedList$ListItr" "java/util/LinkedList$ListItr" "nextIndex" "I") ∈ lw_all := lw_g (lw_at lw_m5 60 rfl) rfl
theorem q1150 : (Jvm.Cond.soleField "java/util/LinkedList$ListItr" "nextIndex") ∈ lw_all := lw_g (lw_at lw_m5 61 rfl) rfl
theorem q1151 : (Jvm.Cond.lays "java/util/LinkedList$ListItr" "java/util/LinkedList$ListItr" "expectedModCount" "I") ∈ lw_all := lw_g (lw_at lw_m5 62 rfl) rfl
theorem q1152 : (Jvm.Cond.soleField "java/util/LinkedList$ListItr" "expectedModCount") ∈ lw_all := lw_g (lw_at lw_m5 63 rfl) rfl
theorem q1153 : (Jvm.Cond.laysFinal "java/util/LinkedList$ListItr" "java/util/LinkedList$ListItr" "this$0" "Ljava/util/LinkedList;") ∈ lw_all := lw_g (lw_at lw_m5 64 rfl) rfl
theorem q1154 : (Jvm.Cond.soleField "java/util/LinkedList$ListItr" "this$0") ∈ lw_all := lw_g (lw_at lw_m5 65 rfl) rfl
theorem q1155 : (Jvm.Cond.superclass "java/util/LinkedList$ListItr" "java/lang/Object") ∈ lw_all := lw_g (lw_at lw_m5 66 rfl) rfl
theorem q1178 : (Jvm.Cond.castable "java/util/LinkedList$ListItr" "java/util/Iterator") ∈ lw_tbl := lw_at lw_m5 89 rfl
theorem q1179 : (Jvm.Cond.selects "java/util/LinkedList$ListItr" ({ cls := "java/util/Iterator", name := "hasNext", desc := "()Z" } : Jvm.MethodName) ({ cls := "java/util/LinkedList$ListItr", name := "hasNext", desc := "()Z" } : Jvm.MethodName)) ∈ lw_all := lw_g (lw_at lw_m5 90 rfl) rfl
theorem q1180 : (Jvm.Cond.unhidden "java/util/LinkedList$ListItr" "hasNext" "()Z") ∈ lw_tbl := lw_at lw_m5 91 rfl
theorem q1181 : (Jvm.Cond.instanceMethod ({ cls := "java/util/LinkedList$ListItr", name := "hasNext", desc := "()Z" } : Jvm.MethodName)) ∈ lw_all := lw_g (lw_at lw_m5 92 rfl) rfl
theorem q1182 : (Jvm.Cond.publicMethod ({ cls := "java/util/LinkedList$ListItr", name := "hasNext", desc := "()Z" } : Jvm.MethodName)) ∈ lw_tbl := lw_at lw_m5 93 rfl
theorem q1183 : (Jvm.Cond.code ({ cls := "java/util/LinkedList$ListItr", name := "hasNext", desc := "()Z" } : Jvm.MethodName) prog_57_method_2_code (1 : Nat) (Option.some Jvm.ClassFile.FieldType.boolean)) ∈ lw_all := lw_g (lw_at lw_m5 94 rfl) rfl
theorem q1429 : (Jvm.Cond.selects "java/util/LinkedList$ListItr" ({ cls := "java/util/Iterator", name := "next", desc := "()Ljava/lang/Object;" } : Jvm.MethodName) ({ cls := "java/util/LinkedList$ListItr", name := "next", desc := "()Ljava/lang/Object;" } : Jvm.MethodName)) ∈ lw_all := lw_g (lw_at lw_m6 100 rfl) rfl
theorem q1430 : (Jvm.Cond.unhidden "java/util/LinkedList$ListItr" "next" "()Ljava/lang/Object;") ∈ lw_tbl := lw_at lw_m6 101 rfl
theorem q1431 : (Jvm.Cond.instanceMethod ({ cls := "java/util/LinkedList$ListItr", name := "next", desc := "()Ljava/lang/Object;" } : Jvm.MethodName)) ∈ lw_all := lw_g (lw_at lw_m6 102 rfl) rfl
theorem q1432 : (Jvm.Cond.publicMethod ({ cls := "java/util/LinkedList$ListItr", name := "next", desc := "()Ljava/lang/Object;" } : Jvm.MethodName)) ∈ lw_tbl := lw_at lw_m6 103 rfl
theorem q1433 : (Jvm.Cond.code ({ cls := "java/util/LinkedList$ListItr", name := "next", desc := "()Ljava/lang/Object;" } : Jvm.MethodName) prog_57_method_3_code (1 : Nat) (Option.some (Jvm.ClassFile.FieldType.object "java/lang/Object"))) ∈ lw_all := lw_g (lw_at lw_m6 104 rfl) rfl
theorem q1434 : (Jvm.Cond.methodLink "java/util/LinkedList$ListItr" (36 : Nat) ({ cls := "java/util/LinkedList$ListItr", name := "checkForComodification", desc := "()V" } : Jvm.MethodName)) ∈ lw_all := lw_g (lw_at lw_m6 105 rfl) rfl
theorem q1435 : (Jvm.Cond.instanceMethod ({ cls := "java/util/LinkedList$ListItr", name := "checkForComodification", desc := "()V" } : Jvm.MethodName)) ∈ lw_all := lw_g (lw_at lw_m6 106 rfl) rfl
theorem q1436 : (Jvm.Cond.selects "java/util/LinkedList$ListItr" ({ cls := "java/util/LinkedList$ListItr", name := "checkForComodification", desc := "()V" } : Jvm.MethodName) ({ cls := "java/util/LinkedList$ListItr", name := "checkForComodification", desc := "()V" } : Jvm.MethodName)) ∈ lw_all := lw_g (lw_at lw_m6 107 rfl) rfl
theorem q1437 : (Jvm.Cond.code ({ cls := "java/util/LinkedList$ListItr", name := "checkForComodification", desc := "()V" } : Jvm.MethodName) prog_57_method_12_code (1 : Nat) (Option.none : Option Jvm.ClassFile.FieldType)) ∈ lw_all := lw_g (lw_at lw_m6 108 rfl) rfl
theorem q1438 : (Jvm.Cond.methodLink "java/util/LinkedList$ListItr" (39 : Nat) ({ cls := "java/util/LinkedList$ListItr", name := "hasNext", desc := "()Z" } : Jvm.MethodName)) ∈ lw_all := lw_g (lw_at lw_m6 109 rfl) rfl
theorem q2672 : (Jvm.Cond.selects "java/util/LinkedList$ListItr" ({ cls := "java/util/LinkedList$ListItr", name := "hasNext", desc := "()Z" } : Jvm.MethodName) ({ cls := "java/util/LinkedList$ListItr", name := "hasNext", desc := "()Z" } : Jvm.MethodName)) ∈ lw_all := lw_g (lw_at lw_m11 143 rfl) rfl
theorem q2702 : (Jvm.Cond.castable "java/util/LinkedList$ListItr" "java/lang/Object") ∈ lw_tbl := lw_at lw_m11 173 rfl
theorem in_J28 : ∀ w ∈ wsJ280, w ∈ lw_all := lw_in wsJ280 [1145, 1147, 1149, 1151, 1153] (by decide +kernel) (by decide +kernel)
/-! java/lang/Number -/
set_option maxRecDepth 100000
def RJ32 : String := "java/lang/Number"
abbrev cJ32_init : ByteArray := prog_26_method_1_code
def yJ32_init : MethodName := ⟨RJ32, "<init>", "()V"⟩
theorem dJ32_init_0 : decode cJ32_init 0 = .ok (.aload_n 0, 1) := by decide +kernel
theorem dJ32_init_1 : decode cJ32_init 1 = .ok (.invokespecial 1, 3) := by decide +kernel
theorem dJ32_init_4 : decode cJ32_init 4 = .ok (.return_, 1) := by decide +kernel
theorem q176 : (Jvm.Cond.initialized "java/lang/Number") ∈ lw_all := lw_g (lw_at lw_m1 47 rfl) rfl
theorem q1776 : (Jvm.Cond.instanceMethod ({ cls := "java/lang/Number", name := "<init>", desc := "()V" } : Jvm.MethodName)) ∈ lw_all := lw_g (lw_at lw_m7 207 rfl) rfl
theorem q1777 : (Jvm.Cond.code ({ cls := "java/lang/Number", name := "<init>", desc := "()V" } : Jvm.MethodName) prog_26_method_1_code (1 : Nat) (Option.none : Option Jvm.ClassFile.FieldType)) ∈ lw_all := lw_g (lw_at lw_m7 208 rfl) rfl
theorem q1778 : (Jvm.Cond.methodLink "java/lang/Number" (1 : Nat) ({ cls := "java/lang/Object", name := "<init>", desc := "()V" } : Jvm.MethodName)) ∈ lw_all := lw_g (lw_at lw_m7 209 rfl) rfl
/-! java/lang/Integer -/
set_option maxRecDepth 100000
def RJ33 : String := "java/lang/Integer"
def TJ33 : u_T := fun k => match k with
  | _ => ("java/lang/Integer", "value", "I", true)
def tyJ33 : Nat → FieldType := fun k => match k with
  | _ => .int
abbrev wsJ330 : List Cond := u_ws RJ33 TJ33 1
theorem nmJ33 : ∀ a, a < 1 → ∀ b, b < 1 → a ≠ b → (TJ33 a).2.1 ≠ (TJ33 b).2.1 := by decide +kernel
theorem tyJ33_ok : ∀ k, k < 1 → parseFieldDescriptor (TJ33 k).2.2.1 = some (tyJ33 k) := by decide +kernel
abbrev cJ33_bitCount : ByteArray := prog_21_method_49_code
def yJ33_bitCount : MethodName := ⟨RJ33, "bitCount", "(I)I"⟩
def dkwJ33_bitCount_2 : List UInt8 := [26, 16, 63, 126, 172]
abbrev dktJ33_bitCount_2 : List UInt8 := dkwJ33_bitCount_2 ++ []
def dkwJ33_bitCount_1 : List UInt8 := [26, 26, 7, 124, 96, 19, 1, 11, 126, 59, 26, 26, 16, 8, 124, 96, 59, 26, 26, 16, 16, 124, 96, 59]
abbrev dktJ33_bitCount_1 : List UInt8 := dkwJ33_bitCount_1 ++ dktJ33_bitCount_2
def dkwJ33_bitCount_0 : List UInt8 := [26, 26, 4, 124, 19, 1, 9, 126, 100, 59, 26, 19, 1, 10, 126, 26, 5, 124, 19, 1, 10, 126, 96, 59]
abbrev dktJ33_bitCount_0 : List UInt8 := dkwJ33_bitCount_0 ++ dktJ33_bitCount_1
theorem dksJ33_bitCount_0 : cJ33_bitCount.data.toList.drop 0 = dktJ33_bitCount_0 := by decide +kernel
theorem dksJ33_bitCount_1 : cJ33_bitCount.data.toList.drop 24 = dktJ33_bitCount_1 := dk_seg dksJ33_bitCount_0 24 rfl rfl
theorem dksJ33_bitCount_2 : cJ33_bitCount.data.toList.drop 48 = dktJ33_bitCount_2 := dk_seg dksJ33_bitCount_1 24 rfl rfl
theorem dJ33_bitCount_0 : decode cJ33_bitCount 0 = .ok (.iload_n 0, 1) := dk_26 (dk_at dksJ33_bitCount_0 0 rfl rfl)
theorem dJ33_bitCount_1 : decode cJ33_bitCount 1 = .ok (.iload_n 0, 1) := dk_26 (dk_at dksJ33_bitCount_0 1 rfl rfl)
theorem dJ33_bitCount_2 : decode cJ33_bitCount 2 = .ok (.iconst 1, 1) := dk_4 (dk_at dksJ33_bitCount_0 2 rfl rfl)
theorem dJ33_bitCount_3 : decode cJ33_bitCount 3 = .ok (.iushr, 1) := dk_124 (dk_at dksJ33_bitCount_0 3 rfl rfl)
theorem dJ33_bitCount_4 : decode cJ33_bitCount 4 = .ok (.ldc_w 265, 3) := dk_19 1 9 (dk_at dksJ33_bitCount_0 4 rfl rfl)
theorem dJ33_bitCount_7 : decode cJ33_bitCount 7 = .ok (.iand, 1) := dk_126 (dk_at dksJ33_bitCount_0 7 rfl rfl)
theorem dJ33_bitCount_8 : decode cJ33_bitCount 8 = .ok (.isub, 1) := dk_100 (dk_at dksJ33_bitCount_0 8 rfl rfl)
theorem dJ33_bitCount_9 : decode cJ33_bitCount 9 = .ok (.istore_n 0, 1) := dk_59 (dk_at dksJ33_bitCount_0 9 rfl rfl)
theorem dJ33_bitCount_10 : decode cJ33_bitCount 10 = .ok (.iload_n 0, 1) := dk_26 (dk_at dksJ33_bitCount_0 10 rfl rfl)
theorem dJ33_bitCount_11 : decode cJ33_bitCount 11 = .ok (.ldc_w 266, 3) := dk_19 1 10 (dk_at dksJ33_bitCount_0 11 rfl rfl)
theorem dJ33_bitCount_14 : decode cJ33_bitCount 14 = .ok (.iand, 1) := dk_126 (dk_at dksJ33_bitCount_0 14 rfl rfl)
theorem dJ33_bitCount_15 : decode cJ33_bitCount 15 = .ok (.iload_n 0, 1) := dk_26 (dk_at dksJ33_bitCount_0 15 rfl rfl)
theorem dJ33_bitCount_16 : decode cJ33_bitCount 16 = .ok (.iconst 2, 1) := dk_5 (dk_at dksJ33_bitCount_0 16 rfl rfl)
theorem dJ33_bitCount_17 : decode cJ33_bitCount 17 = .ok (.iushr, 1) := dk_124 (dk_at dksJ33_bitCount_0 17 rfl rfl)
theorem dJ33_bitCount_18 : decode cJ33_bitCount 18 = .ok (.ldc_w 266, 3) := dk_19 1 10 (dk_at dksJ33_bitCount_0 18 rfl rfl)
theorem dJ33_bitCount_21 : decode cJ33_bitCount 21 = .ok (.iand, 1) := dk_126 (dk_at dksJ33_bitCount_0 21 rfl rfl)
theorem dJ33_bitCount_22 : decode cJ33_bitCount 22 = .ok (.iadd, 1) := dk_96 (dk_at dksJ33_bitCount_0 22 rfl rfl)
theorem dJ33_bitCount_23 : decode cJ33_bitCount 23 = .ok (.istore_n 0, 1) := dk_59 (dk_at dksJ33_bitCount_0 23 rfl rfl)
theorem dJ33_bitCount_24 : decode cJ33_bitCount 24 = .ok (.iload_n 0, 1) := dk_26 (dk_at dksJ33_bitCount_1 0 rfl rfl)
theorem dJ33_bitCount_25 : decode cJ33_bitCount 25 = .ok (.iload_n 0, 1) := dk_26 (dk_at dksJ33_bitCount_1 1 rfl rfl)
theorem dJ33_bitCount_26 : decode cJ33_bitCount 26 = .ok (.iconst 4, 1) := dk_7 (dk_at dksJ33_bitCount_1 2 rfl rfl)
theorem dJ33_bitCount_27 : decode cJ33_bitCount 27 = .ok (.iushr, 1) := dk_124 (dk_at dksJ33_bitCount_1 3 rfl rfl)
theorem dJ33_bitCount_28 : decode cJ33_bitCount 28 = .ok (.iadd, 1) := dk_96 (dk_at dksJ33_bitCount_1 4 rfl rfl)
theorem dJ33_bitCount_29 : decode cJ33_bitCount 29 = .ok (.ldc_w 267, 3) := dk_19 1 11 (dk_at dksJ33_bitCount_1 5 rfl rfl)
theorem dJ33_bitCount_32 : decode cJ33_bitCount 32 = .ok (.iand, 1) := dk_126 (dk_at dksJ33_bitCount_1 8 rfl rfl)
theorem dJ33_bitCount_33 : decode cJ33_bitCount 33 = .ok (.istore_n 0, 1) := dk_59 (dk_at dksJ33_bitCount_1 9 rfl rfl)
theorem dJ33_bitCount_34 : decode cJ33_bitCount 34 = .ok (.iload_n 0, 1) := dk_26 (dk_at dksJ33_bitCount_1 10 rfl rfl)
theorem dJ33_bitCount_35 : decode cJ33_bitCount 35 = .ok (.iload_n 0, 1) := dk_26 (dk_at dksJ33_bitCount_1 11 rfl rfl)
theorem dJ33_bitCount_36 : decode cJ33_bitCount 36 = .ok (.bipush 8, 2) := dk_16 8 (dk_at dksJ33_bitCount_1 12 rfl rfl)
theorem dJ33_bitCount_38 : decode cJ33_bitCount 38 = .ok (.iushr, 1) := dk_124 (dk_at dksJ33_bitCount_1 14 rfl rfl)
theorem dJ33_bitCount_39 : decode cJ33_bitCount 39 = .ok (.iadd, 1) := dk_96 (dk_at dksJ33_bitCount_1 15 rfl rfl)
theorem dJ33_bitCount_40 : decode cJ33_bitCount 40 = .ok (.istore_n 0, 1) := dk_59 (dk_at dksJ33_bitCount_1 16 rfl rfl)
theorem dJ33_bitCount_41 : decode cJ33_bitCount 41 = .ok (.iload_n 0, 1) := dk_26 (dk_at dksJ33_bitCount_1 17 rfl rfl)
theorem dJ33_bitCount_42 : decode cJ33_bitCount 42 = .ok (.iload_n 0, 1) := dk_26 (dk_at dksJ33_bitCount_1 18 rfl rfl)
theorem dJ33_bitCount_43 : decode cJ33_bitCount 43 = .ok (.bipush 16, 2) := dk_16 16 (dk_at dksJ33_bitCount_1 19 rfl rfl)
theorem dJ33_bitCount_45 : decode cJ33_bitCount 45 = .ok (.iushr, 1) := dk_124 (dk_at dksJ33_bitCount_1 21 rfl rfl)
theorem dJ33_bitCount_46 : decode cJ33_bitCount 46 = .ok (.iadd, 1) := dk_96 (dk_at dksJ33_bitCount_1 22 rfl rfl)
theorem dJ33_bitCount_47 : decode cJ33_bitCount 47 = .ok (.istore_n 0, 1) := dk_59 (dk_at dksJ33_bitCount_1 23 rfl rfl)
theorem dJ33_bitCount_48 : decode cJ33_bitCount 48 = .ok (.iload_n 0, 1) := dk_26 (dk_at dksJ33_bitCount_2 0 rfl rfl)
theorem dJ33_bitCount_49 : decode cJ33_bitCount 49 = .ok (.bipush 63, 2) := dk_16 63 (dk_at dksJ33_bitCount_2 1 rfl rfl)
theorem dJ33_bitCount_51 : decode cJ33_bitCount 51 = .ok (.iand, 1) := dk_126 (dk_at dksJ33_bitCount_2 3 rfl rfl)
theorem dJ33_bitCount_52 : decode cJ33_bitCount 52 = .ok (.ireturn, 1) := dk_172 (dk_at dksJ33_bitCount_2 4 rfl rfl)
abbrev cJ33_numberOfTrailingZeros : ByteArray := prog_21_method_48_code
def yJ33_numberOfTrailingZeros : MethodName := ⟨RJ33, "numberOfTrailingZeros", "(I)I"⟩
def dkwJ33_numberOfTrailingZeros_3 : List UInt8 := [5, 124, 59, 27, 26, 4, 124, 96, 172]
abbrev dktJ33_numberOfTrailingZeros_3 : List UInt8 := dkwJ33_numberOfTrailingZeros_3 ++ []
def dkwJ33_numberOfTrailingZeros_2 : List UInt8 := [124, 59, 26, 16, 16, 164, 0, 10, 132, 1, 4, 26, 7, 124, 59, 26, 7, 164, 0, 10, 132, 1, 2, 26]
abbrev dktJ33_numberOfTrailingZeros_2 : List UInt8 := dkwJ33_numberOfTrailingZeros_2 ++ dktJ33_numberOfTrailingZeros_3
def dkwJ33_numberOfTrailingZeros_1 : List UInt8 := [164, 0, 11, 132, 1, 16, 26, 16, 16, 124, 59, 26, 17, 1, 0, 164, 0, 11, 132, 1, 8, 26, 16, 8]
abbrev dktJ33_numberOfTrailingZeros_1 : List UInt8 := dkwJ33_numberOfTrailingZeros_1 ++ dktJ33_numberOfTrailingZeros_2
def dkwJ33_numberOfTrailingZeros_0 : List UInt8 := [26, 2, 130, 26, 4, 100, 126, 59, 26, 157, 0, 8, 26, 16, 32, 126, 172, 4, 60, 26, 19, 1, 8]
abbrev dktJ33_numberOfTrailingZeros_0 : List UInt8 := dkwJ33_numberOfTrailingZeros_0 ++ dktJ33_numberOfTrailingZeros_1
theorem dksJ33_numberOfTrailingZeros_0 : cJ33_numberOfTrailingZeros.data.toList.drop 0 = dktJ33_numberOfTrailingZeros_0 := by decide +kernel
theorem dksJ33_numberOfTrailingZeros_1 : cJ33_numberOfTrailingZeros.data.toList.drop 23 = dktJ33_numberOfTrailingZeros_1 := dk_seg dksJ33_numberOfTrailingZeros_0 23 rfl rfl
theorem dksJ33_numberOfTrailingZeros_2 : cJ33_numberOfTrailingZeros.data.toList.drop 47 = dktJ33_numberOfTrailingZeros_2 := dk_seg dksJ33_numberOfTrailingZeros_1 24 rfl rfl
theorem dksJ33_numberOfTrailingZeros_3 : cJ33_numberOfTrailingZeros.data.toList.drop 71 = dktJ33_numberOfTrailingZeros_3 := dk_seg dksJ33_numberOfTrailingZeros_2 24 rfl rfl
theorem dJ33_numberOfTrailingZeros_0 : decode cJ33_numberOfTrailingZeros 0 = .ok (.iload_n 0, 1) := dk_26 (dk_at dksJ33_numberOfTrailingZeros_0 0 rfl rfl)
theorem dJ33_numberOfTrailingZeros_1 : decode cJ33_numberOfTrailingZeros 1 = .ok (.iconst (-1), 1) := dk_2 (dk_at dksJ33_numberOfTrailingZeros_0 1 rfl rfl)
theorem dJ33_numberOfTrailingZeros_2 : decode cJ33_numberOfTrailingZeros 2 = .ok (.ixor, 1) := dk_130 (dk_at dksJ33_numberOfTrailingZeros_0 2 rfl rfl)
theorem dJ33_numberOfTrailingZeros_3 : decode cJ33_numberOfTrailingZeros 3 = .ok (.iload_n 0, 1) := dk_26 (dk_at dksJ33_numberOfTrailingZeros_0 3 rfl rfl)
theorem dJ33_numberOfTrailingZeros_4 : decode cJ33_numberOfTrailingZeros 4 = .ok (.iconst 1, 1) := dk_4 (dk_at dksJ33_numberOfTrailingZeros_0 4 rfl rfl)
theorem dJ33_numberOfTrailingZeros_5 : decode cJ33_numberOfTrailingZeros 5 = .ok (.isub, 1) := dk_100 (dk_at dksJ33_numberOfTrailingZeros_0 5 rfl rfl)
theorem dJ33_numberOfTrailingZeros_6 : decode cJ33_numberOfTrailingZeros 6 = .ok (.iand, 1) := dk_126 (dk_at dksJ33_numberOfTrailingZeros_0 6 rfl rfl)
theorem dJ33_numberOfTrailingZeros_7 : decode cJ33_numberOfTrailingZeros 7 = .ok (.istore_n 0, 1) := dk_59 (dk_at dksJ33_numberOfTrailingZeros_0 7 rfl rfl)
theorem dJ33_numberOfTrailingZeros_8 : decode cJ33_numberOfTrailingZeros 8 = .ok (.iload_n 0, 1) := dk_26 (dk_at dksJ33_numberOfTrailingZeros_0 8 rfl rfl)
theorem dJ33_numberOfTrailingZeros_9 : decode cJ33_numberOfTrailingZeros 9 = .ok (.ifCond .gt 8, 3) := dk_157 0 8 (dk_at dksJ33_numberOfTrailingZeros_0 9 rfl rfl)
theorem dJ33_numberOfTrailingZeros_12 : decode cJ33_numberOfTrailingZeros 12 = .ok (.iload_n 0, 1) := dk_26 (dk_at dksJ33_numberOfTrailingZeros_0 12 rfl rfl)
theorem dJ33_numberOfTrailingZeros_13 : decode cJ33_numberOfTrailingZeros 13 = .ok (.bipush 32, 2) := dk_16 32 (dk_at dksJ33_numberOfTrailingZeros_0 13 rfl rfl)
theorem dJ33_numberOfTrailingZeros_15 : decode cJ33_numberOfTrailingZeros 15 = .ok (.iand, 1) := dk_126 (dk_at dksJ33_numberOfTrailingZeros_0 15 rfl rfl)
theorem dJ33_numberOfTrailingZeros_16 : decode cJ33_numberOfTrailingZeros 16 = .ok (.ireturn, 1) := dk_172 (dk_at dksJ33_numberOfTrailingZeros_0 16 rfl rfl)
theorem dJ33_numberOfTrailingZeros_17 : decode cJ33_numberOfTrailingZeros 17 = .ok (.iconst 1, 1) := dk_4 (dk_at dksJ33_numberOfTrailingZeros_0 17 rfl rfl)
theorem dJ33_numberOfTrailingZeros_18 : decode cJ33_numberOfTrailingZeros 18 = .ok (.istore_n 1, 1) := dk_60 (dk_at dksJ33_numberOfTrailingZeros_0 18 rfl rfl)
theorem dJ33_numberOfTrailingZeros_19 : decode cJ33_numberOfTrailingZeros 19 = .ok (.iload_n 0, 1) := dk_26 (dk_at dksJ33_numberOfTrailingZeros_0 19 rfl rfl)
theorem dJ33_numberOfTrailingZeros_20 : decode cJ33_numberOfTrailingZeros 20 = .ok (.ldc_w 264, 3) := dk_19 1 8 (dk_at dksJ33_numberOfTrailingZeros_0 20 rfl rfl)
theorem dJ33_numberOfTrailingZeros_23 : decode cJ33_numberOfTrailingZeros 23 = .ok (.if_icmp .le 11, 3) := dk_164 0 11 (dk_at dksJ33_numberOfTrailingZeros_1 0 rfl rfl)
theorem dJ33_numberOfTrailingZeros_26 : decode cJ33_numberOfTrailingZeros 26 = .ok (.iinc 1 16, 3) := dk_132 1 16 (dk_at dksJ33_numberOfTrailingZeros_1 3 rfl rfl)
theorem dJ33_numberOfTrailingZeros_29 : decode cJ33_numberOfTrailingZeros 29 = .ok (.iload_n 0, 1) := dk_26 (dk_at dksJ33_numberOfTrailingZeros_1 6 rfl rfl)
theorem dJ33_numberOfTrailingZeros_30 : decode cJ33_numberOfTrailingZeros 30 = .ok (.bipush 16, 2) := dk_16 16 (dk_at dksJ33_numberOfTrailingZeros_1 7 rfl rfl)
theorem dJ33_numberOfTrailingZeros_32 : decode cJ33_numberOfTrailingZeros 32 = .ok (.iushr, 1) := dk_124 (dk_at dksJ33_numberOfTrailingZeros_1 9 rfl rfl)
theorem dJ33_numberOfTrailingZeros_33 : decode cJ33_numberOfTrailingZeros 33 = .ok (.istore_n 0, 1) := dk_59 (dk_at dksJ33_numberOfTrailingZeros_1 10 rfl rfl)
theorem dJ33_numberOfTrailingZeros_34 : decode cJ33_numberOfTrailingZeros 34 = .ok (.iload_n 0, 1) := dk_26 (dk_at dksJ33_numberOfTrailingZeros_1 11 rfl rfl)
theorem dJ33_numberOfTrailingZeros_35 : decode cJ33_numberOfTrailingZeros 35 = .ok (.sipush 256, 3) := dk_17 1 0 (dk_at dksJ33_numberOfTrailingZeros_1 12 rfl rfl)
theorem dJ33_numberOfTrailingZeros_38 : decode cJ33_numberOfTrailingZeros 38 = .ok (.if_icmp .le 11, 3) := dk_164 0 11 (dk_at dksJ33_numberOfTrailingZeros_1 15 rfl rfl)
theorem dJ33_numberOfTrailingZeros_41 : decode cJ33_numberOfTrailingZeros 41 = .ok (.iinc 1 8, 3) := dk_132 1 8 (dk_at dksJ33_numberOfTrailingZeros_1 18 rfl rfl)
theorem dJ33_numberOfTrailingZeros_44 : decode cJ33_numberOfTrailingZeros 44 = .ok (.iload_n 0, 1) := dk_26 (dk_at dksJ33_numberOfTrailingZeros_1 21 rfl rfl)
theorem dJ33_numberOfTrailingZeros_45 : decode cJ33_numberOfTrailingZeros 45 = .ok (.bipush 8, 2) := dk_16 8 (dk_at dksJ33_numberOfTrailingZeros_1 22 rfl rfl)
theorem dJ33_numberOfTrailingZeros_47 : decode cJ33_numberOfTrailingZeros 47 = .ok (.iushr, 1) := dk_124 (dk_at dksJ33_numberOfTrailingZeros_2 0 rfl rfl)
theorem dJ33_numberOfTrailingZeros_48 : decode cJ33_numberOfTrailingZeros 48 = .ok (.istore_n 0, 1) := dk_59 (dk_at dksJ33_numberOfTrailingZeros_2 1 rfl rfl)
theorem dJ33_numberOfTrailingZeros_49 : decode cJ33_numberOfTrailingZeros 49 = .ok (.iload_n 0, 1) := dk_26 (dk_at dksJ33_numberOfTrailingZeros_2 2 rfl rfl)
theorem dJ33_numberOfTrailingZeros_50 : decode cJ33_numberOfTrailingZeros 50 = .ok (.bipush 16, 2) := dk_16 16 (dk_at dksJ33_numberOfTrailingZeros_2 3 rfl rfl)
theorem dJ33_numberOfTrailingZeros_52 : decode cJ33_numberOfTrailingZeros 52 = .ok (.if_icmp .le 10, 3) := dk_164 0 10 (dk_at dksJ33_numberOfTrailingZeros_2 5 rfl rfl)
theorem dJ33_numberOfTrailingZeros_55 : decode cJ33_numberOfTrailingZeros 55 = .ok (.iinc 1 4, 3) := dk_132 1 4 (dk_at dksJ33_numberOfTrailingZeros_2 8 rfl rfl)
theorem dJ33_numberOfTrailingZeros_58 : decode cJ33_numberOfTrailingZeros 58 = .ok (.iload_n 0, 1) := dk_26 (dk_at dksJ33_numberOfTrailingZeros_2 11 rfl rfl)
theorem dJ33_numberOfTrailingZeros_59 : decode cJ33_numberOfTrailingZeros 59 = .ok (.iconst 4, 1) := dk_7 (dk_at dksJ33_numberOfTrailingZeros_2 12 rfl rfl)
theorem dJ33_numberOfTrailingZeros_60 : decode cJ33_numberOfTrailingZeros 60 = .ok (.iushr, 1) := dk_124 (dk_at dksJ33_numberOfTrailingZeros_2 13 rfl rfl)
theorem dJ33_numberOfTrailingZeros_61 : decode cJ33_numberOfTrailingZeros 61 = .ok (.istore_n 0, 1) := dk_59 (dk_at dksJ33_numberOfTrailingZeros_2 14 rfl rfl)
theorem dJ33_numberOfTrailingZeros_62 : decode cJ33_numberOfTrailingZeros 62 = .ok (.iload_n 0, 1) := dk_26 (dk_at dksJ33_numberOfTrailingZeros_2 15 rfl rfl)
theorem dJ33_numberOfTrailingZeros_63 : decode cJ33_numberOfTrailingZeros 63 = .ok (.iconst 4, 1) := dk_7 (dk_at dksJ33_numberOfTrailingZeros_2 16 rfl rfl)
theorem dJ33_numberOfTrailingZeros_64 : decode cJ33_numberOfTrailingZeros 64 = .ok (.if_icmp .le 10, 3) := dk_164 0 10 (dk_at dksJ33_numberOfTrailingZeros_2 17 rfl rfl)
theorem dJ33_numberOfTrailingZeros_67 : decode cJ33_numberOfTrailingZeros 67 = .ok (.iinc 1 2, 3) := dk_132 1 2 (dk_at dksJ33_numberOfTrailingZeros_2 20 rfl rfl)
theorem dJ33_numberOfTrailingZeros_70 : decode cJ33_numberOfTrailingZeros 70 = .ok (.iload_n 0, 1) := dk_26 (dk_at dksJ33_numberOfTrailingZeros_2 23 rfl rfl)
theorem dJ33_numberOfTrailingZeros_71 : decode cJ33_numberOfTrailingZeros 71 = .ok (.iconst 2, 1) := dk_5 (dk_at dksJ33_numberOfTrailingZeros_3 0 rfl rfl)
theorem dJ33_numberOfTrailingZeros_72 : decode cJ33_numberOfTrailingZeros 72 = .ok (.iushr, 1) := dk_124 (dk_at dksJ33_numberOfTrailingZeros_3 1 rfl rfl)
theorem dJ33_numberOfTrailingZeros_73 : decode cJ33_numberOfTrailingZeros 73 = .ok (.istore_n 0, 1) := dk_59 (dk_at dksJ33_numberOfTrailingZeros_3 2 rfl rfl)
theorem dJ33_numberOfTrailingZeros_74 : decode cJ33_numberOfTrailingZeros 74 = .ok (.iload_n 1, 1) := dk_27 (dk_at dksJ33_numberOfTrailingZeros_3 3 rfl rfl)
theorem dJ33_numberOfTrailingZeros_75 : decode cJ33_numberOfTrailingZeros 75 = .ok (.iload_n 0, 1) := dk_26 (dk_at dksJ33_numberOfTrailingZeros_3 4 rfl rfl)
theorem dJ33_numberOfTrailingZeros_76 : decode cJ33_numberOfTrailingZeros 76 = .ok (.iconst 1, 1) := dk_4 (dk_at dksJ33_numberOfTrailingZeros_3 5 rfl rfl)
theorem dJ33_numberOfTrailingZeros_77 : decode cJ33_numberOfTrailingZeros 77 = .ok (.iushr, 1) := dk_124 (dk_at dksJ33_numberOfTrailingZeros_3 6 rfl rfl)
theorem dJ33_numberOfTrailingZeros_78 : decode cJ33_numberOfTrailingZeros 78 = .ok (.iadd, 1) := dk_96 (dk_at dksJ33_numberOfTrailingZeros_3 7 rfl rfl)
theorem dJ33_numberOfTrailingZeros_79 : decode cJ33_numberOfTrailingZeros 79 = .ok (.ireturn, 1) := dk_172 (dk_at dksJ33_numberOfTrailingZeros_3 8 rfl rfl)
abbrev cJ33_valueOf : ByteArray := prog_21_method_22_code
def yJ33_valueOf : MethodName := ⟨RJ33, "valueOf", "(I)Ljava/lang/Integer;"⟩
def dkwJ33_valueOf_1 : List UInt8 := [187, 0, 1, 89, 26, 183, 0, 199, 176]
abbrev dktJ33_valueOf_1 : List UInt8 := dkwJ33_valueOf_1 ++ []
def dkwJ33_valueOf_0 : List UInt8 := [26, 16, 128, 161, 0, 20, 26, 178, 0, 191, 163, 0, 13, 178, 0, 195, 26, 17, 0, 128, 96, 50, 176]
abbrev dktJ33_valueOf_0 : List UInt8 := dkwJ33_valueOf_0 ++ dktJ33_valueOf_1
theorem dksJ33_valueOf_0 : cJ33_valueOf.data.toList.drop 0 = dktJ33_valueOf_0 := by decide +kernel
theorem dksJ33_valueOf_1 : cJ33_valueOf.data.toList.drop 23 = dktJ33_valueOf_1 := dk_seg dksJ33_valueOf_0 23 rfl rfl
theorem dJ33_valueOf_0 : decode cJ33_valueOf 0 = .ok (.iload_n 0, 1) := dk_26 (dk_at dksJ33_valueOf_0 0 rfl rfl)
theorem dJ33_valueOf_1 : decode cJ33_valueOf 1 = .ok (.bipush (-128), 2) := dk_16 128 (dk_at dksJ33_valueOf_0 1 rfl rfl)
theorem dJ33_valueOf_3 : decode cJ33_valueOf 3 = .ok (.if_icmp .lt 20, 3) := dk_161 0 20 (dk_at dksJ33_valueOf_0 3 rfl rfl)
theorem dJ33_valueOf_6 : decode cJ33_valueOf 6 = .ok (.iload_n 0, 1) := dk_26 (dk_at dksJ33_valueOf_0 6 rfl rfl)
theorem dJ33_valueOf_7 : decode cJ33_valueOf 7 = .ok (.getstatic 191, 3) := dk_178 0 191 (dk_at dksJ33_valueOf_0 7 rfl rfl)
theorem dJ33_valueOf_10 : decode cJ33_valueOf 10 = .ok (.if_icmp .gt 13, 3) := dk_163 0 13 (dk_at dksJ33_valueOf_0 10 rfl rfl)
theorem dJ33_valueOf_13 : decode cJ33_valueOf 13 = .ok (.getstatic 195, 3) := dk_178 0 195 (dk_at dksJ33_valueOf_0 13 rfl rfl)
theorem dJ33_valueOf_16 : decode cJ33_valueOf 16 = .ok (.iload_n 0, 1) := dk_26 (dk_at dksJ33_valueOf_0 16 rfl rfl)
theorem dJ33_valueOf_17 : decode cJ33_valueOf 17 = .ok (.sipush 128, 3) := dk_17 0 128 (dk_at dksJ33_valueOf_0 17 rfl rfl)
theorem dJ33_valueOf_20 : decode cJ33_valueOf 20 = .ok (.iadd, 1) := dk_96 (dk_at dksJ33_valueOf_0 20 rfl rfl)
theorem dJ33_valueOf_21 : decode cJ33_valueOf 21 = .ok (.aaload, 1) := dk_50 (dk_at dksJ33_valueOf_0 21 rfl rfl)
theorem dJ33_valueOf_22 : decode cJ33_valueOf 22 = .ok (.areturn, 1) := dk_176 (dk_at dksJ33_valueOf_0 22 rfl rfl)
theorem dJ33_valueOf_23 : decode cJ33_valueOf 23 = .ok (.new 1, 3) := dk_187 0 1 (dk_at dksJ33_valueOf_1 0 rfl rfl)
theorem dJ33_valueOf_26 : decode cJ33_valueOf 26 = .ok (.dup, 1) := dk_89 (dk_at dksJ33_valueOf_1 3 rfl rfl)
theorem dJ33_valueOf_27 : decode cJ33_valueOf 27 = .ok (.iload_n 0, 1) := dk_26 (dk_at dksJ33_valueOf_1 4 rfl rfl)
theorem dJ33_valueOf_28 : decode cJ33_valueOf 28 = .ok (.invokespecial 199, 3) := dk_183 0 199 (dk_at dksJ33_valueOf_1 5 rfl rfl)
theorem dJ33_valueOf_31 : decode cJ33_valueOf 31 = .ok (.areturn, 1) := dk_176 (dk_at dksJ33_valueOf_1 8 rfl rfl)
abbrev cJ33_init : ByteArray := prog_21_method_23_code
def yJ33_init : MethodName := ⟨RJ33, "<init>", "(I)V"⟩
def dkwJ33_init_0 : List UInt8 := [42, 183, 0, 202, 42, 27, 181, 0, 205, 177]
abbrev dktJ33_init_0 : List UInt8 := dkwJ33_init_0 ++ []
theorem dksJ33_init_0 : cJ33_init.data.toList.drop 0 = dktJ33_init_0 := by decide +kernel
theorem dJ33_init_0 : decode cJ33_init 0 = .ok (.aload_n 0, 1) := dk_42 (dk_at dksJ33_init_0 0 rfl rfl)
theorem dJ33_init_1 : decode cJ33_init 1 = .ok (.invokespecial 202, 3) := dk_183 0 202 (dk_at dksJ33_init_0 1 rfl rfl)
theorem dJ33_init_4 : decode cJ33_init 4 = .ok (.aload_n 0, 1) := dk_42 (dk_at dksJ33_init_0 4 rfl rfl)
theorem dJ33_init_5 : decode cJ33_init 5 = .ok (.iload_n 1, 1) := dk_27 (dk_at dksJ33_init_0 5 rfl rfl)
theorem dJ33_init_6 : decode cJ33_init 6 = .ok (.putfield 205, 3) := dk_181 0 205 (dk_at dksJ33_init_0 6 rfl rfl)
theorem dJ33_init_9 : decode cJ33_init 9 = .ok (.return_, 1) := dk_177 (dk_at dksJ33_init_0 9 rfl rfl)
abbrev cJ33_intValue : ByteArray := prog_21_method_27_code
def yJ33_intValue : MethodName := ⟨RJ33, "intValue", "()I"⟩
theorem dJ33_intValue_0 : decode cJ33_intValue 0 = .ok (.aload_n 0, 1) := by decide +kernel
theorem dJ33_intValue_1 : decode cJ33_intValue 1 = .ok (.getfield 205, 3) := by decide +kernel
theorem dJ33_intValue_4 : decode cJ33_intValue 4 = .ok (.ireturn, 1) := by decide +kernel
theorem q177 : (Jvm.Cond.initialized "java/lang/Integer") ∈ lw_all := lw_g (lw_at lw_m1 48 rfl) rfl
theorem q298 : (Jvm.Cond.selects "java/lang/Integer" ({ cls := "java/lang/Object", name := "getClass", desc := "()Ljava/lang/Class;" } : Jvm.MethodName) ({ cls := "java/lang/Object", name := "getClass", desc := "()Ljava/lang/Class;" } : Jvm.MethodName)) ∈ lw_all := lw_g (lw_at lw_m1 169 rfl) rfl
theorem q1605 : (Jvm.Cond.static ({ cls := "java/lang/Integer", name := "bitCount", desc := "(I)I" } : Jvm.MethodName)) ∈ lw_all := lw_g (lw_at lw_m7 36 rfl) rfl
theorem q1606 : (Jvm.Cond.code ({ cls := "java/lang/Integer", name := "bitCount", desc := "(I)I" } : Jvm.MethodName) prog_21_method_49_code (1 : Nat) (Option.some Jvm.ClassFile.FieldType.int)) ∈ lw_all := lw_g (lw_at lw_m7 37 rfl) rfl
theorem q1607 : (Jvm.Cond.constant "java/lang/Integer" (265 : Nat) (1431655765 : Int32)) ∈ lw_all := lw_g (lw_at lw_m7 38 rfl) rfl
theorem q1608 : (Jvm.Cond.constant "java/lang/Integer" (266 : Nat) (858993459 : Int32)) ∈ lw_all := lw_g (lw_at lw_m7 39 rfl) rfl
theorem q1609 : (Jvm.Cond.constant "java/lang/Integer" (267 : Nat) (252645135 : Int32)) ∈ lw_all := lw_g (lw_at lw_m7 40 rfl) rfl
theorem q1650 : (Jvm.Cond.static ({ cls := "java/lang/Integer", name := "numberOfTrailingZeros", desc := "(I)I" } : Jvm.MethodName)) ∈ lw_all := lw_g (lw_at lw_m7 81 rfl) rfl
theorem q1651 : (Jvm.Cond.code ({ cls := "java/lang/Integer", name := "numberOfTrailingZeros", desc := "(I)I" } : Jvm.MethodName) prog_21_method_48_code (2 : Nat) (Option.some Jvm.ClassFile.FieldType.int)) ∈ lw_all := lw_g (lw_at lw_m7 82 rfl) rfl
theorem q1652 : (Jvm.Cond.constant "java/lang/Integer" (264 : Nat) (65536 : Int32)) ∈ lw_all := lw_g (lw_at lw_m7 83 rfl) rfl
theorem q1764 : (Jvm.Cond.static ({ cls := "java/lang/Integer", name := "valueOf", desc := "(I)Ljava/lang/Integer;" } : Jvm.MethodName)) ∈ lw_all := lw_g (lw_at lw_m7 195 rfl) rfl
theorem q1765 : (Jvm.Cond.code ({ cls := "java/lang/Integer", name := "valueOf", desc := "(I)Ljava/lang/Integer;" } : Jvm.MethodName) prog_21_method_22_code (1 : Nat) (Option.some (Jvm.ClassFile.FieldType.object "java/lang/Integer"))) ∈ lw_all := lw_g (lw_at lw_m7 196 rfl) rfl
theorem q1766 : (Jvm.Cond.fieldLink "java/lang/Integer" (191 : Nat) "java/lang/Integer$IntegerCache" "high" "I") ∈ lw_all := lw_g (lw_at lw_m7 197 rfl) rfl
theorem q1768 : (Jvm.Cond.fieldLink "java/lang/Integer" (195 : Nat) "java/lang/Integer$IntegerCache" "cache" "[Ljava/lang/Integer;") ∈ lw_all := lw_g (lw_at lw_m7 199 rfl) rfl
theorem q1770 : (Jvm.Cond.classLink "java/lang/Integer" (1 : Nat) "java/lang/Integer") ∈ lw_all := lw_g (lw_at lw_m7 201 rfl) rfl
theorem q1771 : (Jvm.Cond.instantiable "java/lang/Integer" (1 : Nat)) ∈ lw_all := lw_g (lw_at lw_m7 202 rfl) rfl
theorem q1772 : (Jvm.Cond.methodLink "java/lang/Integer" (199 : Nat) ({ cls := "java/lang/Integer", name := "<init>", desc := "(I)V" } : Jvm.MethodName)) ∈ lw_all := lw_g (lw_at lw_m7 203 rfl) rfl
theorem q1773 : (Jvm.Cond.instanceMethod ({ cls := "java/lang/Integer", name := "<init>", desc := "(I)V" } : Jvm.MethodName)) ∈ lw_all := lw_g (lw_at lw_m7 204 rfl) rfl
theorem q1774 : (Jvm.Cond.code ({ cls := "java/lang/Integer", name := "<init>", desc := "(I)V" } : Jvm.MethodName) prog_21_method_23_code (2 : Nat) (Option.none : Option Jvm.ClassFile.FieldType)) ∈ lw_all := lw_g (lw_at lw_m7 205 rfl) rfl
theorem q1775 : (Jvm.Cond.methodLink "java/lang/Integer" (202 : Nat) ({ cls := "java/lang/Number", name := "<init>", desc := "()V" } : Jvm.MethodName)) ∈ lw_all := lw_g (lw_at lw_m7 206 rfl) rfl
theorem q1779 : (Jvm.Cond.fieldLink "java/lang/Integer" (205 : Nat) "java/lang/Integer" "value" "I") ∈ lw_all := lw_g (lw_at lw_m7 210 rfl) rfl
theorem q1780 : (Jvm.Cond.laysFinal "java/lang/Integer" "java/lang/Integer" "value" "I") ∈ lw_all := lw_g (lw_at lw_m7 211 rfl) rfl
theorem q1781 : (Jvm.Cond.soleField "java/lang/Integer" "value") ∈ lw_all := lw_g (lw_at lw_m7 212 rfl) rfl
theorem q1782 : (Jvm.Cond.superclass "java/lang/Integer" "java/lang/Number") ∈ lw_all := lw_g (lw_at lw_m7 213 rfl) rfl
theorem q1815 : (Jvm.Cond.instanceMethod ({ cls := "java/lang/Integer", name := "intValue", desc := "()I" } : Jvm.MethodName)) ∈ lw_all := lw_g (lw_at lw_m8 6 rfl) rfl
theorem q1816 : (Jvm.Cond.selects "java/lang/Integer" ({ cls := "java/lang/Integer", name := "intValue", desc := "()I" } : Jvm.MethodName) ({ cls := "java/lang/Integer", name := "intValue", desc := "()I" } : Jvm.MethodName)) ∈ lw_all := lw_g (lw_at lw_m8 7 rfl) rfl
theorem q1817 : (Jvm.Cond.code ({ cls := "java/lang/Integer", name := "intValue", desc := "()I" } : Jvm.MethodName) prog_21_method_27_code (1 : Nat) (Option.some Jvm.ClassFile.FieldType.int)) ∈ lw_all := lw_g (lw_at lw_m8 8 rfl) rfl
theorem q2706 : (Jvm.Cond.castable "java/lang/Integer" "java/lang/Object") ∈ lw_tbl := lw_at lw_m11 177 rfl
theorem in_J33 : ∀ w ∈ wsJ330, w ∈ lw_all := lw_in wsJ330 [1780] (by decide +kernel) (by decide +kernel)
/-! java/lang/Object -/
set_option maxRecDepth 100000
def RJ35 : String := "java/lang/Object"
abbrev cJ35_init : ByteArray := object_method_1_code
def yJ35_init : MethodName := ⟨RJ35, "<init>", "()V"⟩
theorem dJ35_init_0 : decode cJ35_init 0 = .ok (.return_, 1) := by decide +kernel
theorem q186 : (Jvm.Cond.instanceMethod ({ cls := "java/lang/Object", name := "<init>", desc := "()V" } : Jvm.MethodName)) ∈ lw_all := lw_g (lw_at lw_m1 57 rfl) rfl
theorem q187 : (Jvm.Cond.code ({ cls := "java/lang/Object", name := "<init>", desc := "()V" } : Jvm.MethodName) object_method_1_code (1 : Nat) (Option.none : Option Jvm.ClassFile.FieldType)) ∈ lw_all := lw_g (lw_at lw_m1 58 rfl) rfl
theorem q284 : (Jvm.Cond.instanceMethod ({ cls := "java/lang/Object", name := "getClass", desc := "()Ljava/lang/Class;" } : Jvm.MethodName)) ∈ lw_all := lw_g (lw_at lw_m1 155 rfl) rfl
theorem q285 : (Jvm.Cond.sameMethod "java/lang/Object" "java/lang/Object" "getClass" "()Ljava/lang/Class;") ∈ lw_all := lw_g (lw_at lw_m1 156 rfl) rfl
theorem q312 : (Jvm.Cond.native ({ cls := "java/lang/Object", name := "getClass", desc := "()Ljava/lang/Class;" } : Jvm.MethodName)) ∈ lw_all := lw_g (lw_at lw_m1 183 rfl) rfl
theorem q1299 : (Jvm.Cond.native ({ cls := "java/lang/Object", name := "clone", desc := "()Ljava/lang/Object;" } : Jvm.MethodName)) ∈ lw_all := lw_g (lw_at lw_m5 210 rfl) rfl
theorem q1300 : (Jvm.Cond.instanceMethod ({ cls := "java/lang/Object", name := "clone", desc := "()Ljava/lang/Object;" } : Jvm.MethodName)) ∈ lw_all := lw_g (lw_at lw_m5 211 rfl) rfl
theorem q2710 : (Jvm.Cond.declares ({ cls := "java/lang/Object", name := "getClass", desc := "()Ljava/lang/Class;" } : Jvm.MethodName)) ∈ lw_tbl := lw_at lw_m11 181 rfl
theorem q129 : (Jvm.Cond.initialized "BackLogicLaw") ∈ lw_all := lw_g (lw_at lw_m1 0 rfl) rfl
set_option maxRecDepth 100000
theorem q180 : (Jvm.Cond.classLink "BackLogicLaw" (7 : Nat) "BackLogic") ∈ lw_all := lw_g (lw_at lw_m1 51 rfl) rfl
theorem q182 : (Jvm.Cond.methodLink "BackLogicLaw" (9 : Nat) ({ cls := "BackLogic", name := "<init>", desc := "()V" } : Jvm.MethodName)) ∈ lw_all := lw_g (lw_at lw_m1 53 rfl) rfl
theorem q714 : (Jvm.Cond.methodLink "BackLogicLaw" (13 : Nat) ({ cls := "BackLogic", name := "feed", desc := "(IIIII)I" } : Jvm.MethodName)) ∈ lw_all := lw_g (lw_at lw_m3 105 rfl) rfl
theorem q722 : (Jvm.Cond.methodLink "BackLogicLaw" (18 : Nat) ({ cls := "BackLogic", name := "back", desc := "(I)I" } : Jvm.MethodName)) ∈ lw_all := lw_g (lw_at lw_m3 113 rfl) rfl
theorem q726 : (Jvm.Cond.methodLink "BackLogicLaw" (23 : Nat) ({ cls := "BackLogic", name := "read", desc := "()I" } : Jvm.MethodName)) ∈ lw_all := lw_g (lw_at lw_m3 117 rfl) rfl
theorem q1454 : (Jvm.Cond.methodLink "BackLogicLaw" (28 : Nat) ({ cls := "BackLogic", name := "place", desc := "()I" } : Jvm.MethodName)) ∈ lw_all := lw_g (lw_at lw_m6 125 rfl) rfl
theorem q1458 : (Jvm.Cond.methodLink "BackLogicLaw" (32 : Nat) ({ cls := "BackLogic", name := "put", desc := "(IIII)Z" } : Jvm.MethodName)) ∈ lw_all := lw_g (lw_at lw_m6 129 rfl) rfl
theorem q1537 : (Jvm.Cond.methodLink "BackLogicLaw" (37 : Nat) ({ cls := "BackLogic", name := "take", desc := "(I)Z" } : Jvm.MethodName)) ∈ lw_all := lw_g (lw_at lw_m6 208 rfl) rfl
theorem q1554 : (Jvm.Cond.methodLink "BackLogicLaw" (42 : Nat) ({ cls := "BackLogic", name := "swap", desc := "(I)Z" } : Jvm.MethodName)) ∈ lw_all := lw_g (lw_at lw_m6 225 rfl) rfl
theorem q1564 : (Jvm.Cond.methodLink "BackLogicLaw" (46 : Nat) ({ cls := "BackLogic", name := "become", desc := "(I)I" } : Jvm.MethodName)) ∈ lw_all := lw_g (lw_at lw_m6 235 rfl) rfl
theorem q1829 : (Jvm.Cond.methodLink "BackLogicLaw" (50 : Nat) ({ cls := "BackLogic", name := "undo", desc := "()Z" } : Jvm.MethodName)) ∈ lw_all := lw_g (lw_at lw_m8 20 rfl) rfl
theorem q1844 : (Jvm.Cond.methodLink "BackLogicLaw" (55 : Nat) ({ cls := "BackLogic", name := "gate", desc := "(II)I" } : Jvm.MethodName)) ∈ lw_all := lw_g (lw_at lw_m8 35 rfl) rfl
theorem q1872 : (Jvm.Cond.methodLink "BackLogicLaw" (60 : Nat) ({ cls := "BackLogic", name := "made", desc := "(II)I" } : Jvm.MethodName)) ∈ lw_all := lw_g (lw_at lw_m8 63 rfl) rfl
theorem q1877 : (Jvm.Cond.methodLink "BackLogicLaw" (64 : Nat) ({ cls := "BackLogic", name := "undone", desc := "(I)I" } : Jvm.MethodName)) ∈ lw_all := lw_g (lw_at lw_m8 68 rfl) rfl
theorem q1882 : (Jvm.Cond.methodLink "BackLogicLaw" (68 : Nat) ({ cls := "BackLogic", name := "order", desc := "(I)I" } : Jvm.MethodName)) ∈ lw_all := lw_g (lw_at lw_m8 73 rfl) rfl
theorem q1890 : (Jvm.Cond.methodLink "BackLogicLaw" (72 : Nat) ({ cls := "BackLogic", name := "agree", desc := "(II)I" } : Jvm.MethodName)) ∈ lw_all := lw_g (lw_at lw_m8 81 rfl) rfl
theorem q1895 : (Jvm.Cond.methodLink "BackLogicLaw" (76 : Nat) ({ cls := "BackLogic", name := "shrunk", desc := "(II)I" } : Jvm.MethodName)) ∈ lw_all := lw_g (lw_at lw_m8 86 rfl) rfl
theorem q1899 : (Jvm.Cond.methodLink "BackLogicLaw" (80 : Nat) ({ cls := "BackLogic", name := "found", desc := "(ZII)I" } : Jvm.MethodName)) ∈ lw_all := lw_g (lw_at lw_m8 90 rfl) rfl
theorem q1903 : (Jvm.Cond.methodLink "BackLogicLaw" (85 : Nat) ({ cls := "BackLogic", name := "least", desc := "(II)I" } : Jvm.MethodName)) ∈ lw_all := lw_g (lw_at lw_m8 94 rfl) rfl
theorem q1910 : (Jvm.Cond.methodLink "BackLogicLaw" (89 : Nat) ({ cls := "BackLogic", name := "stuck", desc := "(IIZ)I" } : Jvm.MethodName)) ∈ lw_all := lw_g (lw_at lw_m8 101 rfl) rfl
theorem q1924 : (Jvm.Cond.methodLink "BackLogicLaw" (102 : Nat) ({ cls := "BackLogic", name := "test", desc := "(I)I" } : Jvm.MethodName)) ∈ lw_all := lw_g (lw_at lw_m8 115 rfl) rfl
theorem q1952 : (Jvm.Cond.methodLink "BackLogicLaw" (94 : Nat) ({ cls := "BackLogic", name := "terms", desc := "(I)I" } : Jvm.MethodName)) ∈ lw_all := lw_g (lw_at lw_m8 143 rfl) rfl
theorem q1956 : (Jvm.Cond.methodLink "BackLogicLaw" (98 : Nat) ({ cls := "BackLogic", name := "idle", desc := "(I)I" } : Jvm.MethodName)) ∈ lw_all := lw_g (lw_at lw_m8 147 rfl) rfl
theorem q1964 : (Jvm.Cond.methodLink "BackLogicLaw" (110 : Nat) ({ cls := "BackLogic", name := "table", desc := "(I)I" } : Jvm.MethodName)) ∈ lw_all := lw_g (lw_at lw_m8 155 rfl) rfl
theorem q2026 : (Jvm.Cond.methodLink "BackLogicLaw" (114 : Nat) ({ cls := "BackLogic", name := "laid", desc := "(I)I" } : Jvm.MethodName)) ∈ lw_all := lw_g (lw_at lw_m8 217 rfl) rfl
theorem q2030 : (Jvm.Cond.methodLink "BackLogicLaw" (118 : Nat) ({ cls := "BackLogic", name := "off", desc := "(I)I" } : Jvm.MethodName)) ∈ lw_all := lw_g (lw_at lw_m8 221 rfl) rfl
theorem q2038 : (Jvm.Cond.methodLink "BackLogicLaw" (106 : Nat) ({ cls := "BackLogic", name := "like", desc := "(I)I" } : Jvm.MethodName)) ∈ lw_all := lw_g (lw_at lw_m8 229 rfl) rfl
theorem q2050 : (Jvm.Cond.methodLink "BackLogicLaw" (122 : Nat) ({ cls := "BackLogic", name := "hold", desc := "(I)Z" } : Jvm.MethodName)) ∈ lw_all := lw_g (lw_at lw_m9 1 rfl) rfl
theorem q2054 : (Jvm.Cond.methodLink "BackLogicLaw" (126 : Nat) ({ cls := "BackLogic", name := "restore", desc := "(I)Z" } : Jvm.MethodName)) ∈ lw_all := lw_g (lw_at lw_m9 5 rfl) rfl
theorem q2058 : (Jvm.Cond.methodLink "BackLogicLaw" (130 : Nat) ({ cls := "BackLogic", name := "count", desc := "(I)I" } : Jvm.MethodName)) ∈ lw_all := lw_g (lw_at lw_m9 9 rfl) rfl
theorem q2092 : (Jvm.Cond.classLink "BackLogicLaw" (10 : Nat) "BackLogicModel") ∈ lw_all := lw_g (lw_at lw_m9 43 rfl) rfl
theorem q2094 : (Jvm.Cond.methodLink "BackLogicLaw" (12 : Nat) ({ cls := "BackLogicModel", name := "<init>", desc := "()V" } : Jvm.MethodName)) ∈ lw_all := lw_g (lw_at lw_m9 45 rfl) rfl
theorem q2275 : (Jvm.Cond.methodLink "BackLogicLaw" (17 : Nat) ({ cls := "BackLogicModel", name := "feed", desc := "(IIIII)I" } : Jvm.MethodName)) ∈ lw_all := lw_g (lw_at lw_m9 226 rfl) rfl
theorem q2283 : (Jvm.Cond.methodLink "BackLogicLaw" (22 : Nat) ({ cls := "BackLogicModel", name := "back", desc := "(I)I" } : Jvm.MethodName)) ∈ lw_all := lw_g (lw_at lw_m9 234 rfl) rfl
theorem q2287 : (Jvm.Cond.methodLink "BackLogicLaw" (27 : Nat) ({ cls := "BackLogicModel", name := "read", desc := "()I" } : Jvm.MethodName)) ∈ lw_all := lw_g (lw_at lw_m9 238 rfl) rfl
theorem q2360 : (Jvm.Cond.methodLink "BackLogicLaw" (31 : Nat) ({ cls := "BackLogicModel", name := "place", desc := "()I" } : Jvm.MethodName)) ∈ lw_all := lw_g (lw_at lw_m10 71 rfl) rfl
theorem q2364 : (Jvm.Cond.methodLink "BackLogicLaw" (36 : Nat) ({ cls := "BackLogicModel", name := "put", desc := "(IIII)Z" } : Jvm.MethodName)) ∈ lw_all := lw_g (lw_at lw_m10 75 rfl) rfl
theorem q2393 : (Jvm.Cond.methodLink "BackLogicLaw" (41 : Nat) ({ cls := "BackLogicModel", name := "take", desc := "(I)Z" } : Jvm.MethodName)) ∈ lw_all := lw_g (lw_at lw_m10 104 rfl) rfl
theorem q2404 : (Jvm.Cond.methodLink "BackLogicLaw" (45 : Nat) ({ cls := "BackLogicModel", name := "swap", desc := "(I)Z" } : Jvm.MethodName)) ∈ lw_all := lw_g (lw_at lw_m10 115 rfl) rfl
theorem q2408 : (Jvm.Cond.methodLink "BackLogicLaw" (49 : Nat) ({ cls := "BackLogicModel", name := "become", desc := "(I)I" } : Jvm.MethodName)) ∈ lw_all := lw_g (lw_at lw_m10 119 rfl) rfl
theorem q2485 : (Jvm.Cond.methodLink "BackLogicLaw" (54 : Nat) ({ cls := "BackLogicModel", name := "undo", desc := "()Z" } : Jvm.MethodName)) ∈ lw_all := lw_g (lw_at lw_m10 196 rfl) rfl
theorem q2489 : (Jvm.Cond.methodLink "BackLogicLaw" (125 : Nat) ({ cls := "BackLogicModel", name := "hold", desc := "(I)Z" } : Jvm.MethodName)) ∈ lw_all := lw_g (lw_at lw_m10 200 rfl) rfl
theorem q2493 : (Jvm.Cond.methodLink "BackLogicLaw" (129 : Nat) ({ cls := "BackLogicModel", name := "restore", desc := "(I)Z" } : Jvm.MethodName)) ∈ lw_all := lw_g (lw_at lw_m10 204 rfl) rfl
theorem q2497 : (Jvm.Cond.methodLink "BackLogicLaw" (63 : Nat) ({ cls := "BackLogicModel", name := "made", desc := "(II)I" } : Jvm.MethodName)) ∈ lw_all := lw_g (lw_at lw_m10 208 rfl) rfl
theorem q2505 : (Jvm.Cond.methodLink "BackLogicLaw" (67 : Nat) ({ cls := "BackLogicModel", name := "undone", desc := "(I)I" } : Jvm.MethodName)) ∈ lw_all := lw_g (lw_at lw_m10 216 rfl) rfl
theorem q2509 : (Jvm.Cond.methodLink "BackLogicLaw" (71 : Nat) ({ cls := "BackLogicModel", name := "order", desc := "(I)I" } : Jvm.MethodName)) ∈ lw_all := lw_g (lw_at lw_m10 220 rfl) rfl
theorem q2516 : (Jvm.Cond.methodLink "BackLogicLaw" (75 : Nat) ({ cls := "BackLogicModel", name := "agree", desc := "(II)I" } : Jvm.MethodName)) ∈ lw_all := lw_g (lw_at lw_m10 227 rfl) rfl
theorem q2520 : (Jvm.Cond.methodLink "BackLogicLaw" (59 : Nat) ({ cls := "BackLogicModel", name := "gate", desc := "(II)I" } : Jvm.MethodName)) ∈ lw_all := lw_g (lw_at lw_m10 231 rfl) rfl
theorem q2539 : (Jvm.Cond.methodLink "BackLogicLaw" (79 : Nat) ({ cls := "BackLogicModel", name := "shrunk", desc := "(II)I" } : Jvm.MethodName)) ∈ lw_all := lw_g (lw_at lw_m11 10 rfl) rfl
theorem q2543 : (Jvm.Cond.methodLink "BackLogicLaw" (84 : Nat) ({ cls := "BackLogicModel", name := "found", desc := "(ZII)I" } : Jvm.MethodName)) ∈ lw_all := lw_g (lw_at lw_m11 14 rfl) rfl
theorem q2551 : (Jvm.Cond.methodLink "BackLogicLaw" (88 : Nat) ({ cls := "BackLogicModel", name := "least", desc := "(II)I" } : Jvm.MethodName)) ∈ lw_all := lw_g (lw_at lw_m11 22 rfl) rfl
theorem q2555 : (Jvm.Cond.methodLink "BackLogicLaw" (121 : Nat) ({ cls := "BackLogicModel", name := "off", desc := "(I)I" } : Jvm.MethodName)) ∈ lw_all := lw_g (lw_at lw_m11 26 rfl) rfl
theorem q2563 : (Jvm.Cond.methodLink "BackLogicLaw" (109 : Nat) ({ cls := "BackLogicModel", name := "like", desc := "(I)I" } : Jvm.MethodName)) ∈ lw_all := lw_g (lw_at lw_m11 34 rfl) rfl
theorem q2575 : (Jvm.Cond.methodLink "BackLogicLaw" (93 : Nat) ({ cls := "BackLogicModel", name := "stuck", desc := "(IIZ)I" } : Jvm.MethodName)) ∈ lw_all := lw_g (lw_at lw_m11 46 rfl) rfl
theorem q2583 : (Jvm.Cond.methodLink "BackLogicLaw" (105 : Nat) ({ cls := "BackLogicModel", name := "test", desc := "(I)I" } : Jvm.MethodName)) ∈ lw_all := lw_g (lw_at lw_m11 54 rfl) rfl
theorem q2598 : (Jvm.Cond.methodLink "BackLogicLaw" (97 : Nat) ({ cls := "BackLogicModel", name := "terms", desc := "(I)I" } : Jvm.MethodName)) ∈ lw_all := lw_g (lw_at lw_m11 69 rfl) rfl
theorem q2606 : (Jvm.Cond.methodLink "BackLogicLaw" (101 : Nat) ({ cls := "BackLogicModel", name := "idle", desc := "(I)I" } : Jvm.MethodName)) ∈ lw_all := lw_g (lw_at lw_m11 77 rfl) rfl
theorem q2614 : (Jvm.Cond.methodLink "BackLogicLaw" (113 : Nat) ({ cls := "BackLogicModel", name := "table", desc := "(I)I" } : Jvm.MethodName)) ∈ lw_all := lw_g (lw_at lw_m11 85 rfl) rfl
theorem q2634 : (Jvm.Cond.methodLink "BackLogicLaw" (117 : Nat) ({ cls := "BackLogicModel", name := "laid", desc := "(I)I" } : Jvm.MethodName)) ∈ lw_all := lw_g (lw_at lw_m11 105 rfl) rfl
theorem q2638 : (Jvm.Cond.methodLink "BackLogicLaw" (133 : Nat) ({ cls := "BackLogicModel", name := "count", desc := "(I)I" } : Jvm.MethodName)) ∈ lw_all := lw_g (lw_at lw_m11 109 rfl) rfl
theorem q1298 : (Jvm.Cond.sameMethod "[B" "java/lang/Object" "clone" "()Ljava/lang/Object;") ∈ lw_all := lw_g (lw_at lw_m5 209 rfl) rfl
set_option maxRecDepth 100000
theorem q1301 : (Jvm.Cond.selects "[B" ({ cls := "[B", name := "clone", desc := "()Ljava/lang/Object;" } : Jvm.MethodName) ({ cls := "java/lang/Object", name := "clone", desc := "()Ljava/lang/Object;" } : Jvm.MethodName)) ∈ lw_all := lw_g (lw_at lw_m5 212 rfl) rfl
theorem q1302 : (Jvm.Cond.castable "[B" "java/lang/Cloneable") ∈ lw_tbl := lw_at lw_m5 213 rfl
theorem q2711 : (Jvm.Cond.castable "[B" "java/lang/Object") ∈ lw_tbl := lw_at lw_m11 182 rfl
theorem q2714 : (Jvm.Cond.castable "[I" "java/lang/Object") ∈ lw_tbl := lw_at lw_m11 185 rfl
set_option maxRecDepth 100000
theorem q1752 : (Jvm.Cond.sameMethod "[J" "java/lang/Object" "clone" "()Ljava/lang/Object;") ∈ lw_all := lw_g (lw_at lw_m7 183 rfl) rfl
set_option maxRecDepth 100000
theorem q1753 : (Jvm.Cond.selects "[J" ({ cls := "[J", name := "clone", desc := "()Ljava/lang/Object;" } : Jvm.MethodName) ({ cls := "java/lang/Object", name := "clone", desc := "()Ljava/lang/Object;" } : Jvm.MethodName)) ∈ lw_all := lw_g (lw_at lw_m7 184 rfl) rfl
theorem q1754 : (Jvm.Cond.castable "[J" "java/lang/Cloneable") ∈ lw_tbl := lw_at lw_m7 185 rfl
theorem q2716 : (Jvm.Cond.castable "[J" "java/lang/Object") ∈ lw_tbl := lw_at lw_m11 187 rfl
theorem q2717 : (Jvm.Cond.castable "[LBackLogic$Cascade;" "java/lang/Object") ∈ lw_tbl := lw_at lw_m11 188 rfl
set_option maxRecDepth 100000
theorem q2708 : (Jvm.Cond.sameMethod "[Ljava/lang/Object;" "java/lang/Object" "getClass" "()Ljava/lang/Class;") ∈ lw_all := lw_g (lw_at lw_m11 179 rfl) rfl
set_option maxRecDepth 100000
theorem q2709 : (Jvm.Cond.selects "[Ljava/lang/Object;" ({ cls := "java/lang/Object", name := "getClass", desc := "()Ljava/lang/Class;" } : Jvm.MethodName) ({ cls := "java/lang/Object", name := "getClass", desc := "()Ljava/lang/Class;" } : Jvm.MethodName)) ∈ lw_all := lw_g (lw_at lw_m11 180 rfl) rfl
theorem q2712 : (Jvm.Cond.castable "[Ljava/lang/Object;" "java/lang/Object") ∈ lw_tbl := lw_at lw_m11 183 rfl
theorem q2715 : (Jvm.Cond.castable "[Ljava/util/BitSet;" "java/lang/Object") ∈ lw_tbl := lw_at lw_m11 186 rfl
set_option maxRecDepth 100000
theorem q2713 : (Jvm.Cond.castable "[S" "java/lang/Object") ∈ lw_tbl := lw_at lw_m11 184 rfl
set_option maxRecDepth 100000
theorem q2718 : (Jvm.Cond.castable "[Z" "java/lang/Object") ∈ lw_tbl := lw_at lw_m11 189 rfl
set_option maxRecDepth 100000
theorem q178 : (Jvm.Cond.initialized "java/lang/Integer$IntegerCache") ∈ lw_all := lw_g (lw_at lw_m1 49 rfl) rfl
set_option maxRecDepth 100000
theorem q1767 : (Jvm.Cond.laysStatic "java/lang/Integer$IntegerCache" "high" "I") ∈ lw_tbl := lw_at lw_m7 198 rfl
theorem q1769 : (Jvm.Cond.laysStatic "java/lang/Integer$IntegerCache" "cache" "[Ljava/lang/Integer;") ∈ lw_tbl := lw_at lw_m7 200 rfl
theorem q165 : (Jvm.Cond.initialized "java/lang/System") ∈ lw_all := lw_g (lw_at lw_m1 36 rfl) rfl
set_option maxRecDepth 100000
theorem q997 : (Jvm.Cond.static ({ cls := "java/lang/System", name := "arraycopy", desc := "(Ljava/lang/Object;ILjava/lang/Object;II)V" } : Jvm.MethodName)) ∈ lw_all := lw_g (lw_at lw_m4 148 rfl) rfl
theorem q998 : (Jvm.Cond.native ({ cls := "java/lang/System", name := "arraycopy", desc := "(Ljava/lang/Object;ILjava/lang/Object;II)V" } : Jvm.MethodName)) ∈ lw_all := lw_g (lw_at lw_m4 149 rfl) rfl
theorem q169 : (Jvm.Cond.initialized "java/util/AbstractList$ListItr") ∈ lw_all := lw_g (lw_at lw_m1 40 rfl) rfl
set_option maxRecDepth 100000
theorem q301 : (Jvm.Cond.selects "java/util/AbstractList$ListItr" ({ cls := "java/lang/Object", name := "getClass", desc := "()Ljava/lang/Class;" } : Jvm.MethodName) ({ cls := "java/lang/Object", name := "getClass", desc := "()Ljava/lang/Class;" } : Jvm.MethodName)) ∈ lw_all := lw_g (lw_at lw_m1 172 rfl) rfl
theorem q1161 : (Jvm.Cond.castable "java/util/AbstractList$ListItr" "java/util/Iterator") ∈ lw_tbl := lw_at lw_m5 72 rfl
theorem q1162 : (Jvm.Cond.selects "java/util/AbstractList$ListItr" ({ cls := "java/util/Iterator", name := "hasNext", desc := "()Z" } : Jvm.MethodName) ({ cls := "java/util/AbstractList$Itr", name := "hasNext", desc := "()Z" } : Jvm.MethodName)) ∈ lw_all := lw_g (lw_at lw_m5 73 rfl) rfl
theorem q1163 : (Jvm.Cond.unhidden "java/util/AbstractList$ListItr" "hasNext" "()Z") ∈ lw_tbl := lw_at lw_m5 74 rfl
theorem q1188 : (Jvm.Cond.selects "java/util/AbstractList$ListItr" ({ cls := "java/util/Iterator", name := "next", desc := "()Ljava/lang/Object;" } : Jvm.MethodName) ({ cls := "java/util/AbstractList$Itr", name := "next", desc := "()Ljava/lang/Object;" } : Jvm.MethodName)) ∈ lw_all := lw_g (lw_at lw_m5 99 rfl) rfl
theorem q1189 : (Jvm.Cond.unhidden "java/util/AbstractList$ListItr" "next" "()Ljava/lang/Object;") ∈ lw_tbl := lw_at lw_m5 100 rfl
theorem q1196 : (Jvm.Cond.selects "java/util/AbstractList$ListItr" ({ cls := "java/util/AbstractList$Itr", name := "checkForComodification", desc := "()V" } : Jvm.MethodName) ({ cls := "java/util/AbstractList$Itr", name := "checkForComodification", desc := "()V" } : Jvm.MethodName)) ∈ lw_all := lw_g (lw_at lw_m5 107 rfl) rfl
theorem q2700 : (Jvm.Cond.castable "java/util/AbstractList$ListItr" "java/lang/Object") ∈ lw_tbl := lw_at lw_m11 171 rfl
theorem q2719 : (Jvm.Cond.fieldLink "java/util/AbstractList$ListItr" (1 : Nat) "java/util/AbstractList$ListItr" "this$0" "Ljava/util/AbstractList;") ∈ lw_all := lw_g (lw_at lw_m11 190 rfl) rfl
theorem q2724 : (Jvm.Cond.fieldLink "java/util/AbstractList$ListItr" (13 : Nat) "java/util/AbstractList$ListItr" "cursor" "I") ∈ lw_all := lw_g (lw_at lw_m11 195 rfl) rfl
theorem q2725 : (Jvm.Cond.sameField "java/util/AbstractList$ListItr" "java/util/AbstractList$Itr" "cursor" "I") ∈ lw_all := lw_g (lw_at lw_m11 196 rfl) rfl
theorem q1159 : (Jvm.Cond.interfaceMethod "java/util/Iterator" "java/util/Iterator" "hasNext" "()Z") ∈ lw_tbl := lw_at lw_m5 70 rfl
set_option maxRecDepth 100000
theorem q1160 : (Jvm.Cond.declares ({ cls := "java/util/Iterator", name := "hasNext", desc := "()Z" } : Jvm.MethodName)) ∈ lw_tbl := lw_at lw_m5 71 rfl
theorem q1186 : (Jvm.Cond.interfaceMethod "java/util/Iterator" "java/util/Iterator" "next" "()Ljava/lang/Object;") ∈ lw_tbl := lw_at lw_m5 97 rfl
theorem q1187 : (Jvm.Cond.declares ({ cls := "java/util/Iterator", name := "next", desc := "()Ljava/lang/Object;" } : Jvm.MethodName)) ∈ lw_tbl := lw_at lw_m5 98 rfl
theorem q262 : (Jvm.Cond.arrayClass Jvm.ClassFile.FieldType.byte) ∈ lw_all := lw_g (lw_at lw_m1 133 rfl) rfl
set_option maxRecDepth 100000
theorem q277 : (Jvm.Cond.arrayOver (Jvm.ClassFile.FieldType.object "java/lang/Object")) ∈ lw_tbl := lw_at lw_m1 148 rfl
theorem q390 : (Jvm.Cond.arrayClass Jvm.ClassFile.FieldType.short) ∈ lw_all := lw_g (lw_at lw_m2 21 rfl) rfl
theorem q463 : (Jvm.Cond.arrayClass Jvm.ClassFile.FieldType.int) ∈ lw_all := lw_g (lw_at lw_m2 94 rfl) rfl
theorem q564 : (Jvm.Cond.arrayOver (Jvm.ClassFile.FieldType.object "java/util/BitSet")) ∈ lw_tbl := lw_at lw_m2 195 rfl
theorem q588 : (Jvm.Cond.arrayClass Jvm.ClassFile.FieldType.long) ∈ lw_all := lw_g (lw_at lw_m2 219 rfl) rfl
theorem q658 : (Jvm.Cond.arrayOver (Jvm.ClassFile.FieldType.object "BackLogic$Cascade")) ∈ lw_tbl := lw_at lw_m3 49 rfl
theorem q2274 : (Jvm.Cond.arrayClass Jvm.ClassFile.FieldType.boolean) ∈ lw_all := lw_g (lw_at lw_m9 225 rfl) rfl
