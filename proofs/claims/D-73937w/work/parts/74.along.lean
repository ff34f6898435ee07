/-! java/lang/Long -/
set_option maxRecDepth 100000
def RJ34 : String := "java/lang/Long"
abbrev cJ34_numberOfTrailingZeros : ByteArray := prog_24_method_49_code
def yJ34_numberOfTrailingZeros : MethodName := ⟨RJ34, "numberOfTrailingZeros", "(J)I"⟩
def dkwJ34_numberOfTrailingZeros_1 : List UInt8 := [184, 1, 55, 172]
abbrev dktJ34_numberOfTrailingZeros_1 : List UInt8 := dkwJ34_numberOfTrailingZeros_1 ++ []
def dkwJ34_numberOfTrailingZeros_0 : List UInt8 := [30, 136, 61, 28, 154, 0, 17, 16, 32, 30, 16, 32, 125, 136, 184, 1, 55, 96, 167, 0, 7, 28]
abbrev dktJ34_numberOfTrailingZeros_0 : List UInt8 := dkwJ34_numberOfTrailingZeros_0 ++ dktJ34_numberOfTrailingZeros_1
theorem dksJ34_numberOfTrailingZeros_0 : cJ34_numberOfTrailingZeros.data.toList.drop 0 = dktJ34_numberOfTrailingZeros_0 := by decide +kernel
theorem dksJ34_numberOfTrailingZeros_1 : cJ34_numberOfTrailingZeros.data.toList.drop 22 = dktJ34_numberOfTrailingZeros_1 := dk_seg dksJ34_numberOfTrailingZeros_0 22 rfl rfl
theorem dJ34_numberOfTrailingZeros_0 : decode cJ34_numberOfTrailingZeros 0 = .ok (.lload_n 0, 1) := dk_30 (dk_at dksJ34_numberOfTrailingZeros_0 0 rfl rfl)
theorem dJ34_numberOfTrailingZeros_1 : decode cJ34_numberOfTrailingZeros 1 = .ok (.l2i, 1) := dk_136 (dk_at dksJ34_numberOfTrailingZeros_0 1 rfl rfl)
theorem dJ34_numberOfTrailingZeros_2 : decode cJ34_numberOfTrailingZeros 2 = .ok (.istore_n 2, 1) := dk_61 (dk_at dksJ34_numberOfTrailingZeros_0 2 rfl rfl)
theorem dJ34_numberOfTrailingZeros_3 : decode cJ34_numberOfTrailingZeros 3 = .ok (.iload_n 2, 1) := dk_28 (dk_at dksJ34_numberOfTrailingZeros_0 3 rfl rfl)
theorem dJ34_numberOfTrailingZeros_4 : decode cJ34_numberOfTrailingZeros 4 = .ok (.ifCond .ne 17, 3) := dk_154 0 17 (dk_at dksJ34_numberOfTrailingZeros_0 4 rfl rfl)
theorem dJ34_numberOfTrailingZeros_7 : decode cJ34_numberOfTrailingZeros 7 = .ok (.bipush 32, 2) := dk_16 32 (dk_at dksJ34_numberOfTrailingZeros_0 7 rfl rfl)
theorem dJ34_numberOfTrailingZeros_9 : decode cJ34_numberOfTrailingZeros 9 = .ok (.lload_n 0, 1) := dk_30 (dk_at dksJ34_numberOfTrailingZeros_0 9 rfl rfl)
theorem dJ34_numberOfTrailingZeros_10 : decode cJ34_numberOfTrailingZeros 10 = .ok (.bipush 32, 2) := dk_16 32 (dk_at dksJ34_numberOfTrailingZeros_0 10 rfl rfl)
theorem dJ34_numberOfTrailingZeros_12 : decode cJ34_numberOfTrailingZeros 12 = .ok (.lushr, 1) := dk_125 (dk_at dksJ34_numberOfTrailingZeros_0 12 rfl rfl)
theorem dJ34_numberOfTrailingZeros_13 : decode cJ34_numberOfTrailingZeros 13 = .ok (.l2i, 1) := dk_136 (dk_at dksJ34_numberOfTrailingZeros_0 13 rfl rfl)
theorem dJ34_numberOfTrailingZeros_14 : decode cJ34_numberOfTrailingZeros 14 = .ok (.invokestatic 311, 3) := dk_184 1 55 (dk_at dksJ34_numberOfTrailingZeros_0 14 rfl rfl)
theorem dJ34_numberOfTrailingZeros_17 : decode cJ34_numberOfTrailingZeros 17 = .ok (.iadd, 1) := dk_96 (dk_at dksJ34_numberOfTrailingZeros_0 17 rfl rfl)
theorem dJ34_numberOfTrailingZeros_18 : decode cJ34_numberOfTrailingZeros 18 = .ok (.goto 7, 3) := dk_167 0 7 (dk_at dksJ34_numberOfTrailingZeros_0 18 rfl rfl)
theorem dJ34_numberOfTrailingZeros_21 : decode cJ34_numberOfTrailingZeros 21 = .ok (.iload_n 2, 1) := dk_28 (dk_at dksJ34_numberOfTrailingZeros_0 21 rfl rfl)
theorem dJ34_numberOfTrailingZeros_22 : decode cJ34_numberOfTrailingZeros 22 = .ok (.invokestatic 311, 3) := dk_184 1 55 (dk_at dksJ34_numberOfTrailingZeros_1 0 rfl rfl)
theorem dJ34_numberOfTrailingZeros_25 : decode cJ34_numberOfTrailingZeros 25 = .ok (.ireturn, 1) := dk_172 (dk_at dksJ34_numberOfTrailingZeros_1 3 rfl rfl)
theorem q179 : (Jvm.Cond.initialized "java/lang/Long") ∈ lw_all := lw_g (lw_at lw_m1 50 rfl) rfl
theorem q2015 : (Jvm.Cond.static ({ cls := "java/lang/Long", name := "numberOfTrailingZeros", desc := "(J)I" } : Jvm.MethodName)) ∈ lw_all := lw_g (lw_at lw_m8 206 rfl) rfl
theorem q2016 : (Jvm.Cond.code ({ cls := "java/lang/Long", name := "numberOfTrailingZeros", desc := "(J)I" } : Jvm.MethodName) prog_24_method_49_code (3 : Nat) (Option.some Jvm.ClassFile.FieldType.int)) ∈ lw_all := lw_g (lw_at lw_m8 207 rfl) rfl
theorem q2017 : (Jvm.Cond.methodLink "java/lang/Long" (311 : Nat) ({ cls := "java/lang/Integer", name := "numberOfTrailingZeros", desc := "(I)I" } : Jvm.MethodName)) ∈ lw_all := lw_g (lw_at lw_m8 208 rfl) rfl
theorem yk_J34_numberOfTrailingZeros : yOK yJ34_numberOfTrailingZeros 1 := ⟨by decide, by decide, by decide +kernel⟩
theorem lk_J15_182 : LkS RJ15 182 yJ34_numberOfTrailingZeros cJ34_numberOfTrailingZeros 3 (some .int) 1 := ⟨yk_J34_numberOfTrailingZeros, q2014, q2015, q179, q2016⟩
theorem lk_J34_311 : LkS RJ34 311 yJ33_numberOfTrailingZeros cJ33_numberOfTrailingZeros 2 (some .int) 1 := ⟨yk_J33_numberOfTrailingZeros, q2017, q1650, q177, q1651⟩
