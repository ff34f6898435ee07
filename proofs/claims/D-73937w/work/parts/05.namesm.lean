/-! BackLogicModel -/
set_option maxRecDepth 100000
def RX9 : String := "BackLogicModel"
def TX9 : u_T := fun k => match k with
  | 0 => ("BackLogicModel", "thrown", "I", false)
  | 1 => ("BackLogicModel", "tape", "[B", true)
  | 2 => ("BackLogicModel", "taped", "I", false)
  | 3 => ("BackLogicModel", "text", "[B", true)
  | 4 => ("BackLogicModel", "size", "I", false)
  | 5 => ("BackLogicModel", "tKind", "[I", true)
  | 6 => ("BackLogicModel", "tPlace", "[I", true)
  | 7 => ("BackLogicModel", "tValue", "[I", true)
  | 8 => ("BackLogicModel", "tName", "[J", true)
  | 9 => ("BackLogicModel", "keys", "[J", true)
  | 10 => ("BackLogicModel", "tokens", "I", false)
  | 11 => ("BackLogicModel", "t", "I", false)
  | 12 => ("BackLogicModel", "fault", "I", false)
  | 13 => ("BackLogicModel", "faultPlace", "I", false)
  | 14 => ("BackLogicModel", "worst", "I", false)
  | 15 => ("BackLogicModel", "worstPlace", "I", false)
  | 16 => ("BackLogicModel", "place", "I", false)
  | 17 => ("BackLogicModel", "wires", "I", false)
  | 18 => ("BackLogicModel", "price", "[I", true)
  | 19 => ("BackLogicModel", "inputs", "I", false)
  | 20 => ("BackLogicModel", "outputs", "I", false)
  | 21 => ("BackLogicModel", "valueOf", "[I", true)
  | 22 => ("BackLogicModel", "newWires", "I", false)
  | 23 => ("BackLogicModel", "newGates", "I", false)
  | 24 => ("BackLogicModel", "newPrice", "[I", true)
  | 25 => ("BackLogicModel", "newInputs", "I", false)
  | 26 => ("BackLogicModel", "newOutputs", "I", false)
  | 27 => ("BackLogicModel", "newValue", "[I", true)
  | 28 => ("BackLogicModel", "now", "[I", true)
  | 29 => ("BackLogicModel", "fresh", "[I", true)
  | 30 => ("BackLogicModel", "earlier", "[I", true)
  | 31 => ("BackLogicModel", "earliest", "I", false)
  | 32 => ("BackLogicModel", "undos", "I", false)
  | 33 => ("BackLogicModel", "held", "[I", true)
  | 34 => ("BackLogicModel", "isHeld", "[Z", true)
  | 35 => ("BackLogicModel", "orderOf", "[I", true)
  | 36 => ("BackLogicModel", "levelOf", "[I", true)
  | 37 => ("BackLogicModel", "laid", "[I", true)
  | 38 => ("BackLogicModel", "foundMany", "I", false)
  | 39 => ("BackLogicModel", "foundTarget", "[I", true)
  | 40 => ("BackLogicModel", "foundOn", "[I", true)
  | 41 => ("BackLogicModel", "aheadMany", "I", false)
  | 42 => ("BackLogicModel", "behindMany", "I", false)
  | 43 => ("BackLogicModel", "aheadTarget", "[I", true)
  | 44 => ("BackLogicModel", "aheadOn", "[I", true)
  | 45 => ("BackLogicModel", "behindTarget", "[I", true)
  | 46 => ("BackLogicModel", "behindOn", "[I", true)
  | 47 => ("BackLogicModel", "moved", "[I", true)
  | 48 => ("BackLogicModel", "tableWires", "I", false)
  | 49 => ("BackLogicModel", "fewest", "[I", true)
  | 50 => ("BackLogicModel", "waiting", "[I", true)
  | 51 => ("BackLogicModel", "line", "[I", true)
  | 52 => ("BackLogicModel", "tried", "[I", true)
  | 53 => ("BackLogicModel", "place1", "[I", true)
  | 54 => ("BackLogicModel", "sees", "[I", true)
  | _ => ("BackLogicModel", "isMade", "[Z", true)
def tyX9 : Nat → FieldType := fun k => match k with
  | 0 => .int
  | 1 => .array .byte
  | 2 => .int
  | 3 => .array .byte
  | 4 => .int
  | 5 => .array .int
  | 6 => .array .int
  | 7 => .array .int
  | 8 => .array .long
  | 9 => .array .long
  | 10 => .int
  | 11 => .int
  | 12 => .int
  | 13 => .int
  | 14 => .int
  | 15 => .int
  | 16 => .int
  | 17 => .int
  | 18 => .array .int
  | 19 => .int
  | 20 => .int
  | 21 => .array .int
  | 22 => .int
  | 23 => .int
  | 24 => .array .int
  | 25 => .int
  | 26 => .int
  | 27 => .array .int
  | 28 => .array .int
  | 29 => .array .int
  | 30 => .array .int
  | 31 => .int
  | 32 => .int
  | 33 => .array .int
  | 34 => .array .boolean
  | 35 => .array .int
  | 36 => .array .int
  | 37 => .array .int
  | 38 => .int
  | 39 => .array .int
  | 40 => .array .int
  | 41 => .int
  | 42 => .int
  | 43 => .array .int
  | 44 => .array .int
  | 45 => .array .int
  | 46 => .array .int
  | 47 => .array .int
  | 48 => .int
  | 49 => .array .int
  | 50 => .array .int
  | 51 => .array .int
  | 52 => .array .int
  | 53 => .array .int
  | 54 => .array .int
  | _ => .array .boolean
abbrev wsX90 : List Cond := u_ws RX9 TX9 56
set_option maxRecDepth 100000 in
theorem nmX9 : ∀ a, a < 56 → ∀ b, b < 56 → a ≠ b → (TX9 a).2.1 ≠ (TX9 b).2.1 := by decide +kernel
set_option maxRecDepth 100000 in
theorem tyX9_ok : ∀ k, k < 56 → parseFieldDescriptor (TX9 k).2.2.1 = some (tyX9 k) := by decide +kernel
abbrev cX9_init : ByteArray := prog_13_method_2_code
def yX9_init : MethodName := ⟨RX9, "<init>", "()V"⟩
def dkwX9_init_16 : List UInt8 := [42, 180, 0, 40, 4, 4, 79, 42, 180, 0, 40, 5, 8, 79, 42, 180, 0, 40, 6, 16, 13, 79, 177]
abbrev dktX9_init_16 : List UInt8 := dkwX9_init_16 ++ []
def dkwX9_init_15 : List UInt8 := [6, 16, 116, 16, 97, 16, 98, 16, 108, 16, 101, 3, 3, 184, 0, 123, 80, 42, 180, 0, 40, 3, 4, 79]
abbrev dktX9_init_15 : List UInt8 := dkwX9_init_15 ++ dktX9_init_16
def dkwX9_init_14 : List UInt8 := [180, 0, 34, 5, 16, 112, 16, 114, 16, 105, 16, 99, 16, 101, 3, 3, 184, 0, 123, 80, 42, 180, 0, 34]
abbrev dktX9_init_14 : List UInt8 := dkwX9_init_14 ++ dktX9_init_15
def dkwX9_init_13 : List UInt8 := [80, 42, 180, 0, 34, 4, 16, 103, 16, 97, 16, 116, 16, 101, 3, 3, 3, 184, 0, 123, 80, 42]
abbrev dktX9_init_13 : List UInt8 := dkwX9_init_13 ++ dktX9_init_14
def dkwX9_init_12 : List UInt8 := [188, 4, 181, 0, 120, 42, 180, 0, 34, 3, 16, 119, 16, 105, 16, 114, 16, 101, 3, 3, 3, 184, 0, 123]
abbrev dktX9_init_12 : List UInt8 := dkwX9_init_12 ++ dktX9_init_13
def dkwX9_init_11 : List UInt8 := [188, 10, 181, 0, 111, 42, 7, 188, 10, 181, 0, 114, 42, 16, 16, 188, 10, 181, 0, 117, 42, 16, 64]
abbrev dktX9_init_11 : List UInt8 := dkwX9_init_11 ++ dktX9_init_12
def dkwX9_init_10 : List UInt8 := [188, 10, 181, 0, 102, 42, 18, 101, 188, 10, 181, 0, 105, 42, 16, 8, 188, 10, 181, 0, 108, 42, 16, 8]
abbrev dktX9_init_10 : List UInt8 := dkwX9_init_10 ++ dktX9_init_11
def dkwX9_init_9 : List UInt8 := [17, 1, 144, 188, 10, 181, 0, 92, 42, 16, 64, 188, 10, 181, 0, 95, 42, 2, 181, 0, 98, 42, 18, 101]
abbrev dktX9_init_9 : List UInt8 := dkwX9_init_9 ++ dktX9_init_10
def dkwX9_init_8 : List UInt8 := [181, 0, 83, 42, 17, 1, 144, 188, 10, 181, 0, 86, 42, 17, 1, 144, 188, 10, 181, 0, 89, 42]
abbrev dktX9_init_8 : List UInt8 := dkwX9_init_8 ++ dktX9_init_9
def dkwX9_init_7 : List UInt8 := [42, 17, 3, 32, 188, 10, 181, 0, 77, 42, 17, 3, 32, 188, 10, 181, 0, 80, 42, 17, 1, 144, 188, 10]
abbrev dktX9_init_7 : List UInt8 := dkwX9_init_7 ++ dktX9_init_8
def dkwX9_init_6 : List UInt8 := [42, 16, 64, 188, 10, 181, 0, 68, 42, 16, 16, 188, 10, 181, 0, 71, 42, 16, 49, 188, 10, 181, 0, 74]
abbrev dktX9_init_6 : List UInt8 := dkwX9_init_6 ++ dktX9_init_7
def dkwX9_init_5 : List UInt8 := [17, 7, 168, 188, 10, 181, 0, 58, 42, 17, 0, 147, 188, 10, 181, 0, 61, 42, 6, 188, 4, 181, 0, 64]
abbrev dktX9_init_5 : List UInt8 := dkwX9_init_5 ++ dktX9_init_6
def dkwX9_init_4 : List UInt8 := [16, 8, 188, 10, 181, 0, 49, 42, 16, 49, 188, 10, 181, 0, 52, 42, 16, 49, 188, 10, 181, 0, 55, 42]
abbrev dktX9_init_4 : List UInt8 := dkwX9_init_4 ++ dktX9_init_5
def dkwX9_init_3 : List UInt8 := [42, 7, 188, 10, 181, 0, 40, 42, 16, 8, 188, 10, 181, 0, 43, 42, 7, 188, 10, 181, 0, 46, 42]
abbrev dktX9_init_3 : List UInt8 := dkwX9_init_3 ++ dktX9_init_4
def dkwX9_init_2 : List UInt8 := [181, 0, 27, 42, 17, 1, 147, 188, 11, 181, 0, 30, 42, 7, 188, 11, 181, 0, 34, 42, 2, 181, 0, 37]
abbrev dktX9_init_2 : List UInt8 := dkwX9_init_2 ++ dktX9_init_3
def dkwX9_init_1 : List UInt8 := [17, 1, 147, 188, 10, 181, 0, 20, 42, 17, 1, 147, 188, 10, 181, 0, 24, 42, 17, 1, 147, 188, 10]
abbrev dktX9_init_1 : List UInt8 := dkwX9_init_1 ++ dktX9_init_2
def dkwX9_init_0 : List UInt8 := [42, 183, 0, 7, 42, 17, 7, 208, 188, 8, 181, 0, 13, 42, 17, 7, 208, 188, 8, 181, 0, 17, 42]
abbrev dktX9_init_0 : List UInt8 := dkwX9_init_0 ++ dktX9_init_1
theorem dksX9_init_0 : cX9_init.data.toList.drop 0 = dktX9_init_0 := by decide +kernel
theorem dksX9_init_1 : cX9_init.data.toList.drop 23 = dktX9_init_1 := dk_seg dksX9_init_0 23 rfl rfl
theorem dksX9_init_2 : cX9_init.data.toList.drop 46 = dktX9_init_2 := dk_seg dksX9_init_1 23 rfl rfl
theorem dksX9_init_3 : cX9_init.data.toList.drop 70 = dktX9_init_3 := dk_seg dksX9_init_2 24 rfl rfl
theorem dksX9_init_4 : cX9_init.data.toList.drop 93 = dktX9_init_4 := dk_seg dksX9_init_3 23 rfl rfl
theorem dksX9_init_5 : cX9_init.data.toList.drop 117 = dktX9_init_5 := dk_seg dksX9_init_4 24 rfl rfl
theorem dksX9_init_6 : cX9_init.data.toList.drop 141 = dktX9_init_6 := dk_seg dksX9_init_5 24 rfl rfl
theorem dksX9_init_7 : cX9_init.data.toList.drop 165 = dktX9_init_7 := dk_seg dksX9_init_6 24 rfl rfl
theorem dksX9_init_8 : cX9_init.data.toList.drop 189 = dktX9_init_8 := dk_seg dksX9_init_7 24 rfl rfl
theorem dksX9_init_9 : cX9_init.data.toList.drop 211 = dktX9_init_9 := dk_seg dksX9_init_8 22 rfl rfl
theorem dksX9_init_10 : cX9_init.data.toList.drop 235 = dktX9_init_10 := dk_seg dksX9_init_9 24 rfl rfl
theorem dksX9_init_11 : cX9_init.data.toList.drop 259 = dktX9_init_11 := dk_seg dksX9_init_10 24 rfl rfl
theorem dksX9_init_12 : cX9_init.data.toList.drop 282 = dktX9_init_12 := dk_seg dksX9_init_11 23 rfl rfl
theorem dksX9_init_13 : cX9_init.data.toList.drop 306 = dktX9_init_13 := dk_seg dksX9_init_12 24 rfl rfl
theorem dksX9_init_14 : cX9_init.data.toList.drop 328 = dktX9_init_14 := dk_seg dksX9_init_13 22 rfl rfl
theorem dksX9_init_15 : cX9_init.data.toList.drop 352 = dktX9_init_15 := dk_seg dksX9_init_14 24 rfl rfl
theorem dksX9_init_16 : cX9_init.data.toList.drop 376 = dktX9_init_16 := dk_seg dksX9_init_15 24 rfl rfl
theorem dX9_init_0 : decode cX9_init 0 = .ok (.aload_n 0, 1) := dk_42 (dk_at dksX9_init_0 0 rfl rfl)
theorem dX9_init_1 : decode cX9_init 1 = .ok (.invokespecial 7, 3) := dk_183 0 7 (dk_at dksX9_init_0 1 rfl rfl)
theorem dX9_init_4 : decode cX9_init 4 = .ok (.aload_n 0, 1) := dk_42 (dk_at dksX9_init_0 4 rfl rfl)
theorem dX9_init_5 : decode cX9_init 5 = .ok (.sipush 2000, 3) := dk_17 7 208 (dk_at dksX9_init_0 5 rfl rfl)
theorem dX9_init_8 : decode cX9_init 8 = .ok (.newarray .byte, 2) := dk_188_8 (dk_at dksX9_init_0 8 rfl rfl)
theorem dX9_init_10 : decode cX9_init 10 = .ok (.putfield 13, 3) := dk_181 0 13 (dk_at dksX9_init_0 10 rfl rfl)
theorem dX9_init_13 : decode cX9_init 13 = .ok (.aload_n 0, 1) := dk_42 (dk_at dksX9_init_0 13 rfl rfl)
theorem dX9_init_14 : decode cX9_init 14 = .ok (.sipush 2000, 3) := dk_17 7 208 (dk_at dksX9_init_0 14 rfl rfl)
theorem dX9_init_17 : decode cX9_init 17 = .ok (.newarray .byte, 2) := dk_188_8 (dk_at dksX9_init_0 17 rfl rfl)
theorem dX9_init_19 : decode cX9_init 19 = .ok (.putfield 17, 3) := dk_181 0 17 (dk_at dksX9_init_0 19 rfl rfl)
theorem dX9_init_22 : decode cX9_init 22 = .ok (.aload_n 0, 1) := dk_42 (dk_at dksX9_init_0 22 rfl rfl)
theorem dX9_init_23 : decode cX9_init 23 = .ok (.sipush 403, 3) := dk_17 1 147 (dk_at dksX9_init_1 0 rfl rfl)
theorem dX9_init_26 : decode cX9_init 26 = .ok (.newarray .int, 2) := dk_188_10 (dk_at dksX9_init_1 3 rfl rfl)
theorem dX9_init_28 : decode cX9_init 28 = .ok (.putfield 20, 3) := dk_181 0 20 (dk_at dksX9_init_1 5 rfl rfl)
theorem dX9_init_31 : decode cX9_init 31 = .ok (.aload_n 0, 1) := dk_42 (dk_at dksX9_init_1 8 rfl rfl)
theorem dX9_init_32 : decode cX9_init 32 = .ok (.sipush 403, 3) := dk_17 1 147 (dk_at dksX9_init_1 9 rfl rfl)
theorem dX9_init_35 : decode cX9_init 35 = .ok (.newarray .int, 2) := dk_188_10 (dk_at dksX9_init_1 12 rfl rfl)
theorem dX9_init_37 : decode cX9_init 37 = .ok (.putfield 24, 3) := dk_181 0 24 (dk_at dksX9_init_1 14 rfl rfl)
theorem dX9_init_40 : decode cX9_init 40 = .ok (.aload_n 0, 1) := dk_42 (dk_at dksX9_init_1 17 rfl rfl)
theorem dX9_init_41 : decode cX9_init 41 = .ok (.sipush 403, 3) := dk_17 1 147 (dk_at dksX9_init_1 18 rfl rfl)
theorem dX9_init_44 : decode cX9_init 44 = .ok (.newarray .int, 2) := dk_188_10 (dk_at dksX9_init_1 21 rfl rfl)
theorem dX9_init_46 : decode cX9_init 46 = .ok (.putfield 27, 3) := dk_181 0 27 (dk_at dksX9_init_2 0 rfl rfl)
theorem dX9_init_49 : decode cX9_init 49 = .ok (.aload_n 0, 1) := dk_42 (dk_at dksX9_init_2 3 rfl rfl)
theorem dX9_init_50 : decode cX9_init 50 = .ok (.sipush 403, 3) := dk_17 1 147 (dk_at dksX9_init_2 4 rfl rfl)
theorem dX9_init_53 : decode cX9_init 53 = .ok (.newarray .long, 2) := dk_188_11 (dk_at dksX9_init_2 7 rfl rfl)
theorem dX9_init_55 : decode cX9_init 55 = .ok (.putfield 30, 3) := dk_181 0 30 (dk_at dksX9_init_2 9 rfl rfl)
theorem dX9_init_58 : decode cX9_init 58 = .ok (.aload_n 0, 1) := dk_42 (dk_at dksX9_init_2 12 rfl rfl)
theorem dX9_init_59 : decode cX9_init 59 = .ok (.iconst 4, 1) := dk_7 (dk_at dksX9_init_2 13 rfl rfl)
theorem dX9_init_60 : decode cX9_init 60 = .ok (.newarray .long, 2) := dk_188_11 (dk_at dksX9_init_2 14 rfl rfl)
theorem dX9_init_62 : decode cX9_init 62 = .ok (.putfield 34, 3) := dk_181 0 34 (dk_at dksX9_init_2 16 rfl rfl)
theorem dX9_init_65 : decode cX9_init 65 = .ok (.aload_n 0, 1) := dk_42 (dk_at dksX9_init_2 19 rfl rfl)
theorem dX9_init_66 : decode cX9_init 66 = .ok (.iconst (-1), 1) := dk_2 (dk_at dksX9_init_2 20 rfl rfl)
theorem dX9_init_67 : decode cX9_init 67 = .ok (.putfield 37, 3) := dk_181 0 37 (dk_at dksX9_init_2 21 rfl rfl)
theorem dX9_init_70 : decode cX9_init 70 = .ok (.aload_n 0, 1) := dk_42 (dk_at dksX9_init_3 0 rfl rfl)
theorem dX9_init_71 : decode cX9_init 71 = .ok (.iconst 4, 1) := dk_7 (dk_at dksX9_init_3 1 rfl rfl)
theorem dX9_init_72 : decode cX9_init 72 = .ok (.newarray .int, 2) := dk_188_10 (dk_at dksX9_init_3 2 rfl rfl)
theorem dX9_init_74 : decode cX9_init 74 = .ok (.putfield 40, 3) := dk_181 0 40 (dk_at dksX9_init_3 4 rfl rfl)
theorem dX9_init_77 : decode cX9_init 77 = .ok (.aload_n 0, 1) := dk_42 (dk_at dksX9_init_3 7 rfl rfl)
theorem dX9_init_78 : decode cX9_init 78 = .ok (.bipush 8, 2) := dk_16 8 (dk_at dksX9_init_3 8 rfl rfl)
theorem dX9_init_80 : decode cX9_init 80 = .ok (.newarray .int, 2) := dk_188_10 (dk_at dksX9_init_3 10 rfl rfl)
theorem dX9_init_82 : decode cX9_init 82 = .ok (.putfield 43, 3) := dk_181 0 43 (dk_at dksX9_init_3 12 rfl rfl)
theorem dX9_init_85 : decode cX9_init 85 = .ok (.aload_n 0, 1) := dk_42 (dk_at dksX9_init_3 15 rfl rfl)
theorem dX9_init_86 : decode cX9_init 86 = .ok (.iconst 4, 1) := dk_7 (dk_at dksX9_init_3 16 rfl rfl)
theorem dX9_init_87 : decode cX9_init 87 = .ok (.newarray .int, 2) := dk_188_10 (dk_at dksX9_init_3 17 rfl rfl)
theorem dX9_init_89 : decode cX9_init 89 = .ok (.putfield 46, 3) := dk_181 0 46 (dk_at dksX9_init_3 19 rfl rfl)
theorem dX9_init_92 : decode cX9_init 92 = .ok (.aload_n 0, 1) := dk_42 (dk_at dksX9_init_3 22 rfl rfl)
theorem dX9_init_93 : decode cX9_init 93 = .ok (.bipush 8, 2) := dk_16 8 (dk_at dksX9_init_4 0 rfl rfl)
theorem dX9_init_95 : decode cX9_init 95 = .ok (.newarray .int, 2) := dk_188_10 (dk_at dksX9_init_4 2 rfl rfl)
theorem dX9_init_97 : decode cX9_init 97 = .ok (.putfield 49, 3) := dk_181 0 49 (dk_at dksX9_init_4 4 rfl rfl)
theorem dX9_init_100 : decode cX9_init 100 = .ok (.aload_n 0, 1) := dk_42 (dk_at dksX9_init_4 7 rfl rfl)
theorem dX9_init_101 : decode cX9_init 101 = .ok (.bipush 49, 2) := dk_16 49 (dk_at dksX9_init_4 8 rfl rfl)
theorem dX9_init_103 : decode cX9_init 103 = .ok (.newarray .int, 2) := dk_188_10 (dk_at dksX9_init_4 10 rfl rfl)
theorem dX9_init_105 : decode cX9_init 105 = .ok (.putfield 52, 3) := dk_181 0 52 (dk_at dksX9_init_4 12 rfl rfl)
theorem dX9_init_108 : decode cX9_init 108 = .ok (.aload_n 0, 1) := dk_42 (dk_at dksX9_init_4 15 rfl rfl)
theorem dX9_init_109 : decode cX9_init 109 = .ok (.bipush 49, 2) := dk_16 49 (dk_at dksX9_init_4 16 rfl rfl)
theorem dX9_init_111 : decode cX9_init 111 = .ok (.newarray .int, 2) := dk_188_10 (dk_at dksX9_init_4 18 rfl rfl)
theorem dX9_init_113 : decode cX9_init 113 = .ok (.putfield 55, 3) := dk_181 0 55 (dk_at dksX9_init_4 20 rfl rfl)
theorem dX9_init_116 : decode cX9_init 116 = .ok (.aload_n 0, 1) := dk_42 (dk_at dksX9_init_4 23 rfl rfl)
theorem dX9_init_117 : decode cX9_init 117 = .ok (.sipush 1960, 3) := dk_17 7 168 (dk_at dksX9_init_5 0 rfl rfl)
theorem dX9_init_120 : decode cX9_init 120 = .ok (.newarray .int, 2) := dk_188_10 (dk_at dksX9_init_5 3 rfl rfl)
theorem dX9_init_122 : decode cX9_init 122 = .ok (.putfield 58, 3) := dk_181 0 58 (dk_at dksX9_init_5 5 rfl rfl)
theorem dX9_init_125 : decode cX9_init 125 = .ok (.aload_n 0, 1) := dk_42 (dk_at dksX9_init_5 8 rfl rfl)
theorem dX9_init_126 : decode cX9_init 126 = .ok (.sipush 147, 3) := dk_17 0 147 (dk_at dksX9_init_5 9 rfl rfl)
theorem dX9_init_129 : decode cX9_init 129 = .ok (.newarray .int, 2) := dk_188_10 (dk_at dksX9_init_5 12 rfl rfl)
theorem dX9_init_131 : decode cX9_init 131 = .ok (.putfield 61, 3) := dk_181 0 61 (dk_at dksX9_init_5 14 rfl rfl)
theorem dX9_init_134 : decode cX9_init 134 = .ok (.aload_n 0, 1) := dk_42 (dk_at dksX9_init_5 17 rfl rfl)
theorem dX9_init_135 : decode cX9_init 135 = .ok (.iconst 3, 1) := dk_6 (dk_at dksX9_init_5 18 rfl rfl)
theorem dX9_init_136 : decode cX9_init 136 = .ok (.newarray .boolean, 2) := dk_188_4 (dk_at dksX9_init_5 19 rfl rfl)
theorem dX9_init_138 : decode cX9_init 138 = .ok (.putfield 64, 3) := dk_181 0 64 (dk_at dksX9_init_5 21 rfl rfl)
theorem dX9_init_141 : decode cX9_init 141 = .ok (.aload_n 0, 1) := dk_42 (dk_at dksX9_init_6 0 rfl rfl)
theorem dX9_init_142 : decode cX9_init 142 = .ok (.bipush 64, 2) := dk_16 64 (dk_at dksX9_init_6 1 rfl rfl)
theorem dX9_init_144 : decode cX9_init 144 = .ok (.newarray .int, 2) := dk_188_10 (dk_at dksX9_init_6 3 rfl rfl)
theorem dX9_init_146 : decode cX9_init 146 = .ok (.putfield 68, 3) := dk_181 0 68 (dk_at dksX9_init_6 5 rfl rfl)
theorem dX9_init_149 : decode cX9_init 149 = .ok (.aload_n 0, 1) := dk_42 (dk_at dksX9_init_6 8 rfl rfl)
theorem dX9_init_150 : decode cX9_init 150 = .ok (.bipush 16, 2) := dk_16 16 (dk_at dksX9_init_6 9 rfl rfl)
theorem dX9_init_152 : decode cX9_init 152 = .ok (.newarray .int, 2) := dk_188_10 (dk_at dksX9_init_6 11 rfl rfl)
theorem dX9_init_154 : decode cX9_init 154 = .ok (.putfield 71, 3) := dk_181 0 71 (dk_at dksX9_init_6 13 rfl rfl)
theorem dX9_init_157 : decode cX9_init 157 = .ok (.aload_n 0, 1) := dk_42 (dk_at dksX9_init_6 16 rfl rfl)
theorem dX9_init_158 : decode cX9_init 158 = .ok (.bipush 49, 2) := dk_16 49 (dk_at dksX9_init_6 17 rfl rfl)
theorem dX9_init_160 : decode cX9_init 160 = .ok (.newarray .int, 2) := dk_188_10 (dk_at dksX9_init_6 19 rfl rfl)
theorem dX9_init_162 : decode cX9_init 162 = .ok (.putfield 74, 3) := dk_181 0 74 (dk_at dksX9_init_6 21 rfl rfl)
theorem dX9_init_165 : decode cX9_init 165 = .ok (.aload_n 0, 1) := dk_42 (dk_at dksX9_init_7 0 rfl rfl)
theorem dX9_init_166 : decode cX9_init 166 = .ok (.sipush 800, 3) := dk_17 3 32 (dk_at dksX9_init_7 1 rfl rfl)
theorem dX9_init_169 : decode cX9_init 169 = .ok (.newarray .int, 2) := dk_188_10 (dk_at dksX9_init_7 4 rfl rfl)
theorem dX9_init_171 : decode cX9_init 171 = .ok (.putfield 77, 3) := dk_181 0 77 (dk_at dksX9_init_7 6 rfl rfl)
theorem dX9_init_174 : decode cX9_init 174 = .ok (.aload_n 0, 1) := dk_42 (dk_at dksX9_init_7 9 rfl rfl)
theorem dX9_init_175 : decode cX9_init 175 = .ok (.sipush 800, 3) := dk_17 3 32 (dk_at dksX9_init_7 10 rfl rfl)
theorem dX9_init_178 : decode cX9_init 178 = .ok (.newarray .int, 2) := dk_188_10 (dk_at dksX9_init_7 13 rfl rfl)
theorem dX9_init_180 : decode cX9_init 180 = .ok (.putfield 80, 3) := dk_181 0 80 (dk_at dksX9_init_7 15 rfl rfl)
theorem dX9_init_183 : decode cX9_init 183 = .ok (.aload_n 0, 1) := dk_42 (dk_at dksX9_init_7 18 rfl rfl)
theorem dX9_init_184 : decode cX9_init 184 = .ok (.sipush 400, 3) := dk_17 1 144 (dk_at dksX9_init_7 19 rfl rfl)
theorem dX9_init_187 : decode cX9_init 187 = .ok (.newarray .int, 2) := dk_188_10 (dk_at dksX9_init_7 22 rfl rfl)
theorem dX9_init_189 : decode cX9_init 189 = .ok (.putfield 83, 3) := dk_181 0 83 (dk_at dksX9_init_8 0 rfl rfl)
theorem dX9_init_192 : decode cX9_init 192 = .ok (.aload_n 0, 1) := dk_42 (dk_at dksX9_init_8 3 rfl rfl)
theorem dX9_init_193 : decode cX9_init 193 = .ok (.sipush 400, 3) := dk_17 1 144 (dk_at dksX9_init_8 4 rfl rfl)
theorem dX9_init_196 : decode cX9_init 196 = .ok (.newarray .int, 2) := dk_188_10 (dk_at dksX9_init_8 7 rfl rfl)
theorem dX9_init_198 : decode cX9_init 198 = .ok (.putfield 86, 3) := dk_181 0 86 (dk_at dksX9_init_8 9 rfl rfl)
theorem dX9_init_201 : decode cX9_init 201 = .ok (.aload_n 0, 1) := dk_42 (dk_at dksX9_init_8 12 rfl rfl)
theorem dX9_init_202 : decode cX9_init 202 = .ok (.sipush 400, 3) := dk_17 1 144 (dk_at dksX9_init_8 13 rfl rfl)
theorem dX9_init_205 : decode cX9_init 205 = .ok (.newarray .int, 2) := dk_188_10 (dk_at dksX9_init_8 16 rfl rfl)
theorem dX9_init_207 : decode cX9_init 207 = .ok (.putfield 89, 3) := dk_181 0 89 (dk_at dksX9_init_8 18 rfl rfl)
theorem dX9_init_210 : decode cX9_init 210 = .ok (.aload_n 0, 1) := dk_42 (dk_at dksX9_init_8 21 rfl rfl)
theorem dX9_init_211 : decode cX9_init 211 = .ok (.sipush 400, 3) := dk_17 1 144 (dk_at dksX9_init_9 0 rfl rfl)
theorem dX9_init_214 : decode cX9_init 214 = .ok (.newarray .int, 2) := dk_188_10 (dk_at dksX9_init_9 3 rfl rfl)
theorem dX9_init_216 : decode cX9_init 216 = .ok (.putfield 92, 3) := dk_181 0 92 (dk_at dksX9_init_9 5 rfl rfl)
theorem dX9_init_219 : decode cX9_init 219 = .ok (.aload_n 0, 1) := dk_42 (dk_at dksX9_init_9 8 rfl rfl)
theorem dX9_init_220 : decode cX9_init 220 = .ok (.bipush 64, 2) := dk_16 64 (dk_at dksX9_init_9 9 rfl rfl)
theorem dX9_init_222 : decode cX9_init 222 = .ok (.newarray .int, 2) := dk_188_10 (dk_at dksX9_init_9 11 rfl rfl)
theorem dX9_init_224 : decode cX9_init 224 = .ok (.putfield 95, 3) := dk_181 0 95 (dk_at dksX9_init_9 13 rfl rfl)
theorem dX9_init_227 : decode cX9_init 227 = .ok (.aload_n 0, 1) := dk_42 (dk_at dksX9_init_9 16 rfl rfl)
theorem dX9_init_228 : decode cX9_init 228 = .ok (.iconst (-1), 1) := dk_2 (dk_at dksX9_init_9 17 rfl rfl)
theorem dX9_init_229 : decode cX9_init 229 = .ok (.putfield 98, 3) := dk_181 0 98 (dk_at dksX9_init_9 18 rfl rfl)
theorem dX9_init_232 : decode cX9_init 232 = .ok (.aload_n 0, 1) := dk_42 (dk_at dksX9_init_9 21 rfl rfl)
theorem dX9_init_233 : decode cX9_init 233 = .ok (.ldc 101, 2) := dk_18 101 (dk_at dksX9_init_9 22 rfl rfl)
theorem dX9_init_235 : decode cX9_init 235 = .ok (.newarray .int, 2) := dk_188_10 (dk_at dksX9_init_10 0 rfl rfl)
theorem dX9_init_237 : decode cX9_init 237 = .ok (.putfield 102, 3) := dk_181 0 102 (dk_at dksX9_init_10 2 rfl rfl)
theorem dX9_init_240 : decode cX9_init 240 = .ok (.aload_n 0, 1) := dk_42 (dk_at dksX9_init_10 5 rfl rfl)
theorem dX9_init_241 : decode cX9_init 241 = .ok (.ldc 101, 2) := dk_18 101 (dk_at dksX9_init_10 6 rfl rfl)
theorem dX9_init_243 : decode cX9_init 243 = .ok (.newarray .int, 2) := dk_188_10 (dk_at dksX9_init_10 8 rfl rfl)
theorem dX9_init_245 : decode cX9_init 245 = .ok (.putfield 105, 3) := dk_181 0 105 (dk_at dksX9_init_10 10 rfl rfl)
theorem dX9_init_248 : decode cX9_init 248 = .ok (.aload_n 0, 1) := dk_42 (dk_at dksX9_init_10 13 rfl rfl)
theorem dX9_init_249 : decode cX9_init 249 = .ok (.bipush 8, 2) := dk_16 8 (dk_at dksX9_init_10 14 rfl rfl)
theorem dX9_init_251 : decode cX9_init 251 = .ok (.newarray .int, 2) := dk_188_10 (dk_at dksX9_init_10 16 rfl rfl)
theorem dX9_init_253 : decode cX9_init 253 = .ok (.putfield 108, 3) := dk_181 0 108 (dk_at dksX9_init_10 18 rfl rfl)
theorem dX9_init_256 : decode cX9_init 256 = .ok (.aload_n 0, 1) := dk_42 (dk_at dksX9_init_10 21 rfl rfl)
theorem dX9_init_257 : decode cX9_init 257 = .ok (.bipush 8, 2) := dk_16 8 (dk_at dksX9_init_10 22 rfl rfl)
theorem dX9_init_259 : decode cX9_init 259 = .ok (.newarray .int, 2) := dk_188_10 (dk_at dksX9_init_11 0 rfl rfl)
theorem dX9_init_261 : decode cX9_init 261 = .ok (.putfield 111, 3) := dk_181 0 111 (dk_at dksX9_init_11 2 rfl rfl)
theorem dX9_init_264 : decode cX9_init 264 = .ok (.aload_n 0, 1) := dk_42 (dk_at dksX9_init_11 5 rfl rfl)
theorem dX9_init_265 : decode cX9_init 265 = .ok (.iconst 4, 1) := dk_7 (dk_at dksX9_init_11 6 rfl rfl)
theorem dX9_init_266 : decode cX9_init 266 = .ok (.newarray .int, 2) := dk_188_10 (dk_at dksX9_init_11 7 rfl rfl)
theorem dX9_init_268 : decode cX9_init 268 = .ok (.putfield 114, 3) := dk_181 0 114 (dk_at dksX9_init_11 9 rfl rfl)
theorem dX9_init_271 : decode cX9_init 271 = .ok (.aload_n 0, 1) := dk_42 (dk_at dksX9_init_11 12 rfl rfl)
theorem dX9_init_272 : decode cX9_init 272 = .ok (.bipush 16, 2) := dk_16 16 (dk_at dksX9_init_11 13 rfl rfl)
theorem dX9_init_274 : decode cX9_init 274 = .ok (.newarray .int, 2) := dk_188_10 (dk_at dksX9_init_11 15 rfl rfl)
theorem dX9_init_276 : decode cX9_init 276 = .ok (.putfield 117, 3) := dk_181 0 117 (dk_at dksX9_init_11 17 rfl rfl)
theorem dX9_init_279 : decode cX9_init 279 = .ok (.aload_n 0, 1) := dk_42 (dk_at dksX9_init_11 20 rfl rfl)
theorem dX9_init_280 : decode cX9_init 280 = .ok (.bipush 64, 2) := dk_16 64 (dk_at dksX9_init_11 21 rfl rfl)
theorem dX9_init_282 : decode cX9_init 282 = .ok (.newarray .boolean, 2) := dk_188_4 (dk_at dksX9_init_12 0 rfl rfl)
theorem dX9_init_284 : decode cX9_init 284 = .ok (.putfield 120, 3) := dk_181 0 120 (dk_at dksX9_init_12 2 rfl rfl)
theorem dX9_init_287 : decode cX9_init 287 = .ok (.aload_n 0, 1) := dk_42 (dk_at dksX9_init_12 5 rfl rfl)
theorem dX9_init_288 : decode cX9_init 288 = .ok (.getfield 34, 3) := dk_180 0 34 (dk_at dksX9_init_12 6 rfl rfl)
theorem dX9_init_291 : decode cX9_init 291 = .ok (.iconst 0, 1) := dk_3 (dk_at dksX9_init_12 9 rfl rfl)
theorem dX9_init_292 : decode cX9_init 292 = .ok (.bipush 119, 2) := dk_16 119 (dk_at dksX9_init_12 10 rfl rfl)
theorem dX9_init_294 : decode cX9_init 294 = .ok (.bipush 105, 2) := dk_16 105 (dk_at dksX9_init_12 12 rfl rfl)
theorem dX9_init_296 : decode cX9_init 296 = .ok (.bipush 114, 2) := dk_16 114 (dk_at dksX9_init_12 14 rfl rfl)
theorem dX9_init_298 : decode cX9_init 298 = .ok (.bipush 101, 2) := dk_16 101 (dk_at dksX9_init_12 16 rfl rfl)
theorem dX9_init_300 : decode cX9_init 300 = .ok (.iconst 0, 1) := dk_3 (dk_at dksX9_init_12 18 rfl rfl)
theorem dX9_init_301 : decode cX9_init 301 = .ok (.iconst 0, 1) := dk_3 (dk_at dksX9_init_12 19 rfl rfl)
theorem dX9_init_302 : decode cX9_init 302 = .ok (.iconst 0, 1) := dk_3 (dk_at dksX9_init_12 20 rfl rfl)
theorem dX9_init_303 : decode cX9_init 303 = .ok (.invokestatic 123, 3) := dk_184 0 123 (dk_at dksX9_init_12 21 rfl rfl)
theorem dX9_init_306 : decode cX9_init 306 = .ok (.lastore, 1) := dk_80 (dk_at dksX9_init_13 0 rfl rfl)
theorem dX9_init_307 : decode cX9_init 307 = .ok (.aload_n 0, 1) := dk_42 (dk_at dksX9_init_13 1 rfl rfl)
theorem dX9_init_308 : decode cX9_init 308 = .ok (.getfield 34, 3) := dk_180 0 34 (dk_at dksX9_init_13 2 rfl rfl)
theorem dX9_init_311 : decode cX9_init 311 = .ok (.iconst 1, 1) := dk_4 (dk_at dksX9_init_13 5 rfl rfl)
theorem dX9_init_312 : decode cX9_init 312 = .ok (.bipush 103, 2) := dk_16 103 (dk_at dksX9_init_13 6 rfl rfl)
theorem dX9_init_314 : decode cX9_init 314 = .ok (.bipush 97, 2) := dk_16 97 (dk_at dksX9_init_13 8 rfl rfl)
theorem dX9_init_316 : decode cX9_init 316 = .ok (.bipush 116, 2) := dk_16 116 (dk_at dksX9_init_13 10 rfl rfl)
theorem dX9_init_318 : decode cX9_init 318 = .ok (.bipush 101, 2) := dk_16 101 (dk_at dksX9_init_13 12 rfl rfl)
theorem dX9_init_320 : decode cX9_init 320 = .ok (.iconst 0, 1) := dk_3 (dk_at dksX9_init_13 14 rfl rfl)
theorem dX9_init_321 : decode cX9_init 321 = .ok (.iconst 0, 1) := dk_3 (dk_at dksX9_init_13 15 rfl rfl)
theorem dX9_init_322 : decode cX9_init 322 = .ok (.iconst 0, 1) := dk_3 (dk_at dksX9_init_13 16 rfl rfl)
theorem dX9_init_323 : decode cX9_init 323 = .ok (.invokestatic 123, 3) := dk_184 0 123 (dk_at dksX9_init_13 17 rfl rfl)
theorem dX9_init_326 : decode cX9_init 326 = .ok (.lastore, 1) := dk_80 (dk_at dksX9_init_13 20 rfl rfl)
theorem dX9_init_327 : decode cX9_init 327 = .ok (.aload_n 0, 1) := dk_42 (dk_at dksX9_init_13 21 rfl rfl)
theorem dX9_init_328 : decode cX9_init 328 = .ok (.getfield 34, 3) := dk_180 0 34 (dk_at dksX9_init_14 0 rfl rfl)
theorem dX9_init_331 : decode cX9_init 331 = .ok (.iconst 2, 1) := dk_5 (dk_at dksX9_init_14 3 rfl rfl)
theorem dX9_init_332 : decode cX9_init 332 = .ok (.bipush 112, 2) := dk_16 112 (dk_at dksX9_init_14 4 rfl rfl)
theorem dX9_init_334 : decode cX9_init 334 = .ok (.bipush 114, 2) := dk_16 114 (dk_at dksX9_init_14 6 rfl rfl)
theorem dX9_init_336 : decode cX9_init 336 = .ok (.bipush 105, 2) := dk_16 105 (dk_at dksX9_init_14 8 rfl rfl)
theorem dX9_init_338 : decode cX9_init 338 = .ok (.bipush 99, 2) := dk_16 99 (dk_at dksX9_init_14 10 rfl rfl)
theorem dX9_init_340 : decode cX9_init 340 = .ok (.bipush 101, 2) := dk_16 101 (dk_at dksX9_init_14 12 rfl rfl)
theorem dX9_init_342 : decode cX9_init 342 = .ok (.iconst 0, 1) := dk_3 (dk_at dksX9_init_14 14 rfl rfl)
theorem dX9_init_343 : decode cX9_init 343 = .ok (.iconst 0, 1) := dk_3 (dk_at dksX9_init_14 15 rfl rfl)
theorem dX9_init_344 : decode cX9_init 344 = .ok (.invokestatic 123, 3) := dk_184 0 123 (dk_at dksX9_init_14 16 rfl rfl)
theorem dX9_init_347 : decode cX9_init 347 = .ok (.lastore, 1) := dk_80 (dk_at dksX9_init_14 19 rfl rfl)
theorem dX9_init_348 : decode cX9_init 348 = .ok (.aload_n 0, 1) := dk_42 (dk_at dksX9_init_14 20 rfl rfl)
theorem dX9_init_349 : decode cX9_init 349 = .ok (.getfield 34, 3) := dk_180 0 34 (dk_at dksX9_init_14 21 rfl rfl)
theorem dX9_init_352 : decode cX9_init 352 = .ok (.iconst 3, 1) := dk_6 (dk_at dksX9_init_15 0 rfl rfl)
theorem dX9_init_353 : decode cX9_init 353 = .ok (.bipush 116, 2) := dk_16 116 (dk_at dksX9_init_15 1 rfl rfl)
theorem dX9_init_355 : decode cX9_init 355 = .ok (.bipush 97, 2) := dk_16 97 (dk_at dksX9_init_15 3 rfl rfl)
theorem dX9_init_357 : decode cX9_init 357 = .ok (.bipush 98, 2) := dk_16 98 (dk_at dksX9_init_15 5 rfl rfl)
theorem dX9_init_359 : decode cX9_init 359 = .ok (.bipush 108, 2) := dk_16 108 (dk_at dksX9_init_15 7 rfl rfl)
theorem dX9_init_361 : decode cX9_init 361 = .ok (.bipush 101, 2) := dk_16 101 (dk_at dksX9_init_15 9 rfl rfl)
theorem dX9_init_363 : decode cX9_init 363 = .ok (.iconst 0, 1) := dk_3 (dk_at dksX9_init_15 11 rfl rfl)
theorem dX9_init_364 : decode cX9_init 364 = .ok (.iconst 0, 1) := dk_3 (dk_at dksX9_init_15 12 rfl rfl)
theorem dX9_init_365 : decode cX9_init 365 = .ok (.invokestatic 123, 3) := dk_184 0 123 (dk_at dksX9_init_15 13 rfl rfl)
theorem dX9_init_368 : decode cX9_init 368 = .ok (.lastore, 1) := dk_80 (dk_at dksX9_init_15 16 rfl rfl)
theorem dX9_init_369 : decode cX9_init 369 = .ok (.aload_n 0, 1) := dk_42 (dk_at dksX9_init_15 17 rfl rfl)
theorem dX9_init_370 : decode cX9_init 370 = .ok (.getfield 40, 3) := dk_180 0 40 (dk_at dksX9_init_15 18 rfl rfl)
theorem dX9_init_373 : decode cX9_init 373 = .ok (.iconst 0, 1) := dk_3 (dk_at dksX9_init_15 21 rfl rfl)
theorem dX9_init_374 : decode cX9_init 374 = .ok (.iconst 1, 1) := dk_4 (dk_at dksX9_init_15 22 rfl rfl)
theorem dX9_init_375 : decode cX9_init 375 = .ok (.iastore, 1) := dk_79 (dk_at dksX9_init_15 23 rfl rfl)
theorem dX9_init_376 : decode cX9_init 376 = .ok (.aload_n 0, 1) := dk_42 (dk_at dksX9_init_16 0 rfl rfl)
theorem dX9_init_377 : decode cX9_init 377 = .ok (.getfield 40, 3) := dk_180 0 40 (dk_at dksX9_init_16 1 rfl rfl)
theorem dX9_init_380 : decode cX9_init 380 = .ok (.iconst 1, 1) := dk_4 (dk_at dksX9_init_16 4 rfl rfl)
theorem dX9_init_381 : decode cX9_init 381 = .ok (.iconst 1, 1) := dk_4 (dk_at dksX9_init_16 5 rfl rfl)
theorem dX9_init_382 : decode cX9_init 382 = .ok (.iastore, 1) := dk_79 (dk_at dksX9_init_16 6 rfl rfl)
theorem dX9_init_383 : decode cX9_init 383 = .ok (.aload_n 0, 1) := dk_42 (dk_at dksX9_init_16 7 rfl rfl)
theorem dX9_init_384 : decode cX9_init 384 = .ok (.getfield 40, 3) := dk_180 0 40 (dk_at dksX9_init_16 8 rfl rfl)
theorem dX9_init_387 : decode cX9_init 387 = .ok (.iconst 2, 1) := dk_5 (dk_at dksX9_init_16 11 rfl rfl)
theorem dX9_init_388 : decode cX9_init 388 = .ok (.iconst 5, 1) := dk_8 (dk_at dksX9_init_16 12 rfl rfl)
theorem dX9_init_389 : decode cX9_init 389 = .ok (.iastore, 1) := dk_79 (dk_at dksX9_init_16 13 rfl rfl)
theorem dX9_init_390 : decode cX9_init 390 = .ok (.aload_n 0, 1) := dk_42 (dk_at dksX9_init_16 14 rfl rfl)
theorem dX9_init_391 : decode cX9_init 391 = .ok (.getfield 40, 3) := dk_180 0 40 (dk_at dksX9_init_16 15 rfl rfl)
theorem dX9_init_394 : decode cX9_init 394 = .ok (.iconst 3, 1) := dk_6 (dk_at dksX9_init_16 18 rfl rfl)
theorem dX9_init_395 : decode cX9_init 395 = .ok (.bipush 13, 2) := dk_16 13 (dk_at dksX9_init_16 19 rfl rfl)
theorem dX9_init_397 : decode cX9_init 397 = .ok (.iastore, 1) := dk_79 (dk_at dksX9_init_16 21 rfl rfl)
theorem dX9_init_398 : decode cX9_init 398 = .ok (.return_, 1) := dk_177 (dk_at dksX9_init_16 22 rfl rfl)
abbrev cX9_letters : ByteArray := prog_13_method_10_code
def yX9_letters : MethodName := ⟨RX9, "letters", "(IIIIIII)J"⟩
def dkwX9_letters_1 : List UInt8 := [184, 0, 139, 21, 6, 184, 0, 139, 173]
abbrev dktX9_letters_1 : List UInt8 := dkwX9_letters_1 ++ []
def dkwX9_letters_0 : List UInt8 := [9, 26, 184, 0, 139, 27, 184, 0, 139, 28, 184, 0, 139, 29, 184, 0, 139, 21, 4, 184, 0, 139, 21, 5]
abbrev dktX9_letters_0 : List UInt8 := dkwX9_letters_0 ++ dktX9_letters_1
theorem dksX9_letters_0 : cX9_letters.data.toList.drop 0 = dktX9_letters_0 := by decide +kernel
theorem dksX9_letters_1 : cX9_letters.data.toList.drop 24 = dktX9_letters_1 := dk_seg dksX9_letters_0 24 rfl rfl
theorem dX9_letters_0 : decode cX9_letters 0 = .ok (.lconst 0, 1) := dk_9 (dk_at dksX9_letters_0 0 rfl rfl)
theorem dX9_letters_1 : decode cX9_letters 1 = .ok (.iload_n 0, 1) := dk_26 (dk_at dksX9_letters_0 1 rfl rfl)
theorem dX9_letters_2 : decode cX9_letters 2 = .ok (.invokestatic 139, 3) := dk_184 0 139 (dk_at dksX9_letters_0 2 rfl rfl)
theorem dX9_letters_5 : decode cX9_letters 5 = .ok (.iload_n 1, 1) := dk_27 (dk_at dksX9_letters_0 5 rfl rfl)
theorem dX9_letters_6 : decode cX9_letters 6 = .ok (.invokestatic 139, 3) := dk_184 0 139 (dk_at dksX9_letters_0 6 rfl rfl)
theorem dX9_letters_9 : decode cX9_letters 9 = .ok (.iload_n 2, 1) := dk_28 (dk_at dksX9_letters_0 9 rfl rfl)
theorem dX9_letters_10 : decode cX9_letters 10 = .ok (.invokestatic 139, 3) := dk_184 0 139 (dk_at dksX9_letters_0 10 rfl rfl)
theorem dX9_letters_13 : decode cX9_letters 13 = .ok (.iload_n 3, 1) := dk_29 (dk_at dksX9_letters_0 13 rfl rfl)
theorem dX9_letters_14 : decode cX9_letters 14 = .ok (.invokestatic 139, 3) := dk_184 0 139 (dk_at dksX9_letters_0 14 rfl rfl)
theorem dX9_letters_17 : decode cX9_letters 17 = .ok (.iload 4, 2) := dk_21 4 (dk_at dksX9_letters_0 17 rfl rfl)
theorem dX9_letters_19 : decode cX9_letters 19 = .ok (.invokestatic 139, 3) := dk_184 0 139 (dk_at dksX9_letters_0 19 rfl rfl)
theorem dX9_letters_22 : decode cX9_letters 22 = .ok (.iload 5, 2) := dk_21 5 (dk_at dksX9_letters_0 22 rfl rfl)
theorem dX9_letters_24 : decode cX9_letters 24 = .ok (.invokestatic 139, 3) := dk_184 0 139 (dk_at dksX9_letters_1 0 rfl rfl)
theorem dX9_letters_27 : decode cX9_letters 27 = .ok (.iload 6, 2) := dk_21 6 (dk_at dksX9_letters_1 3 rfl rfl)
theorem dX9_letters_29 : decode cX9_letters 29 = .ok (.invokestatic 139, 3) := dk_184 0 139 (dk_at dksX9_letters_1 5 rfl rfl)
theorem dX9_letters_32 : decode cX9_letters 32 = .ok (.lreturn, 1) := dk_173 (dk_at dksX9_letters_1 8 rfl rfl)
abbrev cX9_appends : ByteArray := prog_13_method_9_code
def yX9_appends : MethodName := ⟨RX9, "appends", "(JI)J"⟩
def dkwX9_appends_0 : List UInt8 := [28, 154, 0, 7, 30, 167, 0, 16, 20, 0, 137, 30, 105, 28, 16, 97, 100, 4, 96, 133, 97, 173]
abbrev dktX9_appends_0 : List UInt8 := dkwX9_appends_0 ++ []
theorem dksX9_appends_0 : cX9_appends.data.toList.drop 0 = dktX9_appends_0 := by decide +kernel
theorem dX9_appends_0 : decode cX9_appends 0 = .ok (.iload_n 2, 1) := dk_28 (dk_at dksX9_appends_0 0 rfl rfl)
theorem dX9_appends_1 : decode cX9_appends 1 = .ok (.ifCond .ne 7, 3) := dk_154 0 7 (dk_at dksX9_appends_0 1 rfl rfl)
theorem dX9_appends_4 : decode cX9_appends 4 = .ok (.lload_n 0, 1) := dk_30 (dk_at dksX9_appends_0 4 rfl rfl)
theorem dX9_appends_5 : decode cX9_appends 5 = .ok (.goto 16, 3) := dk_167 0 16 (dk_at dksX9_appends_0 5 rfl rfl)
theorem dX9_appends_8 : decode cX9_appends 8 = .ok (.ldc2_w 137, 3) := dk_20 0 137 (dk_at dksX9_appends_0 8 rfl rfl)
theorem dX9_appends_11 : decode cX9_appends 11 = .ok (.lload_n 0, 1) := dk_30 (dk_at dksX9_appends_0 11 rfl rfl)
theorem dX9_appends_12 : decode cX9_appends 12 = .ok (.lmul, 1) := dk_105 (dk_at dksX9_appends_0 12 rfl rfl)
theorem dX9_appends_13 : decode cX9_appends 13 = .ok (.iload_n 2, 1) := dk_28 (dk_at dksX9_appends_0 13 rfl rfl)
theorem dX9_appends_14 : decode cX9_appends 14 = .ok (.bipush 97, 2) := dk_16 97 (dk_at dksX9_appends_0 14 rfl rfl)
theorem dX9_appends_16 : decode cX9_appends 16 = .ok (.isub, 1) := dk_100 (dk_at dksX9_appends_0 16 rfl rfl)
theorem dX9_appends_17 : decode cX9_appends 17 = .ok (.iconst 1, 1) := dk_4 (dk_at dksX9_appends_0 17 rfl rfl)
theorem dX9_appends_18 : decode cX9_appends 18 = .ok (.iadd, 1) := dk_96 (dk_at dksX9_appends_0 18 rfl rfl)
theorem dX9_appends_19 : decode cX9_appends 19 = .ok (.i2l, 1) := dk_133 (dk_at dksX9_appends_0 19 rfl rfl)
theorem dX9_appends_20 : decode cX9_appends 20 = .ok (.ladd, 1) := dk_97 (dk_at dksX9_appends_0 20 rfl rfl)
theorem dX9_appends_21 : decode cX9_appends 21 = .ok (.lreturn, 1) := dk_173 (dk_at dksX9_appends_0 21 rfl rfl)
abbrev cX9_feed : ByteArray := prog_13_method_3_code
def yX9_feed : MethodName := ⟨RX9, "feed", "(IIIII)I"⟩
def dkwX9_feed_2 : List UInt8 := [172]
abbrev dktX9_feed_2 : List UInt8 := dkwX9_feed_2 ++ []
def dkwX9_feed_1 : List UInt8 := [182, 0, 130, 42, 29, 182, 0, 130, 42, 21, 4, 182, 0, 130, 42, 21, 5, 182, 0, 130, 42, 180, 0, 127]
abbrev dktX9_feed_1 : List UInt8 := dkwX9_feed_1 ++ dktX9_feed_2
def dkwX9_feed_0 : List UInt8 := [42, 180, 0, 127, 16, 20, 96, 17, 7, 208, 164, 0, 5, 2, 172, 42, 27, 182, 0, 130, 42, 28]
abbrev dktX9_feed_0 : List UInt8 := dkwX9_feed_0 ++ dktX9_feed_1
theorem dksX9_feed_0 : cX9_feed.data.toList.drop 0 = dktX9_feed_0 := by decide +kernel
theorem dksX9_feed_1 : cX9_feed.data.toList.drop 22 = dktX9_feed_1 := dk_seg dksX9_feed_0 22 rfl rfl
theorem dksX9_feed_2 : cX9_feed.data.toList.drop 46 = dktX9_feed_2 := dk_seg dksX9_feed_1 24 rfl rfl
theorem dX9_feed_0 : decode cX9_feed 0 = .ok (.aload_n 0, 1) := dk_42 (dk_at dksX9_feed_0 0 rfl rfl)
theorem dX9_feed_1 : decode cX9_feed 1 = .ok (.getfield 127, 3) := dk_180 0 127 (dk_at dksX9_feed_0 1 rfl rfl)
theorem dX9_feed_4 : decode cX9_feed 4 = .ok (.bipush 20, 2) := dk_16 20 (dk_at dksX9_feed_0 4 rfl rfl)
theorem dX9_feed_6 : decode cX9_feed 6 = .ok (.iadd, 1) := dk_96 (dk_at dksX9_feed_0 6 rfl rfl)
theorem dX9_feed_7 : decode cX9_feed 7 = .ok (.sipush 2000, 3) := dk_17 7 208 (dk_at dksX9_feed_0 7 rfl rfl)
theorem dX9_feed_10 : decode cX9_feed 10 = .ok (.if_icmp .le 5, 3) := dk_164 0 5 (dk_at dksX9_feed_0 10 rfl rfl)
theorem dX9_feed_13 : decode cX9_feed 13 = .ok (.iconst (-1), 1) := dk_2 (dk_at dksX9_feed_0 13 rfl rfl)
theorem dX9_feed_14 : decode cX9_feed 14 = .ok (.ireturn, 1) := dk_172 (dk_at dksX9_feed_0 14 rfl rfl)
theorem dX9_feed_15 : decode cX9_feed 15 = .ok (.aload_n 0, 1) := dk_42 (dk_at dksX9_feed_0 15 rfl rfl)
theorem dX9_feed_16 : decode cX9_feed 16 = .ok (.iload_n 1, 1) := dk_27 (dk_at dksX9_feed_0 16 rfl rfl)
theorem dX9_feed_17 : decode cX9_feed 17 = .ok (.invokevirtual 130, 3) := dk_182 0 130 (dk_at dksX9_feed_0 17 rfl rfl)
theorem dX9_feed_20 : decode cX9_feed 20 = .ok (.aload_n 0, 1) := dk_42 (dk_at dksX9_feed_0 20 rfl rfl)
theorem dX9_feed_21 : decode cX9_feed 21 = .ok (.iload_n 2, 1) := dk_28 (dk_at dksX9_feed_0 21 rfl rfl)
theorem dX9_feed_22 : decode cX9_feed 22 = .ok (.invokevirtual 130, 3) := dk_182 0 130 (dk_at dksX9_feed_1 0 rfl rfl)
theorem dX9_feed_25 : decode cX9_feed 25 = .ok (.aload_n 0, 1) := dk_42 (dk_at dksX9_feed_1 3 rfl rfl)
theorem dX9_feed_26 : decode cX9_feed 26 = .ok (.iload_n 3, 1) := dk_29 (dk_at dksX9_feed_1 4 rfl rfl)
theorem dX9_feed_27 : decode cX9_feed 27 = .ok (.invokevirtual 130, 3) := dk_182 0 130 (dk_at dksX9_feed_1 5 rfl rfl)
theorem dX9_feed_30 : decode cX9_feed 30 = .ok (.aload_n 0, 1) := dk_42 (dk_at dksX9_feed_1 8 rfl rfl)
theorem dX9_feed_31 : decode cX9_feed 31 = .ok (.iload 4, 2) := dk_21 4 (dk_at dksX9_feed_1 9 rfl rfl)
theorem dX9_feed_33 : decode cX9_feed 33 = .ok (.invokevirtual 130, 3) := dk_182 0 130 (dk_at dksX9_feed_1 11 rfl rfl)
theorem dX9_feed_36 : decode cX9_feed 36 = .ok (.aload_n 0, 1) := dk_42 (dk_at dksX9_feed_1 14 rfl rfl)
theorem dX9_feed_37 : decode cX9_feed 37 = .ok (.iload 5, 2) := dk_21 5 (dk_at dksX9_feed_1 15 rfl rfl)
theorem dX9_feed_39 : decode cX9_feed 39 = .ok (.invokevirtual 130, 3) := dk_182 0 130 (dk_at dksX9_feed_1 17 rfl rfl)
theorem dX9_feed_42 : decode cX9_feed 42 = .ok (.aload_n 0, 1) := dk_42 (dk_at dksX9_feed_1 20 rfl rfl)
theorem dX9_feed_43 : decode cX9_feed 43 = .ok (.getfield 127, 3) := dk_180 0 127 (dk_at dksX9_feed_1 21 rfl rfl)
theorem dX9_feed_46 : decode cX9_feed 46 = .ok (.ireturn, 1) := dk_172 (dk_at dksX9_feed_2 0 rfl rfl)
abbrev cX9_lays : ByteArray := prog_13_method_4_code
def yX9_lays : MethodName := ⟨RX9, "lays", "(I)V"⟩
def dkwX9_lays_1 : List UInt8 := [180, 0, 127, 4, 96, 181, 0, 127, 132, 2, 248, 167, 255, 226, 177]
abbrev dktX9_lays_1 : List UInt8 := dkwX9_lays_1 ++ []
def dkwX9_lays_0 : List UInt8 := [16, 24, 61, 28, 155, 0, 32, 42, 180, 0, 13, 42, 180, 0, 127, 27, 28, 122, 145, 84, 42, 89]
abbrev dktX9_lays_0 : List UInt8 := dkwX9_lays_0 ++ dktX9_lays_1
theorem dksX9_lays_0 : cX9_lays.data.toList.drop 0 = dktX9_lays_0 := by decide +kernel
theorem dksX9_lays_1 : cX9_lays.data.toList.drop 22 = dktX9_lays_1 := dk_seg dksX9_lays_0 22 rfl rfl
theorem dX9_lays_0 : decode cX9_lays 0 = .ok (.bipush 24, 2) := dk_16 24 (dk_at dksX9_lays_0 0 rfl rfl)
theorem dX9_lays_2 : decode cX9_lays 2 = .ok (.istore_n 2, 1) := dk_61 (dk_at dksX9_lays_0 2 rfl rfl)
theorem dX9_lays_3 : decode cX9_lays 3 = .ok (.iload_n 2, 1) := dk_28 (dk_at dksX9_lays_0 3 rfl rfl)
theorem dX9_lays_4 : decode cX9_lays 4 = .ok (.ifCond .lt 32, 3) := dk_155 0 32 (dk_at dksX9_lays_0 4 rfl rfl)
theorem dX9_lays_7 : decode cX9_lays 7 = .ok (.aload_n 0, 1) := dk_42 (dk_at dksX9_lays_0 7 rfl rfl)
theorem dX9_lays_8 : decode cX9_lays 8 = .ok (.getfield 13, 3) := dk_180 0 13 (dk_at dksX9_lays_0 8 rfl rfl)
theorem dX9_lays_11 : decode cX9_lays 11 = .ok (.aload_n 0, 1) := dk_42 (dk_at dksX9_lays_0 11 rfl rfl)
theorem dX9_lays_12 : decode cX9_lays 12 = .ok (.getfield 127, 3) := dk_180 0 127 (dk_at dksX9_lays_0 12 rfl rfl)
theorem dX9_lays_15 : decode cX9_lays 15 = .ok (.iload_n 1, 1) := dk_27 (dk_at dksX9_lays_0 15 rfl rfl)
theorem dX9_lays_16 : decode cX9_lays 16 = .ok (.iload_n 2, 1) := dk_28 (dk_at dksX9_lays_0 16 rfl rfl)
theorem dX9_lays_17 : decode cX9_lays 17 = .ok (.ishr, 1) := dk_122 (dk_at dksX9_lays_0 17 rfl rfl)
theorem dX9_lays_18 : decode cX9_lays 18 = .ok (.i2b, 1) := dk_145 (dk_at dksX9_lays_0 18 rfl rfl)
theorem dX9_lays_19 : decode cX9_lays 19 = .ok (.bastore, 1) := dk_84 (dk_at dksX9_lays_0 19 rfl rfl)
theorem dX9_lays_20 : decode cX9_lays 20 = .ok (.aload_n 0, 1) := dk_42 (dk_at dksX9_lays_0 20 rfl rfl)
theorem dX9_lays_21 : decode cX9_lays 21 = .ok (.dup, 1) := dk_89 (dk_at dksX9_lays_0 21 rfl rfl)
theorem dX9_lays_22 : decode cX9_lays 22 = .ok (.getfield 127, 3) := dk_180 0 127 (dk_at dksX9_lays_1 0 rfl rfl)
theorem dX9_lays_25 : decode cX9_lays 25 = .ok (.iconst 1, 1) := dk_4 (dk_at dksX9_lays_1 3 rfl rfl)
theorem dX9_lays_26 : decode cX9_lays 26 = .ok (.iadd, 1) := dk_96 (dk_at dksX9_lays_1 4 rfl rfl)
theorem dX9_lays_27 : decode cX9_lays 27 = .ok (.putfield 127, 3) := dk_181 0 127 (dk_at dksX9_lays_1 5 rfl rfl)
theorem dX9_lays_30 : decode cX9_lays 30 = .ok (.iinc 2 (-8), 3) := dk_132 2 248 (dk_at dksX9_lays_1 8 rfl rfl)
theorem dX9_lays_33 : decode cX9_lays 33 = .ok (.goto (-30), 3) := dk_167 255 226 (dk_at dksX9_lays_1 11 rfl rfl)
theorem dX9_lays_36 : decode cX9_lays 36 = .ok (.return_, 1) := dk_177 (dk_at dksX9_lays_1 14 rfl rfl)
abbrev cX9_back : ByteArray := prog_13_method_5_code
def yX9_back : MethodName := ⟨RX9, "back", "(I)I"⟩
def dkwX9_back_1 : List UInt8 := [42, 180, 0, 127, 172]
abbrev dktX9_back_1 : List UInt8 := dkwX9_back_1 ++ []
def dkwX9_back_0 : List UInt8 := [27, 155, 0, 11, 27, 42, 180, 0, 127, 164, 0, 5, 2, 172, 42, 89, 180, 0, 127, 27, 100, 181, 0, 127]
abbrev dktX9_back_0 : List UInt8 := dkwX9_back_0 ++ dktX9_back_1
theorem dksX9_back_0 : cX9_back.data.toList.drop 0 = dktX9_back_0 := by decide +kernel
theorem dksX9_back_1 : cX9_back.data.toList.drop 24 = dktX9_back_1 := dk_seg dksX9_back_0 24 rfl rfl
theorem dX9_back_0 : decode cX9_back 0 = .ok (.iload_n 1, 1) := dk_27 (dk_at dksX9_back_0 0 rfl rfl)
theorem dX9_back_1 : decode cX9_back 1 = .ok (.ifCond .lt 11, 3) := dk_155 0 11 (dk_at dksX9_back_0 1 rfl rfl)
theorem dX9_back_4 : decode cX9_back 4 = .ok (.iload_n 1, 1) := dk_27 (dk_at dksX9_back_0 4 rfl rfl)
theorem dX9_back_5 : decode cX9_back 5 = .ok (.aload_n 0, 1) := dk_42 (dk_at dksX9_back_0 5 rfl rfl)
theorem dX9_back_6 : decode cX9_back 6 = .ok (.getfield 127, 3) := dk_180 0 127 (dk_at dksX9_back_0 6 rfl rfl)
theorem dX9_back_9 : decode cX9_back 9 = .ok (.if_icmp .le 5, 3) := dk_164 0 5 (dk_at dksX9_back_0 9 rfl rfl)
theorem dX9_back_12 : decode cX9_back 12 = .ok (.iconst (-1), 1) := dk_2 (dk_at dksX9_back_0 12 rfl rfl)
theorem dX9_back_13 : decode cX9_back 13 = .ok (.ireturn, 1) := dk_172 (dk_at dksX9_back_0 13 rfl rfl)
theorem dX9_back_14 : decode cX9_back 14 = .ok (.aload_n 0, 1) := dk_42 (dk_at dksX9_back_0 14 rfl rfl)
theorem dX9_back_15 : decode cX9_back 15 = .ok (.dup, 1) := dk_89 (dk_at dksX9_back_0 15 rfl rfl)
theorem dX9_back_16 : decode cX9_back 16 = .ok (.getfield 127, 3) := dk_180 0 127 (dk_at dksX9_back_0 16 rfl rfl)
theorem dX9_back_19 : decode cX9_back 19 = .ok (.iload_n 1, 1) := dk_27 (dk_at dksX9_back_0 19 rfl rfl)
theorem dX9_back_20 : decode cX9_back 20 = .ok (.isub, 1) := dk_100 (dk_at dksX9_back_0 20 rfl rfl)
theorem dX9_back_21 : decode cX9_back 21 = .ok (.putfield 127, 3) := dk_181 0 127 (dk_at dksX9_back_0 21 rfl rfl)
theorem dX9_back_24 : decode cX9_back 24 = .ok (.aload_n 0, 1) := dk_42 (dk_at dksX9_back_1 0 rfl rfl)
theorem dX9_back_25 : decode cX9_back 25 = .ok (.getfield 127, 3) := dk_180 0 127 (dk_at dksX9_back_1 1 rfl rfl)
theorem dX9_back_28 : decode cX9_back 28 = .ok (.ireturn, 1) := dk_172 (dk_at dksX9_back_1 4 rfl rfl)
abbrev cX9_read : ByteArray := prog_13_method_19_code
def yX9_read : MethodName := ⟨RX9, "read", "()I"⟩
def dkwX9_read_12 : List UInt8 := [84, 132, 1, 1, 167, 255, 241, 3, 172]
abbrev dktX9_read_12 : List UInt8 := dkwX9_read_12 ++ []
def dkwX9_read_11 : List UInt8 := [132, 1, 1, 167, 255, 235, 42, 3, 181, 0, 218, 3, 60, 27, 6, 162, 0, 16, 42, 180, 0, 64, 27, 3]
abbrev dktX9_read_11 : List UInt8 := dkwX9_read_11 ++ dktX9_read_12
def dkwX9_read_10 : List UInt8 := [167, 255, 235, 3, 60, 27, 16, 49, 162, 0, 21, 42, 180, 0, 52, 27, 42, 180, 0, 55, 27, 46, 79]
abbrev dktX9_read_10 : List UInt8 := dkwX9_read_10 ++ dktX9_read_11
def dkwX9_read_9 : List UInt8 := [3, 60, 27, 16, 8, 162, 0, 21, 42, 180, 0, 43, 27, 42, 180, 0, 49, 27, 46, 79, 132, 1, 1]
abbrev dktX9_read_9 : List UInt8 := dkwX9_read_9 ++ dktX9_read_10
def dkwX9_read_8 : List UInt8 := [46, 79, 132, 1, 1, 167, 255, 236, 42, 42, 180, 0, 206, 181, 0, 209, 42, 42, 180, 0, 212, 181, 0, 215]
abbrev dktX9_read_8 : List UInt8 := dkwX9_read_8 ++ dktX9_read_9
def dkwX9_read_7 : List UInt8 := [42, 180, 0, 192, 181, 0, 203, 3, 60, 27, 7, 162, 0, 21, 42, 180, 0, 40, 27, 42, 180, 0, 46, 27]
abbrev dktX9_read_7 : List UInt8 := dkwX9_read_7 ++ dktX9_read_8
def dkwX9_read_6 : List UInt8 := [180, 0, 165, 158, 0, 8, 42, 180, 0, 165, 172, 42, 180, 0, 174, 158, 0, 8, 42, 180, 0, 174, 172, 42]
abbrev dktX9_read_6 : List UInt8 := dkwX9_read_6 ++ dktX9_read_7
def dkwX9_read_5 : List UInt8 := [167, 0, 18, 42, 180, 0, 174, 158, 0, 10, 42, 180, 0, 177, 167, 0, 4, 2, 181, 0, 37, 42]
abbrev dktX9_read_5 : List UInt8 := dkwX9_read_5 ++ dktX9_read_6
def dkwX9_read_4 : List UInt8 := [180, 0, 165, 154, 0, 7, 42, 182, 0, 200, 42, 42, 180, 0, 165, 158, 0, 10, 42, 180, 0, 171]
abbrev dktX9_read_4 : List UInt8 := dkwX9_read_4 ++ dktX9_read_5
def dkwX9_read_3 : List UInt8 := [180, 0, 165, 154, 0, 18, 42, 3, 182, 0, 183, 154, 0, 10, 42, 182, 0, 198, 167, 255, 237, 42]
abbrev dktX9_read_3 : List UInt8 := dkwX9_read_3 ++ dktX9_read_4
def dkwX9_read_2 : List UInt8 := [181, 0, 168, 42, 3, 181, 0, 165, 42, 3, 181, 0, 174, 42, 3, 181, 0, 192, 42, 3, 181, 0, 195, 42]
abbrev dktX9_read_2 : List UInt8 := dkwX9_read_2 ++ dktX9_read_3
def dkwX9_read_1 : List UInt8 := [180, 0, 13, 27, 51, 84, 132, 1, 1, 167, 255, 233, 42, 3, 181, 0, 127, 42, 182, 0, 189, 42, 3]
abbrev dktX9_read_1 : List UInt8 := dkwX9_read_1 ++ dktX9_read_2
def dkwX9_read_0 : List UInt8 := [42, 42, 180, 0, 127, 181, 0, 134, 3, 60, 27, 42, 180, 0, 134, 162, 0, 21, 42, 180, 0, 17, 27, 42]
abbrev dktX9_read_0 : List UInt8 := dkwX9_read_0 ++ dktX9_read_1
theorem dksX9_read_0 : cX9_read.data.toList.drop 0 = dktX9_read_0 := by decide +kernel
theorem dksX9_read_1 : cX9_read.data.toList.drop 24 = dktX9_read_1 := dk_seg dksX9_read_0 24 rfl rfl
theorem dksX9_read_2 : cX9_read.data.toList.drop 47 = dktX9_read_2 := dk_seg dksX9_read_1 23 rfl rfl
theorem dksX9_read_3 : cX9_read.data.toList.drop 71 = dktX9_read_3 := dk_seg dksX9_read_2 24 rfl rfl
theorem dksX9_read_4 : cX9_read.data.toList.drop 93 = dktX9_read_4 := dk_seg dksX9_read_3 22 rfl rfl
theorem dksX9_read_5 : cX9_read.data.toList.drop 115 = dktX9_read_5 := dk_seg dksX9_read_4 22 rfl rfl
theorem dksX9_read_6 : cX9_read.data.toList.drop 137 = dktX9_read_6 := dk_seg dksX9_read_5 22 rfl rfl
theorem dksX9_read_7 : cX9_read.data.toList.drop 161 = dktX9_read_7 := dk_seg dksX9_read_6 24 rfl rfl
theorem dksX9_read_8 : cX9_read.data.toList.drop 185 = dktX9_read_8 := dk_seg dksX9_read_7 24 rfl rfl
theorem dksX9_read_9 : cX9_read.data.toList.drop 209 = dktX9_read_9 := dk_seg dksX9_read_8 24 rfl rfl
theorem dksX9_read_10 : cX9_read.data.toList.drop 232 = dktX9_read_10 := dk_seg dksX9_read_9 23 rfl rfl
theorem dksX9_read_11 : cX9_read.data.toList.drop 255 = dktX9_read_11 := dk_seg dksX9_read_10 23 rfl rfl
theorem dksX9_read_12 : cX9_read.data.toList.drop 279 = dktX9_read_12 := dk_seg dksX9_read_11 24 rfl rfl
theorem dX9_read_0 : decode cX9_read 0 = .ok (.aload_n 0, 1) := dk_42 (dk_at dksX9_read_0 0 rfl rfl)
theorem dX9_read_1 : decode cX9_read 1 = .ok (.aload_n 0, 1) := dk_42 (dk_at dksX9_read_0 1 rfl rfl)
theorem dX9_read_2 : decode cX9_read 2 = .ok (.getfield 127, 3) := dk_180 0 127 (dk_at dksX9_read_0 2 rfl rfl)
theorem dX9_read_5 : decode cX9_read 5 = .ok (.putfield 134, 3) := dk_181 0 134 (dk_at dksX9_read_0 5 rfl rfl)
theorem dX9_read_8 : decode cX9_read 8 = .ok (.iconst 0, 1) := dk_3 (dk_at dksX9_read_0 8 rfl rfl)
theorem dX9_read_9 : decode cX9_read 9 = .ok (.istore_n 1, 1) := dk_60 (dk_at dksX9_read_0 9 rfl rfl)
theorem dX9_read_10 : decode cX9_read 10 = .ok (.iload_n 1, 1) := dk_27 (dk_at dksX9_read_0 10 rfl rfl)
theorem dX9_read_11 : decode cX9_read 11 = .ok (.aload_n 0, 1) := dk_42 (dk_at dksX9_read_0 11 rfl rfl)
theorem dX9_read_12 : decode cX9_read 12 = .ok (.getfield 134, 3) := dk_180 0 134 (dk_at dksX9_read_0 12 rfl rfl)
theorem dX9_read_15 : decode cX9_read 15 = .ok (.if_icmp .ge 21, 3) := dk_162 0 21 (dk_at dksX9_read_0 15 rfl rfl)
theorem dX9_read_18 : decode cX9_read 18 = .ok (.aload_n 0, 1) := dk_42 (dk_at dksX9_read_0 18 rfl rfl)
theorem dX9_read_19 : decode cX9_read 19 = .ok (.getfield 17, 3) := dk_180 0 17 (dk_at dksX9_read_0 19 rfl rfl)
theorem dX9_read_22 : decode cX9_read 22 = .ok (.iload_n 1, 1) := dk_27 (dk_at dksX9_read_0 22 rfl rfl)
theorem dX9_read_23 : decode cX9_read 23 = .ok (.aload_n 0, 1) := dk_42 (dk_at dksX9_read_0 23 rfl rfl)
theorem dX9_read_24 : decode cX9_read 24 = .ok (.getfield 13, 3) := dk_180 0 13 (dk_at dksX9_read_1 0 rfl rfl)
theorem dX9_read_27 : decode cX9_read 27 = .ok (.iload_n 1, 1) := dk_27 (dk_at dksX9_read_1 3 rfl rfl)
theorem dX9_read_28 : decode cX9_read 28 = .ok (.baload, 1) := dk_51 (dk_at dksX9_read_1 4 rfl rfl)
theorem dX9_read_29 : decode cX9_read 29 = .ok (.bastore, 1) := dk_84 (dk_at dksX9_read_1 5 rfl rfl)
theorem dX9_read_30 : decode cX9_read 30 = .ok (.iinc 1 1, 3) := dk_132 1 1 (dk_at dksX9_read_1 6 rfl rfl)
theorem dX9_read_33 : decode cX9_read 33 = .ok (.goto (-23), 3) := dk_167 255 233 (dk_at dksX9_read_1 9 rfl rfl)
theorem dX9_read_36 : decode cX9_read 36 = .ok (.aload_n 0, 1) := dk_42 (dk_at dksX9_read_1 12 rfl rfl)
theorem dX9_read_37 : decode cX9_read 37 = .ok (.iconst 0, 1) := dk_3 (dk_at dksX9_read_1 13 rfl rfl)
theorem dX9_read_38 : decode cX9_read 38 = .ok (.putfield 127, 3) := dk_181 0 127 (dk_at dksX9_read_1 14 rfl rfl)
theorem dX9_read_41 : decode cX9_read 41 = .ok (.aload_n 0, 1) := dk_42 (dk_at dksX9_read_1 17 rfl rfl)
theorem dX9_read_42 : decode cX9_read 42 = .ok (.invokevirtual 189, 3) := dk_182 0 189 (dk_at dksX9_read_1 18 rfl rfl)
theorem dX9_read_45 : decode cX9_read 45 = .ok (.aload_n 0, 1) := dk_42 (dk_at dksX9_read_1 21 rfl rfl)
theorem dX9_read_46 : decode cX9_read 46 = .ok (.iconst 0, 1) := dk_3 (dk_at dksX9_read_1 22 rfl rfl)
theorem dX9_read_47 : decode cX9_read 47 = .ok (.putfield 168, 3) := dk_181 0 168 (dk_at dksX9_read_2 0 rfl rfl)
theorem dX9_read_50 : decode cX9_read 50 = .ok (.aload_n 0, 1) := dk_42 (dk_at dksX9_read_2 3 rfl rfl)
theorem dX9_read_51 : decode cX9_read 51 = .ok (.iconst 0, 1) := dk_3 (dk_at dksX9_read_2 4 rfl rfl)
theorem dX9_read_52 : decode cX9_read 52 = .ok (.putfield 165, 3) := dk_181 0 165 (dk_at dksX9_read_2 5 rfl rfl)
theorem dX9_read_55 : decode cX9_read 55 = .ok (.aload_n 0, 1) := dk_42 (dk_at dksX9_read_2 8 rfl rfl)
theorem dX9_read_56 : decode cX9_read 56 = .ok (.iconst 0, 1) := dk_3 (dk_at dksX9_read_2 9 rfl rfl)
theorem dX9_read_57 : decode cX9_read 57 = .ok (.putfield 174, 3) := dk_181 0 174 (dk_at dksX9_read_2 10 rfl rfl)
theorem dX9_read_60 : decode cX9_read 60 = .ok (.aload_n 0, 1) := dk_42 (dk_at dksX9_read_2 13 rfl rfl)
theorem dX9_read_61 : decode cX9_read 61 = .ok (.iconst 0, 1) := dk_3 (dk_at dksX9_read_2 14 rfl rfl)
theorem dX9_read_62 : decode cX9_read 62 = .ok (.putfield 192, 3) := dk_181 0 192 (dk_at dksX9_read_2 15 rfl rfl)
theorem dX9_read_65 : decode cX9_read 65 = .ok (.aload_n 0, 1) := dk_42 (dk_at dksX9_read_2 18 rfl rfl)
theorem dX9_read_66 : decode cX9_read 66 = .ok (.iconst 0, 1) := dk_3 (dk_at dksX9_read_2 19 rfl rfl)
theorem dX9_read_67 : decode cX9_read 67 = .ok (.putfield 195, 3) := dk_181 0 195 (dk_at dksX9_read_2 20 rfl rfl)
theorem dX9_read_70 : decode cX9_read 70 = .ok (.aload_n 0, 1) := dk_42 (dk_at dksX9_read_2 23 rfl rfl)
theorem dX9_read_71 : decode cX9_read 71 = .ok (.getfield 165, 3) := dk_180 0 165 (dk_at dksX9_read_3 0 rfl rfl)
theorem dX9_read_74 : decode cX9_read 74 = .ok (.ifCond .ne 18, 3) := dk_154 0 18 (dk_at dksX9_read_3 3 rfl rfl)
theorem dX9_read_77 : decode cX9_read 77 = .ok (.aload_n 0, 1) := dk_42 (dk_at dksX9_read_3 6 rfl rfl)
theorem dX9_read_78 : decode cX9_read 78 = .ok (.iconst 0, 1) := dk_3 (dk_at dksX9_read_3 7 rfl rfl)
theorem dX9_read_79 : decode cX9_read 79 = .ok (.invokevirtual 183, 3) := dk_182 0 183 (dk_at dksX9_read_3 8 rfl rfl)
theorem dX9_read_82 : decode cX9_read 82 = .ok (.ifCond .ne 10, 3) := dk_154 0 10 (dk_at dksX9_read_3 11 rfl rfl)
theorem dX9_read_85 : decode cX9_read 85 = .ok (.aload_n 0, 1) := dk_42 (dk_at dksX9_read_3 14 rfl rfl)
theorem dX9_read_86 : decode cX9_read 86 = .ok (.invokevirtual 198, 3) := dk_182 0 198 (dk_at dksX9_read_3 15 rfl rfl)
theorem dX9_read_89 : decode cX9_read 89 = .ok (.goto (-19), 3) := dk_167 255 237 (dk_at dksX9_read_3 18 rfl rfl)
theorem dX9_read_92 : decode cX9_read 92 = .ok (.aload_n 0, 1) := dk_42 (dk_at dksX9_read_3 21 rfl rfl)
theorem dX9_read_93 : decode cX9_read 93 = .ok (.getfield 165, 3) := dk_180 0 165 (dk_at dksX9_read_4 0 rfl rfl)
theorem dX9_read_96 : decode cX9_read 96 = .ok (.ifCond .ne 7, 3) := dk_154 0 7 (dk_at dksX9_read_4 3 rfl rfl)
theorem dX9_read_99 : decode cX9_read 99 = .ok (.aload_n 0, 1) := dk_42 (dk_at dksX9_read_4 6 rfl rfl)
theorem dX9_read_100 : decode cX9_read 100 = .ok (.invokevirtual 200, 3) := dk_182 0 200 (dk_at dksX9_read_4 7 rfl rfl)
theorem dX9_read_103 : decode cX9_read 103 = .ok (.aload_n 0, 1) := dk_42 (dk_at dksX9_read_4 10 rfl rfl)
theorem dX9_read_104 : decode cX9_read 104 = .ok (.aload_n 0, 1) := dk_42 (dk_at dksX9_read_4 11 rfl rfl)
theorem dX9_read_105 : decode cX9_read 105 = .ok (.getfield 165, 3) := dk_180 0 165 (dk_at dksX9_read_4 12 rfl rfl)
theorem dX9_read_108 : decode cX9_read 108 = .ok (.ifCond .le 10, 3) := dk_158 0 10 (dk_at dksX9_read_4 15 rfl rfl)
theorem dX9_read_111 : decode cX9_read 111 = .ok (.aload_n 0, 1) := dk_42 (dk_at dksX9_read_4 18 rfl rfl)
theorem dX9_read_112 : decode cX9_read 112 = .ok (.getfield 171, 3) := dk_180 0 171 (dk_at dksX9_read_4 19 rfl rfl)
theorem dX9_read_115 : decode cX9_read 115 = .ok (.goto 18, 3) := dk_167 0 18 (dk_at dksX9_read_5 0 rfl rfl)
theorem dX9_read_118 : decode cX9_read 118 = .ok (.aload_n 0, 1) := dk_42 (dk_at dksX9_read_5 3 rfl rfl)
theorem dX9_read_119 : decode cX9_read 119 = .ok (.getfield 174, 3) := dk_180 0 174 (dk_at dksX9_read_5 4 rfl rfl)
theorem dX9_read_122 : decode cX9_read 122 = .ok (.ifCond .le 10, 3) := dk_158 0 10 (dk_at dksX9_read_5 7 rfl rfl)
theorem dX9_read_125 : decode cX9_read 125 = .ok (.aload_n 0, 1) := dk_42 (dk_at dksX9_read_5 10 rfl rfl)
theorem dX9_read_126 : decode cX9_read 126 = .ok (.getfield 177, 3) := dk_180 0 177 (dk_at dksX9_read_5 11 rfl rfl)
theorem dX9_read_129 : decode cX9_read 129 = .ok (.goto 4, 3) := dk_167 0 4 (dk_at dksX9_read_5 14 rfl rfl)
theorem dX9_read_132 : decode cX9_read 132 = .ok (.iconst (-1), 1) := dk_2 (dk_at dksX9_read_5 17 rfl rfl)
theorem dX9_read_133 : decode cX9_read 133 = .ok (.putfield 37, 3) := dk_181 0 37 (dk_at dksX9_read_5 18 rfl rfl)
theorem dX9_read_136 : decode cX9_read 136 = .ok (.aload_n 0, 1) := dk_42 (dk_at dksX9_read_5 21 rfl rfl)
theorem dX9_read_137 : decode cX9_read 137 = .ok (.getfield 165, 3) := dk_180 0 165 (dk_at dksX9_read_6 0 rfl rfl)
theorem dX9_read_140 : decode cX9_read 140 = .ok (.ifCond .le 8, 3) := dk_158 0 8 (dk_at dksX9_read_6 3 rfl rfl)
theorem dX9_read_143 : decode cX9_read 143 = .ok (.aload_n 0, 1) := dk_42 (dk_at dksX9_read_6 6 rfl rfl)
theorem dX9_read_144 : decode cX9_read 144 = .ok (.getfield 165, 3) := dk_180 0 165 (dk_at dksX9_read_6 7 rfl rfl)
theorem dX9_read_147 : decode cX9_read 147 = .ok (.ireturn, 1) := dk_172 (dk_at dksX9_read_6 10 rfl rfl)
theorem dX9_read_148 : decode cX9_read 148 = .ok (.aload_n 0, 1) := dk_42 (dk_at dksX9_read_6 11 rfl rfl)
theorem dX9_read_149 : decode cX9_read 149 = .ok (.getfield 174, 3) := dk_180 0 174 (dk_at dksX9_read_6 12 rfl rfl)
theorem dX9_read_152 : decode cX9_read 152 = .ok (.ifCond .le 8, 3) := dk_158 0 8 (dk_at dksX9_read_6 15 rfl rfl)
theorem dX9_read_155 : decode cX9_read 155 = .ok (.aload_n 0, 1) := dk_42 (dk_at dksX9_read_6 18 rfl rfl)
theorem dX9_read_156 : decode cX9_read 156 = .ok (.getfield 174, 3) := dk_180 0 174 (dk_at dksX9_read_6 19 rfl rfl)
theorem dX9_read_159 : decode cX9_read 159 = .ok (.ireturn, 1) := dk_172 (dk_at dksX9_read_6 22 rfl rfl)
theorem dX9_read_160 : decode cX9_read 160 = .ok (.aload_n 0, 1) := dk_42 (dk_at dksX9_read_6 23 rfl rfl)
theorem dX9_read_161 : decode cX9_read 161 = .ok (.aload_n 0, 1) := dk_42 (dk_at dksX9_read_7 0 rfl rfl)
theorem dX9_read_162 : decode cX9_read 162 = .ok (.getfield 192, 3) := dk_180 0 192 (dk_at dksX9_read_7 1 rfl rfl)
theorem dX9_read_165 : decode cX9_read 165 = .ok (.putfield 203, 3) := dk_181 0 203 (dk_at dksX9_read_7 4 rfl rfl)
theorem dX9_read_168 : decode cX9_read 168 = .ok (.iconst 0, 1) := dk_3 (dk_at dksX9_read_7 7 rfl rfl)
theorem dX9_read_169 : decode cX9_read 169 = .ok (.istore_n 1, 1) := dk_60 (dk_at dksX9_read_7 8 rfl rfl)
theorem dX9_read_170 : decode cX9_read 170 = .ok (.iload_n 1, 1) := dk_27 (dk_at dksX9_read_7 9 rfl rfl)
theorem dX9_read_171 : decode cX9_read 171 = .ok (.iconst 4, 1) := dk_7 (dk_at dksX9_read_7 10 rfl rfl)
theorem dX9_read_172 : decode cX9_read 172 = .ok (.if_icmp .ge 21, 3) := dk_162 0 21 (dk_at dksX9_read_7 11 rfl rfl)
theorem dX9_read_175 : decode cX9_read 175 = .ok (.aload_n 0, 1) := dk_42 (dk_at dksX9_read_7 14 rfl rfl)
theorem dX9_read_176 : decode cX9_read 176 = .ok (.getfield 40, 3) := dk_180 0 40 (dk_at dksX9_read_7 15 rfl rfl)
theorem dX9_read_179 : decode cX9_read 179 = .ok (.iload_n 1, 1) := dk_27 (dk_at dksX9_read_7 18 rfl rfl)
theorem dX9_read_180 : decode cX9_read 180 = .ok (.aload_n 0, 1) := dk_42 (dk_at dksX9_read_7 19 rfl rfl)
theorem dX9_read_181 : decode cX9_read 181 = .ok (.getfield 46, 3) := dk_180 0 46 (dk_at dksX9_read_7 20 rfl rfl)
theorem dX9_read_184 : decode cX9_read 184 = .ok (.iload_n 1, 1) := dk_27 (dk_at dksX9_read_7 23 rfl rfl)
theorem dX9_read_185 : decode cX9_read 185 = .ok (.iaload, 1) := dk_46 (dk_at dksX9_read_8 0 rfl rfl)
theorem dX9_read_186 : decode cX9_read 186 = .ok (.iastore, 1) := dk_79 (dk_at dksX9_read_8 1 rfl rfl)
theorem dX9_read_187 : decode cX9_read 187 = .ok (.iinc 1 1, 3) := dk_132 1 1 (dk_at dksX9_read_8 2 rfl rfl)
theorem dX9_read_190 : decode cX9_read 190 = .ok (.goto (-20), 3) := dk_167 255 236 (dk_at dksX9_read_8 5 rfl rfl)
theorem dX9_read_193 : decode cX9_read 193 = .ok (.aload_n 0, 1) := dk_42 (dk_at dksX9_read_8 8 rfl rfl)
theorem dX9_read_194 : decode cX9_read 194 = .ok (.aload_n 0, 1) := dk_42 (dk_at dksX9_read_8 9 rfl rfl)
theorem dX9_read_195 : decode cX9_read 195 = .ok (.getfield 206, 3) := dk_180 0 206 (dk_at dksX9_read_8 10 rfl rfl)
theorem dX9_read_198 : decode cX9_read 198 = .ok (.putfield 209, 3) := dk_181 0 209 (dk_at dksX9_read_8 13 rfl rfl)
theorem dX9_read_201 : decode cX9_read 201 = .ok (.aload_n 0, 1) := dk_42 (dk_at dksX9_read_8 16 rfl rfl)
theorem dX9_read_202 : decode cX9_read 202 = .ok (.aload_n 0, 1) := dk_42 (dk_at dksX9_read_8 17 rfl rfl)
theorem dX9_read_203 : decode cX9_read 203 = .ok (.getfield 212, 3) := dk_180 0 212 (dk_at dksX9_read_8 18 rfl rfl)
theorem dX9_read_206 : decode cX9_read 206 = .ok (.putfield 215, 3) := dk_181 0 215 (dk_at dksX9_read_8 21 rfl rfl)
theorem dX9_read_209 : decode cX9_read 209 = .ok (.iconst 0, 1) := dk_3 (dk_at dksX9_read_9 0 rfl rfl)
theorem dX9_read_210 : decode cX9_read 210 = .ok (.istore_n 1, 1) := dk_60 (dk_at dksX9_read_9 1 rfl rfl)
theorem dX9_read_211 : decode cX9_read 211 = .ok (.iload_n 1, 1) := dk_27 (dk_at dksX9_read_9 2 rfl rfl)
theorem dX9_read_212 : decode cX9_read 212 = .ok (.bipush 8, 2) := dk_16 8 (dk_at dksX9_read_9 3 rfl rfl)
theorem dX9_read_214 : decode cX9_read 214 = .ok (.if_icmp .ge 21, 3) := dk_162 0 21 (dk_at dksX9_read_9 5 rfl rfl)
theorem dX9_read_217 : decode cX9_read 217 = .ok (.aload_n 0, 1) := dk_42 (dk_at dksX9_read_9 8 rfl rfl)
theorem dX9_read_218 : decode cX9_read 218 = .ok (.getfield 43, 3) := dk_180 0 43 (dk_at dksX9_read_9 9 rfl rfl)
theorem dX9_read_221 : decode cX9_read 221 = .ok (.iload_n 1, 1) := dk_27 (dk_at dksX9_read_9 12 rfl rfl)
theorem dX9_read_222 : decode cX9_read 222 = .ok (.aload_n 0, 1) := dk_42 (dk_at dksX9_read_9 13 rfl rfl)
theorem dX9_read_223 : decode cX9_read 223 = .ok (.getfield 49, 3) := dk_180 0 49 (dk_at dksX9_read_9 14 rfl rfl)
theorem dX9_read_226 : decode cX9_read 226 = .ok (.iload_n 1, 1) := dk_27 (dk_at dksX9_read_9 17 rfl rfl)
theorem dX9_read_227 : decode cX9_read 227 = .ok (.iaload, 1) := dk_46 (dk_at dksX9_read_9 18 rfl rfl)
theorem dX9_read_228 : decode cX9_read 228 = .ok (.iastore, 1) := dk_79 (dk_at dksX9_read_9 19 rfl rfl)
theorem dX9_read_229 : decode cX9_read 229 = .ok (.iinc 1 1, 3) := dk_132 1 1 (dk_at dksX9_read_9 20 rfl rfl)
theorem dX9_read_232 : decode cX9_read 232 = .ok (.goto (-21), 3) := dk_167 255 235 (dk_at dksX9_read_10 0 rfl rfl)
theorem dX9_read_235 : decode cX9_read 235 = .ok (.iconst 0, 1) := dk_3 (dk_at dksX9_read_10 3 rfl rfl)
theorem dX9_read_236 : decode cX9_read 236 = .ok (.istore_n 1, 1) := dk_60 (dk_at dksX9_read_10 4 rfl rfl)
theorem dX9_read_237 : decode cX9_read 237 = .ok (.iload_n 1, 1) := dk_27 (dk_at dksX9_read_10 5 rfl rfl)
theorem dX9_read_238 : decode cX9_read 238 = .ok (.bipush 49, 2) := dk_16 49 (dk_at dksX9_read_10 6 rfl rfl)
theorem dX9_read_240 : decode cX9_read 240 = .ok (.if_icmp .ge 21, 3) := dk_162 0 21 (dk_at dksX9_read_10 8 rfl rfl)
theorem dX9_read_243 : decode cX9_read 243 = .ok (.aload_n 0, 1) := dk_42 (dk_at dksX9_read_10 11 rfl rfl)
theorem dX9_read_244 : decode cX9_read 244 = .ok (.getfield 52, 3) := dk_180 0 52 (dk_at dksX9_read_10 12 rfl rfl)
theorem dX9_read_247 : decode cX9_read 247 = .ok (.iload_n 1, 1) := dk_27 (dk_at dksX9_read_10 15 rfl rfl)
theorem dX9_read_248 : decode cX9_read 248 = .ok (.aload_n 0, 1) := dk_42 (dk_at dksX9_read_10 16 rfl rfl)
theorem dX9_read_249 : decode cX9_read 249 = .ok (.getfield 55, 3) := dk_180 0 55 (dk_at dksX9_read_10 17 rfl rfl)
theorem dX9_read_252 : decode cX9_read 252 = .ok (.iload_n 1, 1) := dk_27 (dk_at dksX9_read_10 20 rfl rfl)
theorem dX9_read_253 : decode cX9_read 253 = .ok (.iaload, 1) := dk_46 (dk_at dksX9_read_10 21 rfl rfl)
theorem dX9_read_254 : decode cX9_read 254 = .ok (.iastore, 1) := dk_79 (dk_at dksX9_read_10 22 rfl rfl)
theorem dX9_read_255 : decode cX9_read 255 = .ok (.iinc 1 1, 3) := dk_132 1 1 (dk_at dksX9_read_11 0 rfl rfl)
theorem dX9_read_258 : decode cX9_read 258 = .ok (.goto (-21), 3) := dk_167 255 235 (dk_at dksX9_read_11 3 rfl rfl)
theorem dX9_read_261 : decode cX9_read 261 = .ok (.aload_n 0, 1) := dk_42 (dk_at dksX9_read_11 6 rfl rfl)
theorem dX9_read_262 : decode cX9_read 262 = .ok (.iconst 0, 1) := dk_3 (dk_at dksX9_read_11 7 rfl rfl)
theorem dX9_read_263 : decode cX9_read 263 = .ok (.putfield 218, 3) := dk_181 0 218 (dk_at dksX9_read_11 8 rfl rfl)
theorem dX9_read_266 : decode cX9_read 266 = .ok (.iconst 0, 1) := dk_3 (dk_at dksX9_read_11 11 rfl rfl)
theorem dX9_read_267 : decode cX9_read 267 = .ok (.istore_n 1, 1) := dk_60 (dk_at dksX9_read_11 12 rfl rfl)
theorem dX9_read_268 : decode cX9_read 268 = .ok (.iload_n 1, 1) := dk_27 (dk_at dksX9_read_11 13 rfl rfl)
theorem dX9_read_269 : decode cX9_read 269 = .ok (.iconst 3, 1) := dk_6 (dk_at dksX9_read_11 14 rfl rfl)
theorem dX9_read_270 : decode cX9_read 270 = .ok (.if_icmp .ge 16, 3) := dk_162 0 16 (dk_at dksX9_read_11 15 rfl rfl)
theorem dX9_read_273 : decode cX9_read 273 = .ok (.aload_n 0, 1) := dk_42 (dk_at dksX9_read_11 18 rfl rfl)
theorem dX9_read_274 : decode cX9_read 274 = .ok (.getfield 64, 3) := dk_180 0 64 (dk_at dksX9_read_11 19 rfl rfl)
theorem dX9_read_277 : decode cX9_read 277 = .ok (.iload_n 1, 1) := dk_27 (dk_at dksX9_read_11 22 rfl rfl)
theorem dX9_read_278 : decode cX9_read 278 = .ok (.iconst 0, 1) := dk_3 (dk_at dksX9_read_11 23 rfl rfl)
theorem dX9_read_279 : decode cX9_read 279 = .ok (.bastore, 1) := dk_84 (dk_at dksX9_read_12 0 rfl rfl)
theorem dX9_read_280 : decode cX9_read 280 = .ok (.iinc 1 1, 3) := dk_132 1 1 (dk_at dksX9_read_12 1 rfl rfl)
theorem dX9_read_283 : decode cX9_read 283 = .ok (.goto (-15), 3) := dk_167 255 241 (dk_at dksX9_read_12 4 rfl rfl)
theorem dX9_read_286 : decode cX9_read 286 = .ok (.iconst 0, 1) := dk_3 (dk_at dksX9_read_12 7 rfl rfl)
theorem dX9_read_287 : decode cX9_read 287 = .ok (.ireturn, 1) := dk_172 (dk_at dksX9_read_12 8 rfl rfl)
abbrev cX9_cutsText : ByteArray := prog_13_method_12_code
def yX9_cutsText : MethodName := ⟨RX9, "cutsText", "()V"⟩
def dkwX9_cutsText_12 : List UInt8 := [182, 0, 161, 96, 60, 167, 254, 236, 177]
abbrev dktX9_cutsText_12 : List UInt8 := dkwX9_cutsText_12 ++ []
def dkwX9_cutsText_11 : List UInt8 := [167, 0, 4, 5, 27, 21, 4, 9, 182, 0, 150, 27, 29, 96, 60, 167, 0, 12, 27, 42, 27, 28]
abbrev dktX9_cutsText_11 : List UInt8 := dkwX9_cutsText_11 ++ dktX9_cutsText_12
def dkwX9_cutsText_10 : List UInt8 := [96, 182, 0, 146, 96, 16, 48, 100, 54, 4, 132, 3, 1, 167, 255, 217, 42, 29, 7, 164, 0, 7, 6]
abbrev dktX9_cutsText_10 : List UInt8 := dkwX9_cutsText_10 ++ dktX9_cutsText_11
def dkwX9_cutsText_9 : List UInt8 := [29, 96, 182, 0, 146, 184, 0, 158, 153, 0, 32, 29, 7, 162, 0, 21, 16, 10, 21, 4, 104, 42, 27, 29]
abbrev dktX9_cutsText_9 : List UInt8 := dkwX9_cutsText_9 ++ dktX9_cutsText_10
def dkwX9_cutsText_8 : List UInt8 := [182, 0, 150, 27, 29, 96, 60, 167, 0, 91, 28, 184, 0, 158, 153, 0, 75, 3, 62, 3, 54, 4, 42, 27]
abbrev dktX9_cutsText_8 : List UInt8 := dkwX9_cutsText_8 ++ dktX9_cutsText_9
def dkwX9_cutsText_7 : List UInt8 := [154, 0, 10, 16, 20, 21, 7, 96, 54, 6, 132, 7, 1, 167, 255, 227, 42, 21, 6, 27, 3, 22, 4]
abbrev dktX9_cutsText_7 : List UInt8 := dkwX9_cutsText_7 ++ dktX9_cutsText_8
def dkwX9_cutsText_6 : List UInt8 := [163, 0, 38, 3, 54, 7, 21, 7, 7, 162, 0, 29, 42, 180, 0, 34, 21, 7, 47, 22, 4, 148]
abbrev dktX9_cutsText_6 : List UInt8 := dkwX9_cutsText_6 ++ dktX9_cutsText_7
def dkwX9_cutsText_5 : List UInt8 := [55, 4, 132, 3, 1, 167, 255, 220, 29, 16, 8, 164, 0, 7, 6, 167, 0, 4, 4, 54, 6, 29, 16, 8]
abbrev dktX9_cutsText_5 : List UInt8 := dkwX9_cutsText_5 ++ dktX9_cutsText_6
def dkwX9_cutsText_4 : List UInt8 := [184, 0, 154, 153, 0, 29, 29, 16, 8, 162, 0, 17, 22, 4, 42, 27, 29, 96, 182, 0, 146, 184, 0, 139]
abbrev dktX9_cutsText_4 : List UInt8 := dkwX9_cutsText_4 ++ dktX9_cutsText_5
def dkwX9_cutsText_3 : List UInt8 := [167, 0, 213, 28, 184, 0, 154, 153, 0, 118, 3, 62, 9, 55, 4, 42, 27, 29, 96, 182, 0, 146]
abbrev dktX9_cutsText_3 : List UInt8 := dkwX9_cutsText_3 ++ dktX9_cutsText_4
def dkwX9_cutsText_2 : List UInt8 := [159, 0, 21, 28, 16, 10, 159, 0, 15, 28, 16, 13, 159, 0, 9, 28, 16, 32, 160, 0, 9, 132, 1, 1]
abbrev dktX9_cutsText_2 : List UInt8 := dkwX9_cutsText_2 ++ dktX9_cutsText_3
def dkwX9_cutsText_1 : List UInt8 := [42, 180, 0, 134, 161, 0, 15, 42, 3, 42, 180, 0, 134, 3, 9, 182, 0, 150, 177, 28, 16, 9]
abbrev dktX9_cutsText_1 : List UInt8 := dkwX9_cutsText_1 ++ dktX9_cutsText_2
def dkwX9_cutsText_0 : List UInt8 := [42, 3, 181, 0, 143, 3, 60, 42, 180, 0, 143, 17, 1, 144, 163, 1, 16, 42, 27, 182, 0, 146, 61, 27]
abbrev dktX9_cutsText_0 : List UInt8 := dkwX9_cutsText_0 ++ dktX9_cutsText_1
theorem dksX9_cutsText_0 : cX9_cutsText.data.toList.drop 0 = dktX9_cutsText_0 := by decide +kernel
theorem dksX9_cutsText_1 : cX9_cutsText.data.toList.drop 24 = dktX9_cutsText_1 := dk_seg dksX9_cutsText_0 24 rfl rfl
theorem dksX9_cutsText_2 : cX9_cutsText.data.toList.drop 46 = dktX9_cutsText_2 := dk_seg dksX9_cutsText_1 22 rfl rfl
theorem dksX9_cutsText_3 : cX9_cutsText.data.toList.drop 70 = dktX9_cutsText_3 := dk_seg dksX9_cutsText_2 24 rfl rfl
theorem dksX9_cutsText_4 : cX9_cutsText.data.toList.drop 92 = dktX9_cutsText_4 := dk_seg dksX9_cutsText_3 22 rfl rfl
theorem dksX9_cutsText_5 : cX9_cutsText.data.toList.drop 116 = dktX9_cutsText_5 := dk_seg dksX9_cutsText_4 24 rfl rfl
theorem dksX9_cutsText_6 : cX9_cutsText.data.toList.drop 140 = dktX9_cutsText_6 := dk_seg dksX9_cutsText_5 24 rfl rfl
theorem dksX9_cutsText_7 : cX9_cutsText.data.toList.drop 162 = dktX9_cutsText_7 := dk_seg dksX9_cutsText_6 22 rfl rfl
theorem dksX9_cutsText_8 : cX9_cutsText.data.toList.drop 185 = dktX9_cutsText_8 := dk_seg dksX9_cutsText_7 23 rfl rfl
theorem dksX9_cutsText_9 : cX9_cutsText.data.toList.drop 209 = dktX9_cutsText_9 := dk_seg dksX9_cutsText_8 24 rfl rfl
theorem dksX9_cutsText_10 : cX9_cutsText.data.toList.drop 233 = dktX9_cutsText_10 := dk_seg dksX9_cutsText_9 24 rfl rfl
theorem dksX9_cutsText_11 : cX9_cutsText.data.toList.drop 256 = dktX9_cutsText_11 := dk_seg dksX9_cutsText_10 23 rfl rfl
theorem dksX9_cutsText_12 : cX9_cutsText.data.toList.drop 278 = dktX9_cutsText_12 := dk_seg dksX9_cutsText_11 22 rfl rfl
theorem dX9_cutsText_0 : decode cX9_cutsText 0 = .ok (.aload_n 0, 1) := dk_42 (dk_at dksX9_cutsText_0 0 rfl rfl)
theorem dX9_cutsText_1 : decode cX9_cutsText 1 = .ok (.iconst 0, 1) := dk_3 (dk_at dksX9_cutsText_0 1 rfl rfl)
theorem dX9_cutsText_2 : decode cX9_cutsText 2 = .ok (.putfield 143, 3) := dk_181 0 143 (dk_at dksX9_cutsText_0 2 rfl rfl)
theorem dX9_cutsText_5 : decode cX9_cutsText 5 = .ok (.iconst 0, 1) := dk_3 (dk_at dksX9_cutsText_0 5 rfl rfl)
theorem dX9_cutsText_6 : decode cX9_cutsText 6 = .ok (.istore_n 1, 1) := dk_60 (dk_at dksX9_cutsText_0 6 rfl rfl)
theorem dX9_cutsText_7 : decode cX9_cutsText 7 = .ok (.aload_n 0, 1) := dk_42 (dk_at dksX9_cutsText_0 7 rfl rfl)
theorem dX9_cutsText_8 : decode cX9_cutsText 8 = .ok (.getfield 143, 3) := dk_180 0 143 (dk_at dksX9_cutsText_0 8 rfl rfl)
theorem dX9_cutsText_11 : decode cX9_cutsText 11 = .ok (.sipush 400, 3) := dk_17 1 144 (dk_at dksX9_cutsText_0 11 rfl rfl)
theorem dX9_cutsText_14 : decode cX9_cutsText 14 = .ok (.if_icmp .gt 272, 3) := dk_163 1 16 (dk_at dksX9_cutsText_0 14 rfl rfl)
theorem dX9_cutsText_17 : decode cX9_cutsText 17 = .ok (.aload_n 0, 1) := dk_42 (dk_at dksX9_cutsText_0 17 rfl rfl)
theorem dX9_cutsText_18 : decode cX9_cutsText 18 = .ok (.iload_n 1, 1) := dk_27 (dk_at dksX9_cutsText_0 18 rfl rfl)
theorem dX9_cutsText_19 : decode cX9_cutsText 19 = .ok (.invokevirtual 146, 3) := dk_182 0 146 (dk_at dksX9_cutsText_0 19 rfl rfl)
theorem dX9_cutsText_22 : decode cX9_cutsText 22 = .ok (.istore_n 2, 1) := dk_61 (dk_at dksX9_cutsText_0 22 rfl rfl)
theorem dX9_cutsText_23 : decode cX9_cutsText 23 = .ok (.iload_n 1, 1) := dk_27 (dk_at dksX9_cutsText_0 23 rfl rfl)
theorem dX9_cutsText_24 : decode cX9_cutsText 24 = .ok (.aload_n 0, 1) := dk_42 (dk_at dksX9_cutsText_1 0 rfl rfl)
theorem dX9_cutsText_25 : decode cX9_cutsText 25 = .ok (.getfield 134, 3) := dk_180 0 134 (dk_at dksX9_cutsText_1 1 rfl rfl)
theorem dX9_cutsText_28 : decode cX9_cutsText 28 = .ok (.if_icmp .lt 15, 3) := dk_161 0 15 (dk_at dksX9_cutsText_1 4 rfl rfl)
theorem dX9_cutsText_31 : decode cX9_cutsText 31 = .ok (.aload_n 0, 1) := dk_42 (dk_at dksX9_cutsText_1 7 rfl rfl)
theorem dX9_cutsText_32 : decode cX9_cutsText 32 = .ok (.iconst 0, 1) := dk_3 (dk_at dksX9_cutsText_1 8 rfl rfl)
theorem dX9_cutsText_33 : decode cX9_cutsText 33 = .ok (.aload_n 0, 1) := dk_42 (dk_at dksX9_cutsText_1 9 rfl rfl)
theorem dX9_cutsText_34 : decode cX9_cutsText 34 = .ok (.getfield 134, 3) := dk_180 0 134 (dk_at dksX9_cutsText_1 10 rfl rfl)
theorem dX9_cutsText_37 : decode cX9_cutsText 37 = .ok (.iconst 0, 1) := dk_3 (dk_at dksX9_cutsText_1 13 rfl rfl)
theorem dX9_cutsText_38 : decode cX9_cutsText 38 = .ok (.lconst 0, 1) := dk_9 (dk_at dksX9_cutsText_1 14 rfl rfl)
theorem dX9_cutsText_39 : decode cX9_cutsText 39 = .ok (.invokevirtual 150, 3) := dk_182 0 150 (dk_at dksX9_cutsText_1 15 rfl rfl)
theorem dX9_cutsText_42 : decode cX9_cutsText 42 = .ok (.return_, 1) := dk_177 (dk_at dksX9_cutsText_1 18 rfl rfl)
theorem dX9_cutsText_43 : decode cX9_cutsText 43 = .ok (.iload_n 2, 1) := dk_28 (dk_at dksX9_cutsText_1 19 rfl rfl)
theorem dX9_cutsText_44 : decode cX9_cutsText 44 = .ok (.bipush 9, 2) := dk_16 9 (dk_at dksX9_cutsText_1 20 rfl rfl)
theorem dX9_cutsText_46 : decode cX9_cutsText 46 = .ok (.if_icmp .eq 21, 3) := dk_159 0 21 (dk_at dksX9_cutsText_2 0 rfl rfl)
theorem dX9_cutsText_49 : decode cX9_cutsText 49 = .ok (.iload_n 2, 1) := dk_28 (dk_at dksX9_cutsText_2 3 rfl rfl)
theorem dX9_cutsText_50 : decode cX9_cutsText 50 = .ok (.bipush 10, 2) := dk_16 10 (dk_at dksX9_cutsText_2 4 rfl rfl)
theorem dX9_cutsText_52 : decode cX9_cutsText 52 = .ok (.if_icmp .eq 15, 3) := dk_159 0 15 (dk_at dksX9_cutsText_2 6 rfl rfl)
theorem dX9_cutsText_55 : decode cX9_cutsText 55 = .ok (.iload_n 2, 1) := dk_28 (dk_at dksX9_cutsText_2 9 rfl rfl)
theorem dX9_cutsText_56 : decode cX9_cutsText 56 = .ok (.bipush 13, 2) := dk_16 13 (dk_at dksX9_cutsText_2 10 rfl rfl)
theorem dX9_cutsText_58 : decode cX9_cutsText 58 = .ok (.if_icmp .eq 9, 3) := dk_159 0 9 (dk_at dksX9_cutsText_2 12 rfl rfl)
theorem dX9_cutsText_61 : decode cX9_cutsText 61 = .ok (.iload_n 2, 1) := dk_28 (dk_at dksX9_cutsText_2 15 rfl rfl)
theorem dX9_cutsText_62 : decode cX9_cutsText 62 = .ok (.bipush 32, 2) := dk_16 32 (dk_at dksX9_cutsText_2 16 rfl rfl)
theorem dX9_cutsText_64 : decode cX9_cutsText 64 = .ok (.if_icmp .ne 9, 3) := dk_160 0 9 (dk_at dksX9_cutsText_2 18 rfl rfl)
theorem dX9_cutsText_67 : decode cX9_cutsText 67 = .ok (.iinc 1 1, 3) := dk_132 1 1 (dk_at dksX9_cutsText_2 21 rfl rfl)
theorem dX9_cutsText_70 : decode cX9_cutsText 70 = .ok (.goto 213, 3) := dk_167 0 213 (dk_at dksX9_cutsText_3 0 rfl rfl)
theorem dX9_cutsText_73 : decode cX9_cutsText 73 = .ok (.iload_n 2, 1) := dk_28 (dk_at dksX9_cutsText_3 3 rfl rfl)
theorem dX9_cutsText_74 : decode cX9_cutsText 74 = .ok (.invokestatic 154, 3) := dk_184 0 154 (dk_at dksX9_cutsText_3 4 rfl rfl)
theorem dX9_cutsText_77 : decode cX9_cutsText 77 = .ok (.ifCond .eq 118, 3) := dk_153 0 118 (dk_at dksX9_cutsText_3 7 rfl rfl)
theorem dX9_cutsText_80 : decode cX9_cutsText 80 = .ok (.iconst 0, 1) := dk_3 (dk_at dksX9_cutsText_3 10 rfl rfl)
theorem dX9_cutsText_81 : decode cX9_cutsText 81 = .ok (.istore_n 3, 1) := dk_62 (dk_at dksX9_cutsText_3 11 rfl rfl)
theorem dX9_cutsText_82 : decode cX9_cutsText 82 = .ok (.lconst 0, 1) := dk_9 (dk_at dksX9_cutsText_3 12 rfl rfl)
theorem dX9_cutsText_83 : decode cX9_cutsText 83 = .ok (.lstore 4, 2) := dk_55 4 (dk_at dksX9_cutsText_3 13 rfl rfl)
theorem dX9_cutsText_85 : decode cX9_cutsText 85 = .ok (.aload_n 0, 1) := dk_42 (dk_at dksX9_cutsText_3 15 rfl rfl)
theorem dX9_cutsText_86 : decode cX9_cutsText 86 = .ok (.iload_n 1, 1) := dk_27 (dk_at dksX9_cutsText_3 16 rfl rfl)
theorem dX9_cutsText_87 : decode cX9_cutsText 87 = .ok (.iload_n 3, 1) := dk_29 (dk_at dksX9_cutsText_3 17 rfl rfl)
theorem dX9_cutsText_88 : decode cX9_cutsText 88 = .ok (.iadd, 1) := dk_96 (dk_at dksX9_cutsText_3 18 rfl rfl)
theorem dX9_cutsText_89 : decode cX9_cutsText 89 = .ok (.invokevirtual 146, 3) := dk_182 0 146 (dk_at dksX9_cutsText_3 19 rfl rfl)
theorem dX9_cutsText_92 : decode cX9_cutsText 92 = .ok (.invokestatic 154, 3) := dk_184 0 154 (dk_at dksX9_cutsText_4 0 rfl rfl)
theorem dX9_cutsText_95 : decode cX9_cutsText 95 = .ok (.ifCond .eq 29, 3) := dk_153 0 29 (dk_at dksX9_cutsText_4 3 rfl rfl)
theorem dX9_cutsText_98 : decode cX9_cutsText 98 = .ok (.iload_n 3, 1) := dk_29 (dk_at dksX9_cutsText_4 6 rfl rfl)
theorem dX9_cutsText_99 : decode cX9_cutsText 99 = .ok (.bipush 8, 2) := dk_16 8 (dk_at dksX9_cutsText_4 7 rfl rfl)
theorem dX9_cutsText_101 : decode cX9_cutsText 101 = .ok (.if_icmp .ge 17, 3) := dk_162 0 17 (dk_at dksX9_cutsText_4 9 rfl rfl)
theorem dX9_cutsText_104 : decode cX9_cutsText 104 = .ok (.lload 4, 2) := dk_22 4 (dk_at dksX9_cutsText_4 12 rfl rfl)
theorem dX9_cutsText_106 : decode cX9_cutsText 106 = .ok (.aload_n 0, 1) := dk_42 (dk_at dksX9_cutsText_4 14 rfl rfl)
theorem dX9_cutsText_107 : decode cX9_cutsText 107 = .ok (.iload_n 1, 1) := dk_27 (dk_at dksX9_cutsText_4 15 rfl rfl)
theorem dX9_cutsText_108 : decode cX9_cutsText 108 = .ok (.iload_n 3, 1) := dk_29 (dk_at dksX9_cutsText_4 16 rfl rfl)
theorem dX9_cutsText_109 : decode cX9_cutsText 109 = .ok (.iadd, 1) := dk_96 (dk_at dksX9_cutsText_4 17 rfl rfl)
theorem dX9_cutsText_110 : decode cX9_cutsText 110 = .ok (.invokevirtual 146, 3) := dk_182 0 146 (dk_at dksX9_cutsText_4 18 rfl rfl)
theorem dX9_cutsText_113 : decode cX9_cutsText 113 = .ok (.invokestatic 139, 3) := dk_184 0 139 (dk_at dksX9_cutsText_4 21 rfl rfl)
theorem dX9_cutsText_116 : decode cX9_cutsText 116 = .ok (.lstore 4, 2) := dk_55 4 (dk_at dksX9_cutsText_5 0 rfl rfl)
theorem dX9_cutsText_118 : decode cX9_cutsText 118 = .ok (.iinc 3 1, 3) := dk_132 3 1 (dk_at dksX9_cutsText_5 2 rfl rfl)
theorem dX9_cutsText_121 : decode cX9_cutsText 121 = .ok (.goto (-36), 3) := dk_167 255 220 (dk_at dksX9_cutsText_5 5 rfl rfl)
theorem dX9_cutsText_124 : decode cX9_cutsText 124 = .ok (.iload_n 3, 1) := dk_29 (dk_at dksX9_cutsText_5 8 rfl rfl)
theorem dX9_cutsText_125 : decode cX9_cutsText 125 = .ok (.bipush 8, 2) := dk_16 8 (dk_at dksX9_cutsText_5 9 rfl rfl)
theorem dX9_cutsText_127 : decode cX9_cutsText 127 = .ok (.if_icmp .le 7, 3) := dk_164 0 7 (dk_at dksX9_cutsText_5 11 rfl rfl)
theorem dX9_cutsText_130 : decode cX9_cutsText 130 = .ok (.iconst 3, 1) := dk_6 (dk_at dksX9_cutsText_5 14 rfl rfl)
theorem dX9_cutsText_131 : decode cX9_cutsText 131 = .ok (.goto 4, 3) := dk_167 0 4 (dk_at dksX9_cutsText_5 15 rfl rfl)
theorem dX9_cutsText_134 : decode cX9_cutsText 134 = .ok (.iconst 1, 1) := dk_4 (dk_at dksX9_cutsText_5 18 rfl rfl)
theorem dX9_cutsText_135 : decode cX9_cutsText 135 = .ok (.istore 6, 2) := dk_54 6 (dk_at dksX9_cutsText_5 19 rfl rfl)
theorem dX9_cutsText_137 : decode cX9_cutsText 137 = .ok (.iload_n 3, 1) := dk_29 (dk_at dksX9_cutsText_5 21 rfl rfl)
theorem dX9_cutsText_138 : decode cX9_cutsText 138 = .ok (.bipush 8, 2) := dk_16 8 (dk_at dksX9_cutsText_5 22 rfl rfl)
theorem dX9_cutsText_140 : decode cX9_cutsText 140 = .ok (.if_icmp .gt 38, 3) := dk_163 0 38 (dk_at dksX9_cutsText_6 0 rfl rfl)
theorem dX9_cutsText_143 : decode cX9_cutsText 143 = .ok (.iconst 0, 1) := dk_3 (dk_at dksX9_cutsText_6 3 rfl rfl)
theorem dX9_cutsText_144 : decode cX9_cutsText 144 = .ok (.istore 7, 2) := dk_54 7 (dk_at dksX9_cutsText_6 4 rfl rfl)
theorem dX9_cutsText_146 : decode cX9_cutsText 146 = .ok (.iload 7, 2) := dk_21 7 (dk_at dksX9_cutsText_6 6 rfl rfl)
theorem dX9_cutsText_148 : decode cX9_cutsText 148 = .ok (.iconst 4, 1) := dk_7 (dk_at dksX9_cutsText_6 8 rfl rfl)
theorem dX9_cutsText_149 : decode cX9_cutsText 149 = .ok (.if_icmp .ge 29, 3) := dk_162 0 29 (dk_at dksX9_cutsText_6 9 rfl rfl)
theorem dX9_cutsText_152 : decode cX9_cutsText 152 = .ok (.aload_n 0, 1) := dk_42 (dk_at dksX9_cutsText_6 12 rfl rfl)
theorem dX9_cutsText_153 : decode cX9_cutsText 153 = .ok (.getfield 34, 3) := dk_180 0 34 (dk_at dksX9_cutsText_6 13 rfl rfl)
theorem dX9_cutsText_156 : decode cX9_cutsText 156 = .ok (.iload 7, 2) := dk_21 7 (dk_at dksX9_cutsText_6 16 rfl rfl)
theorem dX9_cutsText_158 : decode cX9_cutsText 158 = .ok (.laload, 1) := dk_47 (dk_at dksX9_cutsText_6 18 rfl rfl)
theorem dX9_cutsText_159 : decode cX9_cutsText 159 = .ok (.lload 4, 2) := dk_22 4 (dk_at dksX9_cutsText_6 19 rfl rfl)
theorem dX9_cutsText_161 : decode cX9_cutsText 161 = .ok (.lcmp, 1) := dk_148 (dk_at dksX9_cutsText_6 21 rfl rfl)
theorem dX9_cutsText_162 : decode cX9_cutsText 162 = .ok (.ifCond .ne 10, 3) := dk_154 0 10 (dk_at dksX9_cutsText_7 0 rfl rfl)
theorem dX9_cutsText_165 : decode cX9_cutsText 165 = .ok (.bipush 20, 2) := dk_16 20 (dk_at dksX9_cutsText_7 3 rfl rfl)
theorem dX9_cutsText_167 : decode cX9_cutsText 167 = .ok (.iload 7, 2) := dk_21 7 (dk_at dksX9_cutsText_7 5 rfl rfl)
theorem dX9_cutsText_169 : decode cX9_cutsText 169 = .ok (.iadd, 1) := dk_96 (dk_at dksX9_cutsText_7 7 rfl rfl)
theorem dX9_cutsText_170 : decode cX9_cutsText 170 = .ok (.istore 6, 2) := dk_54 6 (dk_at dksX9_cutsText_7 8 rfl rfl)
theorem dX9_cutsText_172 : decode cX9_cutsText 172 = .ok (.iinc 7 1, 3) := dk_132 7 1 (dk_at dksX9_cutsText_7 10 rfl rfl)
theorem dX9_cutsText_175 : decode cX9_cutsText 175 = .ok (.goto (-29), 3) := dk_167 255 227 (dk_at dksX9_cutsText_7 13 rfl rfl)
theorem dX9_cutsText_178 : decode cX9_cutsText 178 = .ok (.aload_n 0, 1) := dk_42 (dk_at dksX9_cutsText_7 16 rfl rfl)
theorem dX9_cutsText_179 : decode cX9_cutsText 179 = .ok (.iload 6, 2) := dk_21 6 (dk_at dksX9_cutsText_7 17 rfl rfl)
theorem dX9_cutsText_181 : decode cX9_cutsText 181 = .ok (.iload_n 1, 1) := dk_27 (dk_at dksX9_cutsText_7 19 rfl rfl)
theorem dX9_cutsText_182 : decode cX9_cutsText 182 = .ok (.iconst 0, 1) := dk_3 (dk_at dksX9_cutsText_7 20 rfl rfl)
theorem dX9_cutsText_183 : decode cX9_cutsText 183 = .ok (.lload 4, 2) := dk_22 4 (dk_at dksX9_cutsText_7 21 rfl rfl)
theorem dX9_cutsText_185 : decode cX9_cutsText 185 = .ok (.invokevirtual 150, 3) := dk_182 0 150 (dk_at dksX9_cutsText_8 0 rfl rfl)
theorem dX9_cutsText_188 : decode cX9_cutsText 188 = .ok (.iload_n 1, 1) := dk_27 (dk_at dksX9_cutsText_8 3 rfl rfl)
theorem dX9_cutsText_189 : decode cX9_cutsText 189 = .ok (.iload_n 3, 1) := dk_29 (dk_at dksX9_cutsText_8 4 rfl rfl)
theorem dX9_cutsText_190 : decode cX9_cutsText 190 = .ok (.iadd, 1) := dk_96 (dk_at dksX9_cutsText_8 5 rfl rfl)
theorem dX9_cutsText_191 : decode cX9_cutsText 191 = .ok (.istore_n 1, 1) := dk_60 (dk_at dksX9_cutsText_8 6 rfl rfl)
theorem dX9_cutsText_192 : decode cX9_cutsText 192 = .ok (.goto 91, 3) := dk_167 0 91 (dk_at dksX9_cutsText_8 7 rfl rfl)
theorem dX9_cutsText_195 : decode cX9_cutsText 195 = .ok (.iload_n 2, 1) := dk_28 (dk_at dksX9_cutsText_8 10 rfl rfl)
theorem dX9_cutsText_196 : decode cX9_cutsText 196 = .ok (.invokestatic 158, 3) := dk_184 0 158 (dk_at dksX9_cutsText_8 11 rfl rfl)
theorem dX9_cutsText_199 : decode cX9_cutsText 199 = .ok (.ifCond .eq 75, 3) := dk_153 0 75 (dk_at dksX9_cutsText_8 14 rfl rfl)
theorem dX9_cutsText_202 : decode cX9_cutsText 202 = .ok (.iconst 0, 1) := dk_3 (dk_at dksX9_cutsText_8 17 rfl rfl)
theorem dX9_cutsText_203 : decode cX9_cutsText 203 = .ok (.istore_n 3, 1) := dk_62 (dk_at dksX9_cutsText_8 18 rfl rfl)
theorem dX9_cutsText_204 : decode cX9_cutsText 204 = .ok (.iconst 0, 1) := dk_3 (dk_at dksX9_cutsText_8 19 rfl rfl)
theorem dX9_cutsText_205 : decode cX9_cutsText 205 = .ok (.istore 4, 2) := dk_54 4 (dk_at dksX9_cutsText_8 20 rfl rfl)
theorem dX9_cutsText_207 : decode cX9_cutsText 207 = .ok (.aload_n 0, 1) := dk_42 (dk_at dksX9_cutsText_8 22 rfl rfl)
theorem dX9_cutsText_208 : decode cX9_cutsText 208 = .ok (.iload_n 1, 1) := dk_27 (dk_at dksX9_cutsText_8 23 rfl rfl)
theorem dX9_cutsText_209 : decode cX9_cutsText 209 = .ok (.iload_n 3, 1) := dk_29 (dk_at dksX9_cutsText_9 0 rfl rfl)
theorem dX9_cutsText_210 : decode cX9_cutsText 210 = .ok (.iadd, 1) := dk_96 (dk_at dksX9_cutsText_9 1 rfl rfl)
theorem dX9_cutsText_211 : decode cX9_cutsText 211 = .ok (.invokevirtual 146, 3) := dk_182 0 146 (dk_at dksX9_cutsText_9 2 rfl rfl)
theorem dX9_cutsText_214 : decode cX9_cutsText 214 = .ok (.invokestatic 158, 3) := dk_184 0 158 (dk_at dksX9_cutsText_9 5 rfl rfl)
theorem dX9_cutsText_217 : decode cX9_cutsText 217 = .ok (.ifCond .eq 32, 3) := dk_153 0 32 (dk_at dksX9_cutsText_9 8 rfl rfl)
theorem dX9_cutsText_220 : decode cX9_cutsText 220 = .ok (.iload_n 3, 1) := dk_29 (dk_at dksX9_cutsText_9 11 rfl rfl)
theorem dX9_cutsText_221 : decode cX9_cutsText 221 = .ok (.iconst 4, 1) := dk_7 (dk_at dksX9_cutsText_9 12 rfl rfl)
theorem dX9_cutsText_222 : decode cX9_cutsText 222 = .ok (.if_icmp .ge 21, 3) := dk_162 0 21 (dk_at dksX9_cutsText_9 13 rfl rfl)
theorem dX9_cutsText_225 : decode cX9_cutsText 225 = .ok (.bipush 10, 2) := dk_16 10 (dk_at dksX9_cutsText_9 16 rfl rfl)
theorem dX9_cutsText_227 : decode cX9_cutsText 227 = .ok (.iload 4, 2) := dk_21 4 (dk_at dksX9_cutsText_9 18 rfl rfl)
theorem dX9_cutsText_229 : decode cX9_cutsText 229 = .ok (.imul, 1) := dk_104 (dk_at dksX9_cutsText_9 20 rfl rfl)
theorem dX9_cutsText_230 : decode cX9_cutsText 230 = .ok (.aload_n 0, 1) := dk_42 (dk_at dksX9_cutsText_9 21 rfl rfl)
theorem dX9_cutsText_231 : decode cX9_cutsText 231 = .ok (.iload_n 1, 1) := dk_27 (dk_at dksX9_cutsText_9 22 rfl rfl)
theorem dX9_cutsText_232 : decode cX9_cutsText 232 = .ok (.iload_n 3, 1) := dk_29 (dk_at dksX9_cutsText_9 23 rfl rfl)
theorem dX9_cutsText_233 : decode cX9_cutsText 233 = .ok (.iadd, 1) := dk_96 (dk_at dksX9_cutsText_10 0 rfl rfl)
theorem dX9_cutsText_234 : decode cX9_cutsText 234 = .ok (.invokevirtual 146, 3) := dk_182 0 146 (dk_at dksX9_cutsText_10 1 rfl rfl)
theorem dX9_cutsText_237 : decode cX9_cutsText 237 = .ok (.iadd, 1) := dk_96 (dk_at dksX9_cutsText_10 4 rfl rfl)
theorem dX9_cutsText_238 : decode cX9_cutsText 238 = .ok (.bipush 48, 2) := dk_16 48 (dk_at dksX9_cutsText_10 5 rfl rfl)
theorem dX9_cutsText_240 : decode cX9_cutsText 240 = .ok (.isub, 1) := dk_100 (dk_at dksX9_cutsText_10 7 rfl rfl)
theorem dX9_cutsText_241 : decode cX9_cutsText 241 = .ok (.istore 4, 2) := dk_54 4 (dk_at dksX9_cutsText_10 8 rfl rfl)
theorem dX9_cutsText_243 : decode cX9_cutsText 243 = .ok (.iinc 3 1, 3) := dk_132 3 1 (dk_at dksX9_cutsText_10 10 rfl rfl)
theorem dX9_cutsText_246 : decode cX9_cutsText 246 = .ok (.goto (-39), 3) := dk_167 255 217 (dk_at dksX9_cutsText_10 13 rfl rfl)
theorem dX9_cutsText_249 : decode cX9_cutsText 249 = .ok (.aload_n 0, 1) := dk_42 (dk_at dksX9_cutsText_10 16 rfl rfl)
theorem dX9_cutsText_250 : decode cX9_cutsText 250 = .ok (.iload_n 3, 1) := dk_29 (dk_at dksX9_cutsText_10 17 rfl rfl)
theorem dX9_cutsText_251 : decode cX9_cutsText 251 = .ok (.iconst 4, 1) := dk_7 (dk_at dksX9_cutsText_10 18 rfl rfl)
theorem dX9_cutsText_252 : decode cX9_cutsText 252 = .ok (.if_icmp .le 7, 3) := dk_164 0 7 (dk_at dksX9_cutsText_10 19 rfl rfl)
theorem dX9_cutsText_255 : decode cX9_cutsText 255 = .ok (.iconst 3, 1) := dk_6 (dk_at dksX9_cutsText_10 22 rfl rfl)
theorem dX9_cutsText_256 : decode cX9_cutsText 256 = .ok (.goto 4, 3) := dk_167 0 4 (dk_at dksX9_cutsText_11 0 rfl rfl)
theorem dX9_cutsText_259 : decode cX9_cutsText 259 = .ok (.iconst 2, 1) := dk_5 (dk_at dksX9_cutsText_11 3 rfl rfl)
theorem dX9_cutsText_260 : decode cX9_cutsText 260 = .ok (.iload_n 1, 1) := dk_27 (dk_at dksX9_cutsText_11 4 rfl rfl)
theorem dX9_cutsText_261 : decode cX9_cutsText 261 = .ok (.iload 4, 2) := dk_21 4 (dk_at dksX9_cutsText_11 5 rfl rfl)
theorem dX9_cutsText_263 : decode cX9_cutsText 263 = .ok (.lconst 0, 1) := dk_9 (dk_at dksX9_cutsText_11 7 rfl rfl)
theorem dX9_cutsText_264 : decode cX9_cutsText 264 = .ok (.invokevirtual 150, 3) := dk_182 0 150 (dk_at dksX9_cutsText_11 8 rfl rfl)
theorem dX9_cutsText_267 : decode cX9_cutsText 267 = .ok (.iload_n 1, 1) := dk_27 (dk_at dksX9_cutsText_11 11 rfl rfl)
theorem dX9_cutsText_268 : decode cX9_cutsText 268 = .ok (.iload_n 3, 1) := dk_29 (dk_at dksX9_cutsText_11 12 rfl rfl)
theorem dX9_cutsText_269 : decode cX9_cutsText 269 = .ok (.iadd, 1) := dk_96 (dk_at dksX9_cutsText_11 13 rfl rfl)
theorem dX9_cutsText_270 : decode cX9_cutsText 270 = .ok (.istore_n 1, 1) := dk_60 (dk_at dksX9_cutsText_11 14 rfl rfl)
theorem dX9_cutsText_271 : decode cX9_cutsText 271 = .ok (.goto 12, 3) := dk_167 0 12 (dk_at dksX9_cutsText_11 15 rfl rfl)
theorem dX9_cutsText_274 : decode cX9_cutsText 274 = .ok (.iload_n 1, 1) := dk_27 (dk_at dksX9_cutsText_11 18 rfl rfl)
theorem dX9_cutsText_275 : decode cX9_cutsText 275 = .ok (.aload_n 0, 1) := dk_42 (dk_at dksX9_cutsText_11 19 rfl rfl)
theorem dX9_cutsText_276 : decode cX9_cutsText 276 = .ok (.iload_n 1, 1) := dk_27 (dk_at dksX9_cutsText_11 20 rfl rfl)
theorem dX9_cutsText_277 : decode cX9_cutsText 277 = .ok (.iload_n 2, 1) := dk_28 (dk_at dksX9_cutsText_11 21 rfl rfl)
theorem dX9_cutsText_278 : decode cX9_cutsText 278 = .ok (.invokevirtual 161, 3) := dk_182 0 161 (dk_at dksX9_cutsText_12 0 rfl rfl)
theorem dX9_cutsText_281 : decode cX9_cutsText 281 = .ok (.iadd, 1) := dk_96 (dk_at dksX9_cutsText_12 3 rfl rfl)
theorem dX9_cutsText_282 : decode cX9_cutsText 282 = .ok (.istore_n 1, 1) := dk_60 (dk_at dksX9_cutsText_12 4 rfl rfl)
theorem dX9_cutsText_283 : decode cX9_cutsText 283 = .ok (.goto (-276), 3) := dk_167 254 236 (dk_at dksX9_cutsText_12 5 rfl rfl)
theorem dX9_cutsText_286 : decode cX9_cutsText 286 = .ok (.return_, 1) := dk_177 (dk_at dksX9_cutsText_12 8 rfl rfl)
abbrev cX9_byteAt : ByteArray := prog_13_method_6_code
def yX9_byteAt : MethodName := ⟨RX9, "byteAt", "(I)I"⟩
def dkwX9_byteAt_0 : List UInt8 := [27, 42, 180, 0, 134, 162, 0, 16, 42, 180, 0, 17, 27, 51, 17, 0, 255, 126, 167, 0, 4, 3, 172]
abbrev dktX9_byteAt_0 : List UInt8 := dkwX9_byteAt_0 ++ []
theorem dksX9_byteAt_0 : cX9_byteAt.data.toList.drop 0 = dktX9_byteAt_0 := by decide +kernel
theorem dX9_byteAt_0 : decode cX9_byteAt 0 = .ok (.iload_n 1, 1) := dk_27 (dk_at dksX9_byteAt_0 0 rfl rfl)
theorem dX9_byteAt_1 : decode cX9_byteAt 1 = .ok (.aload_n 0, 1) := dk_42 (dk_at dksX9_byteAt_0 1 rfl rfl)
theorem dX9_byteAt_2 : decode cX9_byteAt 2 = .ok (.getfield 134, 3) := dk_180 0 134 (dk_at dksX9_byteAt_0 2 rfl rfl)
theorem dX9_byteAt_5 : decode cX9_byteAt 5 = .ok (.if_icmp .ge 16, 3) := dk_162 0 16 (dk_at dksX9_byteAt_0 5 rfl rfl)
theorem dX9_byteAt_8 : decode cX9_byteAt 8 = .ok (.aload_n 0, 1) := dk_42 (dk_at dksX9_byteAt_0 8 rfl rfl)
theorem dX9_byteAt_9 : decode cX9_byteAt 9 = .ok (.getfield 17, 3) := dk_180 0 17 (dk_at dksX9_byteAt_0 9 rfl rfl)
theorem dX9_byteAt_12 : decode cX9_byteAt 12 = .ok (.iload_n 1, 1) := dk_27 (dk_at dksX9_byteAt_0 12 rfl rfl)
theorem dX9_byteAt_13 : decode cX9_byteAt 13 = .ok (.baload, 1) := dk_51 (dk_at dksX9_byteAt_0 13 rfl rfl)
theorem dX9_byteAt_14 : decode cX9_byteAt 14 = .ok (.sipush 255, 3) := dk_17 0 255 (dk_at dksX9_byteAt_0 14 rfl rfl)
theorem dX9_byteAt_17 : decode cX9_byteAt 17 = .ok (.iand, 1) := dk_126 (dk_at dksX9_byteAt_0 17 rfl rfl)
theorem dX9_byteAt_18 : decode cX9_byteAt 18 = .ok (.goto 4, 3) := dk_167 0 4 (dk_at dksX9_byteAt_0 18 rfl rfl)
theorem dX9_byteAt_21 : decode cX9_byteAt 21 = .ok (.iconst 0, 1) := dk_3 (dk_at dksX9_byteAt_0 21 rfl rfl)
theorem dX9_byteAt_22 : decode cX9_byteAt 22 = .ok (.ireturn, 1) := dk_172 (dk_at dksX9_byteAt_0 22 rfl rfl)
abbrev cX9_token : ByteArray := prog_13_method_11_code
def yX9_token : MethodName := ⟨RX9, "token", "(IIIJ)V"⟩
def dkwX9_token_2 : List UInt8 := [181, 0, 143, 177]
abbrev dktX9_token_2 : List UInt8 := dkwX9_token_2 ++ []
def dkwX9_token_1 : List UInt8 := [42, 180, 0, 143, 29, 79, 42, 180, 0, 30, 42, 180, 0, 143, 22, 4, 80, 42, 89, 180, 0, 143, 4, 96]
abbrev dktX9_token_1 : List UInt8 := dkwX9_token_1 ++ dktX9_token_2
def dkwX9_token_0 : List UInt8 := [42, 180, 0, 20, 42, 180, 0, 143, 27, 79, 42, 180, 0, 24, 42, 180, 0, 143, 28, 79, 42, 180, 0, 27]
abbrev dktX9_token_0 : List UInt8 := dkwX9_token_0 ++ dktX9_token_1
theorem dksX9_token_0 : cX9_token.data.toList.drop 0 = dktX9_token_0 := by decide +kernel
theorem dksX9_token_1 : cX9_token.data.toList.drop 24 = dktX9_token_1 := dk_seg dksX9_token_0 24 rfl rfl
theorem dksX9_token_2 : cX9_token.data.toList.drop 48 = dktX9_token_2 := dk_seg dksX9_token_1 24 rfl rfl
theorem dX9_token_0 : decode cX9_token 0 = .ok (.aload_n 0, 1) := dk_42 (dk_at dksX9_token_0 0 rfl rfl)
theorem dX9_token_1 : decode cX9_token 1 = .ok (.getfield 20, 3) := dk_180 0 20 (dk_at dksX9_token_0 1 rfl rfl)
theorem dX9_token_4 : decode cX9_token 4 = .ok (.aload_n 0, 1) := dk_42 (dk_at dksX9_token_0 4 rfl rfl)
theorem dX9_token_5 : decode cX9_token 5 = .ok (.getfield 143, 3) := dk_180 0 143 (dk_at dksX9_token_0 5 rfl rfl)
theorem dX9_token_8 : decode cX9_token 8 = .ok (.iload_n 1, 1) := dk_27 (dk_at dksX9_token_0 8 rfl rfl)
theorem dX9_token_9 : decode cX9_token 9 = .ok (.iastore, 1) := dk_79 (dk_at dksX9_token_0 9 rfl rfl)
theorem dX9_token_10 : decode cX9_token 10 = .ok (.aload_n 0, 1) := dk_42 (dk_at dksX9_token_0 10 rfl rfl)
theorem dX9_token_11 : decode cX9_token 11 = .ok (.getfield 24, 3) := dk_180 0 24 (dk_at dksX9_token_0 11 rfl rfl)
theorem dX9_token_14 : decode cX9_token 14 = .ok (.aload_n 0, 1) := dk_42 (dk_at dksX9_token_0 14 rfl rfl)
theorem dX9_token_15 : decode cX9_token 15 = .ok (.getfield 143, 3) := dk_180 0 143 (dk_at dksX9_token_0 15 rfl rfl)
theorem dX9_token_18 : decode cX9_token 18 = .ok (.iload_n 2, 1) := dk_28 (dk_at dksX9_token_0 18 rfl rfl)
theorem dX9_token_19 : decode cX9_token 19 = .ok (.iastore, 1) := dk_79 (dk_at dksX9_token_0 19 rfl rfl)
theorem dX9_token_20 : decode cX9_token 20 = .ok (.aload_n 0, 1) := dk_42 (dk_at dksX9_token_0 20 rfl rfl)
theorem dX9_token_21 : decode cX9_token 21 = .ok (.getfield 27, 3) := dk_180 0 27 (dk_at dksX9_token_0 21 rfl rfl)
theorem dX9_token_24 : decode cX9_token 24 = .ok (.aload_n 0, 1) := dk_42 (dk_at dksX9_token_1 0 rfl rfl)
theorem dX9_token_25 : decode cX9_token 25 = .ok (.getfield 143, 3) := dk_180 0 143 (dk_at dksX9_token_1 1 rfl rfl)
theorem dX9_token_28 : decode cX9_token 28 = .ok (.iload_n 3, 1) := dk_29 (dk_at dksX9_token_1 4 rfl rfl)
theorem dX9_token_29 : decode cX9_token 29 = .ok (.iastore, 1) := dk_79 (dk_at dksX9_token_1 5 rfl rfl)
theorem dX9_token_30 : decode cX9_token 30 = .ok (.aload_n 0, 1) := dk_42 (dk_at dksX9_token_1 6 rfl rfl)
theorem dX9_token_31 : decode cX9_token 31 = .ok (.getfield 30, 3) := dk_180 0 30 (dk_at dksX9_token_1 7 rfl rfl)
theorem dX9_token_34 : decode cX9_token 34 = .ok (.aload_n 0, 1) := dk_42 (dk_at dksX9_token_1 10 rfl rfl)
theorem dX9_token_35 : decode cX9_token 35 = .ok (.getfield 143, 3) := dk_180 0 143 (dk_at dksX9_token_1 11 rfl rfl)
theorem dX9_token_38 : decode cX9_token 38 = .ok (.lload 4, 2) := dk_22 4 (dk_at dksX9_token_1 14 rfl rfl)
theorem dX9_token_40 : decode cX9_token 40 = .ok (.lastore, 1) := dk_80 (dk_at dksX9_token_1 16 rfl rfl)
theorem dX9_token_41 : decode cX9_token 41 = .ok (.aload_n 0, 1) := dk_42 (dk_at dksX9_token_1 17 rfl rfl)
theorem dX9_token_42 : decode cX9_token 42 = .ok (.dup, 1) := dk_89 (dk_at dksX9_token_1 18 rfl rfl)
theorem dX9_token_43 : decode cX9_token 43 = .ok (.getfield 143, 3) := dk_180 0 143 (dk_at dksX9_token_1 19 rfl rfl)
theorem dX9_token_46 : decode cX9_token 46 = .ok (.iconst 1, 1) := dk_4 (dk_at dksX9_token_1 22 rfl rfl)
theorem dX9_token_47 : decode cX9_token 47 = .ok (.iadd, 1) := dk_96 (dk_at dksX9_token_1 23 rfl rfl)
theorem dX9_token_48 : decode cX9_token 48 = .ok (.putfield 143, 3) := dk_181 0 143 (dk_at dksX9_token_2 0 rfl rfl)
theorem dX9_token_51 : decode cX9_token 51 = .ok (.return_, 1) := dk_177 (dk_at dksX9_token_2 3 rfl rfl)
abbrev cX9_isLetter : ByteArray := prog_13_method_8_code
def yX9_isLetter : MethodName := ⟨RX9, "isLetter", "(I)Z"⟩
def dkwX9_isLetter_0 : List UInt8 := [26, 16, 97, 161, 0, 13, 26, 16, 122, 163, 0, 7, 4, 167, 0, 4, 3, 172]
abbrev dktX9_isLetter_0 : List UInt8 := dkwX9_isLetter_0 ++ []
theorem dksX9_isLetter_0 : cX9_isLetter.data.toList.drop 0 = dktX9_isLetter_0 := by decide +kernel
theorem dX9_isLetter_0 : decode cX9_isLetter 0 = .ok (.iload_n 0, 1) := dk_26 (dk_at dksX9_isLetter_0 0 rfl rfl)
theorem dX9_isLetter_1 : decode cX9_isLetter 1 = .ok (.bipush 97, 2) := dk_16 97 (dk_at dksX9_isLetter_0 1 rfl rfl)
theorem dX9_isLetter_3 : decode cX9_isLetter 3 = .ok (.if_icmp .lt 13, 3) := dk_161 0 13 (dk_at dksX9_isLetter_0 3 rfl rfl)
theorem dX9_isLetter_6 : decode cX9_isLetter 6 = .ok (.iload_n 0, 1) := dk_26 (dk_at dksX9_isLetter_0 6 rfl rfl)
theorem dX9_isLetter_7 : decode cX9_isLetter 7 = .ok (.bipush 122, 2) := dk_16 122 (dk_at dksX9_isLetter_0 7 rfl rfl)
theorem dX9_isLetter_9 : decode cX9_isLetter 9 = .ok (.if_icmp .gt 7, 3) := dk_163 0 7 (dk_at dksX9_isLetter_0 9 rfl rfl)
theorem dX9_isLetter_12 : decode cX9_isLetter 12 = .ok (.iconst 1, 1) := dk_4 (dk_at dksX9_isLetter_0 12 rfl rfl)
theorem dX9_isLetter_13 : decode cX9_isLetter 13 = .ok (.goto 4, 3) := dk_167 0 4 (dk_at dksX9_isLetter_0 13 rfl rfl)
theorem dX9_isLetter_16 : decode cX9_isLetter 16 = .ok (.iconst 0, 1) := dk_3 (dk_at dksX9_isLetter_0 16 rfl rfl)
theorem dX9_isLetter_17 : decode cX9_isLetter 17 = .ok (.ireturn, 1) := dk_172 (dk_at dksX9_isLetter_0 17 rfl rfl)
abbrev cX9_isDigit : ByteArray := prog_13_method_7_code
def yX9_isDigit : MethodName := ⟨RX9, "isDigit", "(I)Z"⟩
def dkwX9_isDigit_0 : List UInt8 := [26, 16, 48, 161, 0, 13, 26, 16, 57, 163, 0, 7, 4, 167, 0, 4, 3, 172]
abbrev dktX9_isDigit_0 : List UInt8 := dkwX9_isDigit_0 ++ []
theorem dksX9_isDigit_0 : cX9_isDigit.data.toList.drop 0 = dktX9_isDigit_0 := by decide +kernel
theorem dX9_isDigit_0 : decode cX9_isDigit 0 = .ok (.iload_n 0, 1) := dk_26 (dk_at dksX9_isDigit_0 0 rfl rfl)
theorem dX9_isDigit_1 : decode cX9_isDigit 1 = .ok (.bipush 48, 2) := dk_16 48 (dk_at dksX9_isDigit_0 1 rfl rfl)
theorem dX9_isDigit_3 : decode cX9_isDigit 3 = .ok (.if_icmp .lt 13, 3) := dk_161 0 13 (dk_at dksX9_isDigit_0 3 rfl rfl)
theorem dX9_isDigit_6 : decode cX9_isDigit 6 = .ok (.iload_n 0, 1) := dk_26 (dk_at dksX9_isDigit_0 6 rfl rfl)
theorem dX9_isDigit_7 : decode cX9_isDigit 7 = .ok (.bipush 57, 2) := dk_16 57 (dk_at dksX9_isDigit_0 7 rfl rfl)
theorem dX9_isDigit_9 : decode cX9_isDigit 9 = .ok (.if_icmp .gt 7, 3) := dk_163 0 7 (dk_at dksX9_isDigit_0 9 rfl rfl)
theorem dX9_isDigit_12 : decode cX9_isDigit 12 = .ok (.iconst 1, 1) := dk_4 (dk_at dksX9_isDigit_0 12 rfl rfl)
theorem dX9_isDigit_13 : decode cX9_isDigit 13 = .ok (.goto 4, 3) := dk_167 0 4 (dk_at dksX9_isDigit_0 13 rfl rfl)
theorem dX9_isDigit_16 : decode cX9_isDigit 16 = .ok (.iconst 0, 1) := dk_3 (dk_at dksX9_isDigit_0 16 rfl rfl)
theorem dX9_isDigit_17 : decode cX9_isDigit 17 = .ok (.ireturn, 1) := dk_172 (dk_at dksX9_isDigit_0 17 rfl rfl)
abbrev cX9_sign : ByteArray := prog_13_method_13_code
def yX9_sign : MethodName := ⟨RX9, "sign", "(II)I"⟩
def dkwX9_sign_1 : List UInt8 := [9, 182, 0, 150, 4, 172]
abbrev dktX9_sign_1 : List UInt8 := dkwX9_sign_1 ++ []
def dkwX9_sign_0 : List UInt8 := [42, 28, 16, 59, 160, 0, 7, 7, 167, 0, 14, 28, 16, 45, 160, 0, 7, 8, 167, 0, 4, 6, 27, 3]
abbrev dktX9_sign_0 : List UInt8 := dkwX9_sign_0 ++ dktX9_sign_1
theorem dksX9_sign_0 : cX9_sign.data.toList.drop 0 = dktX9_sign_0 := by decide +kernel
theorem dksX9_sign_1 : cX9_sign.data.toList.drop 24 = dktX9_sign_1 := dk_seg dksX9_sign_0 24 rfl rfl
theorem dX9_sign_0 : decode cX9_sign 0 = .ok (.aload_n 0, 1) := dk_42 (dk_at dksX9_sign_0 0 rfl rfl)
theorem dX9_sign_1 : decode cX9_sign 1 = .ok (.iload_n 2, 1) := dk_28 (dk_at dksX9_sign_0 1 rfl rfl)
theorem dX9_sign_2 : decode cX9_sign 2 = .ok (.bipush 59, 2) := dk_16 59 (dk_at dksX9_sign_0 2 rfl rfl)
theorem dX9_sign_4 : decode cX9_sign 4 = .ok (.if_icmp .ne 7, 3) := dk_160 0 7 (dk_at dksX9_sign_0 4 rfl rfl)
theorem dX9_sign_7 : decode cX9_sign 7 = .ok (.iconst 4, 1) := dk_7 (dk_at dksX9_sign_0 7 rfl rfl)
theorem dX9_sign_8 : decode cX9_sign 8 = .ok (.goto 14, 3) := dk_167 0 14 (dk_at dksX9_sign_0 8 rfl rfl)
theorem dX9_sign_11 : decode cX9_sign 11 = .ok (.iload_n 2, 1) := dk_28 (dk_at dksX9_sign_0 11 rfl rfl)
theorem dX9_sign_12 : decode cX9_sign 12 = .ok (.bipush 45, 2) := dk_16 45 (dk_at dksX9_sign_0 12 rfl rfl)
theorem dX9_sign_14 : decode cX9_sign 14 = .ok (.if_icmp .ne 7, 3) := dk_160 0 7 (dk_at dksX9_sign_0 14 rfl rfl)
theorem dX9_sign_17 : decode cX9_sign 17 = .ok (.iconst 5, 1) := dk_8 (dk_at dksX9_sign_0 17 rfl rfl)
theorem dX9_sign_18 : decode cX9_sign 18 = .ok (.goto 4, 3) := dk_167 0 4 (dk_at dksX9_sign_0 18 rfl rfl)
theorem dX9_sign_21 : decode cX9_sign 21 = .ok (.iconst 3, 1) := dk_6 (dk_at dksX9_sign_0 21 rfl rfl)
theorem dX9_sign_22 : decode cX9_sign 22 = .ok (.iload_n 1, 1) := dk_27 (dk_at dksX9_sign_0 22 rfl rfl)
theorem dX9_sign_23 : decode cX9_sign 23 = .ok (.iconst 0, 1) := dk_3 (dk_at dksX9_sign_0 23 rfl rfl)
theorem dX9_sign_24 : decode cX9_sign 24 = .ok (.lconst 0, 1) := dk_9 (dk_at dksX9_sign_1 0 rfl rfl)
theorem dX9_sign_25 : decode cX9_sign 25 = .ok (.invokevirtual 150, 3) := dk_182 0 150 (dk_at dksX9_sign_1 1 rfl rfl)
theorem dX9_sign_28 : decode cX9_sign 28 = .ok (.iconst 1, 1) := dk_4 (dk_at dksX9_sign_1 4 rfl rfl)
theorem dX9_sign_29 : decode cX9_sign 29 = .ok (.ireturn, 1) := dk_172 (dk_at dksX9_sign_1 5 rfl rfl)
abbrev cX9_is : ByteArray := prog_13_method_14_code
def yX9_is : MethodName := ⟨RX9, "is", "(I)Z"⟩
def dkwX9_is_1 : List UInt8 := [3, 172]
abbrev dktX9_is_1 : List UInt8 := dkwX9_is_1 ++ []
def dkwX9_is_0 : List UInt8 := [42, 180, 0, 165, 154, 0, 20, 42, 180, 0, 20, 42, 180, 0, 168, 46, 27, 160, 0, 7, 4, 167, 0, 4]
abbrev dktX9_is_0 : List UInt8 := dkwX9_is_0 ++ dktX9_is_1
theorem dksX9_is_0 : cX9_is.data.toList.drop 0 = dktX9_is_0 := by decide +kernel
theorem dksX9_is_1 : cX9_is.data.toList.drop 24 = dktX9_is_1 := dk_seg dksX9_is_0 24 rfl rfl
theorem dX9_is_0 : decode cX9_is 0 = .ok (.aload_n 0, 1) := dk_42 (dk_at dksX9_is_0 0 rfl rfl)
theorem dX9_is_1 : decode cX9_is 1 = .ok (.getfield 165, 3) := dk_180 0 165 (dk_at dksX9_is_0 1 rfl rfl)
theorem dX9_is_4 : decode cX9_is 4 = .ok (.ifCond .ne 20, 3) := dk_154 0 20 (dk_at dksX9_is_0 4 rfl rfl)
theorem dX9_is_7 : decode cX9_is 7 = .ok (.aload_n 0, 1) := dk_42 (dk_at dksX9_is_0 7 rfl rfl)
theorem dX9_is_8 : decode cX9_is 8 = .ok (.getfield 20, 3) := dk_180 0 20 (dk_at dksX9_is_0 8 rfl rfl)
theorem dX9_is_11 : decode cX9_is 11 = .ok (.aload_n 0, 1) := dk_42 (dk_at dksX9_is_0 11 rfl rfl)
theorem dX9_is_12 : decode cX9_is 12 = .ok (.getfield 168, 3) := dk_180 0 168 (dk_at dksX9_is_0 12 rfl rfl)
theorem dX9_is_15 : decode cX9_is 15 = .ok (.iaload, 1) := dk_46 (dk_at dksX9_is_0 15 rfl rfl)
theorem dX9_is_16 : decode cX9_is 16 = .ok (.iload_n 1, 1) := dk_27 (dk_at dksX9_is_0 16 rfl rfl)
theorem dX9_is_17 : decode cX9_is 17 = .ok (.if_icmp .ne 7, 3) := dk_160 0 7 (dk_at dksX9_is_0 17 rfl rfl)
theorem dX9_is_20 : decode cX9_is 20 = .ok (.iconst 1, 1) := dk_4 (dk_at dksX9_is_0 20 rfl rfl)
theorem dX9_is_21 : decode cX9_is 21 = .ok (.goto 4, 3) := dk_167 0 4 (dk_at dksX9_is_0 21 rfl rfl)
theorem dX9_is_24 : decode cX9_is 24 = .ok (.iconst 0, 1) := dk_3 (dk_at dksX9_is_1 0 rfl rfl)
theorem dX9_is_25 : decode cX9_is 25 = .ok (.ireturn, 1) := dk_172 (dk_at dksX9_is_1 1 rfl rfl)
abbrev cX9_line : ByteArray := prog_13_method_21_code
def yX9_line : MethodName := ⟨RX9, "line", "()V"⟩
def dkwX9_line_9 : List UInt8 := [182, 0, 221, 177]
abbrev dktX9_line_9 : List UInt8 := dkwX9_line_9 ++ []
def dkwX9_line_8 : List UInt8 := [160, 0, 11, 42, 5, 182, 0, 180, 167, 0, 7, 42, 182, 0, 186, 132, 2, 1, 167, 255, 227, 42, 7]
abbrev dktX9_line_8 : List UInt8 := dkwX9_line_8 ++ dktX9_line_9
def dkwX9_line_7 : List UInt8 := [182, 0, 221, 132, 2, 1, 167, 255, 243, 4, 61, 42, 5, 182, 0, 183, 153, 0, 27, 28, 16, 8]
abbrev dktX9_line_7 : List UInt8 := dkwX9_line_7 ++ dktX9_line_8
def dkwX9_line_6 : List UInt8 := [5, 182, 0, 221, 132, 2, 1, 167, 255, 243, 167, 0, 55, 3, 61, 28, 6, 162, 0, 14, 42, 5]
abbrev dktX9_line_6 : List UInt8 := dkwX9_line_6 ++ dktX9_line_7
def dkwX9_line_5 : List UInt8 := [96, 181, 0, 195, 42, 4, 182, 0, 221, 42, 182, 0, 224, 167, 0, 76, 3, 61, 28, 7, 162, 0, 14, 42]
abbrev dktX9_line_5 : List UInt8 := dkwX9_line_5 ++ dktX9_line_6
def dkwX9_line_4 : List UInt8 := [42, 89, 180, 0, 192, 4, 96, 181, 0, 192, 42, 4, 182, 0, 221, 167, 0, 98, 42, 89, 180, 0, 195, 4]
abbrev dktX9_line_4 : List UInt8 := dkwX9_line_4 ++ dktX9_line_5
def dkwX9_line_3 : List UInt8 := [170, 0, 0, 0, 0, 0, 0, 89, 0, 0, 0, 20, 0, 0, 0, 22, 0, 0, 0, 28, 0, 0, 0, 46, 0, 0, 0, 68]
abbrev dktX9_line_3 : List UInt8 := dkwX9_line_3 ++ dktX9_line_4
def dkwX9_line_2 : List UInt8 := [42, 180, 0, 195, 16, 16, 160, 0, 9, 42, 5, 182, 0, 180, 177, 42, 182, 0, 186, 27]
abbrev dktX9_line_2 : List UInt8 := dkwX9_line_2 ++ dktX9_line_3
def dkwX9_line_1 : List UInt8 := [182, 0, 180, 177, 27, 16, 20, 160, 0, 11, 42, 180, 0, 192, 7, 159, 0, 18, 27, 16, 21, 160, 0, 18]
abbrev dktX9_line_1 : List UInt8 := dkwX9_line_1 ++ dktX9_line_2
def dkwX9_line_0 : List UInt8 := [42, 180, 0, 20, 42, 180, 0, 168, 46, 60, 27, 16, 20, 161, 0, 9, 27, 16, 23, 164, 0, 9, 42, 4]
abbrev dktX9_line_0 : List UInt8 := dkwX9_line_0 ++ dktX9_line_1
theorem dksX9_line_0 : cX9_line.data.toList.drop 0 = dktX9_line_0 := by decide +kernel
theorem dksX9_line_1 : cX9_line.data.toList.drop 24 = dktX9_line_1 := dk_seg dksX9_line_0 24 rfl rfl
theorem dksX9_line_2 : cX9_line.data.toList.drop 48 = dktX9_line_2 := dk_seg dksX9_line_1 24 rfl rfl
theorem dksX9_line_3 : cX9_line.data.toList.drop 68 = dktX9_line_3 := dk_seg dksX9_line_2 20 rfl rfl
theorem dksX9_line_4 : cX9_line.data.toList.drop 96 = dktX9_line_4 := dk_seg dksX9_line_3 28 rfl rfl
theorem dksX9_line_5 : cX9_line.data.toList.drop 120 = dktX9_line_5 := dk_seg dksX9_line_4 24 rfl rfl
theorem dksX9_line_6 : cX9_line.data.toList.drop 144 = dktX9_line_6 := dk_seg dksX9_line_5 24 rfl rfl
theorem dksX9_line_7 : cX9_line.data.toList.drop 166 = dktX9_line_7 := dk_seg dksX9_line_6 22 rfl rfl
theorem dksX9_line_8 : cX9_line.data.toList.drop 188 = dktX9_line_8 := dk_seg dksX9_line_7 22 rfl rfl
theorem dksX9_line_9 : cX9_line.data.toList.drop 211 = dktX9_line_9 := dk_seg dksX9_line_8 23 rfl rfl
theorem dX9_line_0 : decode cX9_line 0 = .ok (.aload_n 0, 1) := dk_42 (dk_at dksX9_line_0 0 rfl rfl)
theorem dX9_line_1 : decode cX9_line 1 = .ok (.getfield 20, 3) := dk_180 0 20 (dk_at dksX9_line_0 1 rfl rfl)
theorem dX9_line_4 : decode cX9_line 4 = .ok (.aload_n 0, 1) := dk_42 (dk_at dksX9_line_0 4 rfl rfl)
theorem dX9_line_5 : decode cX9_line 5 = .ok (.getfield 168, 3) := dk_180 0 168 (dk_at dksX9_line_0 5 rfl rfl)
theorem dX9_line_8 : decode cX9_line 8 = .ok (.iaload, 1) := dk_46 (dk_at dksX9_line_0 8 rfl rfl)
theorem dX9_line_9 : decode cX9_line 9 = .ok (.istore_n 1, 1) := dk_60 (dk_at dksX9_line_0 9 rfl rfl)
theorem dX9_line_10 : decode cX9_line 10 = .ok (.iload_n 1, 1) := dk_27 (dk_at dksX9_line_0 10 rfl rfl)
theorem dX9_line_11 : decode cX9_line 11 = .ok (.bipush 20, 2) := dk_16 20 (dk_at dksX9_line_0 11 rfl rfl)
theorem dX9_line_13 : decode cX9_line 13 = .ok (.if_icmp .lt 9, 3) := dk_161 0 9 (dk_at dksX9_line_0 13 rfl rfl)
theorem dX9_line_16 : decode cX9_line 16 = .ok (.iload_n 1, 1) := dk_27 (dk_at dksX9_line_0 16 rfl rfl)
theorem dX9_line_17 : decode cX9_line 17 = .ok (.bipush 23, 2) := dk_16 23 (dk_at dksX9_line_0 17 rfl rfl)
theorem dX9_line_19 : decode cX9_line 19 = .ok (.if_icmp .le 9, 3) := dk_164 0 9 (dk_at dksX9_line_0 19 rfl rfl)
theorem dX9_line_22 : decode cX9_line 22 = .ok (.aload_n 0, 1) := dk_42 (dk_at dksX9_line_0 22 rfl rfl)
theorem dX9_line_23 : decode cX9_line 23 = .ok (.iconst 1, 1) := dk_4 (dk_at dksX9_line_0 23 rfl rfl)
theorem dX9_line_24 : decode cX9_line 24 = .ok (.invokevirtual 180, 3) := dk_182 0 180 (dk_at dksX9_line_1 0 rfl rfl)
theorem dX9_line_27 : decode cX9_line 27 = .ok (.return_, 1) := dk_177 (dk_at dksX9_line_1 3 rfl rfl)
theorem dX9_line_28 : decode cX9_line 28 = .ok (.iload_n 1, 1) := dk_27 (dk_at dksX9_line_1 4 rfl rfl)
theorem dX9_line_29 : decode cX9_line 29 = .ok (.bipush 20, 2) := dk_16 20 (dk_at dksX9_line_1 5 rfl rfl)
theorem dX9_line_31 : decode cX9_line 31 = .ok (.if_icmp .ne 11, 3) := dk_160 0 11 (dk_at dksX9_line_1 7 rfl rfl)
theorem dX9_line_34 : decode cX9_line 34 = .ok (.aload_n 0, 1) := dk_42 (dk_at dksX9_line_1 10 rfl rfl)
theorem dX9_line_35 : decode cX9_line 35 = .ok (.getfield 192, 3) := dk_180 0 192 (dk_at dksX9_line_1 11 rfl rfl)
theorem dX9_line_38 : decode cX9_line 38 = .ok (.iconst 4, 1) := dk_7 (dk_at dksX9_line_1 14 rfl rfl)
theorem dX9_line_39 : decode cX9_line 39 = .ok (.if_icmp .eq 18, 3) := dk_159 0 18 (dk_at dksX9_line_1 15 rfl rfl)
theorem dX9_line_42 : decode cX9_line 42 = .ok (.iload_n 1, 1) := dk_27 (dk_at dksX9_line_1 18 rfl rfl)
theorem dX9_line_43 : decode cX9_line 43 = .ok (.bipush 21, 2) := dk_16 21 (dk_at dksX9_line_1 19 rfl rfl)
theorem dX9_line_45 : decode cX9_line 45 = .ok (.if_icmp .ne 18, 3) := dk_160 0 18 (dk_at dksX9_line_1 21 rfl rfl)
theorem dX9_line_48 : decode cX9_line 48 = .ok (.aload_n 0, 1) := dk_42 (dk_at dksX9_line_2 0 rfl rfl)
theorem dX9_line_49 : decode cX9_line 49 = .ok (.getfield 195, 3) := dk_180 0 195 (dk_at dksX9_line_2 1 rfl rfl)
theorem dX9_line_52 : decode cX9_line 52 = .ok (.bipush 16, 2) := dk_16 16 (dk_at dksX9_line_2 4 rfl rfl)
theorem dX9_line_54 : decode cX9_line 54 = .ok (.if_icmp .ne 9, 3) := dk_160 0 9 (dk_at dksX9_line_2 6 rfl rfl)
theorem dX9_line_57 : decode cX9_line 57 = .ok (.aload_n 0, 1) := dk_42 (dk_at dksX9_line_2 9 rfl rfl)
theorem dX9_line_58 : decode cX9_line 58 = .ok (.iconst 2, 1) := dk_5 (dk_at dksX9_line_2 10 rfl rfl)
theorem dX9_line_59 : decode cX9_line 59 = .ok (.invokevirtual 180, 3) := dk_182 0 180 (dk_at dksX9_line_2 11 rfl rfl)
theorem dX9_line_62 : decode cX9_line 62 = .ok (.return_, 1) := dk_177 (dk_at dksX9_line_2 14 rfl rfl)
theorem dX9_line_63 : decode cX9_line 63 = .ok (.aload_n 0, 1) := dk_42 (dk_at dksX9_line_2 15 rfl rfl)
theorem dX9_line_64 : decode cX9_line 64 = .ok (.invokevirtual 186, 3) := dk_182 0 186 (dk_at dksX9_line_2 16 rfl rfl)
theorem dX9_line_67 : decode cX9_line 67 = .ok (.iload_n 1, 1) := dk_27 (dk_at dksX9_line_2 19 rfl rfl)
theorem dX9_line_68 : decode cX9_line 68 = .ok (.tableswitch 89 20 22 #[28, 46, 68], 28) := by decide +kernel
theorem dX9_line_96 : decode cX9_line 96 = .ok (.aload_n 0, 1) := dk_42 (dk_at dksX9_line_4 0 rfl rfl)
theorem dX9_line_97 : decode cX9_line 97 = .ok (.dup, 1) := dk_89 (dk_at dksX9_line_4 1 rfl rfl)
theorem dX9_line_98 : decode cX9_line 98 = .ok (.getfield 192, 3) := dk_180 0 192 (dk_at dksX9_line_4 2 rfl rfl)
theorem dX9_line_101 : decode cX9_line 101 = .ok (.iconst 1, 1) := dk_4 (dk_at dksX9_line_4 5 rfl rfl)
theorem dX9_line_102 : decode cX9_line 102 = .ok (.iadd, 1) := dk_96 (dk_at dksX9_line_4 6 rfl rfl)
theorem dX9_line_103 : decode cX9_line 103 = .ok (.putfield 192, 3) := dk_181 0 192 (dk_at dksX9_line_4 7 rfl rfl)
theorem dX9_line_106 : decode cX9_line 106 = .ok (.aload_n 0, 1) := dk_42 (dk_at dksX9_line_4 10 rfl rfl)
theorem dX9_line_107 : decode cX9_line 107 = .ok (.iconst 1, 1) := dk_4 (dk_at dksX9_line_4 11 rfl rfl)
theorem dX9_line_108 : decode cX9_line 108 = .ok (.invokevirtual 221, 3) := dk_182 0 221 (dk_at dksX9_line_4 12 rfl rfl)
theorem dX9_line_111 : decode cX9_line 111 = .ok (.goto 98, 3) := dk_167 0 98 (dk_at dksX9_line_4 15 rfl rfl)
theorem dX9_line_114 : decode cX9_line 114 = .ok (.aload_n 0, 1) := dk_42 (dk_at dksX9_line_4 18 rfl rfl)
theorem dX9_line_115 : decode cX9_line 115 = .ok (.dup, 1) := dk_89 (dk_at dksX9_line_4 19 rfl rfl)
theorem dX9_line_116 : decode cX9_line 116 = .ok (.getfield 195, 3) := dk_180 0 195 (dk_at dksX9_line_4 20 rfl rfl)
theorem dX9_line_119 : decode cX9_line 119 = .ok (.iconst 1, 1) := dk_4 (dk_at dksX9_line_4 23 rfl rfl)
theorem dX9_line_120 : decode cX9_line 120 = .ok (.iadd, 1) := dk_96 (dk_at dksX9_line_5 0 rfl rfl)
theorem dX9_line_121 : decode cX9_line 121 = .ok (.putfield 195, 3) := dk_181 0 195 (dk_at dksX9_line_5 1 rfl rfl)
theorem dX9_line_124 : decode cX9_line 124 = .ok (.aload_n 0, 1) := dk_42 (dk_at dksX9_line_5 4 rfl rfl)
theorem dX9_line_125 : decode cX9_line 125 = .ok (.iconst 1, 1) := dk_4 (dk_at dksX9_line_5 5 rfl rfl)
theorem dX9_line_126 : decode cX9_line 126 = .ok (.invokevirtual 221, 3) := dk_182 0 221 (dk_at dksX9_line_5 6 rfl rfl)
theorem dX9_line_129 : decode cX9_line 129 = .ok (.aload_n 0, 1) := dk_42 (dk_at dksX9_line_5 9 rfl rfl)
theorem dX9_line_130 : decode cX9_line 130 = .ok (.invokevirtual 224, 3) := dk_182 0 224 (dk_at dksX9_line_5 10 rfl rfl)
theorem dX9_line_133 : decode cX9_line 133 = .ok (.goto 76, 3) := dk_167 0 76 (dk_at dksX9_line_5 13 rfl rfl)
theorem dX9_line_136 : decode cX9_line 136 = .ok (.iconst 0, 1) := dk_3 (dk_at dksX9_line_5 16 rfl rfl)
theorem dX9_line_137 : decode cX9_line 137 = .ok (.istore_n 2, 1) := dk_61 (dk_at dksX9_line_5 17 rfl rfl)
theorem dX9_line_138 : decode cX9_line 138 = .ok (.iload_n 2, 1) := dk_28 (dk_at dksX9_line_5 18 rfl rfl)
theorem dX9_line_139 : decode cX9_line 139 = .ok (.iconst 4, 1) := dk_7 (dk_at dksX9_line_5 19 rfl rfl)
theorem dX9_line_140 : decode cX9_line 140 = .ok (.if_icmp .ge 14, 3) := dk_162 0 14 (dk_at dksX9_line_5 20 rfl rfl)
theorem dX9_line_143 : decode cX9_line 143 = .ok (.aload_n 0, 1) := dk_42 (dk_at dksX9_line_5 23 rfl rfl)
theorem dX9_line_144 : decode cX9_line 144 = .ok (.iconst 2, 1) := dk_5 (dk_at dksX9_line_6 0 rfl rfl)
theorem dX9_line_145 : decode cX9_line 145 = .ok (.invokevirtual 221, 3) := dk_182 0 221 (dk_at dksX9_line_6 1 rfl rfl)
theorem dX9_line_148 : decode cX9_line 148 = .ok (.iinc 2 1, 3) := dk_132 2 1 (dk_at dksX9_line_6 4 rfl rfl)
theorem dX9_line_151 : decode cX9_line 151 = .ok (.goto (-13), 3) := dk_167 255 243 (dk_at dksX9_line_6 7 rfl rfl)
theorem dX9_line_154 : decode cX9_line 154 = .ok (.goto 55, 3) := dk_167 0 55 (dk_at dksX9_line_6 10 rfl rfl)
theorem dX9_line_157 : decode cX9_line 157 = .ok (.iconst 0, 1) := dk_3 (dk_at dksX9_line_6 13 rfl rfl)
theorem dX9_line_158 : decode cX9_line 158 = .ok (.istore_n 2, 1) := dk_61 (dk_at dksX9_line_6 14 rfl rfl)
theorem dX9_line_159 : decode cX9_line 159 = .ok (.iload_n 2, 1) := dk_28 (dk_at dksX9_line_6 15 rfl rfl)
theorem dX9_line_160 : decode cX9_line 160 = .ok (.iconst 3, 1) := dk_6 (dk_at dksX9_line_6 16 rfl rfl)
theorem dX9_line_161 : decode cX9_line 161 = .ok (.if_icmp .ge 14, 3) := dk_162 0 14 (dk_at dksX9_line_6 17 rfl rfl)
theorem dX9_line_164 : decode cX9_line 164 = .ok (.aload_n 0, 1) := dk_42 (dk_at dksX9_line_6 20 rfl rfl)
theorem dX9_line_165 : decode cX9_line 165 = .ok (.iconst 2, 1) := dk_5 (dk_at dksX9_line_6 21 rfl rfl)
theorem dX9_line_166 : decode cX9_line 166 = .ok (.invokevirtual 221, 3) := dk_182 0 221 (dk_at dksX9_line_7 0 rfl rfl)
theorem dX9_line_169 : decode cX9_line 169 = .ok (.iinc 2 1, 3) := dk_132 2 1 (dk_at dksX9_line_7 3 rfl rfl)
theorem dX9_line_172 : decode cX9_line 172 = .ok (.goto (-13), 3) := dk_167 255 243 (dk_at dksX9_line_7 6 rfl rfl)
theorem dX9_line_175 : decode cX9_line 175 = .ok (.iconst 1, 1) := dk_4 (dk_at dksX9_line_7 9 rfl rfl)
theorem dX9_line_176 : decode cX9_line 176 = .ok (.istore_n 2, 1) := dk_61 (dk_at dksX9_line_7 10 rfl rfl)
theorem dX9_line_177 : decode cX9_line 177 = .ok (.aload_n 0, 1) := dk_42 (dk_at dksX9_line_7 11 rfl rfl)
theorem dX9_line_178 : decode cX9_line 178 = .ok (.iconst 2, 1) := dk_5 (dk_at dksX9_line_7 12 rfl rfl)
theorem dX9_line_179 : decode cX9_line 179 = .ok (.invokevirtual 183, 3) := dk_182 0 183 (dk_at dksX9_line_7 13 rfl rfl)
theorem dX9_line_182 : decode cX9_line 182 = .ok (.ifCond .eq 27, 3) := dk_153 0 27 (dk_at dksX9_line_7 16 rfl rfl)
theorem dX9_line_185 : decode cX9_line 185 = .ok (.iload_n 2, 1) := dk_28 (dk_at dksX9_line_7 19 rfl rfl)
theorem dX9_line_186 : decode cX9_line 186 = .ok (.bipush 8, 2) := dk_16 8 (dk_at dksX9_line_7 20 rfl rfl)
theorem dX9_line_188 : decode cX9_line 188 = .ok (.if_icmp .ne 11, 3) := dk_160 0 11 (dk_at dksX9_line_8 0 rfl rfl)
theorem dX9_line_191 : decode cX9_line 191 = .ok (.aload_n 0, 1) := dk_42 (dk_at dksX9_line_8 3 rfl rfl)
theorem dX9_line_192 : decode cX9_line 192 = .ok (.iconst 2, 1) := dk_5 (dk_at dksX9_line_8 4 rfl rfl)
theorem dX9_line_193 : decode cX9_line 193 = .ok (.invokevirtual 180, 3) := dk_182 0 180 (dk_at dksX9_line_8 5 rfl rfl)
theorem dX9_line_196 : decode cX9_line 196 = .ok (.goto 7, 3) := dk_167 0 7 (dk_at dksX9_line_8 8 rfl rfl)
theorem dX9_line_199 : decode cX9_line 199 = .ok (.aload_n 0, 1) := dk_42 (dk_at dksX9_line_8 11 rfl rfl)
theorem dX9_line_200 : decode cX9_line 200 = .ok (.invokevirtual 186, 3) := dk_182 0 186 (dk_at dksX9_line_8 12 rfl rfl)
theorem dX9_line_203 : decode cX9_line 203 = .ok (.iinc 2 1, 3) := dk_132 2 1 (dk_at dksX9_line_8 15 rfl rfl)
theorem dX9_line_206 : decode cX9_line 206 = .ok (.goto (-29), 3) := dk_167 255 227 (dk_at dksX9_line_8 18 rfl rfl)
theorem dX9_line_209 : decode cX9_line 209 = .ok (.aload_n 0, 1) := dk_42 (dk_at dksX9_line_8 21 rfl rfl)
theorem dX9_line_210 : decode cX9_line 210 = .ok (.iconst 4, 1) := dk_7 (dk_at dksX9_line_8 22 rfl rfl)
theorem dX9_line_211 : decode cX9_line 211 = .ok (.invokevirtual 221, 3) := dk_182 0 221 (dk_at dksX9_line_9 0 rfl rfl)
theorem dX9_line_214 : decode cX9_line 214 = .ok (.return_, 1) := dk_177 (dk_at dksX9_line_9 3 rfl rfl)
abbrev cX9_fail : ByteArray := prog_13_method_15_code
def yX9_fail : MethodName := ⟨RX9, "fail", "(I)V"⟩
def dkwX9_fail_1 : List UInt8 := [181, 0, 171, 177]
abbrev dktX9_fail_1 : List UInt8 := dkwX9_fail_1 ++ []
def dkwX9_fail_0 : List UInt8 := [42, 180, 0, 165, 158, 0, 4, 177, 42, 27, 181, 0, 165, 42, 42, 180, 0, 24, 42, 180, 0, 168, 46]
abbrev dktX9_fail_0 : List UInt8 := dkwX9_fail_0 ++ dktX9_fail_1
theorem dksX9_fail_0 : cX9_fail.data.toList.drop 0 = dktX9_fail_0 := by decide +kernel
theorem dksX9_fail_1 : cX9_fail.data.toList.drop 23 = dktX9_fail_1 := dk_seg dksX9_fail_0 23 rfl rfl
theorem dX9_fail_0 : decode cX9_fail 0 = .ok (.aload_n 0, 1) := dk_42 (dk_at dksX9_fail_0 0 rfl rfl)
theorem dX9_fail_1 : decode cX9_fail 1 = .ok (.getfield 165, 3) := dk_180 0 165 (dk_at dksX9_fail_0 1 rfl rfl)
theorem dX9_fail_4 : decode cX9_fail 4 = .ok (.ifCond .le 4, 3) := dk_158 0 4 (dk_at dksX9_fail_0 4 rfl rfl)
theorem dX9_fail_7 : decode cX9_fail 7 = .ok (.return_, 1) := dk_177 (dk_at dksX9_fail_0 7 rfl rfl)
theorem dX9_fail_8 : decode cX9_fail 8 = .ok (.aload_n 0, 1) := dk_42 (dk_at dksX9_fail_0 8 rfl rfl)
theorem dX9_fail_9 : decode cX9_fail 9 = .ok (.iload_n 1, 1) := dk_27 (dk_at dksX9_fail_0 9 rfl rfl)
theorem dX9_fail_10 : decode cX9_fail 10 = .ok (.putfield 165, 3) := dk_181 0 165 (dk_at dksX9_fail_0 10 rfl rfl)
theorem dX9_fail_13 : decode cX9_fail 13 = .ok (.aload_n 0, 1) := dk_42 (dk_at dksX9_fail_0 13 rfl rfl)
theorem dX9_fail_14 : decode cX9_fail 14 = .ok (.aload_n 0, 1) := dk_42 (dk_at dksX9_fail_0 14 rfl rfl)
theorem dX9_fail_15 : decode cX9_fail 15 = .ok (.getfield 24, 3) := dk_180 0 24 (dk_at dksX9_fail_0 15 rfl rfl)
theorem dX9_fail_18 : decode cX9_fail 18 = .ok (.aload_n 0, 1) := dk_42 (dk_at dksX9_fail_0 18 rfl rfl)
theorem dX9_fail_19 : decode cX9_fail 19 = .ok (.getfield 168, 3) := dk_180 0 168 (dk_at dksX9_fail_0 19 rfl rfl)
theorem dX9_fail_22 : decode cX9_fail 22 = .ok (.iaload, 1) := dk_46 (dk_at dksX9_fail_0 22 rfl rfl)
theorem dX9_fail_23 : decode cX9_fail 23 = .ok (.putfield 171, 3) := dk_181 0 171 (dk_at dksX9_fail_1 0 rfl rfl)
theorem dX9_fail_26 : decode cX9_fail 26 = .ok (.return_, 1) := dk_177 (dk_at dksX9_fail_1 3 rfl rfl)
abbrev cX9_passes : ByteArray := prog_13_method_17_code
def yX9_passes : MethodName := ⟨RX9, "passes", "()V"⟩
def dkwX9_passes_1 : List UInt8 := [96, 181, 0, 168, 177]
abbrev dktX9_passes_1 : List UInt8 := dkwX9_passes_1 ++ []
def dkwX9_passes_0 : List UInt8 := [42, 180, 0, 168, 17, 1, 144, 160, 0, 11, 42, 5, 182, 0, 180, 167, 0, 13, 42, 89, 180, 0, 168, 4]
abbrev dktX9_passes_0 : List UInt8 := dkwX9_passes_0 ++ dktX9_passes_1
theorem dksX9_passes_0 : cX9_passes.data.toList.drop 0 = dktX9_passes_0 := by decide +kernel
theorem dksX9_passes_1 : cX9_passes.data.toList.drop 24 = dktX9_passes_1 := dk_seg dksX9_passes_0 24 rfl rfl
theorem dX9_passes_0 : decode cX9_passes 0 = .ok (.aload_n 0, 1) := dk_42 (dk_at dksX9_passes_0 0 rfl rfl)
theorem dX9_passes_1 : decode cX9_passes 1 = .ok (.getfield 168, 3) := dk_180 0 168 (dk_at dksX9_passes_0 1 rfl rfl)
theorem dX9_passes_4 : decode cX9_passes 4 = .ok (.sipush 400, 3) := dk_17 1 144 (dk_at dksX9_passes_0 4 rfl rfl)
theorem dX9_passes_7 : decode cX9_passes 7 = .ok (.if_icmp .ne 11, 3) := dk_160 0 11 (dk_at dksX9_passes_0 7 rfl rfl)
theorem dX9_passes_10 : decode cX9_passes 10 = .ok (.aload_n 0, 1) := dk_42 (dk_at dksX9_passes_0 10 rfl rfl)
theorem dX9_passes_11 : decode cX9_passes 11 = .ok (.iconst 2, 1) := dk_5 (dk_at dksX9_passes_0 11 rfl rfl)
theorem dX9_passes_12 : decode cX9_passes 12 = .ok (.invokevirtual 180, 3) := dk_182 0 180 (dk_at dksX9_passes_0 12 rfl rfl)
theorem dX9_passes_15 : decode cX9_passes 15 = .ok (.goto 13, 3) := dk_167 0 13 (dk_at dksX9_passes_0 15 rfl rfl)
theorem dX9_passes_18 : decode cX9_passes 18 = .ok (.aload_n 0, 1) := dk_42 (dk_at dksX9_passes_0 18 rfl rfl)
theorem dX9_passes_19 : decode cX9_passes 19 = .ok (.dup, 1) := dk_89 (dk_at dksX9_passes_0 19 rfl rfl)
theorem dX9_passes_20 : decode cX9_passes 20 = .ok (.getfield 168, 3) := dk_180 0 168 (dk_at dksX9_passes_0 20 rfl rfl)
theorem dX9_passes_23 : decode cX9_passes 23 = .ok (.iconst 1, 1) := dk_4 (dk_at dksX9_passes_0 23 rfl rfl)
theorem dX9_passes_24 : decode cX9_passes 24 = .ok (.iadd, 1) := dk_96 (dk_at dksX9_passes_1 0 rfl rfl)
theorem dX9_passes_25 : decode cX9_passes 25 = .ok (.putfield 168, 3) := dk_181 0 168 (dk_at dksX9_passes_1 1 rfl rfl)
theorem dX9_passes_28 : decode cX9_passes 28 = .ok (.return_, 1) := dk_177 (dk_at dksX9_passes_1 4 rfl rfl)
abbrev cX9_must : ByteArray := prog_13_method_18_code
def yX9_must : MethodName := ⟨RX9, "must", "(I)V"⟩
def dkwX9_must_0 : List UInt8 := [42, 27, 182, 0, 183, 153, 0, 10, 42, 182, 0, 186, 167, 0, 8, 42, 4, 182, 0, 180, 177]
abbrev dktX9_must_0 : List UInt8 := dkwX9_must_0 ++ []
theorem dksX9_must_0 : cX9_must.data.toList.drop 0 = dktX9_must_0 := by decide +kernel
theorem dX9_must_0 : decode cX9_must 0 = .ok (.aload_n 0, 1) := dk_42 (dk_at dksX9_must_0 0 rfl rfl)
theorem dX9_must_1 : decode cX9_must 1 = .ok (.iload_n 1, 1) := dk_27 (dk_at dksX9_must_0 1 rfl rfl)
theorem dX9_must_2 : decode cX9_must 2 = .ok (.invokevirtual 183, 3) := dk_182 0 183 (dk_at dksX9_must_0 2 rfl rfl)
theorem dX9_must_5 : decode cX9_must 5 = .ok (.ifCond .eq 10, 3) := dk_153 0 10 (dk_at dksX9_must_0 5 rfl rfl)
theorem dX9_must_8 : decode cX9_must 8 = .ok (.aload_n 0, 1) := dk_42 (dk_at dksX9_must_0 8 rfl rfl)
theorem dX9_must_9 : decode cX9_must 9 = .ok (.invokevirtual 186, 3) := dk_182 0 186 (dk_at dksX9_must_0 9 rfl rfl)
theorem dX9_must_12 : decode cX9_must 12 = .ok (.goto 8, 3) := dk_167 0 8 (dk_at dksX9_must_0 12 rfl rfl)
theorem dX9_must_15 : decode cX9_must 15 = .ok (.aload_n 0, 1) := dk_42 (dk_at dksX9_must_0 15 rfl rfl)
theorem dX9_must_16 : decode cX9_must 16 = .ok (.iconst 1, 1) := dk_4 (dk_at dksX9_must_0 16 rfl rfl)
theorem dX9_must_17 : decode cX9_must 17 = .ok (.invokevirtual 180, 3) := dk_182 0 180 (dk_at dksX9_must_0 17 rfl rfl)
theorem dX9_must_20 : decode cX9_must 20 = .ok (.return_, 1) := dk_177 (dk_at dksX9_must_0 20 rfl rfl)
abbrev cX9_controls : ByteArray := prog_13_method_22_code
def yX9_controls : MethodName := ⟨RX9, "controls", "()V"⟩
def dkwX9_controls_2 : List UInt8 := [132, 1, 1, 167, 255, 207, 177]
abbrev dktX9_controls_2 : List UInt8 := dkwX9_controls_2 ++ []
def dkwX9_controls_1 : List UInt8 := [5, 182, 0, 180, 167, 0, 20, 42, 8, 182, 0, 183, 153, 0, 7, 42, 182, 0, 186, 42, 4, 182, 0, 221]
abbrev dktX9_controls_1 : List UInt8 := dkwX9_controls_1 ++ dktX9_controls_2
def dkwX9_controls_0 : List UInt8 := [3, 60, 42, 8, 182, 0, 183, 154, 0, 11, 42, 4, 182, 0, 183, 153, 0, 39, 27, 6, 160, 0, 11, 42]
abbrev dktX9_controls_0 : List UInt8 := dkwX9_controls_0 ++ dktX9_controls_1
theorem dksX9_controls_0 : cX9_controls.data.toList.drop 0 = dktX9_controls_0 := by decide +kernel
theorem dksX9_controls_1 : cX9_controls.data.toList.drop 24 = dktX9_controls_1 := dk_seg dksX9_controls_0 24 rfl rfl
theorem dksX9_controls_2 : cX9_controls.data.toList.drop 48 = dktX9_controls_2 := dk_seg dksX9_controls_1 24 rfl rfl
theorem dX9_controls_0 : decode cX9_controls 0 = .ok (.iconst 0, 1) := dk_3 (dk_at dksX9_controls_0 0 rfl rfl)
theorem dX9_controls_1 : decode cX9_controls 1 = .ok (.istore_n 1, 1) := dk_60 (dk_at dksX9_controls_0 1 rfl rfl)
theorem dX9_controls_2 : decode cX9_controls 2 = .ok (.aload_n 0, 1) := dk_42 (dk_at dksX9_controls_0 2 rfl rfl)
theorem dX9_controls_3 : decode cX9_controls 3 = .ok (.iconst 5, 1) := dk_8 (dk_at dksX9_controls_0 3 rfl rfl)
theorem dX9_controls_4 : decode cX9_controls 4 = .ok (.invokevirtual 183, 3) := dk_182 0 183 (dk_at dksX9_controls_0 4 rfl rfl)
theorem dX9_controls_7 : decode cX9_controls 7 = .ok (.ifCond .ne 11, 3) := dk_154 0 11 (dk_at dksX9_controls_0 7 rfl rfl)
theorem dX9_controls_10 : decode cX9_controls 10 = .ok (.aload_n 0, 1) := dk_42 (dk_at dksX9_controls_0 10 rfl rfl)
theorem dX9_controls_11 : decode cX9_controls 11 = .ok (.iconst 1, 1) := dk_4 (dk_at dksX9_controls_0 11 rfl rfl)
theorem dX9_controls_12 : decode cX9_controls 12 = .ok (.invokevirtual 183, 3) := dk_182 0 183 (dk_at dksX9_controls_0 12 rfl rfl)
theorem dX9_controls_15 : decode cX9_controls 15 = .ok (.ifCond .eq 39, 3) := dk_153 0 39 (dk_at dksX9_controls_0 15 rfl rfl)
theorem dX9_controls_18 : decode cX9_controls 18 = .ok (.iload_n 1, 1) := dk_27 (dk_at dksX9_controls_0 18 rfl rfl)
theorem dX9_controls_19 : decode cX9_controls 19 = .ok (.iconst 3, 1) := dk_6 (dk_at dksX9_controls_0 19 rfl rfl)
theorem dX9_controls_20 : decode cX9_controls 20 = .ok (.if_icmp .ne 11, 3) := dk_160 0 11 (dk_at dksX9_controls_0 20 rfl rfl)
theorem dX9_controls_23 : decode cX9_controls 23 = .ok (.aload_n 0, 1) := dk_42 (dk_at dksX9_controls_0 23 rfl rfl)
theorem dX9_controls_24 : decode cX9_controls 24 = .ok (.iconst 2, 1) := dk_5 (dk_at dksX9_controls_1 0 rfl rfl)
theorem dX9_controls_25 : decode cX9_controls 25 = .ok (.invokevirtual 180, 3) := dk_182 0 180 (dk_at dksX9_controls_1 1 rfl rfl)
theorem dX9_controls_28 : decode cX9_controls 28 = .ok (.goto 20, 3) := dk_167 0 20 (dk_at dksX9_controls_1 4 rfl rfl)
theorem dX9_controls_31 : decode cX9_controls 31 = .ok (.aload_n 0, 1) := dk_42 (dk_at dksX9_controls_1 7 rfl rfl)
theorem dX9_controls_32 : decode cX9_controls 32 = .ok (.iconst 5, 1) := dk_8 (dk_at dksX9_controls_1 8 rfl rfl)
theorem dX9_controls_33 : decode cX9_controls 33 = .ok (.invokevirtual 183, 3) := dk_182 0 183 (dk_at dksX9_controls_1 9 rfl rfl)
theorem dX9_controls_36 : decode cX9_controls 36 = .ok (.ifCond .eq 7, 3) := dk_153 0 7 (dk_at dksX9_controls_1 12 rfl rfl)
theorem dX9_controls_39 : decode cX9_controls 39 = .ok (.aload_n 0, 1) := dk_42 (dk_at dksX9_controls_1 15 rfl rfl)
theorem dX9_controls_40 : decode cX9_controls 40 = .ok (.invokevirtual 186, 3) := dk_182 0 186 (dk_at dksX9_controls_1 16 rfl rfl)
theorem dX9_controls_43 : decode cX9_controls 43 = .ok (.aload_n 0, 1) := dk_42 (dk_at dksX9_controls_1 19 rfl rfl)
theorem dX9_controls_44 : decode cX9_controls 44 = .ok (.iconst 1, 1) := dk_4 (dk_at dksX9_controls_1 20 rfl rfl)
theorem dX9_controls_45 : decode cX9_controls 45 = .ok (.invokevirtual 221, 3) := dk_182 0 221 (dk_at dksX9_controls_1 21 rfl rfl)
theorem dX9_controls_48 : decode cX9_controls 48 = .ok (.iinc 1 1, 3) := dk_132 1 1 (dk_at dksX9_controls_2 0 rfl rfl)
theorem dX9_controls_51 : decode cX9_controls 51 = .ok (.goto (-49), 3) := dk_167 255 207 (dk_at dksX9_controls_2 3 rfl rfl)
theorem dX9_controls_54 : decode cX9_controls 54 = .ok (.return_, 1) := dk_177 (dk_at dksX9_controls_2 6 rfl rfl)
abbrev cX9_means : ByteArray := prog_13_method_24_code
def yX9_means : MethodName := ⟨RX9, "means", "()V"⟩
def dkwX9_means_8 : List UInt8 := [46, 16, 23, 160, 0, 8, 42, 27, 182, 0, 241, 132, 1, 1, 167, 255, 118, 177]
abbrev dktX9_means_8 : List UInt8 := dkwX9_means_8 ++ []
def dkwX9_means_7 : List UInt8 := [154, 0, 13, 42, 8, 27, 4, 96, 28, 96, 182, 0, 230, 132, 2, 1, 167, 255, 196, 42, 180, 0, 20, 27]
abbrev dktX9_means_7 : List UInt8 := dkwX9_means_7 ++ dktX9_means_8
def dkwX9_means_6 : List UInt8 := [180, 0, 27, 27, 4, 96, 28, 96, 46, 79, 42, 180, 0, 46, 28, 46, 4, 16, 99, 184, 0, 237]
abbrev dktX9_means_6 : List UInt8 := dkwX9_means_6 ++ dktX9_means_7
def dkwX9_means_5 : List UInt8 := [28, 7, 162, 0, 61, 42, 180, 0, 20, 27, 46, 16, 22, 160, 0, 50, 42, 180, 0, 46, 28, 42]
abbrev dktX9_means_5 : List UInt8 := dkwX9_means_5 ++ dktX9_means_6
def dkwX9_means_4 : List UInt8 := [27, 4, 96, 182, 0, 230, 42, 180, 0, 20, 27, 46, 16, 21, 160, 0, 8, 42, 27, 182, 0, 234, 3, 61]
abbrev dktX9_means_4 : List UInt8 := dkwX9_means_4 ++ dktX9_means_5
def dkwX9_means_3 : List UInt8 := [42, 180, 0, 20, 27, 46, 16, 20, 160, 0, 22, 42, 27, 4, 96, 27, 182, 0, 227, 155, 0, 11, 42, 6]
abbrev dktX9_means_3 : List UInt8 := dkwX9_means_3 ++ dktX9_means_4
def dkwX9_means_2 : List UInt8 := [6, 16, 13, 79, 42, 3, 181, 0, 206, 42, 3, 181, 0, 212, 3, 60, 27, 42, 180, 0, 143, 162, 0, 136]
abbrev dktX9_means_2 : List UInt8 := dkwX9_means_2 ++ dktX9_means_3
def dkwX9_means_1 : List UInt8 := [180, 0, 46, 3, 4, 79, 42, 180, 0, 46, 4, 4, 79, 42, 180, 0, 46, 5, 8, 79, 42, 180, 0, 46]
abbrev dktX9_means_1 : List UInt8 := dkwX9_means_1 ++ dktX9_means_2
def dkwX9_means_0 : List UInt8 := [3, 60, 27, 16, 49, 162, 0, 16, 42, 180, 0, 55, 27, 3, 79, 132, 1, 1, 167, 255, 240, 42]
abbrev dktX9_means_0 : List UInt8 := dkwX9_means_0 ++ dktX9_means_1
theorem dksX9_means_0 : cX9_means.data.toList.drop 0 = dktX9_means_0 := by decide +kernel
theorem dksX9_means_1 : cX9_means.data.toList.drop 22 = dktX9_means_1 := dk_seg dksX9_means_0 22 rfl rfl
theorem dksX9_means_2 : cX9_means.data.toList.drop 46 = dktX9_means_2 := dk_seg dksX9_means_1 24 rfl rfl
theorem dksX9_means_3 : cX9_means.data.toList.drop 70 = dktX9_means_3 := dk_seg dksX9_means_2 24 rfl rfl
theorem dksX9_means_4 : cX9_means.data.toList.drop 94 = dktX9_means_4 := dk_seg dksX9_means_3 24 rfl rfl
theorem dksX9_means_5 : cX9_means.data.toList.drop 118 = dktX9_means_5 := dk_seg dksX9_means_4 24 rfl rfl
theorem dksX9_means_6 : cX9_means.data.toList.drop 140 = dktX9_means_6 := dk_seg dksX9_means_5 22 rfl rfl
theorem dksX9_means_7 : cX9_means.data.toList.drop 162 = dktX9_means_7 := dk_seg dksX9_means_6 22 rfl rfl
theorem dksX9_means_8 : cX9_means.data.toList.drop 186 = dktX9_means_8 := dk_seg dksX9_means_7 24 rfl rfl
theorem dX9_means_0 : decode cX9_means 0 = .ok (.iconst 0, 1) := dk_3 (dk_at dksX9_means_0 0 rfl rfl)
theorem dX9_means_1 : decode cX9_means 1 = .ok (.istore_n 1, 1) := dk_60 (dk_at dksX9_means_0 1 rfl rfl)
theorem dX9_means_2 : decode cX9_means 2 = .ok (.iload_n 1, 1) := dk_27 (dk_at dksX9_means_0 2 rfl rfl)
theorem dX9_means_3 : decode cX9_means 3 = .ok (.bipush 49, 2) := dk_16 49 (dk_at dksX9_means_0 3 rfl rfl)
theorem dX9_means_5 : decode cX9_means 5 = .ok (.if_icmp .ge 16, 3) := dk_162 0 16 (dk_at dksX9_means_0 5 rfl rfl)
theorem dX9_means_8 : decode cX9_means 8 = .ok (.aload_n 0, 1) := dk_42 (dk_at dksX9_means_0 8 rfl rfl)
theorem dX9_means_9 : decode cX9_means 9 = .ok (.getfield 55, 3) := dk_180 0 55 (dk_at dksX9_means_0 9 rfl rfl)
theorem dX9_means_12 : decode cX9_means 12 = .ok (.iload_n 1, 1) := dk_27 (dk_at dksX9_means_0 12 rfl rfl)
theorem dX9_means_13 : decode cX9_means 13 = .ok (.iconst 0, 1) := dk_3 (dk_at dksX9_means_0 13 rfl rfl)
theorem dX9_means_14 : decode cX9_means 14 = .ok (.iastore, 1) := dk_79 (dk_at dksX9_means_0 14 rfl rfl)
theorem dX9_means_15 : decode cX9_means 15 = .ok (.iinc 1 1, 3) := dk_132 1 1 (dk_at dksX9_means_0 15 rfl rfl)
theorem dX9_means_18 : decode cX9_means 18 = .ok (.goto (-16), 3) := dk_167 255 240 (dk_at dksX9_means_0 18 rfl rfl)
theorem dX9_means_21 : decode cX9_means 21 = .ok (.aload_n 0, 1) := dk_42 (dk_at dksX9_means_0 21 rfl rfl)
theorem dX9_means_22 : decode cX9_means 22 = .ok (.getfield 46, 3) := dk_180 0 46 (dk_at dksX9_means_1 0 rfl rfl)
theorem dX9_means_25 : decode cX9_means 25 = .ok (.iconst 0, 1) := dk_3 (dk_at dksX9_means_1 3 rfl rfl)
theorem dX9_means_26 : decode cX9_means 26 = .ok (.iconst 1, 1) := dk_4 (dk_at dksX9_means_1 4 rfl rfl)
theorem dX9_means_27 : decode cX9_means 27 = .ok (.iastore, 1) := dk_79 (dk_at dksX9_means_1 5 rfl rfl)
theorem dX9_means_28 : decode cX9_means 28 = .ok (.aload_n 0, 1) := dk_42 (dk_at dksX9_means_1 6 rfl rfl)
theorem dX9_means_29 : decode cX9_means 29 = .ok (.getfield 46, 3) := dk_180 0 46 (dk_at dksX9_means_1 7 rfl rfl)
theorem dX9_means_32 : decode cX9_means 32 = .ok (.iconst 1, 1) := dk_4 (dk_at dksX9_means_1 10 rfl rfl)
theorem dX9_means_33 : decode cX9_means 33 = .ok (.iconst 1, 1) := dk_4 (dk_at dksX9_means_1 11 rfl rfl)
theorem dX9_means_34 : decode cX9_means 34 = .ok (.iastore, 1) := dk_79 (dk_at dksX9_means_1 12 rfl rfl)
theorem dX9_means_35 : decode cX9_means 35 = .ok (.aload_n 0, 1) := dk_42 (dk_at dksX9_means_1 13 rfl rfl)
theorem dX9_means_36 : decode cX9_means 36 = .ok (.getfield 46, 3) := dk_180 0 46 (dk_at dksX9_means_1 14 rfl rfl)
theorem dX9_means_39 : decode cX9_means 39 = .ok (.iconst 2, 1) := dk_5 (dk_at dksX9_means_1 17 rfl rfl)
theorem dX9_means_40 : decode cX9_means 40 = .ok (.iconst 5, 1) := dk_8 (dk_at dksX9_means_1 18 rfl rfl)
theorem dX9_means_41 : decode cX9_means 41 = .ok (.iastore, 1) := dk_79 (dk_at dksX9_means_1 19 rfl rfl)
theorem dX9_means_42 : decode cX9_means 42 = .ok (.aload_n 0, 1) := dk_42 (dk_at dksX9_means_1 20 rfl rfl)
theorem dX9_means_43 : decode cX9_means 43 = .ok (.getfield 46, 3) := dk_180 0 46 (dk_at dksX9_means_1 21 rfl rfl)
theorem dX9_means_46 : decode cX9_means 46 = .ok (.iconst 3, 1) := dk_6 (dk_at dksX9_means_2 0 rfl rfl)
theorem dX9_means_47 : decode cX9_means 47 = .ok (.bipush 13, 2) := dk_16 13 (dk_at dksX9_means_2 1 rfl rfl)
theorem dX9_means_49 : decode cX9_means 49 = .ok (.iastore, 1) := dk_79 (dk_at dksX9_means_2 3 rfl rfl)
theorem dX9_means_50 : decode cX9_means 50 = .ok (.aload_n 0, 1) := dk_42 (dk_at dksX9_means_2 4 rfl rfl)
theorem dX9_means_51 : decode cX9_means 51 = .ok (.iconst 0, 1) := dk_3 (dk_at dksX9_means_2 5 rfl rfl)
theorem dX9_means_52 : decode cX9_means 52 = .ok (.putfield 206, 3) := dk_181 0 206 (dk_at dksX9_means_2 6 rfl rfl)
theorem dX9_means_55 : decode cX9_means 55 = .ok (.aload_n 0, 1) := dk_42 (dk_at dksX9_means_2 9 rfl rfl)
theorem dX9_means_56 : decode cX9_means 56 = .ok (.iconst 0, 1) := dk_3 (dk_at dksX9_means_2 10 rfl rfl)
theorem dX9_means_57 : decode cX9_means 57 = .ok (.putfield 212, 3) := dk_181 0 212 (dk_at dksX9_means_2 11 rfl rfl)
theorem dX9_means_60 : decode cX9_means 60 = .ok (.iconst 0, 1) := dk_3 (dk_at dksX9_means_2 14 rfl rfl)
theorem dX9_means_61 : decode cX9_means 61 = .ok (.istore_n 1, 1) := dk_60 (dk_at dksX9_means_2 15 rfl rfl)
theorem dX9_means_62 : decode cX9_means 62 = .ok (.iload_n 1, 1) := dk_27 (dk_at dksX9_means_2 16 rfl rfl)
theorem dX9_means_63 : decode cX9_means 63 = .ok (.aload_n 0, 1) := dk_42 (dk_at dksX9_means_2 17 rfl rfl)
theorem dX9_means_64 : decode cX9_means 64 = .ok (.getfield 143, 3) := dk_180 0 143 (dk_at dksX9_means_2 18 rfl rfl)
theorem dX9_means_67 : decode cX9_means 67 = .ok (.if_icmp .ge 136, 3) := dk_162 0 136 (dk_at dksX9_means_2 21 rfl rfl)
theorem dX9_means_70 : decode cX9_means 70 = .ok (.aload_n 0, 1) := dk_42 (dk_at dksX9_means_3 0 rfl rfl)
theorem dX9_means_71 : decode cX9_means 71 = .ok (.getfield 20, 3) := dk_180 0 20 (dk_at dksX9_means_3 1 rfl rfl)
theorem dX9_means_74 : decode cX9_means 74 = .ok (.iload_n 1, 1) := dk_27 (dk_at dksX9_means_3 4 rfl rfl)
theorem dX9_means_75 : decode cX9_means 75 = .ok (.iaload, 1) := dk_46 (dk_at dksX9_means_3 5 rfl rfl)
theorem dX9_means_76 : decode cX9_means 76 = .ok (.bipush 20, 2) := dk_16 20 (dk_at dksX9_means_3 6 rfl rfl)
theorem dX9_means_78 : decode cX9_means 78 = .ok (.if_icmp .ne 22, 3) := dk_160 0 22 (dk_at dksX9_means_3 8 rfl rfl)
theorem dX9_means_81 : decode cX9_means 81 = .ok (.aload_n 0, 1) := dk_42 (dk_at dksX9_means_3 11 rfl rfl)
theorem dX9_means_82 : decode cX9_means 82 = .ok (.iload_n 1, 1) := dk_27 (dk_at dksX9_means_3 12 rfl rfl)
theorem dX9_means_83 : decode cX9_means 83 = .ok (.iconst 1, 1) := dk_4 (dk_at dksX9_means_3 13 rfl rfl)
theorem dX9_means_84 : decode cX9_means 84 = .ok (.iadd, 1) := dk_96 (dk_at dksX9_means_3 14 rfl rfl)
theorem dX9_means_85 : decode cX9_means 85 = .ok (.iload_n 1, 1) := dk_27 (dk_at dksX9_means_3 15 rfl rfl)
theorem dX9_means_86 : decode cX9_means 86 = .ok (.invokevirtual 227, 3) := dk_182 0 227 (dk_at dksX9_means_3 16 rfl rfl)
theorem dX9_means_89 : decode cX9_means 89 = .ok (.ifCond .lt 11, 3) := dk_155 0 11 (dk_at dksX9_means_3 19 rfl rfl)
theorem dX9_means_92 : decode cX9_means 92 = .ok (.aload_n 0, 1) := dk_42 (dk_at dksX9_means_3 22 rfl rfl)
theorem dX9_means_93 : decode cX9_means 93 = .ok (.iconst 3, 1) := dk_6 (dk_at dksX9_means_3 23 rfl rfl)
theorem dX9_means_94 : decode cX9_means 94 = .ok (.iload_n 1, 1) := dk_27 (dk_at dksX9_means_4 0 rfl rfl)
theorem dX9_means_95 : decode cX9_means 95 = .ok (.iconst 1, 1) := dk_4 (dk_at dksX9_means_4 1 rfl rfl)
theorem dX9_means_96 : decode cX9_means 96 = .ok (.iadd, 1) := dk_96 (dk_at dksX9_means_4 2 rfl rfl)
theorem dX9_means_97 : decode cX9_means 97 = .ok (.invokevirtual 230, 3) := dk_182 0 230 (dk_at dksX9_means_4 3 rfl rfl)
theorem dX9_means_100 : decode cX9_means 100 = .ok (.aload_n 0, 1) := dk_42 (dk_at dksX9_means_4 6 rfl rfl)
theorem dX9_means_101 : decode cX9_means 101 = .ok (.getfield 20, 3) := dk_180 0 20 (dk_at dksX9_means_4 7 rfl rfl)
theorem dX9_means_104 : decode cX9_means 104 = .ok (.iload_n 1, 1) := dk_27 (dk_at dksX9_means_4 10 rfl rfl)
theorem dX9_means_105 : decode cX9_means 105 = .ok (.iaload, 1) := dk_46 (dk_at dksX9_means_4 11 rfl rfl)
theorem dX9_means_106 : decode cX9_means 106 = .ok (.bipush 21, 2) := dk_16 21 (dk_at dksX9_means_4 12 rfl rfl)
theorem dX9_means_108 : decode cX9_means 108 = .ok (.if_icmp .ne 8, 3) := dk_160 0 8 (dk_at dksX9_means_4 14 rfl rfl)
theorem dX9_means_111 : decode cX9_means 111 = .ok (.aload_n 0, 1) := dk_42 (dk_at dksX9_means_4 17 rfl rfl)
theorem dX9_means_112 : decode cX9_means 112 = .ok (.iload_n 1, 1) := dk_27 (dk_at dksX9_means_4 18 rfl rfl)
theorem dX9_means_113 : decode cX9_means 113 = .ok (.invokevirtual 234, 3) := dk_182 0 234 (dk_at dksX9_means_4 19 rfl rfl)
theorem dX9_means_116 : decode cX9_means 116 = .ok (.iconst 0, 1) := dk_3 (dk_at dksX9_means_4 22 rfl rfl)
theorem dX9_means_117 : decode cX9_means 117 = .ok (.istore_n 2, 1) := dk_61 (dk_at dksX9_means_4 23 rfl rfl)
theorem dX9_means_118 : decode cX9_means 118 = .ok (.iload_n 2, 1) := dk_28 (dk_at dksX9_means_5 0 rfl rfl)
theorem dX9_means_119 : decode cX9_means 119 = .ok (.iconst 4, 1) := dk_7 (dk_at dksX9_means_5 1 rfl rfl)
theorem dX9_means_120 : decode cX9_means 120 = .ok (.if_icmp .ge 61, 3) := dk_162 0 61 (dk_at dksX9_means_5 2 rfl rfl)
theorem dX9_means_123 : decode cX9_means 123 = .ok (.aload_n 0, 1) := dk_42 (dk_at dksX9_means_5 5 rfl rfl)
theorem dX9_means_124 : decode cX9_means 124 = .ok (.getfield 20, 3) := dk_180 0 20 (dk_at dksX9_means_5 6 rfl rfl)
theorem dX9_means_127 : decode cX9_means 127 = .ok (.iload_n 1, 1) := dk_27 (dk_at dksX9_means_5 9 rfl rfl)
theorem dX9_means_128 : decode cX9_means 128 = .ok (.iaload, 1) := dk_46 (dk_at dksX9_means_5 10 rfl rfl)
theorem dX9_means_129 : decode cX9_means 129 = .ok (.bipush 22, 2) := dk_16 22 (dk_at dksX9_means_5 11 rfl rfl)
theorem dX9_means_131 : decode cX9_means 131 = .ok (.if_icmp .ne 50, 3) := dk_160 0 50 (dk_at dksX9_means_5 13 rfl rfl)
theorem dX9_means_134 : decode cX9_means 134 = .ok (.aload_n 0, 1) := dk_42 (dk_at dksX9_means_5 16 rfl rfl)
theorem dX9_means_135 : decode cX9_means 135 = .ok (.getfield 46, 3) := dk_180 0 46 (dk_at dksX9_means_5 17 rfl rfl)
theorem dX9_means_138 : decode cX9_means 138 = .ok (.iload_n 2, 1) := dk_28 (dk_at dksX9_means_5 20 rfl rfl)
theorem dX9_means_139 : decode cX9_means 139 = .ok (.aload_n 0, 1) := dk_42 (dk_at dksX9_means_5 21 rfl rfl)
theorem dX9_means_140 : decode cX9_means 140 = .ok (.getfield 27, 3) := dk_180 0 27 (dk_at dksX9_means_6 0 rfl rfl)
theorem dX9_means_143 : decode cX9_means 143 = .ok (.iload_n 1, 1) := dk_27 (dk_at dksX9_means_6 3 rfl rfl)
theorem dX9_means_144 : decode cX9_means 144 = .ok (.iconst 1, 1) := dk_4 (dk_at dksX9_means_6 4 rfl rfl)
theorem dX9_means_145 : decode cX9_means 145 = .ok (.iadd, 1) := dk_96 (dk_at dksX9_means_6 5 rfl rfl)
theorem dX9_means_146 : decode cX9_means 146 = .ok (.iload_n 2, 1) := dk_28 (dk_at dksX9_means_6 6 rfl rfl)
theorem dX9_means_147 : decode cX9_means 147 = .ok (.iadd, 1) := dk_96 (dk_at dksX9_means_6 7 rfl rfl)
theorem dX9_means_148 : decode cX9_means 148 = .ok (.iaload, 1) := dk_46 (dk_at dksX9_means_6 8 rfl rfl)
theorem dX9_means_149 : decode cX9_means 149 = .ok (.iastore, 1) := dk_79 (dk_at dksX9_means_6 9 rfl rfl)
theorem dX9_means_150 : decode cX9_means 150 = .ok (.aload_n 0, 1) := dk_42 (dk_at dksX9_means_6 10 rfl rfl)
theorem dX9_means_151 : decode cX9_means 151 = .ok (.getfield 46, 3) := dk_180 0 46 (dk_at dksX9_means_6 11 rfl rfl)
theorem dX9_means_154 : decode cX9_means 154 = .ok (.iload_n 2, 1) := dk_28 (dk_at dksX9_means_6 14 rfl rfl)
theorem dX9_means_155 : decode cX9_means 155 = .ok (.iaload, 1) := dk_46 (dk_at dksX9_means_6 15 rfl rfl)
theorem dX9_means_156 : decode cX9_means 156 = .ok (.iconst 1, 1) := dk_4 (dk_at dksX9_means_6 16 rfl rfl)
theorem dX9_means_157 : decode cX9_means 157 = .ok (.bipush 99, 2) := dk_16 99 (dk_at dksX9_means_6 17 rfl rfl)
theorem dX9_means_159 : decode cX9_means 159 = .ok (.invokestatic 237, 3) := dk_184 0 237 (dk_at dksX9_means_6 19 rfl rfl)
theorem dX9_means_162 : decode cX9_means 162 = .ok (.ifCond .ne 13, 3) := dk_154 0 13 (dk_at dksX9_means_7 0 rfl rfl)
theorem dX9_means_165 : decode cX9_means 165 = .ok (.aload_n 0, 1) := dk_42 (dk_at dksX9_means_7 3 rfl rfl)
theorem dX9_means_166 : decode cX9_means 166 = .ok (.iconst 5, 1) := dk_8 (dk_at dksX9_means_7 4 rfl rfl)
theorem dX9_means_167 : decode cX9_means 167 = .ok (.iload_n 1, 1) := dk_27 (dk_at dksX9_means_7 5 rfl rfl)
theorem dX9_means_168 : decode cX9_means 168 = .ok (.iconst 1, 1) := dk_4 (dk_at dksX9_means_7 6 rfl rfl)
theorem dX9_means_169 : decode cX9_means 169 = .ok (.iadd, 1) := dk_96 (dk_at dksX9_means_7 7 rfl rfl)
theorem dX9_means_170 : decode cX9_means 170 = .ok (.iload_n 2, 1) := dk_28 (dk_at dksX9_means_7 8 rfl rfl)
theorem dX9_means_171 : decode cX9_means 171 = .ok (.iadd, 1) := dk_96 (dk_at dksX9_means_7 9 rfl rfl)
theorem dX9_means_172 : decode cX9_means 172 = .ok (.invokevirtual 230, 3) := dk_182 0 230 (dk_at dksX9_means_7 10 rfl rfl)
theorem dX9_means_175 : decode cX9_means 175 = .ok (.iinc 2 1, 3) := dk_132 2 1 (dk_at dksX9_means_7 13 rfl rfl)
theorem dX9_means_178 : decode cX9_means 178 = .ok (.goto (-60), 3) := dk_167 255 196 (dk_at dksX9_means_7 16 rfl rfl)
theorem dX9_means_181 : decode cX9_means 181 = .ok (.aload_n 0, 1) := dk_42 (dk_at dksX9_means_7 19 rfl rfl)
theorem dX9_means_182 : decode cX9_means 182 = .ok (.getfield 20, 3) := dk_180 0 20 (dk_at dksX9_means_7 20 rfl rfl)
theorem dX9_means_185 : decode cX9_means 185 = .ok (.iload_n 1, 1) := dk_27 (dk_at dksX9_means_7 23 rfl rfl)
theorem dX9_means_186 : decode cX9_means 186 = .ok (.iaload, 1) := dk_46 (dk_at dksX9_means_8 0 rfl rfl)
theorem dX9_means_187 : decode cX9_means 187 = .ok (.bipush 23, 2) := dk_16 23 (dk_at dksX9_means_8 1 rfl rfl)
theorem dX9_means_189 : decode cX9_means 189 = .ok (.if_icmp .ne 8, 3) := dk_160 0 8 (dk_at dksX9_means_8 3 rfl rfl)
theorem dX9_means_192 : decode cX9_means 192 = .ok (.aload_n 0, 1) := dk_42 (dk_at dksX9_means_8 6 rfl rfl)
theorem dX9_means_193 : decode cX9_means 193 = .ok (.iload_n 1, 1) := dk_27 (dk_at dksX9_means_8 7 rfl rfl)
theorem dX9_means_194 : decode cX9_means 194 = .ok (.invokevirtual 241, 3) := dk_182 0 241 (dk_at dksX9_means_8 8 rfl rfl)
theorem dX9_means_197 : decode cX9_means 197 = .ok (.iinc 1 1, 3) := dk_132 1 1 (dk_at dksX9_means_8 11 rfl rfl)
theorem dX9_means_200 : decode cX9_means 200 = .ok (.goto (-138), 3) := dk_167 255 118 (dk_at dksX9_means_8 14 rfl rfl)
theorem dX9_means_203 : decode cX9_means 203 = .ok (.return_, 1) := dk_177 (dk_at dksX9_means_8 17 rfl rfl)
abbrev cX9_named : ByteArray := prog_13_method_23_code
def yX9_named : MethodName := ⟨RX9, "named", "(II)I"⟩
def dkwX9_named_2 : List UInt8 := [132, 3, 1, 132, 4, 1, 167, 255, 208, 2, 172]
abbrev dktX9_named_2 : List UInt8 := dkwX9_named_2 ++ []
def dkwX9_named_1 : List UInt8 := [167, 0, 27, 42, 180, 0, 30, 21, 4, 4, 96, 47, 42, 180, 0, 30, 27, 47, 148, 154, 0, 5, 29, 172]
abbrev dktX9_named_1 : List UInt8 := dkwX9_named_1 ++ dktX9_named_2
def dkwX9_named_0 : List UInt8 := [3, 62, 3, 54, 4, 21, 4, 28, 162, 0, 48, 42, 180, 0, 20, 21, 4, 46, 16, 20, 159, 0, 6]
abbrev dktX9_named_0 : List UInt8 := dkwX9_named_0 ++ dktX9_named_1
theorem dksX9_named_0 : cX9_named.data.toList.drop 0 = dktX9_named_0 := by decide +kernel
theorem dksX9_named_1 : cX9_named.data.toList.drop 23 = dktX9_named_1 := dk_seg dksX9_named_0 23 rfl rfl
theorem dksX9_named_2 : cX9_named.data.toList.drop 47 = dktX9_named_2 := dk_seg dksX9_named_1 24 rfl rfl
theorem dX9_named_0 : decode cX9_named 0 = .ok (.iconst 0, 1) := dk_3 (dk_at dksX9_named_0 0 rfl rfl)
theorem dX9_named_1 : decode cX9_named 1 = .ok (.istore_n 3, 1) := dk_62 (dk_at dksX9_named_0 1 rfl rfl)
theorem dX9_named_2 : decode cX9_named 2 = .ok (.iconst 0, 1) := dk_3 (dk_at dksX9_named_0 2 rfl rfl)
theorem dX9_named_3 : decode cX9_named 3 = .ok (.istore 4, 2) := dk_54 4 (dk_at dksX9_named_0 3 rfl rfl)
theorem dX9_named_5 : decode cX9_named 5 = .ok (.iload 4, 2) := dk_21 4 (dk_at dksX9_named_0 5 rfl rfl)
theorem dX9_named_7 : decode cX9_named 7 = .ok (.iload_n 2, 1) := dk_28 (dk_at dksX9_named_0 7 rfl rfl)
theorem dX9_named_8 : decode cX9_named 8 = .ok (.if_icmp .ge 48, 3) := dk_162 0 48 (dk_at dksX9_named_0 8 rfl rfl)
theorem dX9_named_11 : decode cX9_named 11 = .ok (.aload_n 0, 1) := dk_42 (dk_at dksX9_named_0 11 rfl rfl)
theorem dX9_named_12 : decode cX9_named 12 = .ok (.getfield 20, 3) := dk_180 0 20 (dk_at dksX9_named_0 12 rfl rfl)
theorem dX9_named_15 : decode cX9_named 15 = .ok (.iload 4, 2) := dk_21 4 (dk_at dksX9_named_0 15 rfl rfl)
theorem dX9_named_17 : decode cX9_named 17 = .ok (.iaload, 1) := dk_46 (dk_at dksX9_named_0 17 rfl rfl)
theorem dX9_named_18 : decode cX9_named 18 = .ok (.bipush 20, 2) := dk_16 20 (dk_at dksX9_named_0 18 rfl rfl)
theorem dX9_named_20 : decode cX9_named 20 = .ok (.if_icmp .eq 6, 3) := dk_159 0 6 (dk_at dksX9_named_0 20 rfl rfl)
theorem dX9_named_23 : decode cX9_named 23 = .ok (.goto 27, 3) := dk_167 0 27 (dk_at dksX9_named_1 0 rfl rfl)
theorem dX9_named_26 : decode cX9_named 26 = .ok (.aload_n 0, 1) := dk_42 (dk_at dksX9_named_1 3 rfl rfl)
theorem dX9_named_27 : decode cX9_named 27 = .ok (.getfield 30, 3) := dk_180 0 30 (dk_at dksX9_named_1 4 rfl rfl)
theorem dX9_named_30 : decode cX9_named 30 = .ok (.iload 4, 2) := dk_21 4 (dk_at dksX9_named_1 7 rfl rfl)
theorem dX9_named_32 : decode cX9_named 32 = .ok (.iconst 1, 1) := dk_4 (dk_at dksX9_named_1 9 rfl rfl)
theorem dX9_named_33 : decode cX9_named 33 = .ok (.iadd, 1) := dk_96 (dk_at dksX9_named_1 10 rfl rfl)
theorem dX9_named_34 : decode cX9_named 34 = .ok (.laload, 1) := dk_47 (dk_at dksX9_named_1 11 rfl rfl)
theorem dX9_named_35 : decode cX9_named 35 = .ok (.aload_n 0, 1) := dk_42 (dk_at dksX9_named_1 12 rfl rfl)
theorem dX9_named_36 : decode cX9_named 36 = .ok (.getfield 30, 3) := dk_180 0 30 (dk_at dksX9_named_1 13 rfl rfl)
theorem dX9_named_39 : decode cX9_named 39 = .ok (.iload_n 1, 1) := dk_27 (dk_at dksX9_named_1 16 rfl rfl)
theorem dX9_named_40 : decode cX9_named 40 = .ok (.laload, 1) := dk_47 (dk_at dksX9_named_1 17 rfl rfl)
theorem dX9_named_41 : decode cX9_named 41 = .ok (.lcmp, 1) := dk_148 (dk_at dksX9_named_1 18 rfl rfl)
theorem dX9_named_42 : decode cX9_named 42 = .ok (.ifCond .ne 5, 3) := dk_154 0 5 (dk_at dksX9_named_1 19 rfl rfl)
theorem dX9_named_45 : decode cX9_named 45 = .ok (.iload_n 3, 1) := dk_29 (dk_at dksX9_named_1 22 rfl rfl)
theorem dX9_named_46 : decode cX9_named 46 = .ok (.ireturn, 1) := dk_172 (dk_at dksX9_named_1 23 rfl rfl)
theorem dX9_named_47 : decode cX9_named 47 = .ok (.iinc 3 1, 3) := dk_132 3 1 (dk_at dksX9_named_2 0 rfl rfl)
theorem dX9_named_50 : decode cX9_named 50 = .ok (.iinc 4 1, 3) := dk_132 4 1 (dk_at dksX9_named_2 3 rfl rfl)
theorem dX9_named_53 : decode cX9_named 53 = .ok (.goto (-48), 3) := dk_167 255 208 (dk_at dksX9_named_2 6 rfl rfl)
theorem dX9_named_56 : decode cX9_named 56 = .ok (.iconst (-1), 1) := dk_2 (dk_at dksX9_named_2 9 rfl rfl)
theorem dX9_named_57 : decode cX9_named 57 = .ok (.ireturn, 1) := dk_172 (dk_at dksX9_named_2 10 rfl rfl)
abbrev cX9_wrong : ByteArray := prog_13_method_16_code
def yX9_wrong : MethodName := ⟨RX9, "wrong", "(II)V"⟩
def dkwX9_wrong_2 : List UInt8 := [27, 181, 0, 174, 42, 29, 181, 0, 177, 177]
abbrev dktX9_wrong_2 : List UInt8 := dkwX9_wrong_2 ++ []
def dkwX9_wrong_1 : List UInt8 := [180, 0, 177, 163, 0, 19, 29, 42, 180, 0, 177, 160, 0, 12, 27, 42, 180, 0, 174, 161, 0, 4, 177, 42]
abbrev dktX9_wrong_1 : List UInt8 := dkwX9_wrong_1 ++ dktX9_wrong_2
def dkwX9_wrong_0 : List UInt8 := [42, 180, 0, 24, 28, 46, 62, 42, 180, 0, 165, 157, 0, 34, 42, 180, 0, 174, 153, 0, 28, 29, 42]
abbrev dktX9_wrong_0 : List UInt8 := dkwX9_wrong_0 ++ dktX9_wrong_1
theorem dksX9_wrong_0 : cX9_wrong.data.toList.drop 0 = dktX9_wrong_0 := by decide +kernel
theorem dksX9_wrong_1 : cX9_wrong.data.toList.drop 23 = dktX9_wrong_1 := dk_seg dksX9_wrong_0 23 rfl rfl
theorem dksX9_wrong_2 : cX9_wrong.data.toList.drop 47 = dktX9_wrong_2 := dk_seg dksX9_wrong_1 24 rfl rfl
theorem dX9_wrong_0 : decode cX9_wrong 0 = .ok (.aload_n 0, 1) := dk_42 (dk_at dksX9_wrong_0 0 rfl rfl)
theorem dX9_wrong_1 : decode cX9_wrong 1 = .ok (.getfield 24, 3) := dk_180 0 24 (dk_at dksX9_wrong_0 1 rfl rfl)
theorem dX9_wrong_4 : decode cX9_wrong 4 = .ok (.iload_n 2, 1) := dk_28 (dk_at dksX9_wrong_0 4 rfl rfl)
theorem dX9_wrong_5 : decode cX9_wrong 5 = .ok (.iaload, 1) := dk_46 (dk_at dksX9_wrong_0 5 rfl rfl)
theorem dX9_wrong_6 : decode cX9_wrong 6 = .ok (.istore_n 3, 1) := dk_62 (dk_at dksX9_wrong_0 6 rfl rfl)
theorem dX9_wrong_7 : decode cX9_wrong 7 = .ok (.aload_n 0, 1) := dk_42 (dk_at dksX9_wrong_0 7 rfl rfl)
theorem dX9_wrong_8 : decode cX9_wrong 8 = .ok (.getfield 165, 3) := dk_180 0 165 (dk_at dksX9_wrong_0 8 rfl rfl)
theorem dX9_wrong_11 : decode cX9_wrong 11 = .ok (.ifCond .gt 34, 3) := dk_157 0 34 (dk_at dksX9_wrong_0 11 rfl rfl)
theorem dX9_wrong_14 : decode cX9_wrong 14 = .ok (.aload_n 0, 1) := dk_42 (dk_at dksX9_wrong_0 14 rfl rfl)
theorem dX9_wrong_15 : decode cX9_wrong 15 = .ok (.getfield 174, 3) := dk_180 0 174 (dk_at dksX9_wrong_0 15 rfl rfl)
theorem dX9_wrong_18 : decode cX9_wrong 18 = .ok (.ifCond .eq 28, 3) := dk_153 0 28 (dk_at dksX9_wrong_0 18 rfl rfl)
theorem dX9_wrong_21 : decode cX9_wrong 21 = .ok (.iload_n 3, 1) := dk_29 (dk_at dksX9_wrong_0 21 rfl rfl)
theorem dX9_wrong_22 : decode cX9_wrong 22 = .ok (.aload_n 0, 1) := dk_42 (dk_at dksX9_wrong_0 22 rfl rfl)
theorem dX9_wrong_23 : decode cX9_wrong 23 = .ok (.getfield 177, 3) := dk_180 0 177 (dk_at dksX9_wrong_1 0 rfl rfl)
theorem dX9_wrong_26 : decode cX9_wrong 26 = .ok (.if_icmp .gt 19, 3) := dk_163 0 19 (dk_at dksX9_wrong_1 3 rfl rfl)
theorem dX9_wrong_29 : decode cX9_wrong 29 = .ok (.iload_n 3, 1) := dk_29 (dk_at dksX9_wrong_1 6 rfl rfl)
theorem dX9_wrong_30 : decode cX9_wrong 30 = .ok (.aload_n 0, 1) := dk_42 (dk_at dksX9_wrong_1 7 rfl rfl)
theorem dX9_wrong_31 : decode cX9_wrong 31 = .ok (.getfield 177, 3) := dk_180 0 177 (dk_at dksX9_wrong_1 8 rfl rfl)
theorem dX9_wrong_34 : decode cX9_wrong 34 = .ok (.if_icmp .ne 12, 3) := dk_160 0 12 (dk_at dksX9_wrong_1 11 rfl rfl)
theorem dX9_wrong_37 : decode cX9_wrong 37 = .ok (.iload_n 1, 1) := dk_27 (dk_at dksX9_wrong_1 14 rfl rfl)
theorem dX9_wrong_38 : decode cX9_wrong 38 = .ok (.aload_n 0, 1) := dk_42 (dk_at dksX9_wrong_1 15 rfl rfl)
theorem dX9_wrong_39 : decode cX9_wrong 39 = .ok (.getfield 174, 3) := dk_180 0 174 (dk_at dksX9_wrong_1 16 rfl rfl)
theorem dX9_wrong_42 : decode cX9_wrong 42 = .ok (.if_icmp .lt 4, 3) := dk_161 0 4 (dk_at dksX9_wrong_1 19 rfl rfl)
theorem dX9_wrong_45 : decode cX9_wrong 45 = .ok (.return_, 1) := dk_177 (dk_at dksX9_wrong_1 22 rfl rfl)
theorem dX9_wrong_46 : decode cX9_wrong 46 = .ok (.aload_n 0, 1) := dk_42 (dk_at dksX9_wrong_1 23 rfl rfl)
theorem dX9_wrong_47 : decode cX9_wrong 47 = .ok (.iload_n 1, 1) := dk_27 (dk_at dksX9_wrong_2 0 rfl rfl)
theorem dX9_wrong_48 : decode cX9_wrong 48 = .ok (.putfield 174, 3) := dk_181 0 174 (dk_at dksX9_wrong_2 1 rfl rfl)
theorem dX9_wrong_51 : decode cX9_wrong 51 = .ok (.aload_n 0, 1) := dk_42 (dk_at dksX9_wrong_2 4 rfl rfl)
theorem dX9_wrong_52 : decode cX9_wrong 52 = .ok (.iload_n 3, 1) := dk_29 (dk_at dksX9_wrong_2 5 rfl rfl)
theorem dX9_wrong_53 : decode cX9_wrong 53 = .ok (.putfield 177, 3) := dk_181 0 177 (dk_at dksX9_wrong_2 6 rfl rfl)
theorem dX9_wrong_56 : decode cX9_wrong 56 = .ok (.return_, 1) := dk_177 (dk_at dksX9_wrong_2 9 rfl rfl)
abbrev cX9_meansGate : ByteArray := prog_13_method_25_code
def yX9_meansGate : MethodName := ⟨RX9, "meansGate", "(I)V"⟩
def dkwX9_meansGate_8 : List UInt8 := [177]
abbrev dktX9_meansGate_8 : List UInt8 := dkwX9_meansGate_8 ++ []
def dkwX9_meansGate_7 : List UInt8 := [4, 21, 5, 120, 128, 79, 3, 62, 132, 4, 1, 167, 255, 95, 42, 180, 0, 55, 3, 92, 46, 4, 96, 79]
abbrev dktX9_meansGate_7 : List UInt8 := dkwX9_meansGate_7 ++ dktX9_meansGate_8
def dkwX9_meansGate_6 : List UInt8 := [21, 5, 155, 0, 28, 42, 180, 0, 55, 29, 153, 0, 8, 16, 33, 167, 0, 5, 16, 17, 28, 96, 92, 46]
abbrev dktX9_meansGate_6 : List UInt8 := dkwX9_meansGate_6 ++ dktX9_meansGate_7
def dkwX9_meansGate_5 : List UInt8 := [182, 0, 230, 21, 4, 27, 4, 96, 160, 0, 16, 42, 180, 0, 55, 4, 28, 96, 21, 5, 79, 167, 0, 33]
abbrev dktX9_meansGate_5 : List UInt8 := dkwX9_meansGate_5 ++ dktX9_meansGate_6
def dkwX9_meansGate_4 : List UInt8 := [167, 255, 210, 42, 21, 4, 42, 180, 0, 143, 182, 0, 227, 54, 5, 21, 5, 156, 0, 10, 42, 7, 21, 4]
abbrev dktX9_meansGate_4 : List UInt8 := dkwX9_meansGate_4 ++ dktX9_meansGate_5
def dkwX9_meansGate_3 : List UInt8 := [47, 42, 180, 0, 30, 21, 4, 47, 148, 154, 0, 10, 42, 6, 21, 4, 182, 0, 230, 132, 5, 1]
abbrev dktX9_meansGate_3 : List UInt8 := dkwX9_meansGate_3 ++ dktX9_meansGate_4
def dkwX9_meansGate_2 : List UInt8 := [21, 5, 21, 4, 162, 0, 45, 42, 180, 0, 20, 21, 5, 46, 4, 160, 0, 28, 42, 180, 0, 30, 21, 5]
abbrev dktX9_meansGate_2 : List UInt8 := dkwX9_meansGate_2 ++ dktX9_meansGate_3
def dkwX9_meansGate_1 : List UInt8 := [159, 0, 156, 42, 180, 0, 20, 21, 4, 46, 8, 160, 0, 8, 4, 62, 167, 0, 134, 27, 4, 96, 54, 5]
abbrev dktX9_meansGate_1 : List UInt8 := dkwX9_meansGate_1 ++ dktX9_meansGate_2
def dkwX9_meansGate_0 : List UInt8 := [42, 180, 0, 55, 3, 46, 61, 3, 62, 27, 4, 96, 54, 4, 42, 180, 0, 20, 21, 4, 46, 7]
abbrev dktX9_meansGate_0 : List UInt8 := dkwX9_meansGate_0 ++ dktX9_meansGate_1
theorem dksX9_meansGate_0 : cX9_meansGate.data.toList.drop 0 = dktX9_meansGate_0 := by decide +kernel
theorem dksX9_meansGate_1 : cX9_meansGate.data.toList.drop 22 = dktX9_meansGate_1 := dk_seg dksX9_meansGate_0 22 rfl rfl
theorem dksX9_meansGate_2 : cX9_meansGate.data.toList.drop 46 = dktX9_meansGate_2 := dk_seg dksX9_meansGate_1 24 rfl rfl
theorem dksX9_meansGate_3 : cX9_meansGate.data.toList.drop 70 = dktX9_meansGate_3 := dk_seg dksX9_meansGate_2 24 rfl rfl
theorem dksX9_meansGate_4 : cX9_meansGate.data.toList.drop 92 = dktX9_meansGate_4 := dk_seg dksX9_meansGate_3 22 rfl rfl
theorem dksX9_meansGate_5 : cX9_meansGate.data.toList.drop 116 = dktX9_meansGate_5 := dk_seg dksX9_meansGate_4 24 rfl rfl
theorem dksX9_meansGate_6 : cX9_meansGate.data.toList.drop 140 = dktX9_meansGate_6 := dk_seg dksX9_meansGate_5 24 rfl rfl
theorem dksX9_meansGate_7 : cX9_meansGate.data.toList.drop 164 = dktX9_meansGate_7 := dk_seg dksX9_meansGate_6 24 rfl rfl
theorem dksX9_meansGate_8 : cX9_meansGate.data.toList.drop 188 = dktX9_meansGate_8 := dk_seg dksX9_meansGate_7 24 rfl rfl
theorem dX9_meansGate_0 : decode cX9_meansGate 0 = .ok (.aload_n 0, 1) := dk_42 (dk_at dksX9_meansGate_0 0 rfl rfl)
theorem dX9_meansGate_1 : decode cX9_meansGate 1 = .ok (.getfield 55, 3) := dk_180 0 55 (dk_at dksX9_meansGate_0 1 rfl rfl)
theorem dX9_meansGate_4 : decode cX9_meansGate 4 = .ok (.iconst 0, 1) := dk_3 (dk_at dksX9_meansGate_0 4 rfl rfl)
theorem dX9_meansGate_5 : decode cX9_meansGate 5 = .ok (.iaload, 1) := dk_46 (dk_at dksX9_meansGate_0 5 rfl rfl)
theorem dX9_meansGate_6 : decode cX9_meansGate 6 = .ok (.istore_n 2, 1) := dk_61 (dk_at dksX9_meansGate_0 6 rfl rfl)
theorem dX9_meansGate_7 : decode cX9_meansGate 7 = .ok (.iconst 0, 1) := dk_3 (dk_at dksX9_meansGate_0 7 rfl rfl)
theorem dX9_meansGate_8 : decode cX9_meansGate 8 = .ok (.istore_n 3, 1) := dk_62 (dk_at dksX9_meansGate_0 8 rfl rfl)
theorem dX9_meansGate_9 : decode cX9_meansGate 9 = .ok (.iload_n 1, 1) := dk_27 (dk_at dksX9_meansGate_0 9 rfl rfl)
theorem dX9_meansGate_10 : decode cX9_meansGate 10 = .ok (.iconst 1, 1) := dk_4 (dk_at dksX9_meansGate_0 10 rfl rfl)
theorem dX9_meansGate_11 : decode cX9_meansGate 11 = .ok (.iadd, 1) := dk_96 (dk_at dksX9_meansGate_0 11 rfl rfl)
theorem dX9_meansGate_12 : decode cX9_meansGate 12 = .ok (.istore 4, 2) := dk_54 4 (dk_at dksX9_meansGate_0 12 rfl rfl)
theorem dX9_meansGate_14 : decode cX9_meansGate 14 = .ok (.aload_n 0, 1) := dk_42 (dk_at dksX9_meansGate_0 14 rfl rfl)
theorem dX9_meansGate_15 : decode cX9_meansGate 15 = .ok (.getfield 20, 3) := dk_180 0 20 (dk_at dksX9_meansGate_0 15 rfl rfl)
theorem dX9_meansGate_18 : decode cX9_meansGate 18 = .ok (.iload 4, 2) := dk_21 4 (dk_at dksX9_meansGate_0 18 rfl rfl)
theorem dX9_meansGate_20 : decode cX9_meansGate 20 = .ok (.iaload, 1) := dk_46 (dk_at dksX9_meansGate_0 20 rfl rfl)
theorem dX9_meansGate_21 : decode cX9_meansGate 21 = .ok (.iconst 4, 1) := dk_7 (dk_at dksX9_meansGate_0 21 rfl rfl)
theorem dX9_meansGate_22 : decode cX9_meansGate 22 = .ok (.if_icmp .eq 156, 3) := dk_159 0 156 (dk_at dksX9_meansGate_1 0 rfl rfl)
theorem dX9_meansGate_25 : decode cX9_meansGate 25 = .ok (.aload_n 0, 1) := dk_42 (dk_at dksX9_meansGate_1 3 rfl rfl)
theorem dX9_meansGate_26 : decode cX9_meansGate 26 = .ok (.getfield 20, 3) := dk_180 0 20 (dk_at dksX9_meansGate_1 4 rfl rfl)
theorem dX9_meansGate_29 : decode cX9_meansGate 29 = .ok (.iload 4, 2) := dk_21 4 (dk_at dksX9_meansGate_1 7 rfl rfl)
theorem dX9_meansGate_31 : decode cX9_meansGate 31 = .ok (.iaload, 1) := dk_46 (dk_at dksX9_meansGate_1 9 rfl rfl)
theorem dX9_meansGate_32 : decode cX9_meansGate 32 = .ok (.iconst 5, 1) := dk_8 (dk_at dksX9_meansGate_1 10 rfl rfl)
theorem dX9_meansGate_33 : decode cX9_meansGate 33 = .ok (.if_icmp .ne 8, 3) := dk_160 0 8 (dk_at dksX9_meansGate_1 11 rfl rfl)
theorem dX9_meansGate_36 : decode cX9_meansGate 36 = .ok (.iconst 1, 1) := dk_4 (dk_at dksX9_meansGate_1 14 rfl rfl)
theorem dX9_meansGate_37 : decode cX9_meansGate 37 = .ok (.istore_n 3, 1) := dk_62 (dk_at dksX9_meansGate_1 15 rfl rfl)
theorem dX9_meansGate_38 : decode cX9_meansGate 38 = .ok (.goto 134, 3) := dk_167 0 134 (dk_at dksX9_meansGate_1 16 rfl rfl)
theorem dX9_meansGate_41 : decode cX9_meansGate 41 = .ok (.iload_n 1, 1) := dk_27 (dk_at dksX9_meansGate_1 19 rfl rfl)
theorem dX9_meansGate_42 : decode cX9_meansGate 42 = .ok (.iconst 1, 1) := dk_4 (dk_at dksX9_meansGate_1 20 rfl rfl)
theorem dX9_meansGate_43 : decode cX9_meansGate 43 = .ok (.iadd, 1) := dk_96 (dk_at dksX9_meansGate_1 21 rfl rfl)
theorem dX9_meansGate_44 : decode cX9_meansGate 44 = .ok (.istore 5, 2) := dk_54 5 (dk_at dksX9_meansGate_1 22 rfl rfl)
theorem dX9_meansGate_46 : decode cX9_meansGate 46 = .ok (.iload 5, 2) := dk_21 5 (dk_at dksX9_meansGate_2 0 rfl rfl)
theorem dX9_meansGate_48 : decode cX9_meansGate 48 = .ok (.iload 4, 2) := dk_21 4 (dk_at dksX9_meansGate_2 2 rfl rfl)
theorem dX9_meansGate_50 : decode cX9_meansGate 50 = .ok (.if_icmp .ge 45, 3) := dk_162 0 45 (dk_at dksX9_meansGate_2 4 rfl rfl)
theorem dX9_meansGate_53 : decode cX9_meansGate 53 = .ok (.aload_n 0, 1) := dk_42 (dk_at dksX9_meansGate_2 7 rfl rfl)
theorem dX9_meansGate_54 : decode cX9_meansGate 54 = .ok (.getfield 20, 3) := dk_180 0 20 (dk_at dksX9_meansGate_2 8 rfl rfl)
theorem dX9_meansGate_57 : decode cX9_meansGate 57 = .ok (.iload 5, 2) := dk_21 5 (dk_at dksX9_meansGate_2 11 rfl rfl)
theorem dX9_meansGate_59 : decode cX9_meansGate 59 = .ok (.iaload, 1) := dk_46 (dk_at dksX9_meansGate_2 13 rfl rfl)
theorem dX9_meansGate_60 : decode cX9_meansGate 60 = .ok (.iconst 1, 1) := dk_4 (dk_at dksX9_meansGate_2 14 rfl rfl)
theorem dX9_meansGate_61 : decode cX9_meansGate 61 = .ok (.if_icmp .ne 28, 3) := dk_160 0 28 (dk_at dksX9_meansGate_2 15 rfl rfl)
theorem dX9_meansGate_64 : decode cX9_meansGate 64 = .ok (.aload_n 0, 1) := dk_42 (dk_at dksX9_meansGate_2 18 rfl rfl)
theorem dX9_meansGate_65 : decode cX9_meansGate 65 = .ok (.getfield 30, 3) := dk_180 0 30 (dk_at dksX9_meansGate_2 19 rfl rfl)
theorem dX9_meansGate_68 : decode cX9_meansGate 68 = .ok (.iload 5, 2) := dk_21 5 (dk_at dksX9_meansGate_2 22 rfl rfl)
theorem dX9_meansGate_70 : decode cX9_meansGate 70 = .ok (.laload, 1) := dk_47 (dk_at dksX9_meansGate_3 0 rfl rfl)
theorem dX9_meansGate_71 : decode cX9_meansGate 71 = .ok (.aload_n 0, 1) := dk_42 (dk_at dksX9_meansGate_3 1 rfl rfl)
theorem dX9_meansGate_72 : decode cX9_meansGate 72 = .ok (.getfield 30, 3) := dk_180 0 30 (dk_at dksX9_meansGate_3 2 rfl rfl)
theorem dX9_meansGate_75 : decode cX9_meansGate 75 = .ok (.iload 4, 2) := dk_21 4 (dk_at dksX9_meansGate_3 5 rfl rfl)
theorem dX9_meansGate_77 : decode cX9_meansGate 77 = .ok (.laload, 1) := dk_47 (dk_at dksX9_meansGate_3 7 rfl rfl)
theorem dX9_meansGate_78 : decode cX9_meansGate 78 = .ok (.lcmp, 1) := dk_148 (dk_at dksX9_meansGate_3 8 rfl rfl)
theorem dX9_meansGate_79 : decode cX9_meansGate 79 = .ok (.ifCond .ne 10, 3) := dk_154 0 10 (dk_at dksX9_meansGate_3 9 rfl rfl)
theorem dX9_meansGate_82 : decode cX9_meansGate 82 = .ok (.aload_n 0, 1) := dk_42 (dk_at dksX9_meansGate_3 12 rfl rfl)
theorem dX9_meansGate_83 : decode cX9_meansGate 83 = .ok (.iconst 3, 1) := dk_6 (dk_at dksX9_meansGate_3 13 rfl rfl)
theorem dX9_meansGate_84 : decode cX9_meansGate 84 = .ok (.iload 4, 2) := dk_21 4 (dk_at dksX9_meansGate_3 14 rfl rfl)
theorem dX9_meansGate_86 : decode cX9_meansGate 86 = .ok (.invokevirtual 230, 3) := dk_182 0 230 (dk_at dksX9_meansGate_3 16 rfl rfl)
theorem dX9_meansGate_89 : decode cX9_meansGate 89 = .ok (.iinc 5 1, 3) := dk_132 5 1 (dk_at dksX9_meansGate_3 19 rfl rfl)
theorem dX9_meansGate_92 : decode cX9_meansGate 92 = .ok (.goto (-46), 3) := dk_167 255 210 (dk_at dksX9_meansGate_4 0 rfl rfl)
theorem dX9_meansGate_95 : decode cX9_meansGate 95 = .ok (.aload_n 0, 1) := dk_42 (dk_at dksX9_meansGate_4 3 rfl rfl)
theorem dX9_meansGate_96 : decode cX9_meansGate 96 = .ok (.iload 4, 2) := dk_21 4 (dk_at dksX9_meansGate_4 4 rfl rfl)
theorem dX9_meansGate_98 : decode cX9_meansGate 98 = .ok (.aload_n 0, 1) := dk_42 (dk_at dksX9_meansGate_4 6 rfl rfl)
theorem dX9_meansGate_99 : decode cX9_meansGate 99 = .ok (.getfield 143, 3) := dk_180 0 143 (dk_at dksX9_meansGate_4 7 rfl rfl)
theorem dX9_meansGate_102 : decode cX9_meansGate 102 = .ok (.invokevirtual 227, 3) := dk_182 0 227 (dk_at dksX9_meansGate_4 10 rfl rfl)
theorem dX9_meansGate_105 : decode cX9_meansGate 105 = .ok (.istore 5, 2) := dk_54 5 (dk_at dksX9_meansGate_4 13 rfl rfl)
theorem dX9_meansGate_107 : decode cX9_meansGate 107 = .ok (.iload 5, 2) := dk_21 5 (dk_at dksX9_meansGate_4 15 rfl rfl)
theorem dX9_meansGate_109 : decode cX9_meansGate 109 = .ok (.ifCond .ge 10, 3) := dk_156 0 10 (dk_at dksX9_meansGate_4 17 rfl rfl)
theorem dX9_meansGate_112 : decode cX9_meansGate 112 = .ok (.aload_n 0, 1) := dk_42 (dk_at dksX9_meansGate_4 20 rfl rfl)
theorem dX9_meansGate_113 : decode cX9_meansGate 113 = .ok (.iconst 4, 1) := dk_7 (dk_at dksX9_meansGate_4 21 rfl rfl)
theorem dX9_meansGate_114 : decode cX9_meansGate 114 = .ok (.iload 4, 2) := dk_21 4 (dk_at dksX9_meansGate_4 22 rfl rfl)
theorem dX9_meansGate_116 : decode cX9_meansGate 116 = .ok (.invokevirtual 230, 3) := dk_182 0 230 (dk_at dksX9_meansGate_5 0 rfl rfl)
theorem dX9_meansGate_119 : decode cX9_meansGate 119 = .ok (.iload 4, 2) := dk_21 4 (dk_at dksX9_meansGate_5 3 rfl rfl)
theorem dX9_meansGate_121 : decode cX9_meansGate 121 = .ok (.iload_n 1, 1) := dk_27 (dk_at dksX9_meansGate_5 5 rfl rfl)
theorem dX9_meansGate_122 : decode cX9_meansGate 122 = .ok (.iconst 1, 1) := dk_4 (dk_at dksX9_meansGate_5 6 rfl rfl)
theorem dX9_meansGate_123 : decode cX9_meansGate 123 = .ok (.iadd, 1) := dk_96 (dk_at dksX9_meansGate_5 7 rfl rfl)
theorem dX9_meansGate_124 : decode cX9_meansGate 124 = .ok (.if_icmp .ne 16, 3) := dk_160 0 16 (dk_at dksX9_meansGate_5 8 rfl rfl)
theorem dX9_meansGate_127 : decode cX9_meansGate 127 = .ok (.aload_n 0, 1) := dk_42 (dk_at dksX9_meansGate_5 11 rfl rfl)
theorem dX9_meansGate_128 : decode cX9_meansGate 128 = .ok (.getfield 55, 3) := dk_180 0 55 (dk_at dksX9_meansGate_5 12 rfl rfl)
theorem dX9_meansGate_131 : decode cX9_meansGate 131 = .ok (.iconst 1, 1) := dk_4 (dk_at dksX9_meansGate_5 15 rfl rfl)
theorem dX9_meansGate_132 : decode cX9_meansGate 132 = .ok (.iload_n 2, 1) := dk_28 (dk_at dksX9_meansGate_5 16 rfl rfl)
theorem dX9_meansGate_133 : decode cX9_meansGate 133 = .ok (.iadd, 1) := dk_96 (dk_at dksX9_meansGate_5 17 rfl rfl)
theorem dX9_meansGate_134 : decode cX9_meansGate 134 = .ok (.iload 5, 2) := dk_21 5 (dk_at dksX9_meansGate_5 18 rfl rfl)
theorem dX9_meansGate_136 : decode cX9_meansGate 136 = .ok (.iastore, 1) := dk_79 (dk_at dksX9_meansGate_5 20 rfl rfl)
theorem dX9_meansGate_137 : decode cX9_meansGate 137 = .ok (.goto 33, 3) := dk_167 0 33 (dk_at dksX9_meansGate_5 21 rfl rfl)
theorem dX9_meansGate_140 : decode cX9_meansGate 140 = .ok (.iload 5, 2) := dk_21 5 (dk_at dksX9_meansGate_6 0 rfl rfl)
theorem dX9_meansGate_142 : decode cX9_meansGate 142 = .ok (.ifCond .lt 28, 3) := dk_155 0 28 (dk_at dksX9_meansGate_6 2 rfl rfl)
theorem dX9_meansGate_145 : decode cX9_meansGate 145 = .ok (.aload_n 0, 1) := dk_42 (dk_at dksX9_meansGate_6 5 rfl rfl)
theorem dX9_meansGate_146 : decode cX9_meansGate 146 = .ok (.getfield 55, 3) := dk_180 0 55 (dk_at dksX9_meansGate_6 6 rfl rfl)
theorem dX9_meansGate_149 : decode cX9_meansGate 149 = .ok (.iload_n 3, 1) := dk_29 (dk_at dksX9_meansGate_6 9 rfl rfl)
theorem dX9_meansGate_150 : decode cX9_meansGate 150 = .ok (.ifCond .eq 8, 3) := dk_153 0 8 (dk_at dksX9_meansGate_6 10 rfl rfl)
theorem dX9_meansGate_153 : decode cX9_meansGate 153 = .ok (.bipush 33, 2) := dk_16 33 (dk_at dksX9_meansGate_6 13 rfl rfl)
theorem dX9_meansGate_155 : decode cX9_meansGate 155 = .ok (.goto 5, 3) := dk_167 0 5 (dk_at dksX9_meansGate_6 15 rfl rfl)
theorem dX9_meansGate_158 : decode cX9_meansGate 158 = .ok (.bipush 17, 2) := dk_16 17 (dk_at dksX9_meansGate_6 18 rfl rfl)
theorem dX9_meansGate_160 : decode cX9_meansGate 160 = .ok (.iload_n 2, 1) := dk_28 (dk_at dksX9_meansGate_6 20 rfl rfl)
theorem dX9_meansGate_161 : decode cX9_meansGate 161 = .ok (.iadd, 1) := dk_96 (dk_at dksX9_meansGate_6 21 rfl rfl)
theorem dX9_meansGate_162 : decode cX9_meansGate 162 = .ok (.dup2, 1) := dk_92 (dk_at dksX9_meansGate_6 22 rfl rfl)
theorem dX9_meansGate_163 : decode cX9_meansGate 163 = .ok (.iaload, 1) := dk_46 (dk_at dksX9_meansGate_6 23 rfl rfl)
theorem dX9_meansGate_164 : decode cX9_meansGate 164 = .ok (.iconst 1, 1) := dk_4 (dk_at dksX9_meansGate_7 0 rfl rfl)
theorem dX9_meansGate_165 : decode cX9_meansGate 165 = .ok (.iload 5, 2) := dk_21 5 (dk_at dksX9_meansGate_7 1 rfl rfl)
theorem dX9_meansGate_167 : decode cX9_meansGate 167 = .ok (.ishl, 1) := dk_120 (dk_at dksX9_meansGate_7 3 rfl rfl)
theorem dX9_meansGate_168 : decode cX9_meansGate 168 = .ok (.ior, 1) := dk_128 (dk_at dksX9_meansGate_7 4 rfl rfl)
theorem dX9_meansGate_169 : decode cX9_meansGate 169 = .ok (.iastore, 1) := dk_79 (dk_at dksX9_meansGate_7 5 rfl rfl)
theorem dX9_meansGate_170 : decode cX9_meansGate 170 = .ok (.iconst 0, 1) := dk_3 (dk_at dksX9_meansGate_7 6 rfl rfl)
theorem dX9_meansGate_171 : decode cX9_meansGate 171 = .ok (.istore_n 3, 1) := dk_62 (dk_at dksX9_meansGate_7 7 rfl rfl)
theorem dX9_meansGate_172 : decode cX9_meansGate 172 = .ok (.iinc 4 1, 3) := dk_132 4 1 (dk_at dksX9_meansGate_7 8 rfl rfl)
theorem dX9_meansGate_175 : decode cX9_meansGate 175 = .ok (.goto (-161), 3) := dk_167 255 95 (dk_at dksX9_meansGate_7 11 rfl rfl)
theorem dX9_meansGate_178 : decode cX9_meansGate 178 = .ok (.aload_n 0, 1) := dk_42 (dk_at dksX9_meansGate_7 14 rfl rfl)
theorem dX9_meansGate_179 : decode cX9_meansGate 179 = .ok (.getfield 55, 3) := dk_180 0 55 (dk_at dksX9_meansGate_7 15 rfl rfl)
theorem dX9_meansGate_182 : decode cX9_meansGate 182 = .ok (.iconst 0, 1) := dk_3 (dk_at dksX9_meansGate_7 18 rfl rfl)
theorem dX9_meansGate_183 : decode cX9_meansGate 183 = .ok (.dup2, 1) := dk_92 (dk_at dksX9_meansGate_7 19 rfl rfl)
theorem dX9_meansGate_184 : decode cX9_meansGate 184 = .ok (.iaload, 1) := dk_46 (dk_at dksX9_meansGate_7 20 rfl rfl)
theorem dX9_meansGate_185 : decode cX9_meansGate 185 = .ok (.iconst 1, 1) := dk_4 (dk_at dksX9_meansGate_7 21 rfl rfl)
theorem dX9_meansGate_186 : decode cX9_meansGate 186 = .ok (.iadd, 1) := dk_96 (dk_at dksX9_meansGate_7 22 rfl rfl)
theorem dX9_meansGate_187 : decode cX9_meansGate 187 = .ok (.iastore, 1) := dk_79 (dk_at dksX9_meansGate_7 23 rfl rfl)
theorem dX9_meansGate_188 : decode cX9_meansGate 188 = .ok (.return_, 1) := dk_177 (dk_at dksX9_meansGate_8 0 rfl rfl)
abbrev cX9_in : ByteArray := prog_13_method_27_code
def yX9_in : MethodName := ⟨RX9, "in", "(III)Z"⟩
def dkwX9_in_0 : List UInt8 := [26, 27, 161, 0, 12, 26, 28, 163, 0, 7, 4, 167, 0, 4, 3, 172]
abbrev dktX9_in_0 : List UInt8 := dkwX9_in_0 ++ []
theorem dksX9_in_0 : cX9_in.data.toList.drop 0 = dktX9_in_0 := by decide +kernel
theorem dX9_in_0 : decode cX9_in 0 = .ok (.iload_n 0, 1) := dk_26 (dk_at dksX9_in_0 0 rfl rfl)
theorem dX9_in_1 : decode cX9_in 1 = .ok (.iload_n 1, 1) := dk_27 (dk_at dksX9_in_0 1 rfl rfl)
theorem dX9_in_2 : decode cX9_in 2 = .ok (.if_icmp .lt 12, 3) := dk_161 0 12 (dk_at dksX9_in_0 2 rfl rfl)
theorem dX9_in_5 : decode cX9_in 5 = .ok (.iload_n 0, 1) := dk_26 (dk_at dksX9_in_0 5 rfl rfl)
theorem dX9_in_6 : decode cX9_in 6 = .ok (.iload_n 2, 1) := dk_28 (dk_at dksX9_in_0 6 rfl rfl)
theorem dX9_in_7 : decode cX9_in 7 = .ok (.if_icmp .gt 7, 3) := dk_163 0 7 (dk_at dksX9_in_0 7 rfl rfl)
theorem dX9_in_10 : decode cX9_in 10 = .ok (.iconst 1, 1) := dk_4 (dk_at dksX9_in_0 10 rfl rfl)
theorem dX9_in_11 : decode cX9_in 11 = .ok (.goto 4, 3) := dk_167 0 4 (dk_at dksX9_in_0 11 rfl rfl)
theorem dX9_in_14 : decode cX9_in 14 = .ok (.iconst 0, 1) := dk_3 (dk_at dksX9_in_0 14 rfl rfl)
theorem dX9_in_15 : decode cX9_in 15 = .ok (.ireturn, 1) := dk_172 (dk_at dksX9_in_0 15 rfl rfl)
abbrev cX9_meansTable : ByteArray := prog_13_method_26_code
def yX9_meansTable : MethodName := ⟨RX9, "meansTable", "(I)V"⟩
def dkwX9_meansTable_6 : List UInt8 := [16, 6, 21, 5, 182, 0, 230, 42, 28, 181, 0, 206, 42, 29, 181, 0, 212, 177]
abbrev dktX9_meansTable_6 : List UInt8 := dkwX9_meansTable_6 ++ []
def dkwX9_meansTable_5 : List UInt8 := [132, 5, 1, 167, 255, 196, 28, 4, 6, 184, 0, 237, 153, 0, 19, 21, 4, 4, 28, 120, 159, 0, 11, 42]
abbrev dktX9_meansTable_5 : List UInt8 := dkwX9_meansTable_5 ++ dktX9_meansTable_6
def dkwX9_meansTable_4 : List UInt8 := [21, 5, 182, 0, 230, 42, 180, 0, 49, 21, 4, 42, 180, 0, 27, 21, 5, 46, 79, 132, 4, 1]
abbrev dktX9_meansTable_4 : List UInt8 := dkwX9_meansTable_4 ++ dktX9_meansTable_5
def dkwX9_meansTable_3 : List UInt8 := [4, 6, 184, 0, 237, 153, 0, 23, 42, 180, 0, 27, 21, 5, 46, 4, 29, 120, 161, 0, 10, 42, 8]
abbrev dktX9_meansTable_3 : List UInt8 := dkwX9_meansTable_3 ++ dktX9_meansTable_4
def dkwX9_meansTable_2 : List UInt8 := [96, 182, 0, 230, 3, 54, 4, 27, 6, 96, 54, 5, 42, 180, 0, 20, 21, 5, 46, 5, 160, 0, 55, 29]
abbrev dktX9_meansTable_2 : List UInt8 := dkwX9_meansTable_2 ++ dktX9_meansTable_3
def dkwX9_meansTable_1 : List UInt8 := [154, 0, 11, 42, 8, 27, 4, 96, 182, 0, 230, 29, 4, 6, 184, 0, 237, 154, 0, 11, 42, 8, 27, 5]
abbrev dktX9_meansTable_1 : List UInt8 := dkwX9_meansTable_1 ++ dktX9_meansTable_2
def dkwX9_meansTable_0 : List UInt8 := [42, 180, 0, 27, 27, 4, 96, 46, 61, 42, 180, 0, 27, 27, 5, 96, 46, 62, 28, 4, 6, 184, 0, 237]
abbrev dktX9_meansTable_0 : List UInt8 := dkwX9_meansTable_0 ++ dktX9_meansTable_1
theorem dksX9_meansTable_0 : cX9_meansTable.data.toList.drop 0 = dktX9_meansTable_0 := by decide +kernel
theorem dksX9_meansTable_1 : cX9_meansTable.data.toList.drop 24 = dktX9_meansTable_1 := dk_seg dksX9_meansTable_0 24 rfl rfl
theorem dksX9_meansTable_2 : cX9_meansTable.data.toList.drop 48 = dktX9_meansTable_2 := dk_seg dksX9_meansTable_1 24 rfl rfl
theorem dksX9_meansTable_3 : cX9_meansTable.data.toList.drop 72 = dktX9_meansTable_3 := dk_seg dksX9_meansTable_2 24 rfl rfl
theorem dksX9_meansTable_4 : cX9_meansTable.data.toList.drop 95 = dktX9_meansTable_4 := dk_seg dksX9_meansTable_3 23 rfl rfl
theorem dksX9_meansTable_5 : cX9_meansTable.data.toList.drop 117 = dktX9_meansTable_5 := dk_seg dksX9_meansTable_4 22 rfl rfl
theorem dksX9_meansTable_6 : cX9_meansTable.data.toList.drop 141 = dktX9_meansTable_6 := dk_seg dksX9_meansTable_5 24 rfl rfl
theorem dX9_meansTable_0 : decode cX9_meansTable 0 = .ok (.aload_n 0, 1) := dk_42 (dk_at dksX9_meansTable_0 0 rfl rfl)
theorem dX9_meansTable_1 : decode cX9_meansTable 1 = .ok (.getfield 27, 3) := dk_180 0 27 (dk_at dksX9_meansTable_0 1 rfl rfl)
theorem dX9_meansTable_4 : decode cX9_meansTable 4 = .ok (.iload_n 1, 1) := dk_27 (dk_at dksX9_meansTable_0 4 rfl rfl)
theorem dX9_meansTable_5 : decode cX9_meansTable 5 = .ok (.iconst 1, 1) := dk_4 (dk_at dksX9_meansTable_0 5 rfl rfl)
theorem dX9_meansTable_6 : decode cX9_meansTable 6 = .ok (.iadd, 1) := dk_96 (dk_at dksX9_meansTable_0 6 rfl rfl)
theorem dX9_meansTable_7 : decode cX9_meansTable 7 = .ok (.iaload, 1) := dk_46 (dk_at dksX9_meansTable_0 7 rfl rfl)
theorem dX9_meansTable_8 : decode cX9_meansTable 8 = .ok (.istore_n 2, 1) := dk_61 (dk_at dksX9_meansTable_0 8 rfl rfl)
theorem dX9_meansTable_9 : decode cX9_meansTable 9 = .ok (.aload_n 0, 1) := dk_42 (dk_at dksX9_meansTable_0 9 rfl rfl)
theorem dX9_meansTable_10 : decode cX9_meansTable 10 = .ok (.getfield 27, 3) := dk_180 0 27 (dk_at dksX9_meansTable_0 10 rfl rfl)
theorem dX9_meansTable_13 : decode cX9_meansTable 13 = .ok (.iload_n 1, 1) := dk_27 (dk_at dksX9_meansTable_0 13 rfl rfl)
theorem dX9_meansTable_14 : decode cX9_meansTable 14 = .ok (.iconst 2, 1) := dk_5 (dk_at dksX9_meansTable_0 14 rfl rfl)
theorem dX9_meansTable_15 : decode cX9_meansTable 15 = .ok (.iadd, 1) := dk_96 (dk_at dksX9_meansTable_0 15 rfl rfl)
theorem dX9_meansTable_16 : decode cX9_meansTable 16 = .ok (.iaload, 1) := dk_46 (dk_at dksX9_meansTable_0 16 rfl rfl)
theorem dX9_meansTable_17 : decode cX9_meansTable 17 = .ok (.istore_n 3, 1) := dk_62 (dk_at dksX9_meansTable_0 17 rfl rfl)
theorem dX9_meansTable_18 : decode cX9_meansTable 18 = .ok (.iload_n 2, 1) := dk_28 (dk_at dksX9_meansTable_0 18 rfl rfl)
theorem dX9_meansTable_19 : decode cX9_meansTable 19 = .ok (.iconst 1, 1) := dk_4 (dk_at dksX9_meansTable_0 19 rfl rfl)
theorem dX9_meansTable_20 : decode cX9_meansTable 20 = .ok (.iconst 3, 1) := dk_6 (dk_at dksX9_meansTable_0 20 rfl rfl)
theorem dX9_meansTable_21 : decode cX9_meansTable 21 = .ok (.invokestatic 237, 3) := dk_184 0 237 (dk_at dksX9_meansTable_0 21 rfl rfl)
theorem dX9_meansTable_24 : decode cX9_meansTable 24 = .ok (.ifCond .ne 11, 3) := dk_154 0 11 (dk_at dksX9_meansTable_1 0 rfl rfl)
theorem dX9_meansTable_27 : decode cX9_meansTable 27 = .ok (.aload_n 0, 1) := dk_42 (dk_at dksX9_meansTable_1 3 rfl rfl)
theorem dX9_meansTable_28 : decode cX9_meansTable 28 = .ok (.iconst 5, 1) := dk_8 (dk_at dksX9_meansTable_1 4 rfl rfl)
theorem dX9_meansTable_29 : decode cX9_meansTable 29 = .ok (.iload_n 1, 1) := dk_27 (dk_at dksX9_meansTable_1 5 rfl rfl)
theorem dX9_meansTable_30 : decode cX9_meansTable 30 = .ok (.iconst 1, 1) := dk_4 (dk_at dksX9_meansTable_1 6 rfl rfl)
theorem dX9_meansTable_31 : decode cX9_meansTable 31 = .ok (.iadd, 1) := dk_96 (dk_at dksX9_meansTable_1 7 rfl rfl)
theorem dX9_meansTable_32 : decode cX9_meansTable 32 = .ok (.invokevirtual 230, 3) := dk_182 0 230 (dk_at dksX9_meansTable_1 8 rfl rfl)
theorem dX9_meansTable_35 : decode cX9_meansTable 35 = .ok (.iload_n 3, 1) := dk_29 (dk_at dksX9_meansTable_1 11 rfl rfl)
theorem dX9_meansTable_36 : decode cX9_meansTable 36 = .ok (.iconst 1, 1) := dk_4 (dk_at dksX9_meansTable_1 12 rfl rfl)
theorem dX9_meansTable_37 : decode cX9_meansTable 37 = .ok (.iconst 3, 1) := dk_6 (dk_at dksX9_meansTable_1 13 rfl rfl)
theorem dX9_meansTable_38 : decode cX9_meansTable 38 = .ok (.invokestatic 237, 3) := dk_184 0 237 (dk_at dksX9_meansTable_1 14 rfl rfl)
theorem dX9_meansTable_41 : decode cX9_meansTable 41 = .ok (.ifCond .ne 11, 3) := dk_154 0 11 (dk_at dksX9_meansTable_1 17 rfl rfl)
theorem dX9_meansTable_44 : decode cX9_meansTable 44 = .ok (.aload_n 0, 1) := dk_42 (dk_at dksX9_meansTable_1 20 rfl rfl)
theorem dX9_meansTable_45 : decode cX9_meansTable 45 = .ok (.iconst 5, 1) := dk_8 (dk_at dksX9_meansTable_1 21 rfl rfl)
theorem dX9_meansTable_46 : decode cX9_meansTable 46 = .ok (.iload_n 1, 1) := dk_27 (dk_at dksX9_meansTable_1 22 rfl rfl)
theorem dX9_meansTable_47 : decode cX9_meansTable 47 = .ok (.iconst 2, 1) := dk_5 (dk_at dksX9_meansTable_1 23 rfl rfl)
theorem dX9_meansTable_48 : decode cX9_meansTable 48 = .ok (.iadd, 1) := dk_96 (dk_at dksX9_meansTable_2 0 rfl rfl)
theorem dX9_meansTable_49 : decode cX9_meansTable 49 = .ok (.invokevirtual 230, 3) := dk_182 0 230 (dk_at dksX9_meansTable_2 1 rfl rfl)
theorem dX9_meansTable_52 : decode cX9_meansTable 52 = .ok (.iconst 0, 1) := dk_3 (dk_at dksX9_meansTable_2 4 rfl rfl)
theorem dX9_meansTable_53 : decode cX9_meansTable 53 = .ok (.istore 4, 2) := dk_54 4 (dk_at dksX9_meansTable_2 5 rfl rfl)
theorem dX9_meansTable_55 : decode cX9_meansTable 55 = .ok (.iload_n 1, 1) := dk_27 (dk_at dksX9_meansTable_2 7 rfl rfl)
theorem dX9_meansTable_56 : decode cX9_meansTable 56 = .ok (.iconst 3, 1) := dk_6 (dk_at dksX9_meansTable_2 8 rfl rfl)
theorem dX9_meansTable_57 : decode cX9_meansTable 57 = .ok (.iadd, 1) := dk_96 (dk_at dksX9_meansTable_2 9 rfl rfl)
theorem dX9_meansTable_58 : decode cX9_meansTable 58 = .ok (.istore 5, 2) := dk_54 5 (dk_at dksX9_meansTable_2 10 rfl rfl)
theorem dX9_meansTable_60 : decode cX9_meansTable 60 = .ok (.aload_n 0, 1) := dk_42 (dk_at dksX9_meansTable_2 12 rfl rfl)
theorem dX9_meansTable_61 : decode cX9_meansTable 61 = .ok (.getfield 20, 3) := dk_180 0 20 (dk_at dksX9_meansTable_2 13 rfl rfl)
theorem dX9_meansTable_64 : decode cX9_meansTable 64 = .ok (.iload 5, 2) := dk_21 5 (dk_at dksX9_meansTable_2 16 rfl rfl)
theorem dX9_meansTable_66 : decode cX9_meansTable 66 = .ok (.iaload, 1) := dk_46 (dk_at dksX9_meansTable_2 18 rfl rfl)
theorem dX9_meansTable_67 : decode cX9_meansTable 67 = .ok (.iconst 2, 1) := dk_5 (dk_at dksX9_meansTable_2 19 rfl rfl)
theorem dX9_meansTable_68 : decode cX9_meansTable 68 = .ok (.if_icmp .ne 55, 3) := dk_160 0 55 (dk_at dksX9_meansTable_2 20 rfl rfl)
theorem dX9_meansTable_71 : decode cX9_meansTable 71 = .ok (.iload_n 3, 1) := dk_29 (dk_at dksX9_meansTable_2 23 rfl rfl)
theorem dX9_meansTable_72 : decode cX9_meansTable 72 = .ok (.iconst 1, 1) := dk_4 (dk_at dksX9_meansTable_3 0 rfl rfl)
theorem dX9_meansTable_73 : decode cX9_meansTable 73 = .ok (.iconst 3, 1) := dk_6 (dk_at dksX9_meansTable_3 1 rfl rfl)
theorem dX9_meansTable_74 : decode cX9_meansTable 74 = .ok (.invokestatic 237, 3) := dk_184 0 237 (dk_at dksX9_meansTable_3 2 rfl rfl)
theorem dX9_meansTable_77 : decode cX9_meansTable 77 = .ok (.ifCond .eq 23, 3) := dk_153 0 23 (dk_at dksX9_meansTable_3 5 rfl rfl)
theorem dX9_meansTable_80 : decode cX9_meansTable 80 = .ok (.aload_n 0, 1) := dk_42 (dk_at dksX9_meansTable_3 8 rfl rfl)
theorem dX9_meansTable_81 : decode cX9_meansTable 81 = .ok (.getfield 27, 3) := dk_180 0 27 (dk_at dksX9_meansTable_3 9 rfl rfl)
theorem dX9_meansTable_84 : decode cX9_meansTable 84 = .ok (.iload 5, 2) := dk_21 5 (dk_at dksX9_meansTable_3 12 rfl rfl)
theorem dX9_meansTable_86 : decode cX9_meansTable 86 = .ok (.iaload, 1) := dk_46 (dk_at dksX9_meansTable_3 14 rfl rfl)
theorem dX9_meansTable_87 : decode cX9_meansTable 87 = .ok (.iconst 1, 1) := dk_4 (dk_at dksX9_meansTable_3 15 rfl rfl)
theorem dX9_meansTable_88 : decode cX9_meansTable 88 = .ok (.iload_n 3, 1) := dk_29 (dk_at dksX9_meansTable_3 16 rfl rfl)
theorem dX9_meansTable_89 : decode cX9_meansTable 89 = .ok (.ishl, 1) := dk_120 (dk_at dksX9_meansTable_3 17 rfl rfl)
theorem dX9_meansTable_90 : decode cX9_meansTable 90 = .ok (.if_icmp .lt 10, 3) := dk_161 0 10 (dk_at dksX9_meansTable_3 18 rfl rfl)
theorem dX9_meansTable_93 : decode cX9_meansTable 93 = .ok (.aload_n 0, 1) := dk_42 (dk_at dksX9_meansTable_3 21 rfl rfl)
theorem dX9_meansTable_94 : decode cX9_meansTable 94 = .ok (.iconst 5, 1) := dk_8 (dk_at dksX9_meansTable_3 22 rfl rfl)
theorem dX9_meansTable_95 : decode cX9_meansTable 95 = .ok (.iload 5, 2) := dk_21 5 (dk_at dksX9_meansTable_4 0 rfl rfl)
theorem dX9_meansTable_97 : decode cX9_meansTable 97 = .ok (.invokevirtual 230, 3) := dk_182 0 230 (dk_at dksX9_meansTable_4 2 rfl rfl)
theorem dX9_meansTable_100 : decode cX9_meansTable 100 = .ok (.aload_n 0, 1) := dk_42 (dk_at dksX9_meansTable_4 5 rfl rfl)
theorem dX9_meansTable_101 : decode cX9_meansTable 101 = .ok (.getfield 49, 3) := dk_180 0 49 (dk_at dksX9_meansTable_4 6 rfl rfl)
theorem dX9_meansTable_104 : decode cX9_meansTable 104 = .ok (.iload 4, 2) := dk_21 4 (dk_at dksX9_meansTable_4 9 rfl rfl)
theorem dX9_meansTable_106 : decode cX9_meansTable 106 = .ok (.aload_n 0, 1) := dk_42 (dk_at dksX9_meansTable_4 11 rfl rfl)
theorem dX9_meansTable_107 : decode cX9_meansTable 107 = .ok (.getfield 27, 3) := dk_180 0 27 (dk_at dksX9_meansTable_4 12 rfl rfl)
theorem dX9_meansTable_110 : decode cX9_meansTable 110 = .ok (.iload 5, 2) := dk_21 5 (dk_at dksX9_meansTable_4 15 rfl rfl)
theorem dX9_meansTable_112 : decode cX9_meansTable 112 = .ok (.iaload, 1) := dk_46 (dk_at dksX9_meansTable_4 17 rfl rfl)
theorem dX9_meansTable_113 : decode cX9_meansTable 113 = .ok (.iastore, 1) := dk_79 (dk_at dksX9_meansTable_4 18 rfl rfl)
theorem dX9_meansTable_114 : decode cX9_meansTable 114 = .ok (.iinc 4 1, 3) := dk_132 4 1 (dk_at dksX9_meansTable_4 19 rfl rfl)
theorem dX9_meansTable_117 : decode cX9_meansTable 117 = .ok (.iinc 5 1, 3) := dk_132 5 1 (dk_at dksX9_meansTable_5 0 rfl rfl)
theorem dX9_meansTable_120 : decode cX9_meansTable 120 = .ok (.goto (-60), 3) := dk_167 255 196 (dk_at dksX9_meansTable_5 3 rfl rfl)
theorem dX9_meansTable_123 : decode cX9_meansTable 123 = .ok (.iload_n 2, 1) := dk_28 (dk_at dksX9_meansTable_5 6 rfl rfl)
theorem dX9_meansTable_124 : decode cX9_meansTable 124 = .ok (.iconst 1, 1) := dk_4 (dk_at dksX9_meansTable_5 7 rfl rfl)
theorem dX9_meansTable_125 : decode cX9_meansTable 125 = .ok (.iconst 3, 1) := dk_6 (dk_at dksX9_meansTable_5 8 rfl rfl)
theorem dX9_meansTable_126 : decode cX9_meansTable 126 = .ok (.invokestatic 237, 3) := dk_184 0 237 (dk_at dksX9_meansTable_5 9 rfl rfl)
theorem dX9_meansTable_129 : decode cX9_meansTable 129 = .ok (.ifCond .eq 19, 3) := dk_153 0 19 (dk_at dksX9_meansTable_5 12 rfl rfl)
theorem dX9_meansTable_132 : decode cX9_meansTable 132 = .ok (.iload 4, 2) := dk_21 4 (dk_at dksX9_meansTable_5 15 rfl rfl)
theorem dX9_meansTable_134 : decode cX9_meansTable 134 = .ok (.iconst 1, 1) := dk_4 (dk_at dksX9_meansTable_5 17 rfl rfl)
theorem dX9_meansTable_135 : decode cX9_meansTable 135 = .ok (.iload_n 2, 1) := dk_28 (dk_at dksX9_meansTable_5 18 rfl rfl)
theorem dX9_meansTable_136 : decode cX9_meansTable 136 = .ok (.ishl, 1) := dk_120 (dk_at dksX9_meansTable_5 19 rfl rfl)
theorem dX9_meansTable_137 : decode cX9_meansTable 137 = .ok (.if_icmp .eq 11, 3) := dk_159 0 11 (dk_at dksX9_meansTable_5 20 rfl rfl)
theorem dX9_meansTable_140 : decode cX9_meansTable 140 = .ok (.aload_n 0, 1) := dk_42 (dk_at dksX9_meansTable_5 23 rfl rfl)
theorem dX9_meansTable_141 : decode cX9_meansTable 141 = .ok (.bipush 6, 2) := dk_16 6 (dk_at dksX9_meansTable_6 0 rfl rfl)
theorem dX9_meansTable_143 : decode cX9_meansTable 143 = .ok (.iload 5, 2) := dk_21 5 (dk_at dksX9_meansTable_6 2 rfl rfl)
theorem dX9_meansTable_145 : decode cX9_meansTable 145 = .ok (.invokevirtual 230, 3) := dk_182 0 230 (dk_at dksX9_meansTable_6 4 rfl rfl)
theorem dX9_meansTable_148 : decode cX9_meansTable 148 = .ok (.aload_n 0, 1) := dk_42 (dk_at dksX9_meansTable_6 7 rfl rfl)
theorem dX9_meansTable_149 : decode cX9_meansTable 149 = .ok (.iload_n 2, 1) := dk_28 (dk_at dksX9_meansTable_6 8 rfl rfl)
theorem dX9_meansTable_150 : decode cX9_meansTable 150 = .ok (.putfield 206, 3) := dk_181 0 206 (dk_at dksX9_meansTable_6 9 rfl rfl)
theorem dX9_meansTable_153 : decode cX9_meansTable 153 = .ok (.aload_n 0, 1) := dk_42 (dk_at dksX9_meansTable_6 12 rfl rfl)
theorem dX9_meansTable_154 : decode cX9_meansTable 154 = .ok (.iload_n 3, 1) := dk_29 (dk_at dksX9_meansTable_6 13 rfl rfl)
theorem dX9_meansTable_155 : decode cX9_meansTable 155 = .ok (.putfield 212, 3) := dk_181 0 212 (dk_at dksX9_meansTable_6 14 rfl rfl)
theorem dX9_meansTable_158 : decode cX9_meansTable 158 = .ok (.return_, 1) := dk_177 (dk_at dksX9_meansTable_6 17 rfl rfl)
abbrev cX9_place : ByteArray := prog_13_method_20_code
def yX9_place : MethodName := ⟨RX9, "place", "()I"⟩
theorem dX9_place_0 : decode cX9_place 0 = .ok (.aload_n 0, 1) := by decide +kernel
theorem dX9_place_1 : decode cX9_place 1 = .ok (.getfield 37, 3) := by decide +kernel
theorem dX9_place_4 : decode cX9_place 4 = .ok (.ireturn, 1) := by decide +kernel
abbrev cX9_put : ByteArray := prog_13_method_38_code
def yX9_put : MethodName := ⟨RX9, "put", "(IIII)Z"⟩
def dkwX9_put_5 : List UInt8 := [180, 0, 52, 27, 28, 29, 21, 4, 184, 1, 12, 42, 180, 0, 52, 3, 92, 46, 4, 96, 79, 4, 172]
abbrev dktX9_put_5 : List UInt8 := dkwX9_put_5 ++ []
def dkwX9_put_4 : List UInt8 := [180, 0, 52, 21, 5, 4, 100, 42, 180, 0, 52, 21, 5, 184, 0, 254, 132, 5, 255, 167, 255, 230, 42]
abbrev dktX9_put_4 : List UInt8 := dkwX9_put_4 ++ dktX9_put_5
def dkwX9_put_3 : List UInt8 := [153, 0, 5, 3, 172, 42, 182, 1, 9, 42, 180, 0, 52, 3, 46, 54, 5, 21, 5, 27, 164, 0, 26, 42]
abbrev dktX9_put_3 : List UInt8 := dkwX9_put_3 ++ dktX9_put_4
def dkwX9_put_2 : List UInt8 := [182, 1, 2, 154, 0, 5, 3, 172, 29, 21, 4, 126, 154, 0, 14, 29, 21, 4, 128, 28, 184, 1, 5]
abbrev dktX9_put_2 : List UInt8 := dkwX9_put_2 ++ dktX9_put_3
def dkwX9_put_1 : List UInt8 := [180, 0, 203, 4, 100, 184, 0, 237, 153, 0, 20, 42, 29, 182, 1, 2, 153, 0, 12, 42, 21, 4]
abbrev dktX9_put_1 : List UInt8 := dkwX9_put_1 ++ dktX9_put_2
def dkwX9_put_0 : List UInt8 := [42, 182, 0, 244, 16, 16, 159, 0, 46, 27, 3, 42, 182, 0, 244, 184, 0, 237, 153, 0, 34, 28, 3, 42]
abbrev dktX9_put_0 : List UInt8 := dkwX9_put_0 ++ dktX9_put_1
theorem dksX9_put_0 : cX9_put.data.toList.drop 0 = dktX9_put_0 := by decide +kernel
theorem dksX9_put_1 : cX9_put.data.toList.drop 24 = dktX9_put_1 := dk_seg dksX9_put_0 24 rfl rfl
theorem dksX9_put_2 : cX9_put.data.toList.drop 46 = dktX9_put_2 := dk_seg dksX9_put_1 22 rfl rfl
theorem dksX9_put_3 : cX9_put.data.toList.drop 69 = dktX9_put_3 := dk_seg dksX9_put_2 23 rfl rfl
theorem dksX9_put_4 : cX9_put.data.toList.drop 93 = dktX9_put_4 := dk_seg dksX9_put_3 24 rfl rfl
theorem dksX9_put_5 : cX9_put.data.toList.drop 116 = dktX9_put_5 := dk_seg dksX9_put_4 23 rfl rfl
theorem dX9_put_0 : decode cX9_put 0 = .ok (.aload_n 0, 1) := dk_42 (dk_at dksX9_put_0 0 rfl rfl)
theorem dX9_put_1 : decode cX9_put 1 = .ok (.invokevirtual 244, 3) := dk_182 0 244 (dk_at dksX9_put_0 1 rfl rfl)
theorem dX9_put_4 : decode cX9_put 4 = .ok (.bipush 16, 2) := dk_16 16 (dk_at dksX9_put_0 4 rfl rfl)
theorem dX9_put_6 : decode cX9_put 6 = .ok (.if_icmp .eq 46, 3) := dk_159 0 46 (dk_at dksX9_put_0 6 rfl rfl)
theorem dX9_put_9 : decode cX9_put 9 = .ok (.iload_n 1, 1) := dk_27 (dk_at dksX9_put_0 9 rfl rfl)
theorem dX9_put_10 : decode cX9_put 10 = .ok (.iconst 0, 1) := dk_3 (dk_at dksX9_put_0 10 rfl rfl)
theorem dX9_put_11 : decode cX9_put 11 = .ok (.aload_n 0, 1) := dk_42 (dk_at dksX9_put_0 11 rfl rfl)
theorem dX9_put_12 : decode cX9_put 12 = .ok (.invokevirtual 244, 3) := dk_182 0 244 (dk_at dksX9_put_0 12 rfl rfl)
theorem dX9_put_15 : decode cX9_put 15 = .ok (.invokestatic 237, 3) := dk_184 0 237 (dk_at dksX9_put_0 15 rfl rfl)
theorem dX9_put_18 : decode cX9_put 18 = .ok (.ifCond .eq 34, 3) := dk_153 0 34 (dk_at dksX9_put_0 18 rfl rfl)
theorem dX9_put_21 : decode cX9_put 21 = .ok (.iload_n 2, 1) := dk_28 (dk_at dksX9_put_0 21 rfl rfl)
theorem dX9_put_22 : decode cX9_put 22 = .ok (.iconst 0, 1) := dk_3 (dk_at dksX9_put_0 22 rfl rfl)
theorem dX9_put_23 : decode cX9_put 23 = .ok (.aload_n 0, 1) := dk_42 (dk_at dksX9_put_0 23 rfl rfl)
theorem dX9_put_24 : decode cX9_put 24 = .ok (.getfield 203, 3) := dk_180 0 203 (dk_at dksX9_put_1 0 rfl rfl)
theorem dX9_put_27 : decode cX9_put 27 = .ok (.iconst 1, 1) := dk_4 (dk_at dksX9_put_1 3 rfl rfl)
theorem dX9_put_28 : decode cX9_put 28 = .ok (.isub, 1) := dk_100 (dk_at dksX9_put_1 4 rfl rfl)
theorem dX9_put_29 : decode cX9_put 29 = .ok (.invokestatic 237, 3) := dk_184 0 237 (dk_at dksX9_put_1 5 rfl rfl)
theorem dX9_put_32 : decode cX9_put 32 = .ok (.ifCond .eq 20, 3) := dk_153 0 20 (dk_at dksX9_put_1 8 rfl rfl)
theorem dX9_put_35 : decode cX9_put 35 = .ok (.aload_n 0, 1) := dk_42 (dk_at dksX9_put_1 11 rfl rfl)
theorem dX9_put_36 : decode cX9_put 36 = .ok (.iload_n 3, 1) := dk_29 (dk_at dksX9_put_1 12 rfl rfl)
theorem dX9_put_37 : decode cX9_put 37 = .ok (.invokevirtual 258, 3) := dk_182 1 2 (dk_at dksX9_put_1 13 rfl rfl)
theorem dX9_put_40 : decode cX9_put 40 = .ok (.ifCond .eq 12, 3) := dk_153 0 12 (dk_at dksX9_put_1 16 rfl rfl)
theorem dX9_put_43 : decode cX9_put 43 = .ok (.aload_n 0, 1) := dk_42 (dk_at dksX9_put_1 19 rfl rfl)
theorem dX9_put_44 : decode cX9_put 44 = .ok (.iload 4, 2) := dk_21 4 (dk_at dksX9_put_1 20 rfl rfl)
theorem dX9_put_46 : decode cX9_put 46 = .ok (.invokevirtual 258, 3) := dk_182 1 2 (dk_at dksX9_put_2 0 rfl rfl)
theorem dX9_put_49 : decode cX9_put 49 = .ok (.ifCond .ne 5, 3) := dk_154 0 5 (dk_at dksX9_put_2 3 rfl rfl)
theorem dX9_put_52 : decode cX9_put 52 = .ok (.iconst 0, 1) := dk_3 (dk_at dksX9_put_2 6 rfl rfl)
theorem dX9_put_53 : decode cX9_put 53 = .ok (.ireturn, 1) := dk_172 (dk_at dksX9_put_2 7 rfl rfl)
theorem dX9_put_54 : decode cX9_put 54 = .ok (.iload_n 3, 1) := dk_29 (dk_at dksX9_put_2 8 rfl rfl)
theorem dX9_put_55 : decode cX9_put 55 = .ok (.iload 4, 2) := dk_21 4 (dk_at dksX9_put_2 9 rfl rfl)
theorem dX9_put_57 : decode cX9_put 57 = .ok (.iand, 1) := dk_126 (dk_at dksX9_put_2 11 rfl rfl)
theorem dX9_put_58 : decode cX9_put 58 = .ok (.ifCond .ne 14, 3) := dk_154 0 14 (dk_at dksX9_put_2 12 rfl rfl)
theorem dX9_put_61 : decode cX9_put 61 = .ok (.iload_n 3, 1) := dk_29 (dk_at dksX9_put_2 15 rfl rfl)
theorem dX9_put_62 : decode cX9_put 62 = .ok (.iload 4, 2) := dk_21 4 (dk_at dksX9_put_2 16 rfl rfl)
theorem dX9_put_64 : decode cX9_put 64 = .ok (.ior, 1) := dk_128 (dk_at dksX9_put_2 18 rfl rfl)
theorem dX9_put_65 : decode cX9_put 65 = .ok (.iload_n 2, 1) := dk_28 (dk_at dksX9_put_2 19 rfl rfl)
theorem dX9_put_66 : decode cX9_put 66 = .ok (.invokestatic 261, 3) := dk_184 1 5 (dk_at dksX9_put_2 20 rfl rfl)
theorem dX9_put_69 : decode cX9_put 69 = .ok (.ifCond .eq 5, 3) := dk_153 0 5 (dk_at dksX9_put_3 0 rfl rfl)
theorem dX9_put_72 : decode cX9_put 72 = .ok (.iconst 0, 1) := dk_3 (dk_at dksX9_put_3 3 rfl rfl)
theorem dX9_put_73 : decode cX9_put 73 = .ok (.ireturn, 1) := dk_172 (dk_at dksX9_put_3 4 rfl rfl)
theorem dX9_put_74 : decode cX9_put 74 = .ok (.aload_n 0, 1) := dk_42 (dk_at dksX9_put_3 5 rfl rfl)
theorem dX9_put_75 : decode cX9_put 75 = .ok (.invokevirtual 265, 3) := dk_182 1 9 (dk_at dksX9_put_3 6 rfl rfl)
theorem dX9_put_78 : decode cX9_put 78 = .ok (.aload_n 0, 1) := dk_42 (dk_at dksX9_put_3 9 rfl rfl)
theorem dX9_put_79 : decode cX9_put 79 = .ok (.getfield 52, 3) := dk_180 0 52 (dk_at dksX9_put_3 10 rfl rfl)
theorem dX9_put_82 : decode cX9_put 82 = .ok (.iconst 0, 1) := dk_3 (dk_at dksX9_put_3 13 rfl rfl)
theorem dX9_put_83 : decode cX9_put 83 = .ok (.iaload, 1) := dk_46 (dk_at dksX9_put_3 14 rfl rfl)
theorem dX9_put_84 : decode cX9_put 84 = .ok (.istore 5, 2) := dk_54 5 (dk_at dksX9_put_3 15 rfl rfl)
theorem dX9_put_86 : decode cX9_put 86 = .ok (.iload 5, 2) := dk_21 5 (dk_at dksX9_put_3 17 rfl rfl)
theorem dX9_put_88 : decode cX9_put 88 = .ok (.iload_n 1, 1) := dk_27 (dk_at dksX9_put_3 19 rfl rfl)
theorem dX9_put_89 : decode cX9_put 89 = .ok (.if_icmp .le 26, 3) := dk_164 0 26 (dk_at dksX9_put_3 20 rfl rfl)
theorem dX9_put_92 : decode cX9_put 92 = .ok (.aload_n 0, 1) := dk_42 (dk_at dksX9_put_3 23 rfl rfl)
theorem dX9_put_93 : decode cX9_put 93 = .ok (.getfield 52, 3) := dk_180 0 52 (dk_at dksX9_put_4 0 rfl rfl)
theorem dX9_put_96 : decode cX9_put 96 = .ok (.iload 5, 2) := dk_21 5 (dk_at dksX9_put_4 3 rfl rfl)
theorem dX9_put_98 : decode cX9_put 98 = .ok (.iconst 1, 1) := dk_4 (dk_at dksX9_put_4 5 rfl rfl)
theorem dX9_put_99 : decode cX9_put 99 = .ok (.isub, 1) := dk_100 (dk_at dksX9_put_4 6 rfl rfl)
theorem dX9_put_100 : decode cX9_put 100 = .ok (.aload_n 0, 1) := dk_42 (dk_at dksX9_put_4 7 rfl rfl)
theorem dX9_put_101 : decode cX9_put 101 = .ok (.getfield 52, 3) := dk_180 0 52 (dk_at dksX9_put_4 8 rfl rfl)
theorem dX9_put_104 : decode cX9_put 104 = .ok (.iload 5, 2) := dk_21 5 (dk_at dksX9_put_4 11 rfl rfl)
theorem dX9_put_106 : decode cX9_put 106 = .ok (.invokestatic 254, 3) := dk_184 0 254 (dk_at dksX9_put_4 13 rfl rfl)
theorem dX9_put_109 : decode cX9_put 109 = .ok (.iinc 5 (-1), 3) := dk_132 5 255 (dk_at dksX9_put_4 16 rfl rfl)
theorem dX9_put_112 : decode cX9_put 112 = .ok (.goto (-26), 3) := dk_167 255 230 (dk_at dksX9_put_4 19 rfl rfl)
theorem dX9_put_115 : decode cX9_put 115 = .ok (.aload_n 0, 1) := dk_42 (dk_at dksX9_put_4 22 rfl rfl)
theorem dX9_put_116 : decode cX9_put 116 = .ok (.getfield 52, 3) := dk_180 0 52 (dk_at dksX9_put_5 0 rfl rfl)
theorem dX9_put_119 : decode cX9_put 119 = .ok (.iload_n 1, 1) := dk_27 (dk_at dksX9_put_5 3 rfl rfl)
theorem dX9_put_120 : decode cX9_put 120 = .ok (.iload_n 2, 1) := dk_28 (dk_at dksX9_put_5 4 rfl rfl)
theorem dX9_put_121 : decode cX9_put 121 = .ok (.iload_n 3, 1) := dk_29 (dk_at dksX9_put_5 5 rfl rfl)
theorem dX9_put_122 : decode cX9_put 122 = .ok (.iload 4, 2) := dk_21 4 (dk_at dksX9_put_5 6 rfl rfl)
theorem dX9_put_124 : decode cX9_put 124 = .ok (.invokestatic 268, 3) := dk_184 1 12 (dk_at dksX9_put_5 8 rfl rfl)
theorem dX9_put_127 : decode cX9_put 127 = .ok (.aload_n 0, 1) := dk_42 (dk_at dksX9_put_5 11 rfl rfl)
theorem dX9_put_128 : decode cX9_put 128 = .ok (.getfield 52, 3) := dk_180 0 52 (dk_at dksX9_put_5 12 rfl rfl)
theorem dX9_put_131 : decode cX9_put 131 = .ok (.iconst 0, 1) := dk_3 (dk_at dksX9_put_5 15 rfl rfl)
theorem dX9_put_132 : decode cX9_put 132 = .ok (.dup2, 1) := dk_92 (dk_at dksX9_put_5 16 rfl rfl)
theorem dX9_put_133 : decode cX9_put 133 = .ok (.iaload, 1) := dk_46 (dk_at dksX9_put_5 17 rfl rfl)
theorem dX9_put_134 : decode cX9_put 134 = .ok (.iconst 1, 1) := dk_4 (dk_at dksX9_put_5 18 rfl rfl)
theorem dX9_put_135 : decode cX9_put 135 = .ok (.iadd, 1) := dk_96 (dk_at dksX9_put_5 19 rfl rfl)
theorem dX9_put_136 : decode cX9_put 136 = .ok (.iastore, 1) := dk_79 (dk_at dksX9_put_5 20 rfl rfl)
theorem dX9_put_137 : decode cX9_put 137 = .ok (.iconst 1, 1) := dk_4 (dk_at dksX9_put_5 21 rfl rfl)
theorem dX9_put_138 : decode cX9_put 138 = .ok (.ireturn, 1) := dk_172 (dk_at dksX9_put_5 22 rfl rfl)
abbrev cX9_gates : ByteArray := prog_13_method_31_code
def yX9_gates : MethodName := ⟨RX9, "gates", "()I"⟩
def dkwX9_gates_0 : List UInt8 := [42, 180, 0, 52, 3, 46, 172]
abbrev dktX9_gates_0 : List UInt8 := dkwX9_gates_0 ++ []
theorem dksX9_gates_0 : cX9_gates.data.toList.drop 0 = dktX9_gates_0 := by decide +kernel
theorem dX9_gates_0 : decode cX9_gates 0 = .ok (.aload_n 0, 1) := dk_42 (dk_at dksX9_gates_0 0 rfl rfl)
theorem dX9_gates_1 : decode cX9_gates 1 = .ok (.getfield 52, 3) := dk_180 0 52 (dk_at dksX9_gates_0 1 rfl rfl)
theorem dX9_gates_4 : decode cX9_gates 4 = .ok (.iconst 0, 1) := dk_3 (dk_at dksX9_gates_0 4 rfl rfl)
theorem dX9_gates_5 : decode cX9_gates 5 = .ok (.iaload, 1) := dk_46 (dk_at dksX9_gates_0 5 rfl rfl)
theorem dX9_gates_6 : decode cX9_gates 6 = .ok (.ireturn, 1) := dk_172 (dk_at dksX9_gates_0 6 rfl rfl)
abbrev cX9_isRow : ByteArray := prog_13_method_33_code
def yX9_isRow : MethodName := ⟨RX9, "isRow", "(I)Z"⟩
def dkwX9_isRow_0 : List UInt8 := [27, 3, 42, 182, 0, 248, 4, 100, 184, 0, 237, 172]
abbrev dktX9_isRow_0 : List UInt8 := dkwX9_isRow_0 ++ []
theorem dksX9_isRow_0 : cX9_isRow.data.toList.drop 0 = dktX9_isRow_0 := by decide +kernel
theorem dX9_isRow_0 : decode cX9_isRow 0 = .ok (.iload_n 1, 1) := dk_27 (dk_at dksX9_isRow_0 0 rfl rfl)
theorem dX9_isRow_1 : decode cX9_isRow 1 = .ok (.iconst 0, 1) := dk_3 (dk_at dksX9_isRow_0 1 rfl rfl)
theorem dX9_isRow_2 : decode cX9_isRow 2 = .ok (.aload_n 0, 1) := dk_42 (dk_at dksX9_isRow_0 2 rfl rfl)
theorem dX9_isRow_3 : decode cX9_isRow 3 = .ok (.invokevirtual 248, 3) := dk_182 0 248 (dk_at dksX9_isRow_0 3 rfl rfl)
theorem dX9_isRow_6 : decode cX9_isRow 6 = .ok (.iconst 1, 1) := dk_4 (dk_at dksX9_isRow_0 6 rfl rfl)
theorem dX9_isRow_7 : decode cX9_isRow 7 = .ok (.isub, 1) := dk_100 (dk_at dksX9_isRow_0 7 rfl rfl)
theorem dX9_isRow_8 : decode cX9_isRow 8 = .ok (.invokestatic 237, 3) := dk_184 0 237 (dk_at dksX9_isRow_0 8 rfl rfl)
theorem dX9_isRow_11 : decode cX9_isRow 11 = .ok (.ireturn, 1) := dk_172 (dk_at dksX9_isRow_0 11 rfl rfl)
abbrev cX9_rows : ByteArray := prog_13_method_30_code
def yX9_rows : MethodName := ⟨RX9, "rows", "()I"⟩
def dkwX9_rows_0 : List UInt8 := [4, 42, 180, 0, 203, 120, 172]
abbrev dktX9_rows_0 : List UInt8 := dkwX9_rows_0 ++ []
theorem dksX9_rows_0 : cX9_rows.data.toList.drop 0 = dktX9_rows_0 := by decide +kernel
theorem dX9_rows_0 : decode cX9_rows 0 = .ok (.iconst 1, 1) := dk_4 (dk_at dksX9_rows_0 0 rfl rfl)
theorem dX9_rows_1 : decode cX9_rows 1 = .ok (.aload_n 0, 1) := dk_42 (dk_at dksX9_rows_0 1 rfl rfl)
theorem dX9_rows_2 : decode cX9_rows 2 = .ok (.getfield 203, 3) := dk_180 0 203 (dk_at dksX9_rows_0 2 rfl rfl)
theorem dX9_rows_5 : decode cX9_rows 5 = .ok (.ishl, 1) := dk_120 (dk_at dksX9_rows_0 5 rfl rfl)
theorem dX9_rows_6 : decode cX9_rows 6 = .ok (.ireturn, 1) := dk_172 (dk_at dksX9_rows_0 6 rfl rfl)
abbrev cX9_has : ByteArray := prog_13_method_28_code
def yX9_has : MethodName := ⟨RX9, "has", "(II)Z"⟩
def dkwX9_has_0 : List UInt8 := [26, 27, 122, 4, 126, 4, 160, 0, 7, 4, 167, 0, 4, 3, 172]
abbrev dktX9_has_0 : List UInt8 := dkwX9_has_0 ++ []
theorem dksX9_has_0 : cX9_has.data.toList.drop 0 = dktX9_has_0 := by decide +kernel
theorem dX9_has_0 : decode cX9_has 0 = .ok (.iload_n 0, 1) := dk_26 (dk_at dksX9_has_0 0 rfl rfl)
theorem dX9_has_1 : decode cX9_has 1 = .ok (.iload_n 1, 1) := dk_27 (dk_at dksX9_has_0 1 rfl rfl)
theorem dX9_has_2 : decode cX9_has 2 = .ok (.ishr, 1) := dk_122 (dk_at dksX9_has_0 2 rfl rfl)
theorem dX9_has_3 : decode cX9_has 3 = .ok (.iconst 1, 1) := dk_4 (dk_at dksX9_has_0 3 rfl rfl)
theorem dX9_has_4 : decode cX9_has 4 = .ok (.iand, 1) := dk_126 (dk_at dksX9_has_0 4 rfl rfl)
theorem dX9_has_5 : decode cX9_has 5 = .ok (.iconst 1, 1) := dk_4 (dk_at dksX9_has_0 5 rfl rfl)
theorem dX9_has_6 : decode cX9_has 6 = .ok (.if_icmp .ne 7, 3) := dk_160 0 7 (dk_at dksX9_has_0 6 rfl rfl)
theorem dX9_has_9 : decode cX9_has 9 = .ok (.iconst 1, 1) := dk_4 (dk_at dksX9_has_0 9 rfl rfl)
theorem dX9_has_10 : decode cX9_has 10 = .ok (.goto 4, 3) := dk_167 0 4 (dk_at dksX9_has_0 10 rfl rfl)
theorem dX9_has_13 : decode cX9_has 13 = .ok (.iconst 0, 1) := dk_3 (dk_at dksX9_has_0 13 rfl rfl)
theorem dX9_has_14 : decode cX9_has 14 = .ok (.ireturn, 1) := dk_172 (dk_at dksX9_has_0 14 rfl rfl)
abbrev cX9_marks : ByteArray := prog_13_method_34_code
def yX9_marks : MethodName := ⟨RX9, "marks", "()V"⟩
def dkwX9_marks_3 : List UInt8 := [132, 2, 1, 167, 255, 233, 42, 89, 180, 0, 218, 4, 96, 181, 0, 218, 177]
abbrev dktX9_marks_3 : List UInt8 := dkwX9_marks_3 ++ []
def dkwX9_marks_2 : List UInt8 := [3, 61, 28, 16, 49, 162, 0, 23, 42, 180, 0, 58, 27, 28, 96, 42, 180, 0, 52, 28, 46, 79]
abbrev dktX9_marks_2 : List UInt8 := dkwX9_marks_2 ++ dktX9_marks_3
def dkwX9_marks_1 : List UInt8 := [180, 0, 218, 4, 100, 181, 0, 218, 16, 49, 42, 180, 0, 251, 42, 180, 0, 218, 96, 16, 40, 112, 104, 60]
abbrev dktX9_marks_1 : List UInt8 := dkwX9_marks_1 ++ dktX9_marks_2
def dkwX9_marks_0 : List UInt8 := [42, 180, 0, 218, 16, 40, 160, 0, 26, 42, 42, 180, 0, 251, 4, 96, 16, 40, 112, 181, 0, 251, 42, 89]
abbrev dktX9_marks_0 : List UInt8 := dkwX9_marks_0 ++ dktX9_marks_1
theorem dksX9_marks_0 : cX9_marks.data.toList.drop 0 = dktX9_marks_0 := by decide +kernel
theorem dksX9_marks_1 : cX9_marks.data.toList.drop 24 = dktX9_marks_1 := dk_seg dksX9_marks_0 24 rfl rfl
theorem dksX9_marks_2 : cX9_marks.data.toList.drop 48 = dktX9_marks_2 := dk_seg dksX9_marks_1 24 rfl rfl
theorem dksX9_marks_3 : cX9_marks.data.toList.drop 70 = dktX9_marks_3 := dk_seg dksX9_marks_2 22 rfl rfl
theorem dX9_marks_0 : decode cX9_marks 0 = .ok (.aload_n 0, 1) := dk_42 (dk_at dksX9_marks_0 0 rfl rfl)
theorem dX9_marks_1 : decode cX9_marks 1 = .ok (.getfield 218, 3) := dk_180 0 218 (dk_at dksX9_marks_0 1 rfl rfl)
theorem dX9_marks_4 : decode cX9_marks 4 = .ok (.bipush 40, 2) := dk_16 40 (dk_at dksX9_marks_0 4 rfl rfl)
theorem dX9_marks_6 : decode cX9_marks 6 = .ok (.if_icmp .ne 26, 3) := dk_160 0 26 (dk_at dksX9_marks_0 6 rfl rfl)
theorem dX9_marks_9 : decode cX9_marks 9 = .ok (.aload_n 0, 1) := dk_42 (dk_at dksX9_marks_0 9 rfl rfl)
theorem dX9_marks_10 : decode cX9_marks 10 = .ok (.aload_n 0, 1) := dk_42 (dk_at dksX9_marks_0 10 rfl rfl)
theorem dX9_marks_11 : decode cX9_marks 11 = .ok (.getfield 251, 3) := dk_180 0 251 (dk_at dksX9_marks_0 11 rfl rfl)
theorem dX9_marks_14 : decode cX9_marks 14 = .ok (.iconst 1, 1) := dk_4 (dk_at dksX9_marks_0 14 rfl rfl)
theorem dX9_marks_15 : decode cX9_marks 15 = .ok (.iadd, 1) := dk_96 (dk_at dksX9_marks_0 15 rfl rfl)
theorem dX9_marks_16 : decode cX9_marks 16 = .ok (.bipush 40, 2) := dk_16 40 (dk_at dksX9_marks_0 16 rfl rfl)
theorem dX9_marks_18 : decode cX9_marks 18 = .ok (.irem, 1) := dk_112 (dk_at dksX9_marks_0 18 rfl rfl)
theorem dX9_marks_19 : decode cX9_marks 19 = .ok (.putfield 251, 3) := dk_181 0 251 (dk_at dksX9_marks_0 19 rfl rfl)
theorem dX9_marks_22 : decode cX9_marks 22 = .ok (.aload_n 0, 1) := dk_42 (dk_at dksX9_marks_0 22 rfl rfl)
theorem dX9_marks_23 : decode cX9_marks 23 = .ok (.dup, 1) := dk_89 (dk_at dksX9_marks_0 23 rfl rfl)
theorem dX9_marks_24 : decode cX9_marks 24 = .ok (.getfield 218, 3) := dk_180 0 218 (dk_at dksX9_marks_1 0 rfl rfl)
theorem dX9_marks_27 : decode cX9_marks 27 = .ok (.iconst 1, 1) := dk_4 (dk_at dksX9_marks_1 3 rfl rfl)
theorem dX9_marks_28 : decode cX9_marks 28 = .ok (.isub, 1) := dk_100 (dk_at dksX9_marks_1 4 rfl rfl)
theorem dX9_marks_29 : decode cX9_marks 29 = .ok (.putfield 218, 3) := dk_181 0 218 (dk_at dksX9_marks_1 5 rfl rfl)
theorem dX9_marks_32 : decode cX9_marks 32 = .ok (.bipush 49, 2) := dk_16 49 (dk_at dksX9_marks_1 8 rfl rfl)
theorem dX9_marks_34 : decode cX9_marks 34 = .ok (.aload_n 0, 1) := dk_42 (dk_at dksX9_marks_1 10 rfl rfl)
theorem dX9_marks_35 : decode cX9_marks 35 = .ok (.getfield 251, 3) := dk_180 0 251 (dk_at dksX9_marks_1 11 rfl rfl)
theorem dX9_marks_38 : decode cX9_marks 38 = .ok (.aload_n 0, 1) := dk_42 (dk_at dksX9_marks_1 14 rfl rfl)
theorem dX9_marks_39 : decode cX9_marks 39 = .ok (.getfield 218, 3) := dk_180 0 218 (dk_at dksX9_marks_1 15 rfl rfl)
theorem dX9_marks_42 : decode cX9_marks 42 = .ok (.iadd, 1) := dk_96 (dk_at dksX9_marks_1 18 rfl rfl)
theorem dX9_marks_43 : decode cX9_marks 43 = .ok (.bipush 40, 2) := dk_16 40 (dk_at dksX9_marks_1 19 rfl rfl)
theorem dX9_marks_45 : decode cX9_marks 45 = .ok (.irem, 1) := dk_112 (dk_at dksX9_marks_1 21 rfl rfl)
theorem dX9_marks_46 : decode cX9_marks 46 = .ok (.imul, 1) := dk_104 (dk_at dksX9_marks_1 22 rfl rfl)
theorem dX9_marks_47 : decode cX9_marks 47 = .ok (.istore_n 1, 1) := dk_60 (dk_at dksX9_marks_1 23 rfl rfl)
theorem dX9_marks_48 : decode cX9_marks 48 = .ok (.iconst 0, 1) := dk_3 (dk_at dksX9_marks_2 0 rfl rfl)
theorem dX9_marks_49 : decode cX9_marks 49 = .ok (.istore_n 2, 1) := dk_61 (dk_at dksX9_marks_2 1 rfl rfl)
theorem dX9_marks_50 : decode cX9_marks 50 = .ok (.iload_n 2, 1) := dk_28 (dk_at dksX9_marks_2 2 rfl rfl)
theorem dX9_marks_51 : decode cX9_marks 51 = .ok (.bipush 49, 2) := dk_16 49 (dk_at dksX9_marks_2 3 rfl rfl)
theorem dX9_marks_53 : decode cX9_marks 53 = .ok (.if_icmp .ge 23, 3) := dk_162 0 23 (dk_at dksX9_marks_2 5 rfl rfl)
theorem dX9_marks_56 : decode cX9_marks 56 = .ok (.aload_n 0, 1) := dk_42 (dk_at dksX9_marks_2 8 rfl rfl)
theorem dX9_marks_57 : decode cX9_marks 57 = .ok (.getfield 58, 3) := dk_180 0 58 (dk_at dksX9_marks_2 9 rfl rfl)
theorem dX9_marks_60 : decode cX9_marks 60 = .ok (.iload_n 1, 1) := dk_27 (dk_at dksX9_marks_2 12 rfl rfl)
theorem dX9_marks_61 : decode cX9_marks 61 = .ok (.iload_n 2, 1) := dk_28 (dk_at dksX9_marks_2 13 rfl rfl)
theorem dX9_marks_62 : decode cX9_marks 62 = .ok (.iadd, 1) := dk_96 (dk_at dksX9_marks_2 14 rfl rfl)
theorem dX9_marks_63 : decode cX9_marks 63 = .ok (.aload_n 0, 1) := dk_42 (dk_at dksX9_marks_2 15 rfl rfl)
theorem dX9_marks_64 : decode cX9_marks 64 = .ok (.getfield 52, 3) := dk_180 0 52 (dk_at dksX9_marks_2 16 rfl rfl)
theorem dX9_marks_67 : decode cX9_marks 67 = .ok (.iload_n 2, 1) := dk_28 (dk_at dksX9_marks_2 19 rfl rfl)
theorem dX9_marks_68 : decode cX9_marks 68 = .ok (.iaload, 1) := dk_46 (dk_at dksX9_marks_2 20 rfl rfl)
theorem dX9_marks_69 : decode cX9_marks 69 = .ok (.iastore, 1) := dk_79 (dk_at dksX9_marks_2 21 rfl rfl)
theorem dX9_marks_70 : decode cX9_marks 70 = .ok (.iinc 2 1, 3) := dk_132 2 1 (dk_at dksX9_marks_3 0 rfl rfl)
theorem dX9_marks_73 : decode cX9_marks 73 = .ok (.goto (-23), 3) := dk_167 255 233 (dk_at dksX9_marks_3 3 rfl rfl)
theorem dX9_marks_76 : decode cX9_marks 76 = .ok (.aload_n 0, 1) := dk_42 (dk_at dksX9_marks_3 6 rfl rfl)
theorem dX9_marks_77 : decode cX9_marks 77 = .ok (.dup, 1) := dk_89 (dk_at dksX9_marks_3 7 rfl rfl)
theorem dX9_marks_78 : decode cX9_marks 78 = .ok (.getfield 218, 3) := dk_180 0 218 (dk_at dksX9_marks_3 8 rfl rfl)
theorem dX9_marks_81 : decode cX9_marks 81 = .ok (.iconst 1, 1) := dk_4 (dk_at dksX9_marks_3 11 rfl rfl)
theorem dX9_marks_82 : decode cX9_marks 82 = .ok (.iadd, 1) := dk_96 (dk_at dksX9_marks_3 12 rfl rfl)
theorem dX9_marks_83 : decode cX9_marks 83 = .ok (.putfield 218, 3) := dk_181 0 218 (dk_at dksX9_marks_3 13 rfl rfl)
theorem dX9_marks_86 : decode cX9_marks 86 = .ok (.return_, 1) := dk_177 (dk_at dksX9_marks_3 16 rfl rfl)
abbrev cX9_copiesGate : ByteArray := prog_13_method_35_code
def yX9_copiesGate : MethodName := ⟨RX9, "copiesGate", "([II[II)V"⟩
def dkwX9_copiesGate_1 : List UInt8 := [16, 33, 29, 96, 42, 16, 33, 27, 96, 46, 79, 177]
abbrev dktX9_copiesGate_1 : List UInt8 := dkwX9_copiesGate_1 ++ []
def dkwX9_copiesGate_0 : List UInt8 := [44, 4, 29, 96, 42, 4, 27, 96, 46, 79, 44, 16, 17, 29, 96, 42, 16, 17, 27, 96, 46, 79, 44]
abbrev dktX9_copiesGate_0 : List UInt8 := dkwX9_copiesGate_0 ++ dktX9_copiesGate_1
theorem dksX9_copiesGate_0 : cX9_copiesGate.data.toList.drop 0 = dktX9_copiesGate_0 := by decide +kernel
theorem dksX9_copiesGate_1 : cX9_copiesGate.data.toList.drop 23 = dktX9_copiesGate_1 := dk_seg dksX9_copiesGate_0 23 rfl rfl
theorem dX9_copiesGate_0 : decode cX9_copiesGate 0 = .ok (.aload_n 2, 1) := dk_44 (dk_at dksX9_copiesGate_0 0 rfl rfl)
theorem dX9_copiesGate_1 : decode cX9_copiesGate 1 = .ok (.iconst 1, 1) := dk_4 (dk_at dksX9_copiesGate_0 1 rfl rfl)
theorem dX9_copiesGate_2 : decode cX9_copiesGate 2 = .ok (.iload_n 3, 1) := dk_29 (dk_at dksX9_copiesGate_0 2 rfl rfl)
theorem dX9_copiesGate_3 : decode cX9_copiesGate 3 = .ok (.iadd, 1) := dk_96 (dk_at dksX9_copiesGate_0 3 rfl rfl)
theorem dX9_copiesGate_4 : decode cX9_copiesGate 4 = .ok (.aload_n 0, 1) := dk_42 (dk_at dksX9_copiesGate_0 4 rfl rfl)
theorem dX9_copiesGate_5 : decode cX9_copiesGate 5 = .ok (.iconst 1, 1) := dk_4 (dk_at dksX9_copiesGate_0 5 rfl rfl)
theorem dX9_copiesGate_6 : decode cX9_copiesGate 6 = .ok (.iload_n 1, 1) := dk_27 (dk_at dksX9_copiesGate_0 6 rfl rfl)
theorem dX9_copiesGate_7 : decode cX9_copiesGate 7 = .ok (.iadd, 1) := dk_96 (dk_at dksX9_copiesGate_0 7 rfl rfl)
theorem dX9_copiesGate_8 : decode cX9_copiesGate 8 = .ok (.iaload, 1) := dk_46 (dk_at dksX9_copiesGate_0 8 rfl rfl)
theorem dX9_copiesGate_9 : decode cX9_copiesGate 9 = .ok (.iastore, 1) := dk_79 (dk_at dksX9_copiesGate_0 9 rfl rfl)
theorem dX9_copiesGate_10 : decode cX9_copiesGate 10 = .ok (.aload_n 2, 1) := dk_44 (dk_at dksX9_copiesGate_0 10 rfl rfl)
theorem dX9_copiesGate_11 : decode cX9_copiesGate 11 = .ok (.bipush 17, 2) := dk_16 17 (dk_at dksX9_copiesGate_0 11 rfl rfl)
theorem dX9_copiesGate_13 : decode cX9_copiesGate 13 = .ok (.iload_n 3, 1) := dk_29 (dk_at dksX9_copiesGate_0 13 rfl rfl)
theorem dX9_copiesGate_14 : decode cX9_copiesGate 14 = .ok (.iadd, 1) := dk_96 (dk_at dksX9_copiesGate_0 14 rfl rfl)
theorem dX9_copiesGate_15 : decode cX9_copiesGate 15 = .ok (.aload_n 0, 1) := dk_42 (dk_at dksX9_copiesGate_0 15 rfl rfl)
theorem dX9_copiesGate_16 : decode cX9_copiesGate 16 = .ok (.bipush 17, 2) := dk_16 17 (dk_at dksX9_copiesGate_0 16 rfl rfl)
theorem dX9_copiesGate_18 : decode cX9_copiesGate 18 = .ok (.iload_n 1, 1) := dk_27 (dk_at dksX9_copiesGate_0 18 rfl rfl)
theorem dX9_copiesGate_19 : decode cX9_copiesGate 19 = .ok (.iadd, 1) := dk_96 (dk_at dksX9_copiesGate_0 19 rfl rfl)
theorem dX9_copiesGate_20 : decode cX9_copiesGate 20 = .ok (.iaload, 1) := dk_46 (dk_at dksX9_copiesGate_0 20 rfl rfl)
theorem dX9_copiesGate_21 : decode cX9_copiesGate 21 = .ok (.iastore, 1) := dk_79 (dk_at dksX9_copiesGate_0 21 rfl rfl)
theorem dX9_copiesGate_22 : decode cX9_copiesGate 22 = .ok (.aload_n 2, 1) := dk_44 (dk_at dksX9_copiesGate_0 22 rfl rfl)
theorem dX9_copiesGate_23 : decode cX9_copiesGate 23 = .ok (.bipush 33, 2) := dk_16 33 (dk_at dksX9_copiesGate_1 0 rfl rfl)
theorem dX9_copiesGate_25 : decode cX9_copiesGate 25 = .ok (.iload_n 3, 1) := dk_29 (dk_at dksX9_copiesGate_1 2 rfl rfl)
theorem dX9_copiesGate_26 : decode cX9_copiesGate 26 = .ok (.iadd, 1) := dk_96 (dk_at dksX9_copiesGate_1 3 rfl rfl)
theorem dX9_copiesGate_27 : decode cX9_copiesGate 27 = .ok (.aload_n 0, 1) := dk_42 (dk_at dksX9_copiesGate_1 4 rfl rfl)
theorem dX9_copiesGate_28 : decode cX9_copiesGate 28 = .ok (.bipush 33, 2) := dk_16 33 (dk_at dksX9_copiesGate_1 5 rfl rfl)
theorem dX9_copiesGate_30 : decode cX9_copiesGate 30 = .ok (.iload_n 1, 1) := dk_27 (dk_at dksX9_copiesGate_1 7 rfl rfl)
theorem dX9_copiesGate_31 : decode cX9_copiesGate 31 = .ok (.iadd, 1) := dk_96 (dk_at dksX9_copiesGate_1 8 rfl rfl)
theorem dX9_copiesGate_32 : decode cX9_copiesGate 32 = .ok (.iaload, 1) := dk_46 (dk_at dksX9_copiesGate_1 9 rfl rfl)
theorem dX9_copiesGate_33 : decode cX9_copiesGate 33 = .ok (.iastore, 1) := dk_79 (dk_at dksX9_copiesGate_1 10 rfl rfl)
theorem dX9_copiesGate_34 : decode cX9_copiesGate 34 = .ok (.return_, 1) := dk_177 (dk_at dksX9_copiesGate_1 11 rfl rfl)
abbrev cX9_sets : ByteArray := prog_13_method_36_code
def yX9_sets : MethodName := ⟨RX9, "sets", "([IIIII)V"⟩
def dkwX9_sets_0 : List UInt8 := [42, 4, 27, 96, 28, 79, 42, 16, 17, 27, 96, 29, 79, 42, 16, 33, 27, 96, 21, 4, 79, 177]
abbrev dktX9_sets_0 : List UInt8 := dkwX9_sets_0 ++ []
theorem dksX9_sets_0 : cX9_sets.data.toList.drop 0 = dktX9_sets_0 := by decide +kernel
theorem dX9_sets_0 : decode cX9_sets 0 = .ok (.aload_n 0, 1) := dk_42 (dk_at dksX9_sets_0 0 rfl rfl)
theorem dX9_sets_1 : decode cX9_sets 1 = .ok (.iconst 1, 1) := dk_4 (dk_at dksX9_sets_0 1 rfl rfl)
theorem dX9_sets_2 : decode cX9_sets 2 = .ok (.iload_n 1, 1) := dk_27 (dk_at dksX9_sets_0 2 rfl rfl)
theorem dX9_sets_3 : decode cX9_sets 3 = .ok (.iadd, 1) := dk_96 (dk_at dksX9_sets_0 3 rfl rfl)
theorem dX9_sets_4 : decode cX9_sets 4 = .ok (.iload_n 2, 1) := dk_28 (dk_at dksX9_sets_0 4 rfl rfl)
theorem dX9_sets_5 : decode cX9_sets 5 = .ok (.iastore, 1) := dk_79 (dk_at dksX9_sets_0 5 rfl rfl)
theorem dX9_sets_6 : decode cX9_sets 6 = .ok (.aload_n 0, 1) := dk_42 (dk_at dksX9_sets_0 6 rfl rfl)
theorem dX9_sets_7 : decode cX9_sets 7 = .ok (.bipush 17, 2) := dk_16 17 (dk_at dksX9_sets_0 7 rfl rfl)
theorem dX9_sets_9 : decode cX9_sets 9 = .ok (.iload_n 1, 1) := dk_27 (dk_at dksX9_sets_0 9 rfl rfl)
theorem dX9_sets_10 : decode cX9_sets 10 = .ok (.iadd, 1) := dk_96 (dk_at dksX9_sets_0 10 rfl rfl)
theorem dX9_sets_11 : decode cX9_sets 11 = .ok (.iload_n 3, 1) := dk_29 (dk_at dksX9_sets_0 11 rfl rfl)
theorem dX9_sets_12 : decode cX9_sets 12 = .ok (.iastore, 1) := dk_79 (dk_at dksX9_sets_0 12 rfl rfl)
theorem dX9_sets_13 : decode cX9_sets 13 = .ok (.aload_n 0, 1) := dk_42 (dk_at dksX9_sets_0 13 rfl rfl)
theorem dX9_sets_14 : decode cX9_sets 14 = .ok (.bipush 33, 2) := dk_16 33 (dk_at dksX9_sets_0 14 rfl rfl)
theorem dX9_sets_16 : decode cX9_sets 16 = .ok (.iload_n 1, 1) := dk_27 (dk_at dksX9_sets_0 16 rfl rfl)
theorem dX9_sets_17 : decode cX9_sets 17 = .ok (.iadd, 1) := dk_96 (dk_at dksX9_sets_0 17 rfl rfl)
theorem dX9_sets_18 : decode cX9_sets 18 = .ok (.iload 4, 2) := dk_21 4 (dk_at dksX9_sets_0 18 rfl rfl)
theorem dX9_sets_20 : decode cX9_sets 20 = .ok (.iastore, 1) := dk_79 (dk_at dksX9_sets_0 20 rfl rfl)
theorem dX9_sets_21 : decode cX9_sets 21 = .ok (.return_, 1) := dk_177 (dk_at dksX9_sets_0 21 rfl rfl)
abbrev cX9_take : ByteArray := prog_13_method_39_code
def yX9_take : MethodName := ⟨RX9, "take", "(I)Z"⟩
def dkwX9_take_0 : List UInt8 := [42, 27, 182, 1, 16, 154, 0, 5, 3, 172, 42, 182, 1, 9, 42, 180, 0, 52, 27, 184, 1, 19, 4, 172]
abbrev dktX9_take_0 : List UInt8 := dkwX9_take_0 ++ []
theorem dksX9_take_0 : cX9_take.data.toList.drop 0 = dktX9_take_0 := by decide +kernel
theorem dX9_take_0 : decode cX9_take 0 = .ok (.aload_n 0, 1) := dk_42 (dk_at dksX9_take_0 0 rfl rfl)
theorem dX9_take_1 : decode cX9_take 1 = .ok (.iload_n 1, 1) := dk_27 (dk_at dksX9_take_0 1 rfl rfl)
theorem dX9_take_2 : decode cX9_take 2 = .ok (.invokevirtual 272, 3) := dk_182 1 16 (dk_at dksX9_take_0 2 rfl rfl)
theorem dX9_take_5 : decode cX9_take 5 = .ok (.ifCond .ne 5, 3) := dk_154 0 5 (dk_at dksX9_take_0 5 rfl rfl)
theorem dX9_take_8 : decode cX9_take 8 = .ok (.iconst 0, 1) := dk_3 (dk_at dksX9_take_0 8 rfl rfl)
theorem dX9_take_9 : decode cX9_take 9 = .ok (.ireturn, 1) := dk_172 (dk_at dksX9_take_0 9 rfl rfl)
theorem dX9_take_10 : decode cX9_take 10 = .ok (.aload_n 0, 1) := dk_42 (dk_at dksX9_take_0 10 rfl rfl)
theorem dX9_take_11 : decode cX9_take 11 = .ok (.invokevirtual 265, 3) := dk_182 1 9 (dk_at dksX9_take_0 11 rfl rfl)
theorem dX9_take_14 : decode cX9_take 14 = .ok (.aload_n 0, 1) := dk_42 (dk_at dksX9_take_0 14 rfl rfl)
theorem dX9_take_15 : decode cX9_take 15 = .ok (.getfield 52, 3) := dk_180 0 52 (dk_at dksX9_take_0 15 rfl rfl)
theorem dX9_take_18 : decode cX9_take 18 = .ok (.iload_n 1, 1) := dk_27 (dk_at dksX9_take_0 18 rfl rfl)
theorem dX9_take_19 : decode cX9_take 19 = .ok (.invokestatic 275, 3) := dk_184 1 19 (dk_at dksX9_take_0 19 rfl rfl)
theorem dX9_take_22 : decode cX9_take 22 = .ok (.iconst 1, 1) := dk_4 (dk_at dksX9_take_0 22 rfl rfl)
theorem dX9_take_23 : decode cX9_take 23 = .ok (.ireturn, 1) := dk_172 (dk_at dksX9_take_0 23 rfl rfl)
abbrev cX9_isGate : ByteArray := prog_13_method_32_code
def yX9_isGate : MethodName := ⟨RX9, "isGate", "(I)Z"⟩
def dkwX9_isGate_0 : List UInt8 := [27, 3, 42, 182, 0, 244, 4, 100, 184, 0, 237, 172]
abbrev dktX9_isGate_0 : List UInt8 := dkwX9_isGate_0 ++ []
theorem dksX9_isGate_0 : cX9_isGate.data.toList.drop 0 = dktX9_isGate_0 := by decide +kernel
theorem dX9_isGate_0 : decode cX9_isGate 0 = .ok (.iload_n 1, 1) := dk_27 (dk_at dksX9_isGate_0 0 rfl rfl)
theorem dX9_isGate_1 : decode cX9_isGate 1 = .ok (.iconst 0, 1) := dk_3 (dk_at dksX9_isGate_0 1 rfl rfl)
theorem dX9_isGate_2 : decode cX9_isGate 2 = .ok (.aload_n 0, 1) := dk_42 (dk_at dksX9_isGate_0 2 rfl rfl)
theorem dX9_isGate_3 : decode cX9_isGate 3 = .ok (.invokevirtual 244, 3) := dk_182 0 244 (dk_at dksX9_isGate_0 3 rfl rfl)
theorem dX9_isGate_6 : decode cX9_isGate 6 = .ok (.iconst 1, 1) := dk_4 (dk_at dksX9_isGate_0 6 rfl rfl)
theorem dX9_isGate_7 : decode cX9_isGate 7 = .ok (.isub, 1) := dk_100 (dk_at dksX9_isGate_0 7 rfl rfl)
theorem dX9_isGate_8 : decode cX9_isGate 8 = .ok (.invokestatic 237, 3) := dk_184 0 237 (dk_at dksX9_isGate_0 8 rfl rfl)
theorem dX9_isGate_11 : decode cX9_isGate 11 = .ok (.ireturn, 1) := dk_172 (dk_at dksX9_isGate_0 11 rfl rfl)
abbrev cX9_takesOff : ByteArray := prog_13_method_37_code
def yX9_takesOff : MethodName := ⟨RX9, "takesOff", "([II)V"⟩
def dkwX9_takesOff_1 : List UInt8 := [184, 0, 254, 132, 2, 1, 167, 255, 237, 177]
abbrev dktX9_takesOff_1 : List UInt8 := dkwX9_takesOff_1 ++ []
def dkwX9_takesOff_0 : List UInt8 := [42, 3, 92, 46, 4, 100, 79, 27, 61, 28, 42, 3, 46, 162, 0, 18, 42, 28, 4, 96, 42, 28]
abbrev dktX9_takesOff_0 : List UInt8 := dkwX9_takesOff_0 ++ dktX9_takesOff_1
theorem dksX9_takesOff_0 : cX9_takesOff.data.toList.drop 0 = dktX9_takesOff_0 := by decide +kernel
theorem dksX9_takesOff_1 : cX9_takesOff.data.toList.drop 22 = dktX9_takesOff_1 := dk_seg dksX9_takesOff_0 22 rfl rfl
theorem dX9_takesOff_0 : decode cX9_takesOff 0 = .ok (.aload_n 0, 1) := dk_42 (dk_at dksX9_takesOff_0 0 rfl rfl)
theorem dX9_takesOff_1 : decode cX9_takesOff 1 = .ok (.iconst 0, 1) := dk_3 (dk_at dksX9_takesOff_0 1 rfl rfl)
theorem dX9_takesOff_2 : decode cX9_takesOff 2 = .ok (.dup2, 1) := dk_92 (dk_at dksX9_takesOff_0 2 rfl rfl)
theorem dX9_takesOff_3 : decode cX9_takesOff 3 = .ok (.iaload, 1) := dk_46 (dk_at dksX9_takesOff_0 3 rfl rfl)
theorem dX9_takesOff_4 : decode cX9_takesOff 4 = .ok (.iconst 1, 1) := dk_4 (dk_at dksX9_takesOff_0 4 rfl rfl)
theorem dX9_takesOff_5 : decode cX9_takesOff 5 = .ok (.isub, 1) := dk_100 (dk_at dksX9_takesOff_0 5 rfl rfl)
theorem dX9_takesOff_6 : decode cX9_takesOff 6 = .ok (.iastore, 1) := dk_79 (dk_at dksX9_takesOff_0 6 rfl rfl)
theorem dX9_takesOff_7 : decode cX9_takesOff 7 = .ok (.iload_n 1, 1) := dk_27 (dk_at dksX9_takesOff_0 7 rfl rfl)
theorem dX9_takesOff_8 : decode cX9_takesOff 8 = .ok (.istore_n 2, 1) := dk_61 (dk_at dksX9_takesOff_0 8 rfl rfl)
theorem dX9_takesOff_9 : decode cX9_takesOff 9 = .ok (.iload_n 2, 1) := dk_28 (dk_at dksX9_takesOff_0 9 rfl rfl)
theorem dX9_takesOff_10 : decode cX9_takesOff 10 = .ok (.aload_n 0, 1) := dk_42 (dk_at dksX9_takesOff_0 10 rfl rfl)
theorem dX9_takesOff_11 : decode cX9_takesOff 11 = .ok (.iconst 0, 1) := dk_3 (dk_at dksX9_takesOff_0 11 rfl rfl)
theorem dX9_takesOff_12 : decode cX9_takesOff 12 = .ok (.iaload, 1) := dk_46 (dk_at dksX9_takesOff_0 12 rfl rfl)
theorem dX9_takesOff_13 : decode cX9_takesOff 13 = .ok (.if_icmp .ge 18, 3) := dk_162 0 18 (dk_at dksX9_takesOff_0 13 rfl rfl)
theorem dX9_takesOff_16 : decode cX9_takesOff 16 = .ok (.aload_n 0, 1) := dk_42 (dk_at dksX9_takesOff_0 16 rfl rfl)
theorem dX9_takesOff_17 : decode cX9_takesOff 17 = .ok (.iload_n 2, 1) := dk_28 (dk_at dksX9_takesOff_0 17 rfl rfl)
theorem dX9_takesOff_18 : decode cX9_takesOff 18 = .ok (.iconst 1, 1) := dk_4 (dk_at dksX9_takesOff_0 18 rfl rfl)
theorem dX9_takesOff_19 : decode cX9_takesOff 19 = .ok (.iadd, 1) := dk_96 (dk_at dksX9_takesOff_0 19 rfl rfl)
theorem dX9_takesOff_20 : decode cX9_takesOff 20 = .ok (.aload_n 0, 1) := dk_42 (dk_at dksX9_takesOff_0 20 rfl rfl)
theorem dX9_takesOff_21 : decode cX9_takesOff 21 = .ok (.iload_n 2, 1) := dk_28 (dk_at dksX9_takesOff_0 21 rfl rfl)
theorem dX9_takesOff_22 : decode cX9_takesOff 22 = .ok (.invokestatic 254, 3) := dk_184 0 254 (dk_at dksX9_takesOff_1 0 rfl rfl)
theorem dX9_takesOff_25 : decode cX9_takesOff 25 = .ok (.iinc 2 1, 3) := dk_132 2 1 (dk_at dksX9_takesOff_1 3 rfl rfl)
theorem dX9_takesOff_28 : decode cX9_takesOff 28 = .ok (.goto (-19), 3) := dk_167 255 237 (dk_at dksX9_takesOff_1 6 rfl rfl)
theorem dX9_takesOff_31 : decode cX9_takesOff 31 = .ok (.return_, 1) := dk_177 (dk_at dksX9_takesOff_1 9 rfl rfl)
abbrev cX9_swap : ByteArray := prog_13_method_40_code
def yX9_swap : MethodName := ⟨RX9, "swap", "(I)Z"⟩
def dkwX9_swap_2 : List UInt8 := [27, 184, 0, 254, 42, 180, 0, 55, 3, 42, 180, 0, 52, 27, 4, 96, 184, 0, 254, 4, 172]
abbrev dktX9_swap_2 : List UInt8 := dkwX9_swap_2 ++ []
def dkwX9_swap_1 : List UInt8 := [42, 180, 0, 52, 27, 42, 180, 0, 55, 3, 184, 0, 254, 42, 180, 0, 52, 27, 4, 96, 42, 180, 0, 52]
abbrev dktX9_swap_1 : List UInt8 := dkwX9_swap_1 ++ dktX9_swap_2
def dkwX9_swap_0 : List UInt8 := [42, 27, 182, 1, 16, 153, 0, 13, 42, 27, 4, 96, 182, 1, 16, 154, 0, 5, 3, 172, 42, 182, 1, 9]
abbrev dktX9_swap_0 : List UInt8 := dkwX9_swap_0 ++ dktX9_swap_1
theorem dksX9_swap_0 : cX9_swap.data.toList.drop 0 = dktX9_swap_0 := by decide +kernel
theorem dksX9_swap_1 : cX9_swap.data.toList.drop 24 = dktX9_swap_1 := dk_seg dksX9_swap_0 24 rfl rfl
theorem dksX9_swap_2 : cX9_swap.data.toList.drop 48 = dktX9_swap_2 := dk_seg dksX9_swap_1 24 rfl rfl
theorem dX9_swap_0 : decode cX9_swap 0 = .ok (.aload_n 0, 1) := dk_42 (dk_at dksX9_swap_0 0 rfl rfl)
theorem dX9_swap_1 : decode cX9_swap 1 = .ok (.iload_n 1, 1) := dk_27 (dk_at dksX9_swap_0 1 rfl rfl)
theorem dX9_swap_2 : decode cX9_swap 2 = .ok (.invokevirtual 272, 3) := dk_182 1 16 (dk_at dksX9_swap_0 2 rfl rfl)
theorem dX9_swap_5 : decode cX9_swap 5 = .ok (.ifCond .eq 13, 3) := dk_153 0 13 (dk_at dksX9_swap_0 5 rfl rfl)
theorem dX9_swap_8 : decode cX9_swap 8 = .ok (.aload_n 0, 1) := dk_42 (dk_at dksX9_swap_0 8 rfl rfl)
theorem dX9_swap_9 : decode cX9_swap 9 = .ok (.iload_n 1, 1) := dk_27 (dk_at dksX9_swap_0 9 rfl rfl)
theorem dX9_swap_10 : decode cX9_swap 10 = .ok (.iconst 1, 1) := dk_4 (dk_at dksX9_swap_0 10 rfl rfl)
theorem dX9_swap_11 : decode cX9_swap 11 = .ok (.iadd, 1) := dk_96 (dk_at dksX9_swap_0 11 rfl rfl)
theorem dX9_swap_12 : decode cX9_swap 12 = .ok (.invokevirtual 272, 3) := dk_182 1 16 (dk_at dksX9_swap_0 12 rfl rfl)
theorem dX9_swap_15 : decode cX9_swap 15 = .ok (.ifCond .ne 5, 3) := dk_154 0 5 (dk_at dksX9_swap_0 15 rfl rfl)
theorem dX9_swap_18 : decode cX9_swap 18 = .ok (.iconst 0, 1) := dk_3 (dk_at dksX9_swap_0 18 rfl rfl)
theorem dX9_swap_19 : decode cX9_swap 19 = .ok (.ireturn, 1) := dk_172 (dk_at dksX9_swap_0 19 rfl rfl)
theorem dX9_swap_20 : decode cX9_swap 20 = .ok (.aload_n 0, 1) := dk_42 (dk_at dksX9_swap_0 20 rfl rfl)
theorem dX9_swap_21 : decode cX9_swap 21 = .ok (.invokevirtual 265, 3) := dk_182 1 9 (dk_at dksX9_swap_0 21 rfl rfl)
theorem dX9_swap_24 : decode cX9_swap 24 = .ok (.aload_n 0, 1) := dk_42 (dk_at dksX9_swap_1 0 rfl rfl)
theorem dX9_swap_25 : decode cX9_swap 25 = .ok (.getfield 52, 3) := dk_180 0 52 (dk_at dksX9_swap_1 1 rfl rfl)
theorem dX9_swap_28 : decode cX9_swap 28 = .ok (.iload_n 1, 1) := dk_27 (dk_at dksX9_swap_1 4 rfl rfl)
theorem dX9_swap_29 : decode cX9_swap 29 = .ok (.aload_n 0, 1) := dk_42 (dk_at dksX9_swap_1 5 rfl rfl)
theorem dX9_swap_30 : decode cX9_swap 30 = .ok (.getfield 55, 3) := dk_180 0 55 (dk_at dksX9_swap_1 6 rfl rfl)
theorem dX9_swap_33 : decode cX9_swap 33 = .ok (.iconst 0, 1) := dk_3 (dk_at dksX9_swap_1 9 rfl rfl)
theorem dX9_swap_34 : decode cX9_swap 34 = .ok (.invokestatic 254, 3) := dk_184 0 254 (dk_at dksX9_swap_1 10 rfl rfl)
theorem dX9_swap_37 : decode cX9_swap 37 = .ok (.aload_n 0, 1) := dk_42 (dk_at dksX9_swap_1 13 rfl rfl)
theorem dX9_swap_38 : decode cX9_swap 38 = .ok (.getfield 52, 3) := dk_180 0 52 (dk_at dksX9_swap_1 14 rfl rfl)
theorem dX9_swap_41 : decode cX9_swap 41 = .ok (.iload_n 1, 1) := dk_27 (dk_at dksX9_swap_1 17 rfl rfl)
theorem dX9_swap_42 : decode cX9_swap 42 = .ok (.iconst 1, 1) := dk_4 (dk_at dksX9_swap_1 18 rfl rfl)
theorem dX9_swap_43 : decode cX9_swap 43 = .ok (.iadd, 1) := dk_96 (dk_at dksX9_swap_1 19 rfl rfl)
theorem dX9_swap_44 : decode cX9_swap 44 = .ok (.aload_n 0, 1) := dk_42 (dk_at dksX9_swap_1 20 rfl rfl)
theorem dX9_swap_45 : decode cX9_swap 45 = .ok (.getfield 52, 3) := dk_180 0 52 (dk_at dksX9_swap_1 21 rfl rfl)
theorem dX9_swap_48 : decode cX9_swap 48 = .ok (.iload_n 1, 1) := dk_27 (dk_at dksX9_swap_2 0 rfl rfl)
theorem dX9_swap_49 : decode cX9_swap 49 = .ok (.invokestatic 254, 3) := dk_184 0 254 (dk_at dksX9_swap_2 1 rfl rfl)
theorem dX9_swap_52 : decode cX9_swap 52 = .ok (.aload_n 0, 1) := dk_42 (dk_at dksX9_swap_2 4 rfl rfl)
theorem dX9_swap_53 : decode cX9_swap 53 = .ok (.getfield 55, 3) := dk_180 0 55 (dk_at dksX9_swap_2 5 rfl rfl)
theorem dX9_swap_56 : decode cX9_swap 56 = .ok (.iconst 0, 1) := dk_3 (dk_at dksX9_swap_2 8 rfl rfl)
theorem dX9_swap_57 : decode cX9_swap 57 = .ok (.aload_n 0, 1) := dk_42 (dk_at dksX9_swap_2 9 rfl rfl)
theorem dX9_swap_58 : decode cX9_swap 58 = .ok (.getfield 52, 3) := dk_180 0 52 (dk_at dksX9_swap_2 10 rfl rfl)
theorem dX9_swap_61 : decode cX9_swap 61 = .ok (.iload_n 1, 1) := dk_27 (dk_at dksX9_swap_2 13 rfl rfl)
theorem dX9_swap_62 : decode cX9_swap 62 = .ok (.iconst 1, 1) := dk_4 (dk_at dksX9_swap_2 14 rfl rfl)
theorem dX9_swap_63 : decode cX9_swap 63 = .ok (.iadd, 1) := dk_96 (dk_at dksX9_swap_2 15 rfl rfl)
theorem dX9_swap_64 : decode cX9_swap 64 = .ok (.invokestatic 254, 3) := dk_184 0 254 (dk_at dksX9_swap_2 16 rfl rfl)
theorem dX9_swap_67 : decode cX9_swap 67 = .ok (.iconst 1, 1) := dk_4 (dk_at dksX9_swap_2 19 rfl rfl)
theorem dX9_swap_68 : decode cX9_swap 68 = .ok (.ireturn, 1) := dk_172 (dk_at dksX9_swap_2 20 rfl rfl)
abbrev cX9_become : ByteArray := prog_13_method_41_code
def yX9_become : MethodName := ⟨RX9, "become", "(I)I"⟩
def dkwX9_become_3 : List UInt8 := [42, 182, 0, 244, 172]
abbrev dktX9_become_3 : List UInt8 := dkwX9_become_3 ++ []
def dkwX9_become_2 : List UInt8 := [28, 16, 49, 162, 0, 21, 42, 180, 0, 52, 28, 42, 180, 0, 74, 28, 46, 79, 132, 2, 1, 167, 255, 235]
abbrev dktX9_become_2 : List UInt8 := dkwX9_become_2 ++ dktX9_become_3
def dkwX9_become_1 : List UInt8 := [42, 27, 182, 1, 23, 42, 180, 0, 74, 3, 46, 16, 16, 164, 0, 5, 2, 172, 42, 182, 1, 9, 3, 61]
abbrev dktX9_become_1 : List UInt8 := dkwX9_become_1 ++ dktX9_become_2
def dkwX9_become_0 : List UInt8 := [27, 3, 7, 184, 0, 237, 153, 0, 16, 27, 7, 160, 0, 13, 42, 180, 0, 203, 7, 160, 0, 5, 2, 172]
abbrev dktX9_become_0 : List UInt8 := dkwX9_become_0 ++ dktX9_become_1
theorem dksX9_become_0 : cX9_become.data.toList.drop 0 = dktX9_become_0 := by decide +kernel
theorem dksX9_become_1 : cX9_become.data.toList.drop 24 = dktX9_become_1 := dk_seg dksX9_become_0 24 rfl rfl
theorem dksX9_become_2 : cX9_become.data.toList.drop 48 = dktX9_become_2 := dk_seg dksX9_become_1 24 rfl rfl
theorem dksX9_become_3 : cX9_become.data.toList.drop 72 = dktX9_become_3 := dk_seg dksX9_become_2 24 rfl rfl
theorem dX9_become_0 : decode cX9_become 0 = .ok (.iload_n 1, 1) := dk_27 (dk_at dksX9_become_0 0 rfl rfl)
theorem dX9_become_1 : decode cX9_become 1 = .ok (.iconst 0, 1) := dk_3 (dk_at dksX9_become_0 1 rfl rfl)
theorem dX9_become_2 : decode cX9_become 2 = .ok (.iconst 4, 1) := dk_7 (dk_at dksX9_become_0 2 rfl rfl)
theorem dX9_become_3 : decode cX9_become 3 = .ok (.invokestatic 237, 3) := dk_184 0 237 (dk_at dksX9_become_0 3 rfl rfl)
theorem dX9_become_6 : decode cX9_become 6 = .ok (.ifCond .eq 16, 3) := dk_153 0 16 (dk_at dksX9_become_0 6 rfl rfl)
theorem dX9_become_9 : decode cX9_become 9 = .ok (.iload_n 1, 1) := dk_27 (dk_at dksX9_become_0 9 rfl rfl)
theorem dX9_become_10 : decode cX9_become 10 = .ok (.iconst 4, 1) := dk_7 (dk_at dksX9_become_0 10 rfl rfl)
theorem dX9_become_11 : decode cX9_become 11 = .ok (.if_icmp .ne 13, 3) := dk_160 0 13 (dk_at dksX9_become_0 11 rfl rfl)
theorem dX9_become_14 : decode cX9_become 14 = .ok (.aload_n 0, 1) := dk_42 (dk_at dksX9_become_0 14 rfl rfl)
theorem dX9_become_15 : decode cX9_become 15 = .ok (.getfield 203, 3) := dk_180 0 203 (dk_at dksX9_become_0 15 rfl rfl)
theorem dX9_become_18 : decode cX9_become 18 = .ok (.iconst 4, 1) := dk_7 (dk_at dksX9_become_0 18 rfl rfl)
theorem dX9_become_19 : decode cX9_become 19 = .ok (.if_icmp .ne 5, 3) := dk_160 0 5 (dk_at dksX9_become_0 19 rfl rfl)
theorem dX9_become_22 : decode cX9_become 22 = .ok (.iconst (-1), 1) := dk_2 (dk_at dksX9_become_0 22 rfl rfl)
theorem dX9_become_23 : decode cX9_become 23 = .ok (.ireturn, 1) := dk_172 (dk_at dksX9_become_0 23 rfl rfl)
theorem dX9_become_24 : decode cX9_become 24 = .ok (.aload_n 0, 1) := dk_42 (dk_at dksX9_become_1 0 rfl rfl)
theorem dX9_become_25 : decode cX9_become 25 = .ok (.iload_n 1, 1) := dk_27 (dk_at dksX9_become_1 1 rfl rfl)
theorem dX9_become_26 : decode cX9_become 26 = .ok (.invokevirtual 279, 3) := dk_182 1 23 (dk_at dksX9_become_1 2 rfl rfl)
theorem dX9_become_29 : decode cX9_become 29 = .ok (.aload_n 0, 1) := dk_42 (dk_at dksX9_become_1 5 rfl rfl)
theorem dX9_become_30 : decode cX9_become 30 = .ok (.getfield 74, 3) := dk_180 0 74 (dk_at dksX9_become_1 6 rfl rfl)
theorem dX9_become_33 : decode cX9_become 33 = .ok (.iconst 0, 1) := dk_3 (dk_at dksX9_become_1 9 rfl rfl)
theorem dX9_become_34 : decode cX9_become 34 = .ok (.iaload, 1) := dk_46 (dk_at dksX9_become_1 10 rfl rfl)
theorem dX9_become_35 : decode cX9_become 35 = .ok (.bipush 16, 2) := dk_16 16 (dk_at dksX9_become_1 11 rfl rfl)
theorem dX9_become_37 : decode cX9_become 37 = .ok (.if_icmp .le 5, 3) := dk_164 0 5 (dk_at dksX9_become_1 13 rfl rfl)
theorem dX9_become_40 : decode cX9_become 40 = .ok (.iconst (-1), 1) := dk_2 (dk_at dksX9_become_1 16 rfl rfl)
theorem dX9_become_41 : decode cX9_become 41 = .ok (.ireturn, 1) := dk_172 (dk_at dksX9_become_1 17 rfl rfl)
theorem dX9_become_42 : decode cX9_become 42 = .ok (.aload_n 0, 1) := dk_42 (dk_at dksX9_become_1 18 rfl rfl)
theorem dX9_become_43 : decode cX9_become 43 = .ok (.invokevirtual 265, 3) := dk_182 1 9 (dk_at dksX9_become_1 19 rfl rfl)
theorem dX9_become_46 : decode cX9_become 46 = .ok (.iconst 0, 1) := dk_3 (dk_at dksX9_become_1 22 rfl rfl)
theorem dX9_become_47 : decode cX9_become 47 = .ok (.istore_n 2, 1) := dk_61 (dk_at dksX9_become_1 23 rfl rfl)
theorem dX9_become_48 : decode cX9_become 48 = .ok (.iload_n 2, 1) := dk_28 (dk_at dksX9_become_2 0 rfl rfl)
theorem dX9_become_49 : decode cX9_become 49 = .ok (.bipush 49, 2) := dk_16 49 (dk_at dksX9_become_2 1 rfl rfl)
theorem dX9_become_51 : decode cX9_become 51 = .ok (.if_icmp .ge 21, 3) := dk_162 0 21 (dk_at dksX9_become_2 3 rfl rfl)
theorem dX9_become_54 : decode cX9_become 54 = .ok (.aload_n 0, 1) := dk_42 (dk_at dksX9_become_2 6 rfl rfl)
theorem dX9_become_55 : decode cX9_become 55 = .ok (.getfield 52, 3) := dk_180 0 52 (dk_at dksX9_become_2 7 rfl rfl)
theorem dX9_become_58 : decode cX9_become 58 = .ok (.iload_n 2, 1) := dk_28 (dk_at dksX9_become_2 10 rfl rfl)
theorem dX9_become_59 : decode cX9_become 59 = .ok (.aload_n 0, 1) := dk_42 (dk_at dksX9_become_2 11 rfl rfl)
theorem dX9_become_60 : decode cX9_become 60 = .ok (.getfield 74, 3) := dk_180 0 74 (dk_at dksX9_become_2 12 rfl rfl)
theorem dX9_become_63 : decode cX9_become 63 = .ok (.iload_n 2, 1) := dk_28 (dk_at dksX9_become_2 15 rfl rfl)
theorem dX9_become_64 : decode cX9_become 64 = .ok (.iaload, 1) := dk_46 (dk_at dksX9_become_2 16 rfl rfl)
theorem dX9_become_65 : decode cX9_become 65 = .ok (.iastore, 1) := dk_79 (dk_at dksX9_become_2 17 rfl rfl)
theorem dX9_become_66 : decode cX9_become 66 = .ok (.iinc 2 1, 3) := dk_132 2 1 (dk_at dksX9_become_2 18 rfl rfl)
theorem dX9_become_69 : decode cX9_become 69 = .ok (.goto (-21), 3) := dk_167 255 235 (dk_at dksX9_become_2 21 rfl rfl)
theorem dX9_become_72 : decode cX9_become 72 = .ok (.aload_n 0, 1) := dk_42 (dk_at dksX9_become_3 0 rfl rfl)
theorem dX9_become_73 : decode cX9_become 73 = .ok (.invokevirtual 244, 3) := dk_182 0 244 (dk_at dksX9_become_3 1 rfl rfl)
theorem dX9_become_76 : decode cX9_become 76 = .ok (.ireturn, 1) := dk_172 (dk_at dksX9_become_3 4 rfl rfl)
abbrev cX9_laysBecome : ByteArray := prog_13_method_42_code
def yX9_laysBecome : MethodName := ⟨RX9, "laysBecome", "(I)V"⟩
def dkwX9_laysBecome_7 : List UInt8 := [167, 255, 218, 177]
abbrev dktX9_laysBecome_7 : List UInt8 := dkwX9_laysBecome_7 ++ []
def dkwX9_laysBecome_6 : List UInt8 := [180, 0, 74, 28, 42, 180, 0, 77, 28, 46, 42, 180, 0, 80, 28, 46, 3, 184, 1, 12, 132, 2, 1]
abbrev dktX9_laysBecome_6 : List UInt8 := dkwX9_laysBecome_6 ++ dktX9_laysBecome_7
def dkwX9_laysBecome_5 : List UInt8 := [42, 180, 1, 40, 79, 3, 61, 28, 42, 180, 1, 40, 162, 0, 36, 28, 16, 16, 162, 0, 30, 42]
abbrev dktX9_laysBecome_5 : List UInt8 := dkwX9_laysBecome_5 ++ dktX9_laysBecome_6
def dkwX9_laysBecome_4 : List UInt8 := [27, 7, 160, 0, 7, 42, 182, 1, 37, 27, 153, 0, 8, 27, 6, 160, 0, 4, 177, 42, 180, 0, 74, 3]
abbrev dktX9_laysBecome_4 : List UInt8 := dkwX9_laysBecome_4 ++ dktX9_laysBecome_5
def dkwX9_laysBecome_3 : List UInt8 := [180, 0, 52, 182, 1, 29, 42, 42, 180, 0, 203, 27, 5, 160, 0, 7, 4, 167, 0, 4, 3, 182, 1, 33]
abbrev dktX9_laysBecome_3 : List UInt8 := dkwX9_laysBecome_3 ++ dktX9_laysBecome_4
def dkwX9_laysBecome_2 : List UInt8 := [28, 100, 184, 0, 254, 132, 2, 1, 167, 255, 225, 27, 4, 159, 0, 8, 27, 5, 160, 0, 29, 42, 42]
abbrev dktX9_laysBecome_2 : List UInt8 := dkwX9_laysBecome_2 ++ dktX9_laysBecome_3
def dkwX9_laysBecome_1 : List UInt8 := [61, 28, 42, 182, 0, 244, 162, 0, 29, 42, 180, 0, 52, 28, 42, 180, 0, 74, 42, 182, 0, 244, 4, 100]
abbrev dktX9_laysBecome_1 : List UInt8 := dkwX9_laysBecome_1 ++ dktX9_laysBecome_2
def dkwX9_laysBecome_0 : List UInt8 := [27, 154, 0, 7, 42, 182, 1, 26, 27, 6, 160, 0, 49, 42, 180, 0, 74, 3, 42, 182, 0, 244, 79, 3]
abbrev dktX9_laysBecome_0 : List UInt8 := dkwX9_laysBecome_0 ++ dktX9_laysBecome_1
theorem dksX9_laysBecome_0 : cX9_laysBecome.data.toList.drop 0 = dktX9_laysBecome_0 := by decide +kernel
theorem dksX9_laysBecome_1 : cX9_laysBecome.data.toList.drop 24 = dktX9_laysBecome_1 := dk_seg dksX9_laysBecome_0 24 rfl rfl
theorem dksX9_laysBecome_2 : cX9_laysBecome.data.toList.drop 48 = dktX9_laysBecome_2 := dk_seg dksX9_laysBecome_1 24 rfl rfl
theorem dksX9_laysBecome_3 : cX9_laysBecome.data.toList.drop 71 = dktX9_laysBecome_3 := dk_seg dksX9_laysBecome_2 23 rfl rfl
theorem dksX9_laysBecome_4 : cX9_laysBecome.data.toList.drop 95 = dktX9_laysBecome_4 := dk_seg dksX9_laysBecome_3 24 rfl rfl
theorem dksX9_laysBecome_5 : cX9_laysBecome.data.toList.drop 119 = dktX9_laysBecome_5 := dk_seg dksX9_laysBecome_4 24 rfl rfl
theorem dksX9_laysBecome_6 : cX9_laysBecome.data.toList.drop 141 = dktX9_laysBecome_6 := dk_seg dksX9_laysBecome_5 22 rfl rfl
theorem dksX9_laysBecome_7 : cX9_laysBecome.data.toList.drop 164 = dktX9_laysBecome_7 := dk_seg dksX9_laysBecome_6 23 rfl rfl
theorem dX9_laysBecome_0 : decode cX9_laysBecome 0 = .ok (.iload_n 1, 1) := dk_27 (dk_at dksX9_laysBecome_0 0 rfl rfl)
theorem dX9_laysBecome_1 : decode cX9_laysBecome 1 = .ok (.ifCond .ne 7, 3) := dk_154 0 7 (dk_at dksX9_laysBecome_0 1 rfl rfl)
theorem dX9_laysBecome_4 : decode cX9_laysBecome 4 = .ok (.aload_n 0, 1) := dk_42 (dk_at dksX9_laysBecome_0 4 rfl rfl)
theorem dX9_laysBecome_5 : decode cX9_laysBecome 5 = .ok (.invokevirtual 282, 3) := dk_182 1 26 (dk_at dksX9_laysBecome_0 5 rfl rfl)
theorem dX9_laysBecome_8 : decode cX9_laysBecome 8 = .ok (.iload_n 1, 1) := dk_27 (dk_at dksX9_laysBecome_0 8 rfl rfl)
theorem dX9_laysBecome_9 : decode cX9_laysBecome 9 = .ok (.iconst 3, 1) := dk_6 (dk_at dksX9_laysBecome_0 9 rfl rfl)
theorem dX9_laysBecome_10 : decode cX9_laysBecome 10 = .ok (.if_icmp .ne 49, 3) := dk_160 0 49 (dk_at dksX9_laysBecome_0 10 rfl rfl)
theorem dX9_laysBecome_13 : decode cX9_laysBecome 13 = .ok (.aload_n 0, 1) := dk_42 (dk_at dksX9_laysBecome_0 13 rfl rfl)
theorem dX9_laysBecome_14 : decode cX9_laysBecome 14 = .ok (.getfield 74, 3) := dk_180 0 74 (dk_at dksX9_laysBecome_0 14 rfl rfl)
theorem dX9_laysBecome_17 : decode cX9_laysBecome 17 = .ok (.iconst 0, 1) := dk_3 (dk_at dksX9_laysBecome_0 17 rfl rfl)
theorem dX9_laysBecome_18 : decode cX9_laysBecome 18 = .ok (.aload_n 0, 1) := dk_42 (dk_at dksX9_laysBecome_0 18 rfl rfl)
theorem dX9_laysBecome_19 : decode cX9_laysBecome 19 = .ok (.invokevirtual 244, 3) := dk_182 0 244 (dk_at dksX9_laysBecome_0 19 rfl rfl)
theorem dX9_laysBecome_22 : decode cX9_laysBecome 22 = .ok (.iastore, 1) := dk_79 (dk_at dksX9_laysBecome_0 22 rfl rfl)
theorem dX9_laysBecome_23 : decode cX9_laysBecome 23 = .ok (.iconst 0, 1) := dk_3 (dk_at dksX9_laysBecome_0 23 rfl rfl)
theorem dX9_laysBecome_24 : decode cX9_laysBecome 24 = .ok (.istore_n 2, 1) := dk_61 (dk_at dksX9_laysBecome_1 0 rfl rfl)
theorem dX9_laysBecome_25 : decode cX9_laysBecome 25 = .ok (.iload_n 2, 1) := dk_28 (dk_at dksX9_laysBecome_1 1 rfl rfl)
theorem dX9_laysBecome_26 : decode cX9_laysBecome 26 = .ok (.aload_n 0, 1) := dk_42 (dk_at dksX9_laysBecome_1 2 rfl rfl)
theorem dX9_laysBecome_27 : decode cX9_laysBecome 27 = .ok (.invokevirtual 244, 3) := dk_182 0 244 (dk_at dksX9_laysBecome_1 3 rfl rfl)
theorem dX9_laysBecome_30 : decode cX9_laysBecome 30 = .ok (.if_icmp .ge 29, 3) := dk_162 0 29 (dk_at dksX9_laysBecome_1 6 rfl rfl)
theorem dX9_laysBecome_33 : decode cX9_laysBecome 33 = .ok (.aload_n 0, 1) := dk_42 (dk_at dksX9_laysBecome_1 9 rfl rfl)
theorem dX9_laysBecome_34 : decode cX9_laysBecome 34 = .ok (.getfield 52, 3) := dk_180 0 52 (dk_at dksX9_laysBecome_1 10 rfl rfl)
theorem dX9_laysBecome_37 : decode cX9_laysBecome 37 = .ok (.iload_n 2, 1) := dk_28 (dk_at dksX9_laysBecome_1 13 rfl rfl)
theorem dX9_laysBecome_38 : decode cX9_laysBecome 38 = .ok (.aload_n 0, 1) := dk_42 (dk_at dksX9_laysBecome_1 14 rfl rfl)
theorem dX9_laysBecome_39 : decode cX9_laysBecome 39 = .ok (.getfield 74, 3) := dk_180 0 74 (dk_at dksX9_laysBecome_1 15 rfl rfl)
theorem dX9_laysBecome_42 : decode cX9_laysBecome 42 = .ok (.aload_n 0, 1) := dk_42 (dk_at dksX9_laysBecome_1 18 rfl rfl)
theorem dX9_laysBecome_43 : decode cX9_laysBecome 43 = .ok (.invokevirtual 244, 3) := dk_182 0 244 (dk_at dksX9_laysBecome_1 19 rfl rfl)
theorem dX9_laysBecome_46 : decode cX9_laysBecome 46 = .ok (.iconst 1, 1) := dk_4 (dk_at dksX9_laysBecome_1 22 rfl rfl)
theorem dX9_laysBecome_47 : decode cX9_laysBecome 47 = .ok (.isub, 1) := dk_100 (dk_at dksX9_laysBecome_1 23 rfl rfl)
theorem dX9_laysBecome_48 : decode cX9_laysBecome 48 = .ok (.iload_n 2, 1) := dk_28 (dk_at dksX9_laysBecome_2 0 rfl rfl)
theorem dX9_laysBecome_49 : decode cX9_laysBecome 49 = .ok (.isub, 1) := dk_100 (dk_at dksX9_laysBecome_2 1 rfl rfl)
theorem dX9_laysBecome_50 : decode cX9_laysBecome 50 = .ok (.invokestatic 254, 3) := dk_184 0 254 (dk_at dksX9_laysBecome_2 2 rfl rfl)
theorem dX9_laysBecome_53 : decode cX9_laysBecome 53 = .ok (.iinc 2 1, 3) := dk_132 2 1 (dk_at dksX9_laysBecome_2 5 rfl rfl)
theorem dX9_laysBecome_56 : decode cX9_laysBecome 56 = .ok (.goto (-31), 3) := dk_167 255 225 (dk_at dksX9_laysBecome_2 8 rfl rfl)
theorem dX9_laysBecome_59 : decode cX9_laysBecome 59 = .ok (.iload_n 1, 1) := dk_27 (dk_at dksX9_laysBecome_2 11 rfl rfl)
theorem dX9_laysBecome_60 : decode cX9_laysBecome 60 = .ok (.iconst 1, 1) := dk_4 (dk_at dksX9_laysBecome_2 12 rfl rfl)
theorem dX9_laysBecome_61 : decode cX9_laysBecome 61 = .ok (.if_icmp .eq 8, 3) := dk_159 0 8 (dk_at dksX9_laysBecome_2 13 rfl rfl)
theorem dX9_laysBecome_64 : decode cX9_laysBecome 64 = .ok (.iload_n 1, 1) := dk_27 (dk_at dksX9_laysBecome_2 16 rfl rfl)
theorem dX9_laysBecome_65 : decode cX9_laysBecome 65 = .ok (.iconst 2, 1) := dk_5 (dk_at dksX9_laysBecome_2 17 rfl rfl)
theorem dX9_laysBecome_66 : decode cX9_laysBecome 66 = .ok (.if_icmp .ne 29, 3) := dk_160 0 29 (dk_at dksX9_laysBecome_2 18 rfl rfl)
theorem dX9_laysBecome_69 : decode cX9_laysBecome 69 = .ok (.aload_n 0, 1) := dk_42 (dk_at dksX9_laysBecome_2 21 rfl rfl)
theorem dX9_laysBecome_70 : decode cX9_laysBecome 70 = .ok (.aload_n 0, 1) := dk_42 (dk_at dksX9_laysBecome_2 22 rfl rfl)
theorem dX9_laysBecome_71 : decode cX9_laysBecome 71 = .ok (.getfield 52, 3) := dk_180 0 52 (dk_at dksX9_laysBecome_3 0 rfl rfl)
theorem dX9_laysBecome_74 : decode cX9_laysBecome 74 = .ok (.invokevirtual 285, 3) := dk_182 1 29 (dk_at dksX9_laysBecome_3 3 rfl rfl)
theorem dX9_laysBecome_77 : decode cX9_laysBecome 77 = .ok (.aload_n 0, 1) := dk_42 (dk_at dksX9_laysBecome_3 6 rfl rfl)
theorem dX9_laysBecome_78 : decode cX9_laysBecome 78 = .ok (.aload_n 0, 1) := dk_42 (dk_at dksX9_laysBecome_3 7 rfl rfl)
theorem dX9_laysBecome_79 : decode cX9_laysBecome 79 = .ok (.getfield 203, 3) := dk_180 0 203 (dk_at dksX9_laysBecome_3 8 rfl rfl)
theorem dX9_laysBecome_82 : decode cX9_laysBecome 82 = .ok (.iload_n 1, 1) := dk_27 (dk_at dksX9_laysBecome_3 11 rfl rfl)
theorem dX9_laysBecome_83 : decode cX9_laysBecome 83 = .ok (.iconst 2, 1) := dk_5 (dk_at dksX9_laysBecome_3 12 rfl rfl)
theorem dX9_laysBecome_84 : decode cX9_laysBecome 84 = .ok (.if_icmp .ne 7, 3) := dk_160 0 7 (dk_at dksX9_laysBecome_3 13 rfl rfl)
theorem dX9_laysBecome_87 : decode cX9_laysBecome 87 = .ok (.iconst 1, 1) := dk_4 (dk_at dksX9_laysBecome_3 16 rfl rfl)
theorem dX9_laysBecome_88 : decode cX9_laysBecome 88 = .ok (.goto 4, 3) := dk_167 0 4 (dk_at dksX9_laysBecome_3 17 rfl rfl)
theorem dX9_laysBecome_91 : decode cX9_laysBecome 91 = .ok (.iconst 0, 1) := dk_3 (dk_at dksX9_laysBecome_3 20 rfl rfl)
theorem dX9_laysBecome_92 : decode cX9_laysBecome 92 = .ok (.invokevirtual 289, 3) := dk_182 1 33 (dk_at dksX9_laysBecome_3 21 rfl rfl)
theorem dX9_laysBecome_95 : decode cX9_laysBecome 95 = .ok (.iload_n 1, 1) := dk_27 (dk_at dksX9_laysBecome_4 0 rfl rfl)
theorem dX9_laysBecome_96 : decode cX9_laysBecome 96 = .ok (.iconst 4, 1) := dk_7 (dk_at dksX9_laysBecome_4 1 rfl rfl)
theorem dX9_laysBecome_97 : decode cX9_laysBecome 97 = .ok (.if_icmp .ne 7, 3) := dk_160 0 7 (dk_at dksX9_laysBecome_4 2 rfl rfl)
theorem dX9_laysBecome_100 : decode cX9_laysBecome 100 = .ok (.aload_n 0, 1) := dk_42 (dk_at dksX9_laysBecome_4 5 rfl rfl)
theorem dX9_laysBecome_101 : decode cX9_laysBecome 101 = .ok (.invokevirtual 293, 3) := dk_182 1 37 (dk_at dksX9_laysBecome_4 6 rfl rfl)
theorem dX9_laysBecome_104 : decode cX9_laysBecome 104 = .ok (.iload_n 1, 1) := dk_27 (dk_at dksX9_laysBecome_4 9 rfl rfl)
theorem dX9_laysBecome_105 : decode cX9_laysBecome 105 = .ok (.ifCond .eq 8, 3) := dk_153 0 8 (dk_at dksX9_laysBecome_4 10 rfl rfl)
theorem dX9_laysBecome_108 : decode cX9_laysBecome 108 = .ok (.iload_n 1, 1) := dk_27 (dk_at dksX9_laysBecome_4 13 rfl rfl)
theorem dX9_laysBecome_109 : decode cX9_laysBecome 109 = .ok (.iconst 3, 1) := dk_6 (dk_at dksX9_laysBecome_4 14 rfl rfl)
theorem dX9_laysBecome_110 : decode cX9_laysBecome 110 = .ok (.if_icmp .ne 4, 3) := dk_160 0 4 (dk_at dksX9_laysBecome_4 15 rfl rfl)
theorem dX9_laysBecome_113 : decode cX9_laysBecome 113 = .ok (.return_, 1) := dk_177 (dk_at dksX9_laysBecome_4 18 rfl rfl)
theorem dX9_laysBecome_114 : decode cX9_laysBecome 114 = .ok (.aload_n 0, 1) := dk_42 (dk_at dksX9_laysBecome_4 19 rfl rfl)
theorem dX9_laysBecome_115 : decode cX9_laysBecome 115 = .ok (.getfield 74, 3) := dk_180 0 74 (dk_at dksX9_laysBecome_4 20 rfl rfl)
theorem dX9_laysBecome_118 : decode cX9_laysBecome 118 = .ok (.iconst 0, 1) := dk_3 (dk_at dksX9_laysBecome_4 23 rfl rfl)
theorem dX9_laysBecome_119 : decode cX9_laysBecome 119 = .ok (.aload_n 0, 1) := dk_42 (dk_at dksX9_laysBecome_5 0 rfl rfl)
theorem dX9_laysBecome_120 : decode cX9_laysBecome 120 = .ok (.getfield 296, 3) := dk_180 1 40 (dk_at dksX9_laysBecome_5 1 rfl rfl)
theorem dX9_laysBecome_123 : decode cX9_laysBecome 123 = .ok (.iastore, 1) := dk_79 (dk_at dksX9_laysBecome_5 4 rfl rfl)
theorem dX9_laysBecome_124 : decode cX9_laysBecome 124 = .ok (.iconst 0, 1) := dk_3 (dk_at dksX9_laysBecome_5 5 rfl rfl)
theorem dX9_laysBecome_125 : decode cX9_laysBecome 125 = .ok (.istore_n 2, 1) := dk_61 (dk_at dksX9_laysBecome_5 6 rfl rfl)
theorem dX9_laysBecome_126 : decode cX9_laysBecome 126 = .ok (.iload_n 2, 1) := dk_28 (dk_at dksX9_laysBecome_5 7 rfl rfl)
theorem dX9_laysBecome_127 : decode cX9_laysBecome 127 = .ok (.aload_n 0, 1) := dk_42 (dk_at dksX9_laysBecome_5 8 rfl rfl)
theorem dX9_laysBecome_128 : decode cX9_laysBecome 128 = .ok (.getfield 296, 3) := dk_180 1 40 (dk_at dksX9_laysBecome_5 9 rfl rfl)
theorem dX9_laysBecome_131 : decode cX9_laysBecome 131 = .ok (.if_icmp .ge 36, 3) := dk_162 0 36 (dk_at dksX9_laysBecome_5 12 rfl rfl)
theorem dX9_laysBecome_134 : decode cX9_laysBecome 134 = .ok (.iload_n 2, 1) := dk_28 (dk_at dksX9_laysBecome_5 15 rfl rfl)
theorem dX9_laysBecome_135 : decode cX9_laysBecome 135 = .ok (.bipush 16, 2) := dk_16 16 (dk_at dksX9_laysBecome_5 16 rfl rfl)
theorem dX9_laysBecome_137 : decode cX9_laysBecome 137 = .ok (.if_icmp .ge 30, 3) := dk_162 0 30 (dk_at dksX9_laysBecome_5 18 rfl rfl)
theorem dX9_laysBecome_140 : decode cX9_laysBecome 140 = .ok (.aload_n 0, 1) := dk_42 (dk_at dksX9_laysBecome_5 21 rfl rfl)
theorem dX9_laysBecome_141 : decode cX9_laysBecome 141 = .ok (.getfield 74, 3) := dk_180 0 74 (dk_at dksX9_laysBecome_6 0 rfl rfl)
theorem dX9_laysBecome_144 : decode cX9_laysBecome 144 = .ok (.iload_n 2, 1) := dk_28 (dk_at dksX9_laysBecome_6 3 rfl rfl)
theorem dX9_laysBecome_145 : decode cX9_laysBecome 145 = .ok (.aload_n 0, 1) := dk_42 (dk_at dksX9_laysBecome_6 4 rfl rfl)
theorem dX9_laysBecome_146 : decode cX9_laysBecome 146 = .ok (.getfield 77, 3) := dk_180 0 77 (dk_at dksX9_laysBecome_6 5 rfl rfl)
theorem dX9_laysBecome_149 : decode cX9_laysBecome 149 = .ok (.iload_n 2, 1) := dk_28 (dk_at dksX9_laysBecome_6 8 rfl rfl)
theorem dX9_laysBecome_150 : decode cX9_laysBecome 150 = .ok (.iaload, 1) := dk_46 (dk_at dksX9_laysBecome_6 9 rfl rfl)
theorem dX9_laysBecome_151 : decode cX9_laysBecome 151 = .ok (.aload_n 0, 1) := dk_42 (dk_at dksX9_laysBecome_6 10 rfl rfl)
theorem dX9_laysBecome_152 : decode cX9_laysBecome 152 = .ok (.getfield 80, 3) := dk_180 0 80 (dk_at dksX9_laysBecome_6 11 rfl rfl)
theorem dX9_laysBecome_155 : decode cX9_laysBecome 155 = .ok (.iload_n 2, 1) := dk_28 (dk_at dksX9_laysBecome_6 14 rfl rfl)
theorem dX9_laysBecome_156 : decode cX9_laysBecome 156 = .ok (.iaload, 1) := dk_46 (dk_at dksX9_laysBecome_6 15 rfl rfl)
theorem dX9_laysBecome_157 : decode cX9_laysBecome 157 = .ok (.iconst 0, 1) := dk_3 (dk_at dksX9_laysBecome_6 16 rfl rfl)
theorem dX9_laysBecome_158 : decode cX9_laysBecome 158 = .ok (.invokestatic 268, 3) := dk_184 1 12 (dk_at dksX9_laysBecome_6 17 rfl rfl)
theorem dX9_laysBecome_161 : decode cX9_laysBecome 161 = .ok (.iinc 2 1, 3) := dk_132 2 1 (dk_at dksX9_laysBecome_6 20 rfl rfl)
theorem dX9_laysBecome_164 : decode cX9_laysBecome 164 = .ok (.goto (-38), 3) := dk_167 255 218 (dk_at dksX9_laysBecome_7 0 rfl rfl)
theorem dX9_laysBecome_167 : decode cX9_laysBecome 167 = .ok (.return_, 1) := dk_177 (dk_at dksX9_laysBecome_7 3 rfl rfl)
abbrev cX9_laysShrunk : ByteArray := prog_13_method_61_code
def yX9_laysShrunk : MethodName := ⟨RX9, "laysShrunk", "()V"⟩
def dkwX9_laysShrunk_2 : List UInt8 := [154, 0, 11, 42, 6, 182, 1, 78, 153, 0, 7, 4, 167, 0, 4, 3, 60, 167, 255, 222, 177]
abbrev dktX9_laysShrunk_2 : List UInt8 := dkwX9_laysShrunk_2 ++ []
def dkwX9_laysShrunk_1 : List UInt8 := [167, 255, 235, 4, 60, 27, 153, 0, 36, 42, 4, 182, 1, 78, 154, 0, 19, 42, 5, 182, 1, 78]
abbrev dktX9_laysShrunk_1 : List UInt8 := dkwX9_laysShrunk_1 ++ dktX9_laysShrunk_2
def dkwX9_laysShrunk_0 : List UInt8 := [3, 60, 27, 16, 49, 162, 0, 21, 42, 180, 0, 74, 27, 42, 180, 0, 52, 27, 46, 79, 132, 1, 1]
abbrev dktX9_laysShrunk_0 : List UInt8 := dkwX9_laysShrunk_0 ++ dktX9_laysShrunk_1
theorem dksX9_laysShrunk_0 : cX9_laysShrunk.data.toList.drop 0 = dktX9_laysShrunk_0 := by decide +kernel
theorem dksX9_laysShrunk_1 : cX9_laysShrunk.data.toList.drop 23 = dktX9_laysShrunk_1 := dk_seg dksX9_laysShrunk_0 23 rfl rfl
theorem dksX9_laysShrunk_2 : cX9_laysShrunk.data.toList.drop 45 = dktX9_laysShrunk_2 := dk_seg dksX9_laysShrunk_1 22 rfl rfl
theorem dX9_laysShrunk_0 : decode cX9_laysShrunk 0 = .ok (.iconst 0, 1) := dk_3 (dk_at dksX9_laysShrunk_0 0 rfl rfl)
theorem dX9_laysShrunk_1 : decode cX9_laysShrunk 1 = .ok (.istore_n 1, 1) := dk_60 (dk_at dksX9_laysShrunk_0 1 rfl rfl)
theorem dX9_laysShrunk_2 : decode cX9_laysShrunk 2 = .ok (.iload_n 1, 1) := dk_27 (dk_at dksX9_laysShrunk_0 2 rfl rfl)
theorem dX9_laysShrunk_3 : decode cX9_laysShrunk 3 = .ok (.bipush 49, 2) := dk_16 49 (dk_at dksX9_laysShrunk_0 3 rfl rfl)
theorem dX9_laysShrunk_5 : decode cX9_laysShrunk 5 = .ok (.if_icmp .ge 21, 3) := dk_162 0 21 (dk_at dksX9_laysShrunk_0 5 rfl rfl)
theorem dX9_laysShrunk_8 : decode cX9_laysShrunk 8 = .ok (.aload_n 0, 1) := dk_42 (dk_at dksX9_laysShrunk_0 8 rfl rfl)
theorem dX9_laysShrunk_9 : decode cX9_laysShrunk 9 = .ok (.getfield 74, 3) := dk_180 0 74 (dk_at dksX9_laysShrunk_0 9 rfl rfl)
theorem dX9_laysShrunk_12 : decode cX9_laysShrunk 12 = .ok (.iload_n 1, 1) := dk_27 (dk_at dksX9_laysShrunk_0 12 rfl rfl)
theorem dX9_laysShrunk_13 : decode cX9_laysShrunk 13 = .ok (.aload_n 0, 1) := dk_42 (dk_at dksX9_laysShrunk_0 13 rfl rfl)
theorem dX9_laysShrunk_14 : decode cX9_laysShrunk 14 = .ok (.getfield 52, 3) := dk_180 0 52 (dk_at dksX9_laysShrunk_0 14 rfl rfl)
theorem dX9_laysShrunk_17 : decode cX9_laysShrunk 17 = .ok (.iload_n 1, 1) := dk_27 (dk_at dksX9_laysShrunk_0 17 rfl rfl)
theorem dX9_laysShrunk_18 : decode cX9_laysShrunk 18 = .ok (.iaload, 1) := dk_46 (dk_at dksX9_laysShrunk_0 18 rfl rfl)
theorem dX9_laysShrunk_19 : decode cX9_laysShrunk 19 = .ok (.iastore, 1) := dk_79 (dk_at dksX9_laysShrunk_0 19 rfl rfl)
theorem dX9_laysShrunk_20 : decode cX9_laysShrunk 20 = .ok (.iinc 1 1, 3) := dk_132 1 1 (dk_at dksX9_laysShrunk_0 20 rfl rfl)
theorem dX9_laysShrunk_23 : decode cX9_laysShrunk 23 = .ok (.goto (-21), 3) := dk_167 255 235 (dk_at dksX9_laysShrunk_1 0 rfl rfl)
theorem dX9_laysShrunk_26 : decode cX9_laysShrunk 26 = .ok (.iconst 1, 1) := dk_4 (dk_at dksX9_laysShrunk_1 3 rfl rfl)
theorem dX9_laysShrunk_27 : decode cX9_laysShrunk 27 = .ok (.istore_n 1, 1) := dk_60 (dk_at dksX9_laysShrunk_1 4 rfl rfl)
theorem dX9_laysShrunk_28 : decode cX9_laysShrunk 28 = .ok (.iload_n 1, 1) := dk_27 (dk_at dksX9_laysShrunk_1 5 rfl rfl)
theorem dX9_laysShrunk_29 : decode cX9_laysShrunk 29 = .ok (.ifCond .eq 36, 3) := dk_153 0 36 (dk_at dksX9_laysShrunk_1 6 rfl rfl)
theorem dX9_laysShrunk_32 : decode cX9_laysShrunk 32 = .ok (.aload_n 0, 1) := dk_42 (dk_at dksX9_laysShrunk_1 9 rfl rfl)
theorem dX9_laysShrunk_33 : decode cX9_laysShrunk 33 = .ok (.iconst 1, 1) := dk_4 (dk_at dksX9_laysShrunk_1 10 rfl rfl)
theorem dX9_laysShrunk_34 : decode cX9_laysShrunk 34 = .ok (.invokevirtual 334, 3) := dk_182 1 78 (dk_at dksX9_laysShrunk_1 11 rfl rfl)
theorem dX9_laysShrunk_37 : decode cX9_laysShrunk 37 = .ok (.ifCond .ne 19, 3) := dk_154 0 19 (dk_at dksX9_laysShrunk_1 14 rfl rfl)
theorem dX9_laysShrunk_40 : decode cX9_laysShrunk 40 = .ok (.aload_n 0, 1) := dk_42 (dk_at dksX9_laysShrunk_1 17 rfl rfl)
theorem dX9_laysShrunk_41 : decode cX9_laysShrunk 41 = .ok (.iconst 2, 1) := dk_5 (dk_at dksX9_laysShrunk_1 18 rfl rfl)
theorem dX9_laysShrunk_42 : decode cX9_laysShrunk 42 = .ok (.invokevirtual 334, 3) := dk_182 1 78 (dk_at dksX9_laysShrunk_1 19 rfl rfl)
theorem dX9_laysShrunk_45 : decode cX9_laysShrunk 45 = .ok (.ifCond .ne 11, 3) := dk_154 0 11 (dk_at dksX9_laysShrunk_2 0 rfl rfl)
theorem dX9_laysShrunk_48 : decode cX9_laysShrunk 48 = .ok (.aload_n 0, 1) := dk_42 (dk_at dksX9_laysShrunk_2 3 rfl rfl)
theorem dX9_laysShrunk_49 : decode cX9_laysShrunk 49 = .ok (.iconst 3, 1) := dk_6 (dk_at dksX9_laysShrunk_2 4 rfl rfl)
theorem dX9_laysShrunk_50 : decode cX9_laysShrunk 50 = .ok (.invokevirtual 334, 3) := dk_182 1 78 (dk_at dksX9_laysShrunk_2 5 rfl rfl)
theorem dX9_laysShrunk_53 : decode cX9_laysShrunk 53 = .ok (.ifCond .eq 7, 3) := dk_153 0 7 (dk_at dksX9_laysShrunk_2 8 rfl rfl)
theorem dX9_laysShrunk_56 : decode cX9_laysShrunk 56 = .ok (.iconst 1, 1) := dk_4 (dk_at dksX9_laysShrunk_2 11 rfl rfl)
theorem dX9_laysShrunk_57 : decode cX9_laysShrunk 57 = .ok (.goto 4, 3) := dk_167 0 4 (dk_at dksX9_laysShrunk_2 12 rfl rfl)
theorem dX9_laysShrunk_60 : decode cX9_laysShrunk 60 = .ok (.iconst 0, 1) := dk_3 (dk_at dksX9_laysShrunk_2 15 rfl rfl)
theorem dX9_laysShrunk_61 : decode cX9_laysShrunk 61 = .ok (.istore_n 1, 1) := dk_60 (dk_at dksX9_laysShrunk_2 16 rfl rfl)
theorem dX9_laysShrunk_62 : decode cX9_laysShrunk 62 = .ok (.goto (-34), 3) := dk_167 255 222 (dk_at dksX9_laysShrunk_2 17 rfl rfl)
theorem dX9_laysShrunk_65 : decode cX9_laysShrunk 65 = .ok (.return_, 1) := dk_177 (dk_at dksX9_laysShrunk_2 20 rfl rfl)
abbrev cX9_shrinks : ByteArray := prog_13_method_63_code
def yX9_shrinks : MethodName := ⟨RX9, "shrinks", "(I)Z"⟩
def dkwX9_shrinks_3 : List UInt8 := [182, 1, 87, 4, 172, 132, 3, 1, 167, 255, 193, 132, 2, 1, 167, 255, 173, 3, 172]
abbrev dktX9_shrinks_3 : List UInt8 := dkwX9_shrinks_3 ++ []
def dkwX9_shrinks_2 : List UInt8 := [28, 29, 182, 1, 81, 153, 0, 24, 42, 28, 29, 182, 1, 84, 154, 0, 6, 167, 0, 12, 42, 27, 28, 29]
abbrev dktX9_shrinks_2 : List UInt8 := dkwX9_shrinks_2 ++ dktX9_shrinks_3
def dkwX9_shrinks_1 : List UInt8 := [162, 0, 59, 42, 180, 0, 74, 4, 28, 96, 46, 42, 180, 0, 74, 4, 29, 96, 46, 160, 0, 34, 42, 27]
abbrev dktX9_shrinks_1 : List UInt8 := dkwX9_shrinks_1 ++ dktX9_shrinks_2
def dkwX9_shrinks_0 : List UInt8 := [3, 61, 28, 42, 180, 0, 74, 3, 46, 162, 0, 79, 28, 4, 96, 62, 29, 42, 180, 0, 74, 3, 46]
abbrev dktX9_shrinks_0 : List UInt8 := dkwX9_shrinks_0 ++ dktX9_shrinks_1
theorem dksX9_shrinks_0 : cX9_shrinks.data.toList.drop 0 = dktX9_shrinks_0 := by decide +kernel
theorem dksX9_shrinks_1 : cX9_shrinks.data.toList.drop 23 = dktX9_shrinks_1 := dk_seg dksX9_shrinks_0 23 rfl rfl
theorem dksX9_shrinks_2 : cX9_shrinks.data.toList.drop 47 = dktX9_shrinks_2 := dk_seg dksX9_shrinks_1 24 rfl rfl
theorem dksX9_shrinks_3 : cX9_shrinks.data.toList.drop 71 = dktX9_shrinks_3 := dk_seg dksX9_shrinks_2 24 rfl rfl
theorem dX9_shrinks_0 : decode cX9_shrinks 0 = .ok (.iconst 0, 1) := dk_3 (dk_at dksX9_shrinks_0 0 rfl rfl)
theorem dX9_shrinks_1 : decode cX9_shrinks 1 = .ok (.istore_n 2, 1) := dk_61 (dk_at dksX9_shrinks_0 1 rfl rfl)
theorem dX9_shrinks_2 : decode cX9_shrinks 2 = .ok (.iload_n 2, 1) := dk_28 (dk_at dksX9_shrinks_0 2 rfl rfl)
theorem dX9_shrinks_3 : decode cX9_shrinks 3 = .ok (.aload_n 0, 1) := dk_42 (dk_at dksX9_shrinks_0 3 rfl rfl)
theorem dX9_shrinks_4 : decode cX9_shrinks 4 = .ok (.getfield 74, 3) := dk_180 0 74 (dk_at dksX9_shrinks_0 4 rfl rfl)
theorem dX9_shrinks_7 : decode cX9_shrinks 7 = .ok (.iconst 0, 1) := dk_3 (dk_at dksX9_shrinks_0 7 rfl rfl)
theorem dX9_shrinks_8 : decode cX9_shrinks 8 = .ok (.iaload, 1) := dk_46 (dk_at dksX9_shrinks_0 8 rfl rfl)
theorem dX9_shrinks_9 : decode cX9_shrinks 9 = .ok (.if_icmp .ge 79, 3) := dk_162 0 79 (dk_at dksX9_shrinks_0 9 rfl rfl)
theorem dX9_shrinks_12 : decode cX9_shrinks 12 = .ok (.iload_n 2, 1) := dk_28 (dk_at dksX9_shrinks_0 12 rfl rfl)
theorem dX9_shrinks_13 : decode cX9_shrinks 13 = .ok (.iconst 1, 1) := dk_4 (dk_at dksX9_shrinks_0 13 rfl rfl)
theorem dX9_shrinks_14 : decode cX9_shrinks 14 = .ok (.iadd, 1) := dk_96 (dk_at dksX9_shrinks_0 14 rfl rfl)
theorem dX9_shrinks_15 : decode cX9_shrinks 15 = .ok (.istore_n 3, 1) := dk_62 (dk_at dksX9_shrinks_0 15 rfl rfl)
theorem dX9_shrinks_16 : decode cX9_shrinks 16 = .ok (.iload_n 3, 1) := dk_29 (dk_at dksX9_shrinks_0 16 rfl rfl)
theorem dX9_shrinks_17 : decode cX9_shrinks 17 = .ok (.aload_n 0, 1) := dk_42 (dk_at dksX9_shrinks_0 17 rfl rfl)
theorem dX9_shrinks_18 : decode cX9_shrinks 18 = .ok (.getfield 74, 3) := dk_180 0 74 (dk_at dksX9_shrinks_0 18 rfl rfl)
theorem dX9_shrinks_21 : decode cX9_shrinks 21 = .ok (.iconst 0, 1) := dk_3 (dk_at dksX9_shrinks_0 21 rfl rfl)
theorem dX9_shrinks_22 : decode cX9_shrinks 22 = .ok (.iaload, 1) := dk_46 (dk_at dksX9_shrinks_0 22 rfl rfl)
theorem dX9_shrinks_23 : decode cX9_shrinks 23 = .ok (.if_icmp .ge 59, 3) := dk_162 0 59 (dk_at dksX9_shrinks_1 0 rfl rfl)
theorem dX9_shrinks_26 : decode cX9_shrinks 26 = .ok (.aload_n 0, 1) := dk_42 (dk_at dksX9_shrinks_1 3 rfl rfl)
theorem dX9_shrinks_27 : decode cX9_shrinks 27 = .ok (.getfield 74, 3) := dk_180 0 74 (dk_at dksX9_shrinks_1 4 rfl rfl)
theorem dX9_shrinks_30 : decode cX9_shrinks 30 = .ok (.iconst 1, 1) := dk_4 (dk_at dksX9_shrinks_1 7 rfl rfl)
theorem dX9_shrinks_31 : decode cX9_shrinks 31 = .ok (.iload_n 2, 1) := dk_28 (dk_at dksX9_shrinks_1 8 rfl rfl)
theorem dX9_shrinks_32 : decode cX9_shrinks 32 = .ok (.iadd, 1) := dk_96 (dk_at dksX9_shrinks_1 9 rfl rfl)
theorem dX9_shrinks_33 : decode cX9_shrinks 33 = .ok (.iaload, 1) := dk_46 (dk_at dksX9_shrinks_1 10 rfl rfl)
theorem dX9_shrinks_34 : decode cX9_shrinks 34 = .ok (.aload_n 0, 1) := dk_42 (dk_at dksX9_shrinks_1 11 rfl rfl)
theorem dX9_shrinks_35 : decode cX9_shrinks 35 = .ok (.getfield 74, 3) := dk_180 0 74 (dk_at dksX9_shrinks_1 12 rfl rfl)
theorem dX9_shrinks_38 : decode cX9_shrinks 38 = .ok (.iconst 1, 1) := dk_4 (dk_at dksX9_shrinks_1 15 rfl rfl)
theorem dX9_shrinks_39 : decode cX9_shrinks 39 = .ok (.iload_n 3, 1) := dk_29 (dk_at dksX9_shrinks_1 16 rfl rfl)
theorem dX9_shrinks_40 : decode cX9_shrinks 40 = .ok (.iadd, 1) := dk_96 (dk_at dksX9_shrinks_1 17 rfl rfl)
theorem dX9_shrinks_41 : decode cX9_shrinks 41 = .ok (.iaload, 1) := dk_46 (dk_at dksX9_shrinks_1 18 rfl rfl)
theorem dX9_shrinks_42 : decode cX9_shrinks 42 = .ok (.if_icmp .ne 34, 3) := dk_160 0 34 (dk_at dksX9_shrinks_1 19 rfl rfl)
theorem dX9_shrinks_45 : decode cX9_shrinks 45 = .ok (.aload_n 0, 1) := dk_42 (dk_at dksX9_shrinks_1 22 rfl rfl)
theorem dX9_shrinks_46 : decode cX9_shrinks 46 = .ok (.iload_n 1, 1) := dk_27 (dk_at dksX9_shrinks_1 23 rfl rfl)
theorem dX9_shrinks_47 : decode cX9_shrinks 47 = .ok (.iload_n 2, 1) := dk_28 (dk_at dksX9_shrinks_2 0 rfl rfl)
theorem dX9_shrinks_48 : decode cX9_shrinks 48 = .ok (.iload_n 3, 1) := dk_29 (dk_at dksX9_shrinks_2 1 rfl rfl)
theorem dX9_shrinks_49 : decode cX9_shrinks 49 = .ok (.invokevirtual 337, 3) := dk_182 1 81 (dk_at dksX9_shrinks_2 2 rfl rfl)
theorem dX9_shrinks_52 : decode cX9_shrinks 52 = .ok (.ifCond .eq 24, 3) := dk_153 0 24 (dk_at dksX9_shrinks_2 5 rfl rfl)
theorem dX9_shrinks_55 : decode cX9_shrinks 55 = .ok (.aload_n 0, 1) := dk_42 (dk_at dksX9_shrinks_2 8 rfl rfl)
theorem dX9_shrinks_56 : decode cX9_shrinks 56 = .ok (.iload_n 2, 1) := dk_28 (dk_at dksX9_shrinks_2 9 rfl rfl)
theorem dX9_shrinks_57 : decode cX9_shrinks 57 = .ok (.iload_n 3, 1) := dk_29 (dk_at dksX9_shrinks_2 10 rfl rfl)
theorem dX9_shrinks_58 : decode cX9_shrinks 58 = .ok (.invokevirtual 340, 3) := dk_182 1 84 (dk_at dksX9_shrinks_2 11 rfl rfl)
theorem dX9_shrinks_61 : decode cX9_shrinks 61 = .ok (.ifCond .ne 6, 3) := dk_154 0 6 (dk_at dksX9_shrinks_2 14 rfl rfl)
theorem dX9_shrinks_64 : decode cX9_shrinks 64 = .ok (.goto 12, 3) := dk_167 0 12 (dk_at dksX9_shrinks_2 17 rfl rfl)
theorem dX9_shrinks_67 : decode cX9_shrinks 67 = .ok (.aload_n 0, 1) := dk_42 (dk_at dksX9_shrinks_2 20 rfl rfl)
theorem dX9_shrinks_68 : decode cX9_shrinks 68 = .ok (.iload_n 1, 1) := dk_27 (dk_at dksX9_shrinks_2 21 rfl rfl)
theorem dX9_shrinks_69 : decode cX9_shrinks 69 = .ok (.iload_n 2, 1) := dk_28 (dk_at dksX9_shrinks_2 22 rfl rfl)
theorem dX9_shrinks_70 : decode cX9_shrinks 70 = .ok (.iload_n 3, 1) := dk_29 (dk_at dksX9_shrinks_2 23 rfl rfl)
theorem dX9_shrinks_71 : decode cX9_shrinks 71 = .ok (.invokevirtual 343, 3) := dk_182 1 87 (dk_at dksX9_shrinks_3 0 rfl rfl)
theorem dX9_shrinks_74 : decode cX9_shrinks 74 = .ok (.iconst 1, 1) := dk_4 (dk_at dksX9_shrinks_3 3 rfl rfl)
theorem dX9_shrinks_75 : decode cX9_shrinks 75 = .ok (.ireturn, 1) := dk_172 (dk_at dksX9_shrinks_3 4 rfl rfl)
theorem dX9_shrinks_76 : decode cX9_shrinks 76 = .ok (.iinc 3 1, 3) := dk_132 3 1 (dk_at dksX9_shrinks_3 5 rfl rfl)
theorem dX9_shrinks_79 : decode cX9_shrinks 79 = .ok (.goto (-63), 3) := dk_167 255 193 (dk_at dksX9_shrinks_3 8 rfl rfl)
theorem dX9_shrinks_82 : decode cX9_shrinks 82 = .ok (.iinc 2 1, 3) := dk_132 2 1 (dk_at dksX9_shrinks_3 11 rfl rfl)
theorem dX9_shrinks_85 : decode cX9_shrinks 85 = .ok (.goto (-83), 3) := dk_167 255 173 (dk_at dksX9_shrinks_3 14 rfl rfl)
theorem dX9_shrinks_88 : decode cX9_shrinks 88 = .ok (.iconst 0, 1) := dk_3 (dk_at dksX9_shrinks_3 17 rfl rfl)
theorem dX9_shrinks_89 : decode cX9_shrinks 89 = .ok (.ireturn, 1) := dk_172 (dk_at dksX9_shrinks_3 18 rfl rfl)
abbrev cX9_fits : ByteArray := prog_13_method_64_code
def yX9_fits : MethodName := ⟨RX9, "fits", "(III)Z"⟩
def dkwX9_fits_4 : List UInt8 := [184, 1, 66, 21, 5, 184, 1, 66, 96, 4, 160, 0, 7, 4, 167, 0, 4, 3, 172]
abbrev dktX9_fits_4 : List UInt8 := dkwX9_fits_4 ++ []
def dkwX9_fits_3 : List UInt8 := [21, 4, 21, 5, 160, 0, 16, 21, 4, 184, 1, 66, 4, 160, 0, 7, 4, 167, 0, 4, 3, 172, 21, 4]
abbrev dktX9_fits_3 : List UInt8 := dkwX9_fits_3 ++ dktX9_fits_4
def dkwX9_fits_2 : List UInt8 := [160, 0, 19, 21, 4, 154, 0, 12, 21, 5, 154, 0, 7, 4, 167, 0, 4, 3, 172, 27, 5, 160, 0, 25]
abbrev dktX9_fits_2 : List UInt8 := dkwX9_fits_2 ++ dktX9_fits_3
def dkwX9_fits_1 : List UInt8 := [180, 0, 74, 16, 33, 28, 96, 46, 42, 180, 0, 74, 16, 33, 29, 96, 46, 130, 54, 5, 27, 4]
abbrev dktX9_fits_1 : List UInt8 := dkwX9_fits_1 ++ dktX9_fits_2
def dkwX9_fits_0 : List UInt8 := [42, 180, 0, 74, 16, 17, 28, 96, 46, 42, 180, 0, 74, 16, 17, 29, 96, 46, 130, 54, 4, 42]
abbrev dktX9_fits_0 : List UInt8 := dkwX9_fits_0 ++ dktX9_fits_1
theorem dksX9_fits_0 : cX9_fits.data.toList.drop 0 = dktX9_fits_0 := by decide +kernel
theorem dksX9_fits_1 : cX9_fits.data.toList.drop 22 = dktX9_fits_1 := dk_seg dksX9_fits_0 22 rfl rfl
theorem dksX9_fits_2 : cX9_fits.data.toList.drop 44 = dktX9_fits_2 := dk_seg dksX9_fits_1 22 rfl rfl
theorem dksX9_fits_3 : cX9_fits.data.toList.drop 68 = dktX9_fits_3 := dk_seg dksX9_fits_2 24 rfl rfl
theorem dksX9_fits_4 : cX9_fits.data.toList.drop 92 = dktX9_fits_4 := dk_seg dksX9_fits_3 24 rfl rfl
theorem dX9_fits_0 : decode cX9_fits 0 = .ok (.aload_n 0, 1) := dk_42 (dk_at dksX9_fits_0 0 rfl rfl)
theorem dX9_fits_1 : decode cX9_fits 1 = .ok (.getfield 74, 3) := dk_180 0 74 (dk_at dksX9_fits_0 1 rfl rfl)
theorem dX9_fits_4 : decode cX9_fits 4 = .ok (.bipush 17, 2) := dk_16 17 (dk_at dksX9_fits_0 4 rfl rfl)
theorem dX9_fits_6 : decode cX9_fits 6 = .ok (.iload_n 2, 1) := dk_28 (dk_at dksX9_fits_0 6 rfl rfl)
theorem dX9_fits_7 : decode cX9_fits 7 = .ok (.iadd, 1) := dk_96 (dk_at dksX9_fits_0 7 rfl rfl)
theorem dX9_fits_8 : decode cX9_fits 8 = .ok (.iaload, 1) := dk_46 (dk_at dksX9_fits_0 8 rfl rfl)
theorem dX9_fits_9 : decode cX9_fits 9 = .ok (.aload_n 0, 1) := dk_42 (dk_at dksX9_fits_0 9 rfl rfl)
theorem dX9_fits_10 : decode cX9_fits 10 = .ok (.getfield 74, 3) := dk_180 0 74 (dk_at dksX9_fits_0 10 rfl rfl)
theorem dX9_fits_13 : decode cX9_fits 13 = .ok (.bipush 17, 2) := dk_16 17 (dk_at dksX9_fits_0 13 rfl rfl)
theorem dX9_fits_15 : decode cX9_fits 15 = .ok (.iload_n 3, 1) := dk_29 (dk_at dksX9_fits_0 15 rfl rfl)
theorem dX9_fits_16 : decode cX9_fits 16 = .ok (.iadd, 1) := dk_96 (dk_at dksX9_fits_0 16 rfl rfl)
theorem dX9_fits_17 : decode cX9_fits 17 = .ok (.iaload, 1) := dk_46 (dk_at dksX9_fits_0 17 rfl rfl)
theorem dX9_fits_18 : decode cX9_fits 18 = .ok (.ixor, 1) := dk_130 (dk_at dksX9_fits_0 18 rfl rfl)
theorem dX9_fits_19 : decode cX9_fits 19 = .ok (.istore 4, 2) := dk_54 4 (dk_at dksX9_fits_0 19 rfl rfl)
theorem dX9_fits_21 : decode cX9_fits 21 = .ok (.aload_n 0, 1) := dk_42 (dk_at dksX9_fits_0 21 rfl rfl)
theorem dX9_fits_22 : decode cX9_fits 22 = .ok (.getfield 74, 3) := dk_180 0 74 (dk_at dksX9_fits_1 0 rfl rfl)
theorem dX9_fits_25 : decode cX9_fits 25 = .ok (.bipush 33, 2) := dk_16 33 (dk_at dksX9_fits_1 3 rfl rfl)
theorem dX9_fits_27 : decode cX9_fits 27 = .ok (.iload_n 2, 1) := dk_28 (dk_at dksX9_fits_1 5 rfl rfl)
theorem dX9_fits_28 : decode cX9_fits 28 = .ok (.iadd, 1) := dk_96 (dk_at dksX9_fits_1 6 rfl rfl)
theorem dX9_fits_29 : decode cX9_fits 29 = .ok (.iaload, 1) := dk_46 (dk_at dksX9_fits_1 7 rfl rfl)
theorem dX9_fits_30 : decode cX9_fits 30 = .ok (.aload_n 0, 1) := dk_42 (dk_at dksX9_fits_1 8 rfl rfl)
theorem dX9_fits_31 : decode cX9_fits 31 = .ok (.getfield 74, 3) := dk_180 0 74 (dk_at dksX9_fits_1 9 rfl rfl)
theorem dX9_fits_34 : decode cX9_fits 34 = .ok (.bipush 33, 2) := dk_16 33 (dk_at dksX9_fits_1 12 rfl rfl)
theorem dX9_fits_36 : decode cX9_fits 36 = .ok (.iload_n 3, 1) := dk_29 (dk_at dksX9_fits_1 14 rfl rfl)
theorem dX9_fits_37 : decode cX9_fits 37 = .ok (.iadd, 1) := dk_96 (dk_at dksX9_fits_1 15 rfl rfl)
theorem dX9_fits_38 : decode cX9_fits 38 = .ok (.iaload, 1) := dk_46 (dk_at dksX9_fits_1 16 rfl rfl)
theorem dX9_fits_39 : decode cX9_fits 39 = .ok (.ixor, 1) := dk_130 (dk_at dksX9_fits_1 17 rfl rfl)
theorem dX9_fits_40 : decode cX9_fits 40 = .ok (.istore 5, 2) := dk_54 5 (dk_at dksX9_fits_1 18 rfl rfl)
theorem dX9_fits_42 : decode cX9_fits 42 = .ok (.iload_n 1, 1) := dk_27 (dk_at dksX9_fits_1 20 rfl rfl)
theorem dX9_fits_43 : decode cX9_fits 43 = .ok (.iconst 1, 1) := dk_4 (dk_at dksX9_fits_1 21 rfl rfl)
theorem dX9_fits_44 : decode cX9_fits 44 = .ok (.if_icmp .ne 19, 3) := dk_160 0 19 (dk_at dksX9_fits_2 0 rfl rfl)
theorem dX9_fits_47 : decode cX9_fits 47 = .ok (.iload 4, 2) := dk_21 4 (dk_at dksX9_fits_2 3 rfl rfl)
theorem dX9_fits_49 : decode cX9_fits 49 = .ok (.ifCond .ne 12, 3) := dk_154 0 12 (dk_at dksX9_fits_2 5 rfl rfl)
theorem dX9_fits_52 : decode cX9_fits 52 = .ok (.iload 5, 2) := dk_21 5 (dk_at dksX9_fits_2 8 rfl rfl)
theorem dX9_fits_54 : decode cX9_fits 54 = .ok (.ifCond .ne 7, 3) := dk_154 0 7 (dk_at dksX9_fits_2 10 rfl rfl)
theorem dX9_fits_57 : decode cX9_fits 57 = .ok (.iconst 1, 1) := dk_4 (dk_at dksX9_fits_2 13 rfl rfl)
theorem dX9_fits_58 : decode cX9_fits 58 = .ok (.goto 4, 3) := dk_167 0 4 (dk_at dksX9_fits_2 14 rfl rfl)
theorem dX9_fits_61 : decode cX9_fits 61 = .ok (.iconst 0, 1) := dk_3 (dk_at dksX9_fits_2 17 rfl rfl)
theorem dX9_fits_62 : decode cX9_fits 62 = .ok (.ireturn, 1) := dk_172 (dk_at dksX9_fits_2 18 rfl rfl)
theorem dX9_fits_63 : decode cX9_fits 63 = .ok (.iload_n 1, 1) := dk_27 (dk_at dksX9_fits_2 19 rfl rfl)
theorem dX9_fits_64 : decode cX9_fits 64 = .ok (.iconst 2, 1) := dk_5 (dk_at dksX9_fits_2 20 rfl rfl)
theorem dX9_fits_65 : decode cX9_fits 65 = .ok (.if_icmp .ne 25, 3) := dk_160 0 25 (dk_at dksX9_fits_2 21 rfl rfl)
theorem dX9_fits_68 : decode cX9_fits 68 = .ok (.iload 4, 2) := dk_21 4 (dk_at dksX9_fits_3 0 rfl rfl)
theorem dX9_fits_70 : decode cX9_fits 70 = .ok (.iload 5, 2) := dk_21 5 (dk_at dksX9_fits_3 2 rfl rfl)
theorem dX9_fits_72 : decode cX9_fits 72 = .ok (.if_icmp .ne 16, 3) := dk_160 0 16 (dk_at dksX9_fits_3 4 rfl rfl)
theorem dX9_fits_75 : decode cX9_fits 75 = .ok (.iload 4, 2) := dk_21 4 (dk_at dksX9_fits_3 7 rfl rfl)
theorem dX9_fits_77 : decode cX9_fits 77 = .ok (.invokestatic 322, 3) := dk_184 1 66 (dk_at dksX9_fits_3 9 rfl rfl)
theorem dX9_fits_80 : decode cX9_fits 80 = .ok (.iconst 1, 1) := dk_4 (dk_at dksX9_fits_3 12 rfl rfl)
theorem dX9_fits_81 : decode cX9_fits 81 = .ok (.if_icmp .ne 7, 3) := dk_160 0 7 (dk_at dksX9_fits_3 13 rfl rfl)
theorem dX9_fits_84 : decode cX9_fits 84 = .ok (.iconst 1, 1) := dk_4 (dk_at dksX9_fits_3 16 rfl rfl)
theorem dX9_fits_85 : decode cX9_fits 85 = .ok (.goto 4, 3) := dk_167 0 4 (dk_at dksX9_fits_3 17 rfl rfl)
theorem dX9_fits_88 : decode cX9_fits 88 = .ok (.iconst 0, 1) := dk_3 (dk_at dksX9_fits_3 20 rfl rfl)
theorem dX9_fits_89 : decode cX9_fits 89 = .ok (.ireturn, 1) := dk_172 (dk_at dksX9_fits_3 21 rfl rfl)
theorem dX9_fits_90 : decode cX9_fits 90 = .ok (.iload 4, 2) := dk_21 4 (dk_at dksX9_fits_3 22 rfl rfl)
theorem dX9_fits_92 : decode cX9_fits 92 = .ok (.invokestatic 322, 3) := dk_184 1 66 (dk_at dksX9_fits_4 0 rfl rfl)
theorem dX9_fits_95 : decode cX9_fits 95 = .ok (.iload 5, 2) := dk_21 5 (dk_at dksX9_fits_4 3 rfl rfl)
theorem dX9_fits_97 : decode cX9_fits 97 = .ok (.invokestatic 322, 3) := dk_184 1 66 (dk_at dksX9_fits_4 5 rfl rfl)
theorem dX9_fits_100 : decode cX9_fits 100 = .ok (.iadd, 1) := dk_96 (dk_at dksX9_fits_4 8 rfl rfl)
theorem dX9_fits_101 : decode cX9_fits 101 = .ok (.iconst 1, 1) := dk_4 (dk_at dksX9_fits_4 9 rfl rfl)
theorem dX9_fits_102 : decode cX9_fits 102 = .ok (.if_icmp .ne 7, 3) := dk_160 0 7 (dk_at dksX9_fits_4 10 rfl rfl)
theorem dX9_fits_105 : decode cX9_fits 105 = .ok (.iconst 1, 1) := dk_4 (dk_at dksX9_fits_4 13 rfl rfl)
theorem dX9_fits_106 : decode cX9_fits 106 = .ok (.goto 4, 3) := dk_167 0 4 (dk_at dksX9_fits_4 14 rfl rfl)
theorem dX9_fits_109 : decode cX9_fits 109 = .ok (.iconst 0, 1) := dk_3 (dk_at dksX9_fits_4 17 rfl rfl)
theorem dX9_fits_110 : decode cX9_fits 110 = .ok (.ireturn, 1) := dk_172 (dk_at dksX9_fits_4 18 rfl rfl)
abbrev cX9_bitsOf : ByteArray := prog_13_method_29_code
def yX9_bitsOf : MethodName := ⟨RX9, "bitsOf", "(I)I"⟩
def dkwX9_bitsOf_0 : List UInt8 := [3, 60, 26, 61, 28, 158, 0, 16, 27, 28, 4, 126, 96, 60, 28, 4, 122, 61, 167, 255, 242, 27, 172]
abbrev dktX9_bitsOf_0 : List UInt8 := dkwX9_bitsOf_0 ++ []
theorem dksX9_bitsOf_0 : cX9_bitsOf.data.toList.drop 0 = dktX9_bitsOf_0 := by decide +kernel
theorem dX9_bitsOf_0 : decode cX9_bitsOf 0 = .ok (.iconst 0, 1) := dk_3 (dk_at dksX9_bitsOf_0 0 rfl rfl)
theorem dX9_bitsOf_1 : decode cX9_bitsOf 1 = .ok (.istore_n 1, 1) := dk_60 (dk_at dksX9_bitsOf_0 1 rfl rfl)
theorem dX9_bitsOf_2 : decode cX9_bitsOf 2 = .ok (.iload_n 0, 1) := dk_26 (dk_at dksX9_bitsOf_0 2 rfl rfl)
theorem dX9_bitsOf_3 : decode cX9_bitsOf 3 = .ok (.istore_n 2, 1) := dk_61 (dk_at dksX9_bitsOf_0 3 rfl rfl)
theorem dX9_bitsOf_4 : decode cX9_bitsOf 4 = .ok (.iload_n 2, 1) := dk_28 (dk_at dksX9_bitsOf_0 4 rfl rfl)
theorem dX9_bitsOf_5 : decode cX9_bitsOf 5 = .ok (.ifCond .le 16, 3) := dk_158 0 16 (dk_at dksX9_bitsOf_0 5 rfl rfl)
theorem dX9_bitsOf_8 : decode cX9_bitsOf 8 = .ok (.iload_n 1, 1) := dk_27 (dk_at dksX9_bitsOf_0 8 rfl rfl)
theorem dX9_bitsOf_9 : decode cX9_bitsOf 9 = .ok (.iload_n 2, 1) := dk_28 (dk_at dksX9_bitsOf_0 9 rfl rfl)
theorem dX9_bitsOf_10 : decode cX9_bitsOf 10 = .ok (.iconst 1, 1) := dk_4 (dk_at dksX9_bitsOf_0 10 rfl rfl)
theorem dX9_bitsOf_11 : decode cX9_bitsOf 11 = .ok (.iand, 1) := dk_126 (dk_at dksX9_bitsOf_0 11 rfl rfl)
theorem dX9_bitsOf_12 : decode cX9_bitsOf 12 = .ok (.iadd, 1) := dk_96 (dk_at dksX9_bitsOf_0 12 rfl rfl)
theorem dX9_bitsOf_13 : decode cX9_bitsOf 13 = .ok (.istore_n 1, 1) := dk_60 (dk_at dksX9_bitsOf_0 13 rfl rfl)
theorem dX9_bitsOf_14 : decode cX9_bitsOf 14 = .ok (.iload_n 2, 1) := dk_28 (dk_at dksX9_bitsOf_0 14 rfl rfl)
theorem dX9_bitsOf_15 : decode cX9_bitsOf 15 = .ok (.iconst 1, 1) := dk_4 (dk_at dksX9_bitsOf_0 15 rfl rfl)
theorem dX9_bitsOf_16 : decode cX9_bitsOf 16 = .ok (.ishr, 1) := dk_122 (dk_at dksX9_bitsOf_0 16 rfl rfl)
theorem dX9_bitsOf_17 : decode cX9_bitsOf 17 = .ok (.istore_n 2, 1) := dk_61 (dk_at dksX9_bitsOf_0 17 rfl rfl)
theorem dX9_bitsOf_18 : decode cX9_bitsOf 18 = .ok (.goto (-14), 3) := dk_167 255 242 (dk_at dksX9_bitsOf_0 18 rfl rfl)
theorem dX9_bitsOf_21 : decode cX9_bitsOf 21 = .ok (.iload_n 1, 1) := dk_27 (dk_at dksX9_bitsOf_0 21 rfl rfl)
theorem dX9_bitsOf_22 : decode cX9_bitsOf 22 = .ok (.ireturn, 1) := dk_172 (dk_at dksX9_bitsOf_0 22 rfl rfl)
abbrev cX9_canMeet : ByteArray := prog_13_method_62_code
def yX9_canMeet : MethodName := ⟨RX9, "canMeet", "(II)Z"⟩
def dkwX9_canMeet_1 : List UInt8 := [132, 3, 1, 167, 255, 233, 4, 172]
abbrev dktX9_canMeet_1 : List UInt8 := dkwX9_canMeet_1 ++ []
def dkwX9_canMeet_0 : List UInt8 := [27, 4, 96, 62, 29, 28, 162, 0, 24, 42, 42, 180, 0, 74, 27, 29, 182, 1, 58, 154, 0, 5, 3, 172]
abbrev dktX9_canMeet_0 : List UInt8 := dkwX9_canMeet_0 ++ dktX9_canMeet_1
theorem dksX9_canMeet_0 : cX9_canMeet.data.toList.drop 0 = dktX9_canMeet_0 := by decide +kernel
theorem dksX9_canMeet_1 : cX9_canMeet.data.toList.drop 24 = dktX9_canMeet_1 := dk_seg dksX9_canMeet_0 24 rfl rfl
theorem dX9_canMeet_0 : decode cX9_canMeet 0 = .ok (.iload_n 1, 1) := dk_27 (dk_at dksX9_canMeet_0 0 rfl rfl)
theorem dX9_canMeet_1 : decode cX9_canMeet 1 = .ok (.iconst 1, 1) := dk_4 (dk_at dksX9_canMeet_0 1 rfl rfl)
theorem dX9_canMeet_2 : decode cX9_canMeet 2 = .ok (.iadd, 1) := dk_96 (dk_at dksX9_canMeet_0 2 rfl rfl)
theorem dX9_canMeet_3 : decode cX9_canMeet 3 = .ok (.istore_n 3, 1) := dk_62 (dk_at dksX9_canMeet_0 3 rfl rfl)
theorem dX9_canMeet_4 : decode cX9_canMeet 4 = .ok (.iload_n 3, 1) := dk_29 (dk_at dksX9_canMeet_0 4 rfl rfl)
theorem dX9_canMeet_5 : decode cX9_canMeet 5 = .ok (.iload_n 2, 1) := dk_28 (dk_at dksX9_canMeet_0 5 rfl rfl)
theorem dX9_canMeet_6 : decode cX9_canMeet 6 = .ok (.if_icmp .ge 24, 3) := dk_162 0 24 (dk_at dksX9_canMeet_0 6 rfl rfl)
theorem dX9_canMeet_9 : decode cX9_canMeet 9 = .ok (.aload_n 0, 1) := dk_42 (dk_at dksX9_canMeet_0 9 rfl rfl)
theorem dX9_canMeet_10 : decode cX9_canMeet 10 = .ok (.aload_n 0, 1) := dk_42 (dk_at dksX9_canMeet_0 10 rfl rfl)
theorem dX9_canMeet_11 : decode cX9_canMeet 11 = .ok (.getfield 74, 3) := dk_180 0 74 (dk_at dksX9_canMeet_0 11 rfl rfl)
theorem dX9_canMeet_14 : decode cX9_canMeet 14 = .ok (.iload_n 1, 1) := dk_27 (dk_at dksX9_canMeet_0 14 rfl rfl)
theorem dX9_canMeet_15 : decode cX9_canMeet 15 = .ok (.iload_n 3, 1) := dk_29 (dk_at dksX9_canMeet_0 15 rfl rfl)
theorem dX9_canMeet_16 : decode cX9_canMeet 16 = .ok (.invokevirtual 314, 3) := dk_182 1 58 (dk_at dksX9_canMeet_0 16 rfl rfl)
theorem dX9_canMeet_19 : decode cX9_canMeet 19 = .ok (.ifCond .ne 5, 3) := dk_154 0 5 (dk_at dksX9_canMeet_0 19 rfl rfl)
theorem dX9_canMeet_22 : decode cX9_canMeet 22 = .ok (.iconst 0, 1) := dk_3 (dk_at dksX9_canMeet_0 22 rfl rfl)
theorem dX9_canMeet_23 : decode cX9_canMeet 23 = .ok (.ireturn, 1) := dk_172 (dk_at dksX9_canMeet_0 23 rfl rfl)
theorem dX9_canMeet_24 : decode cX9_canMeet 24 = .ok (.iinc 3 1, 3) := dk_132 3 1 (dk_at dksX9_canMeet_1 0 rfl rfl)
theorem dX9_canMeet_27 : decode cX9_canMeet 27 = .ok (.goto (-23), 3) := dk_167 255 233 (dk_at dksX9_canMeet_1 3 rfl rfl)
theorem dX9_canMeet_30 : decode cX9_canMeet 30 = .ok (.iconst 1, 1) := dk_4 (dk_at dksX9_canMeet_1 6 rfl rfl)
theorem dX9_canMeet_31 : decode cX9_canMeet 31 = .ok (.ireturn, 1) := dk_172 (dk_at dksX9_canMeet_1 7 rfl rfl)
abbrev cX9_doAgree : ByteArray := prog_13_method_54_code
def yX9_doAgree : MethodName := ⟨RX9, "doAgree", "([III)Z"⟩
def dkwX9_doAgree_2 : List UInt8 := [172]
abbrev dktX9_doAgree_2 : List UInt8 := dkwX9_doAgree_2 ++ []
def dkwX9_doAgree_1 : List UInt8 := [43, 29, 43, 28, 21, 4, 184, 1, 47, 184, 1, 47, 159, 0, 5, 3, 172, 132, 4, 1, 167, 255, 215, 4]
abbrev dktX9_doAgree_1 : List UInt8 := dkwX9_doAgree_1 ++ dktX9_doAgree_2
def dkwX9_doAgree_0 : List UInt8 := [3, 54, 4, 21, 4, 42, 182, 0, 248, 162, 0, 38, 43, 28, 43, 29, 21, 4, 184, 1, 47, 184, 1, 47]
abbrev dktX9_doAgree_0 : List UInt8 := dkwX9_doAgree_0 ++ dktX9_doAgree_1
theorem dksX9_doAgree_0 : cX9_doAgree.data.toList.drop 0 = dktX9_doAgree_0 := by decide +kernel
theorem dksX9_doAgree_1 : cX9_doAgree.data.toList.drop 24 = dktX9_doAgree_1 := dk_seg dksX9_doAgree_0 24 rfl rfl
theorem dksX9_doAgree_2 : cX9_doAgree.data.toList.drop 48 = dktX9_doAgree_2 := dk_seg dksX9_doAgree_1 24 rfl rfl
theorem dX9_doAgree_0 : decode cX9_doAgree 0 = .ok (.iconst 0, 1) := dk_3 (dk_at dksX9_doAgree_0 0 rfl rfl)
theorem dX9_doAgree_1 : decode cX9_doAgree 1 = .ok (.istore 4, 2) := dk_54 4 (dk_at dksX9_doAgree_0 1 rfl rfl)
theorem dX9_doAgree_3 : decode cX9_doAgree 3 = .ok (.iload 4, 2) := dk_21 4 (dk_at dksX9_doAgree_0 3 rfl rfl)
theorem dX9_doAgree_5 : decode cX9_doAgree 5 = .ok (.aload_n 0, 1) := dk_42 (dk_at dksX9_doAgree_0 5 rfl rfl)
theorem dX9_doAgree_6 : decode cX9_doAgree 6 = .ok (.invokevirtual 248, 3) := dk_182 0 248 (dk_at dksX9_doAgree_0 6 rfl rfl)
theorem dX9_doAgree_9 : decode cX9_doAgree 9 = .ok (.if_icmp .ge 38, 3) := dk_162 0 38 (dk_at dksX9_doAgree_0 9 rfl rfl)
theorem dX9_doAgree_12 : decode cX9_doAgree 12 = .ok (.aload_n 1, 1) := dk_43 (dk_at dksX9_doAgree_0 12 rfl rfl)
theorem dX9_doAgree_13 : decode cX9_doAgree 13 = .ok (.iload_n 2, 1) := dk_28 (dk_at dksX9_doAgree_0 13 rfl rfl)
theorem dX9_doAgree_14 : decode cX9_doAgree 14 = .ok (.aload_n 1, 1) := dk_43 (dk_at dksX9_doAgree_0 14 rfl rfl)
theorem dX9_doAgree_15 : decode cX9_doAgree 15 = .ok (.iload_n 3, 1) := dk_29 (dk_at dksX9_doAgree_0 15 rfl rfl)
theorem dX9_doAgree_16 : decode cX9_doAgree 16 = .ok (.iload 4, 2) := dk_21 4 (dk_at dksX9_doAgree_0 16 rfl rfl)
theorem dX9_doAgree_18 : decode cX9_doAgree 18 = .ok (.invokestatic 303, 3) := dk_184 1 47 (dk_at dksX9_doAgree_0 18 rfl rfl)
theorem dX9_doAgree_21 : decode cX9_doAgree 21 = .ok (.invokestatic 303, 3) := dk_184 1 47 (dk_at dksX9_doAgree_0 21 rfl rfl)
theorem dX9_doAgree_24 : decode cX9_doAgree 24 = .ok (.aload_n 1, 1) := dk_43 (dk_at dksX9_doAgree_1 0 rfl rfl)
theorem dX9_doAgree_25 : decode cX9_doAgree 25 = .ok (.iload_n 3, 1) := dk_29 (dk_at dksX9_doAgree_1 1 rfl rfl)
theorem dX9_doAgree_26 : decode cX9_doAgree 26 = .ok (.aload_n 1, 1) := dk_43 (dk_at dksX9_doAgree_1 2 rfl rfl)
theorem dX9_doAgree_27 : decode cX9_doAgree 27 = .ok (.iload_n 2, 1) := dk_28 (dk_at dksX9_doAgree_1 3 rfl rfl)
theorem dX9_doAgree_28 : decode cX9_doAgree 28 = .ok (.iload 4, 2) := dk_21 4 (dk_at dksX9_doAgree_1 4 rfl rfl)
theorem dX9_doAgree_30 : decode cX9_doAgree 30 = .ok (.invokestatic 303, 3) := dk_184 1 47 (dk_at dksX9_doAgree_1 6 rfl rfl)
theorem dX9_doAgree_33 : decode cX9_doAgree 33 = .ok (.invokestatic 303, 3) := dk_184 1 47 (dk_at dksX9_doAgree_1 9 rfl rfl)
theorem dX9_doAgree_36 : decode cX9_doAgree 36 = .ok (.if_icmp .eq 5, 3) := dk_159 0 5 (dk_at dksX9_doAgree_1 12 rfl rfl)
theorem dX9_doAgree_39 : decode cX9_doAgree 39 = .ok (.iconst 0, 1) := dk_3 (dk_at dksX9_doAgree_1 15 rfl rfl)
theorem dX9_doAgree_40 : decode cX9_doAgree 40 = .ok (.ireturn, 1) := dk_172 (dk_at dksX9_doAgree_1 16 rfl rfl)
theorem dX9_doAgree_41 : decode cX9_doAgree 41 = .ok (.iinc 4 1, 3) := dk_132 4 1 (dk_at dksX9_doAgree_1 17 rfl rfl)
theorem dX9_doAgree_44 : decode cX9_doAgree 44 = .ok (.goto (-41), 3) := dk_167 255 215 (dk_at dksX9_doAgree_1 20 rfl rfl)
theorem dX9_doAgree_47 : decode cX9_doAgree 47 = .ok (.iconst 1, 1) := dk_4 (dk_at dksX9_doAgree_1 23 rfl rfl)
theorem dX9_doAgree_48 : decode cX9_doAgree 48 = .ok (.ireturn, 1) := dk_172 (dk_at dksX9_doAgree_2 0 rfl rfl)
abbrev cX9_by : ByteArray := prog_13_method_47_code
def yX9_by : MethodName := ⟨RX9, "by", "([III)I"⟩
def dkwX9_by_0 : List UInt8 := [28, 42, 4, 27, 96, 46, 42, 16, 17, 27, 96, 46, 42, 16, 33, 27, 96, 46, 184, 1, 43, 172]
abbrev dktX9_by_0 : List UInt8 := dkwX9_by_0 ++ []
theorem dksX9_by_0 : cX9_by.data.toList.drop 0 = dktX9_by_0 := by decide +kernel
theorem dX9_by_0 : decode cX9_by 0 = .ok (.iload_n 2, 1) := dk_28 (dk_at dksX9_by_0 0 rfl rfl)
theorem dX9_by_1 : decode cX9_by 1 = .ok (.aload_n 0, 1) := dk_42 (dk_at dksX9_by_0 1 rfl rfl)
theorem dX9_by_2 : decode cX9_by 2 = .ok (.iconst 1, 1) := dk_4 (dk_at dksX9_by_0 2 rfl rfl)
theorem dX9_by_3 : decode cX9_by 3 = .ok (.iload_n 1, 1) := dk_27 (dk_at dksX9_by_0 3 rfl rfl)
theorem dX9_by_4 : decode cX9_by 4 = .ok (.iadd, 1) := dk_96 (dk_at dksX9_by_0 4 rfl rfl)
theorem dX9_by_5 : decode cX9_by 5 = .ok (.iaload, 1) := dk_46 (dk_at dksX9_by_0 5 rfl rfl)
theorem dX9_by_6 : decode cX9_by 6 = .ok (.aload_n 0, 1) := dk_42 (dk_at dksX9_by_0 6 rfl rfl)
theorem dX9_by_7 : decode cX9_by 7 = .ok (.bipush 17, 2) := dk_16 17 (dk_at dksX9_by_0 7 rfl rfl)
theorem dX9_by_9 : decode cX9_by 9 = .ok (.iload_n 1, 1) := dk_27 (dk_at dksX9_by_0 9 rfl rfl)
theorem dX9_by_10 : decode cX9_by 10 = .ok (.iadd, 1) := dk_96 (dk_at dksX9_by_0 10 rfl rfl)
theorem dX9_by_11 : decode cX9_by 11 = .ok (.iaload, 1) := dk_46 (dk_at dksX9_by_0 11 rfl rfl)
theorem dX9_by_12 : decode cX9_by 12 = .ok (.aload_n 0, 1) := dk_42 (dk_at dksX9_by_0 12 rfl rfl)
theorem dX9_by_13 : decode cX9_by 13 = .ok (.bipush 33, 2) := dk_16 33 (dk_at dksX9_by_0 13 rfl rfl)
theorem dX9_by_15 : decode cX9_by 15 = .ok (.iload_n 1, 1) := dk_27 (dk_at dksX9_by_0 15 rfl rfl)
theorem dX9_by_16 : decode cX9_by 16 = .ok (.iadd, 1) := dk_96 (dk_at dksX9_by_0 16 rfl rfl)
theorem dX9_by_17 : decode cX9_by 17 = .ok (.iaload, 1) := dk_46 (dk_at dksX9_by_0 17 rfl rfl)
theorem dX9_by_18 : decode cX9_by 18 = .ok (.invokestatic 299, 3) := dk_184 1 43 (dk_at dksX9_by_0 18 rfl rfl)
theorem dX9_by_21 : decode cX9_by 21 = .ok (.ireturn, 1) := dk_172 (dk_at dksX9_by_0 21 rfl rfl)
abbrev cX9_turned : ByteArray := prog_13_method_46_code
def yX9_turned : MethodName := ⟨RX9, "turned", "(IIII)I"⟩
def dkwX9_turned_0 : List UInt8 := [26, 28, 126, 28, 160, 0, 17, 26, 29, 126, 154, 0, 11, 26, 4, 27, 120, 130, 167, 0, 4, 26, 172]
abbrev dktX9_turned_0 : List UInt8 := dkwX9_turned_0 ++ []
theorem dksX9_turned_0 : cX9_turned.data.toList.drop 0 = dktX9_turned_0 := by decide +kernel
theorem dX9_turned_0 : decode cX9_turned 0 = .ok (.iload_n 0, 1) := dk_26 (dk_at dksX9_turned_0 0 rfl rfl)
theorem dX9_turned_1 : decode cX9_turned 1 = .ok (.iload_n 2, 1) := dk_28 (dk_at dksX9_turned_0 1 rfl rfl)
theorem dX9_turned_2 : decode cX9_turned 2 = .ok (.iand, 1) := dk_126 (dk_at dksX9_turned_0 2 rfl rfl)
theorem dX9_turned_3 : decode cX9_turned 3 = .ok (.iload_n 2, 1) := dk_28 (dk_at dksX9_turned_0 3 rfl rfl)
theorem dX9_turned_4 : decode cX9_turned 4 = .ok (.if_icmp .ne 17, 3) := dk_160 0 17 (dk_at dksX9_turned_0 4 rfl rfl)
theorem dX9_turned_7 : decode cX9_turned 7 = .ok (.iload_n 0, 1) := dk_26 (dk_at dksX9_turned_0 7 rfl rfl)
theorem dX9_turned_8 : decode cX9_turned 8 = .ok (.iload_n 3, 1) := dk_29 (dk_at dksX9_turned_0 8 rfl rfl)
theorem dX9_turned_9 : decode cX9_turned 9 = .ok (.iand, 1) := dk_126 (dk_at dksX9_turned_0 9 rfl rfl)
theorem dX9_turned_10 : decode cX9_turned 10 = .ok (.ifCond .ne 11, 3) := dk_154 0 11 (dk_at dksX9_turned_0 10 rfl rfl)
theorem dX9_turned_13 : decode cX9_turned 13 = .ok (.iload_n 0, 1) := dk_26 (dk_at dksX9_turned_0 13 rfl rfl)
theorem dX9_turned_14 : decode cX9_turned 14 = .ok (.iconst 1, 1) := dk_4 (dk_at dksX9_turned_0 14 rfl rfl)
theorem dX9_turned_15 : decode cX9_turned 15 = .ok (.iload_n 1, 1) := dk_27 (dk_at dksX9_turned_0 15 rfl rfl)
theorem dX9_turned_16 : decode cX9_turned 16 = .ok (.ishl, 1) := dk_120 (dk_at dksX9_turned_0 16 rfl rfl)
theorem dX9_turned_17 : decode cX9_turned 17 = .ok (.ixor, 1) := dk_130 (dk_at dksX9_turned_0 17 rfl rfl)
theorem dX9_turned_18 : decode cX9_turned 18 = .ok (.goto 4, 3) := dk_167 0 4 (dk_at dksX9_turned_0 18 rfl rfl)
theorem dX9_turned_21 : decode cX9_turned 21 = .ok (.iload_n 0, 1) := dk_26 (dk_at dksX9_turned_0 21 rfl rfl)
theorem dX9_turned_22 : decode cX9_turned 22 = .ok (.ireturn, 1) := dk_172 (dk_at dksX9_turned_0 22 rfl rfl)
abbrev cX9_does : ByteArray := prog_13_method_65_code
def yX9_does : MethodName := ⟨RX9, "does", "(III)V"⟩
def dkwX9_does_7 : List UInt8 := [21, 4, 130, 79, 42, 180, 0, 74, 28, 184, 1, 19, 177]
abbrev dktX9_does_7 : List UInt8 := dkwX9_does_7 ++ []
def dkwX9_does_6 : List UInt8 := [180, 0, 74, 16, 17, 29, 96, 21, 5, 21, 4, 130, 79, 42, 180, 0, 74, 16, 33, 29, 96, 21, 6]
abbrev dktX9_does_6 : List UInt8 := dkwX9_does_6 ++ dktX9_does_7
def dkwX9_does_5 : List UInt8 := [42, 180, 0, 74, 16, 33, 28, 96, 46, 42, 180, 0, 74, 16, 33, 29, 96, 46, 128, 54, 6, 42]
abbrev dktX9_does_5 : List UInt8 := dkwX9_does_5 ++ dktX9_does_6
def dkwX9_does_4 : List UInt8 := [160, 0, 73, 42, 180, 0, 74, 16, 17, 28, 96, 46, 42, 180, 0, 74, 16, 17, 29, 96, 46, 128, 54, 5]
abbrev dktX9_does_4 : List UInt8 := dkwX9_does_4 ++ dktX9_does_5
def dkwX9_does_3 : List UInt8 := [2, 130, 126, 79, 42, 180, 0, 74, 16, 33, 29, 96, 92, 46, 21, 4, 2, 130, 126, 79, 27, 6]
abbrev dktX9_does_3 : List UInt8 := dkwX9_does_3 ++ dktX9_does_4
def dkwX9_does_2 : List UInt8 := [180, 0, 74, 29, 184, 1, 19, 27, 5, 160, 0, 35, 42, 180, 0, 74, 16, 17, 29, 96, 92, 46, 21, 4]
abbrev dktX9_does_2 : List UInt8 := dkwX9_does_2 ++ dktX9_does_3
def dkwX9_does_1 : List UInt8 := [16, 33, 28, 96, 46, 42, 180, 0, 74, 16, 33, 29, 96, 46, 130, 128, 54, 4, 27, 4, 160, 0, 11, 42]
abbrev dktX9_does_1 : List UInt8 := dkwX9_does_1 ++ dktX9_does_2
def dkwX9_does_0 : List UInt8 := [42, 180, 0, 74, 16, 17, 28, 96, 46, 42, 180, 0, 74, 16, 17, 29, 96, 46, 130, 42, 180, 0, 74]
abbrev dktX9_does_0 : List UInt8 := dkwX9_does_0 ++ dktX9_does_1
theorem dksX9_does_0 : cX9_does.data.toList.drop 0 = dktX9_does_0 := by decide +kernel
theorem dksX9_does_1 : cX9_does.data.toList.drop 23 = dktX9_does_1 := dk_seg dksX9_does_0 23 rfl rfl
theorem dksX9_does_2 : cX9_does.data.toList.drop 47 = dktX9_does_2 := dk_seg dksX9_does_1 24 rfl rfl
theorem dksX9_does_3 : cX9_does.data.toList.drop 71 = dktX9_does_3 := dk_seg dksX9_does_2 24 rfl rfl
theorem dksX9_does_4 : cX9_does.data.toList.drop 93 = dktX9_does_4 := dk_seg dksX9_does_3 22 rfl rfl
theorem dksX9_does_5 : cX9_does.data.toList.drop 117 = dktX9_does_5 := dk_seg dksX9_does_4 24 rfl rfl
theorem dksX9_does_6 : cX9_does.data.toList.drop 139 = dktX9_does_6 := dk_seg dksX9_does_5 22 rfl rfl
theorem dksX9_does_7 : cX9_does.data.toList.drop 162 = dktX9_does_7 := dk_seg dksX9_does_6 23 rfl rfl
theorem dX9_does_0 : decode cX9_does 0 = .ok (.aload_n 0, 1) := dk_42 (dk_at dksX9_does_0 0 rfl rfl)
theorem dX9_does_1 : decode cX9_does 1 = .ok (.getfield 74, 3) := dk_180 0 74 (dk_at dksX9_does_0 1 rfl rfl)
theorem dX9_does_4 : decode cX9_does 4 = .ok (.bipush 17, 2) := dk_16 17 (dk_at dksX9_does_0 4 rfl rfl)
theorem dX9_does_6 : decode cX9_does 6 = .ok (.iload_n 2, 1) := dk_28 (dk_at dksX9_does_0 6 rfl rfl)
theorem dX9_does_7 : decode cX9_does 7 = .ok (.iadd, 1) := dk_96 (dk_at dksX9_does_0 7 rfl rfl)
theorem dX9_does_8 : decode cX9_does 8 = .ok (.iaload, 1) := dk_46 (dk_at dksX9_does_0 8 rfl rfl)
theorem dX9_does_9 : decode cX9_does 9 = .ok (.aload_n 0, 1) := dk_42 (dk_at dksX9_does_0 9 rfl rfl)
theorem dX9_does_10 : decode cX9_does 10 = .ok (.getfield 74, 3) := dk_180 0 74 (dk_at dksX9_does_0 10 rfl rfl)
theorem dX9_does_13 : decode cX9_does 13 = .ok (.bipush 17, 2) := dk_16 17 (dk_at dksX9_does_0 13 rfl rfl)
theorem dX9_does_15 : decode cX9_does 15 = .ok (.iload_n 3, 1) := dk_29 (dk_at dksX9_does_0 15 rfl rfl)
theorem dX9_does_16 : decode cX9_does 16 = .ok (.iadd, 1) := dk_96 (dk_at dksX9_does_0 16 rfl rfl)
theorem dX9_does_17 : decode cX9_does 17 = .ok (.iaload, 1) := dk_46 (dk_at dksX9_does_0 17 rfl rfl)
theorem dX9_does_18 : decode cX9_does 18 = .ok (.ixor, 1) := dk_130 (dk_at dksX9_does_0 18 rfl rfl)
theorem dX9_does_19 : decode cX9_does 19 = .ok (.aload_n 0, 1) := dk_42 (dk_at dksX9_does_0 19 rfl rfl)
theorem dX9_does_20 : decode cX9_does 20 = .ok (.getfield 74, 3) := dk_180 0 74 (dk_at dksX9_does_0 20 rfl rfl)
theorem dX9_does_23 : decode cX9_does 23 = .ok (.bipush 33, 2) := dk_16 33 (dk_at dksX9_does_1 0 rfl rfl)
theorem dX9_does_25 : decode cX9_does 25 = .ok (.iload_n 2, 1) := dk_28 (dk_at dksX9_does_1 2 rfl rfl)
theorem dX9_does_26 : decode cX9_does 26 = .ok (.iadd, 1) := dk_96 (dk_at dksX9_does_1 3 rfl rfl)
theorem dX9_does_27 : decode cX9_does 27 = .ok (.iaload, 1) := dk_46 (dk_at dksX9_does_1 4 rfl rfl)
theorem dX9_does_28 : decode cX9_does 28 = .ok (.aload_n 0, 1) := dk_42 (dk_at dksX9_does_1 5 rfl rfl)
theorem dX9_does_29 : decode cX9_does 29 = .ok (.getfield 74, 3) := dk_180 0 74 (dk_at dksX9_does_1 6 rfl rfl)
theorem dX9_does_32 : decode cX9_does 32 = .ok (.bipush 33, 2) := dk_16 33 (dk_at dksX9_does_1 9 rfl rfl)
theorem dX9_does_34 : decode cX9_does 34 = .ok (.iload_n 3, 1) := dk_29 (dk_at dksX9_does_1 11 rfl rfl)
theorem dX9_does_35 : decode cX9_does 35 = .ok (.iadd, 1) := dk_96 (dk_at dksX9_does_1 12 rfl rfl)
theorem dX9_does_36 : decode cX9_does 36 = .ok (.iaload, 1) := dk_46 (dk_at dksX9_does_1 13 rfl rfl)
theorem dX9_does_37 : decode cX9_does 37 = .ok (.ixor, 1) := dk_130 (dk_at dksX9_does_1 14 rfl rfl)
theorem dX9_does_38 : decode cX9_does 38 = .ok (.ior, 1) := dk_128 (dk_at dksX9_does_1 15 rfl rfl)
theorem dX9_does_39 : decode cX9_does 39 = .ok (.istore 4, 2) := dk_54 4 (dk_at dksX9_does_1 16 rfl rfl)
theorem dX9_does_41 : decode cX9_does 41 = .ok (.iload_n 1, 1) := dk_27 (dk_at dksX9_does_1 18 rfl rfl)
theorem dX9_does_42 : decode cX9_does 42 = .ok (.iconst 1, 1) := dk_4 (dk_at dksX9_does_1 19 rfl rfl)
theorem dX9_does_43 : decode cX9_does 43 = .ok (.if_icmp .ne 11, 3) := dk_160 0 11 (dk_at dksX9_does_1 20 rfl rfl)
theorem dX9_does_46 : decode cX9_does 46 = .ok (.aload_n 0, 1) := dk_42 (dk_at dksX9_does_1 23 rfl rfl)
theorem dX9_does_47 : decode cX9_does 47 = .ok (.getfield 74, 3) := dk_180 0 74 (dk_at dksX9_does_2 0 rfl rfl)
theorem dX9_does_50 : decode cX9_does 50 = .ok (.iload_n 3, 1) := dk_29 (dk_at dksX9_does_2 3 rfl rfl)
theorem dX9_does_51 : decode cX9_does 51 = .ok (.invokestatic 275, 3) := dk_184 1 19 (dk_at dksX9_does_2 4 rfl rfl)
theorem dX9_does_54 : decode cX9_does 54 = .ok (.iload_n 1, 1) := dk_27 (dk_at dksX9_does_2 7 rfl rfl)
theorem dX9_does_55 : decode cX9_does 55 = .ok (.iconst 2, 1) := dk_5 (dk_at dksX9_does_2 8 rfl rfl)
theorem dX9_does_56 : decode cX9_does 56 = .ok (.if_icmp .ne 35, 3) := dk_160 0 35 (dk_at dksX9_does_2 9 rfl rfl)
theorem dX9_does_59 : decode cX9_does 59 = .ok (.aload_n 0, 1) := dk_42 (dk_at dksX9_does_2 12 rfl rfl)
theorem dX9_does_60 : decode cX9_does 60 = .ok (.getfield 74, 3) := dk_180 0 74 (dk_at dksX9_does_2 13 rfl rfl)
theorem dX9_does_63 : decode cX9_does 63 = .ok (.bipush 17, 2) := dk_16 17 (dk_at dksX9_does_2 16 rfl rfl)
theorem dX9_does_65 : decode cX9_does 65 = .ok (.iload_n 3, 1) := dk_29 (dk_at dksX9_does_2 18 rfl rfl)
theorem dX9_does_66 : decode cX9_does 66 = .ok (.iadd, 1) := dk_96 (dk_at dksX9_does_2 19 rfl rfl)
theorem dX9_does_67 : decode cX9_does 67 = .ok (.dup2, 1) := dk_92 (dk_at dksX9_does_2 20 rfl rfl)
theorem dX9_does_68 : decode cX9_does 68 = .ok (.iaload, 1) := dk_46 (dk_at dksX9_does_2 21 rfl rfl)
theorem dX9_does_69 : decode cX9_does 69 = .ok (.iload 4, 2) := dk_21 4 (dk_at dksX9_does_2 22 rfl rfl)
theorem dX9_does_71 : decode cX9_does 71 = .ok (.iconst (-1), 1) := dk_2 (dk_at dksX9_does_3 0 rfl rfl)
theorem dX9_does_72 : decode cX9_does 72 = .ok (.ixor, 1) := dk_130 (dk_at dksX9_does_3 1 rfl rfl)
theorem dX9_does_73 : decode cX9_does 73 = .ok (.iand, 1) := dk_126 (dk_at dksX9_does_3 2 rfl rfl)
theorem dX9_does_74 : decode cX9_does 74 = .ok (.iastore, 1) := dk_79 (dk_at dksX9_does_3 3 rfl rfl)
theorem dX9_does_75 : decode cX9_does 75 = .ok (.aload_n 0, 1) := dk_42 (dk_at dksX9_does_3 4 rfl rfl)
theorem dX9_does_76 : decode cX9_does 76 = .ok (.getfield 74, 3) := dk_180 0 74 (dk_at dksX9_does_3 5 rfl rfl)
theorem dX9_does_79 : decode cX9_does 79 = .ok (.bipush 33, 2) := dk_16 33 (dk_at dksX9_does_3 8 rfl rfl)
theorem dX9_does_81 : decode cX9_does 81 = .ok (.iload_n 3, 1) := dk_29 (dk_at dksX9_does_3 10 rfl rfl)
theorem dX9_does_82 : decode cX9_does 82 = .ok (.iadd, 1) := dk_96 (dk_at dksX9_does_3 11 rfl rfl)
theorem dX9_does_83 : decode cX9_does 83 = .ok (.dup2, 1) := dk_92 (dk_at dksX9_does_3 12 rfl rfl)
theorem dX9_does_84 : decode cX9_does 84 = .ok (.iaload, 1) := dk_46 (dk_at dksX9_does_3 13 rfl rfl)
theorem dX9_does_85 : decode cX9_does 85 = .ok (.iload 4, 2) := dk_21 4 (dk_at dksX9_does_3 14 rfl rfl)
theorem dX9_does_87 : decode cX9_does 87 = .ok (.iconst (-1), 1) := dk_2 (dk_at dksX9_does_3 16 rfl rfl)
theorem dX9_does_88 : decode cX9_does 88 = .ok (.ixor, 1) := dk_130 (dk_at dksX9_does_3 17 rfl rfl)
theorem dX9_does_89 : decode cX9_does 89 = .ok (.iand, 1) := dk_126 (dk_at dksX9_does_3 18 rfl rfl)
theorem dX9_does_90 : decode cX9_does 90 = .ok (.iastore, 1) := dk_79 (dk_at dksX9_does_3 19 rfl rfl)
theorem dX9_does_91 : decode cX9_does 91 = .ok (.iload_n 1, 1) := dk_27 (dk_at dksX9_does_3 20 rfl rfl)
theorem dX9_does_92 : decode cX9_does 92 = .ok (.iconst 3, 1) := dk_6 (dk_at dksX9_does_3 21 rfl rfl)
theorem dX9_does_93 : decode cX9_does 93 = .ok (.if_icmp .ne 73, 3) := dk_160 0 73 (dk_at dksX9_does_4 0 rfl rfl)
theorem dX9_does_96 : decode cX9_does 96 = .ok (.aload_n 0, 1) := dk_42 (dk_at dksX9_does_4 3 rfl rfl)
theorem dX9_does_97 : decode cX9_does 97 = .ok (.getfield 74, 3) := dk_180 0 74 (dk_at dksX9_does_4 4 rfl rfl)
theorem dX9_does_100 : decode cX9_does 100 = .ok (.bipush 17, 2) := dk_16 17 (dk_at dksX9_does_4 7 rfl rfl)
theorem dX9_does_102 : decode cX9_does 102 = .ok (.iload_n 2, 1) := dk_28 (dk_at dksX9_does_4 9 rfl rfl)
theorem dX9_does_103 : decode cX9_does 103 = .ok (.iadd, 1) := dk_96 (dk_at dksX9_does_4 10 rfl rfl)
theorem dX9_does_104 : decode cX9_does 104 = .ok (.iaload, 1) := dk_46 (dk_at dksX9_does_4 11 rfl rfl)
theorem dX9_does_105 : decode cX9_does 105 = .ok (.aload_n 0, 1) := dk_42 (dk_at dksX9_does_4 12 rfl rfl)
theorem dX9_does_106 : decode cX9_does 106 = .ok (.getfield 74, 3) := dk_180 0 74 (dk_at dksX9_does_4 13 rfl rfl)
theorem dX9_does_109 : decode cX9_does 109 = .ok (.bipush 17, 2) := dk_16 17 (dk_at dksX9_does_4 16 rfl rfl)
theorem dX9_does_111 : decode cX9_does 111 = .ok (.iload_n 3, 1) := dk_29 (dk_at dksX9_does_4 18 rfl rfl)
theorem dX9_does_112 : decode cX9_does 112 = .ok (.iadd, 1) := dk_96 (dk_at dksX9_does_4 19 rfl rfl)
theorem dX9_does_113 : decode cX9_does 113 = .ok (.iaload, 1) := dk_46 (dk_at dksX9_does_4 20 rfl rfl)
theorem dX9_does_114 : decode cX9_does 114 = .ok (.ior, 1) := dk_128 (dk_at dksX9_does_4 21 rfl rfl)
theorem dX9_does_115 : decode cX9_does 115 = .ok (.istore 5, 2) := dk_54 5 (dk_at dksX9_does_4 22 rfl rfl)
theorem dX9_does_117 : decode cX9_does 117 = .ok (.aload_n 0, 1) := dk_42 (dk_at dksX9_does_5 0 rfl rfl)
theorem dX9_does_118 : decode cX9_does 118 = .ok (.getfield 74, 3) := dk_180 0 74 (dk_at dksX9_does_5 1 rfl rfl)
theorem dX9_does_121 : decode cX9_does 121 = .ok (.bipush 33, 2) := dk_16 33 (dk_at dksX9_does_5 4 rfl rfl)
theorem dX9_does_123 : decode cX9_does 123 = .ok (.iload_n 2, 1) := dk_28 (dk_at dksX9_does_5 6 rfl rfl)
theorem dX9_does_124 : decode cX9_does 124 = .ok (.iadd, 1) := dk_96 (dk_at dksX9_does_5 7 rfl rfl)
theorem dX9_does_125 : decode cX9_does 125 = .ok (.iaload, 1) := dk_46 (dk_at dksX9_does_5 8 rfl rfl)
theorem dX9_does_126 : decode cX9_does 126 = .ok (.aload_n 0, 1) := dk_42 (dk_at dksX9_does_5 9 rfl rfl)
theorem dX9_does_127 : decode cX9_does 127 = .ok (.getfield 74, 3) := dk_180 0 74 (dk_at dksX9_does_5 10 rfl rfl)
theorem dX9_does_130 : decode cX9_does 130 = .ok (.bipush 33, 2) := dk_16 33 (dk_at dksX9_does_5 13 rfl rfl)
theorem dX9_does_132 : decode cX9_does 132 = .ok (.iload_n 3, 1) := dk_29 (dk_at dksX9_does_5 15 rfl rfl)
theorem dX9_does_133 : decode cX9_does 133 = .ok (.iadd, 1) := dk_96 (dk_at dksX9_does_5 16 rfl rfl)
theorem dX9_does_134 : decode cX9_does 134 = .ok (.iaload, 1) := dk_46 (dk_at dksX9_does_5 17 rfl rfl)
theorem dX9_does_135 : decode cX9_does 135 = .ok (.ior, 1) := dk_128 (dk_at dksX9_does_5 18 rfl rfl)
theorem dX9_does_136 : decode cX9_does 136 = .ok (.istore 6, 2) := dk_54 6 (dk_at dksX9_does_5 19 rfl rfl)
theorem dX9_does_138 : decode cX9_does 138 = .ok (.aload_n 0, 1) := dk_42 (dk_at dksX9_does_5 21 rfl rfl)
theorem dX9_does_139 : decode cX9_does 139 = .ok (.getfield 74, 3) := dk_180 0 74 (dk_at dksX9_does_6 0 rfl rfl)
theorem dX9_does_142 : decode cX9_does 142 = .ok (.bipush 17, 2) := dk_16 17 (dk_at dksX9_does_6 3 rfl rfl)
theorem dX9_does_144 : decode cX9_does 144 = .ok (.iload_n 3, 1) := dk_29 (dk_at dksX9_does_6 5 rfl rfl)
theorem dX9_does_145 : decode cX9_does 145 = .ok (.iadd, 1) := dk_96 (dk_at dksX9_does_6 6 rfl rfl)
theorem dX9_does_146 : decode cX9_does 146 = .ok (.iload 5, 2) := dk_21 5 (dk_at dksX9_does_6 7 rfl rfl)
theorem dX9_does_148 : decode cX9_does 148 = .ok (.iload 4, 2) := dk_21 4 (dk_at dksX9_does_6 9 rfl rfl)
theorem dX9_does_150 : decode cX9_does 150 = .ok (.ixor, 1) := dk_130 (dk_at dksX9_does_6 11 rfl rfl)
theorem dX9_does_151 : decode cX9_does 151 = .ok (.iastore, 1) := dk_79 (dk_at dksX9_does_6 12 rfl rfl)
theorem dX9_does_152 : decode cX9_does 152 = .ok (.aload_n 0, 1) := dk_42 (dk_at dksX9_does_6 13 rfl rfl)
theorem dX9_does_153 : decode cX9_does 153 = .ok (.getfield 74, 3) := dk_180 0 74 (dk_at dksX9_does_6 14 rfl rfl)
theorem dX9_does_156 : decode cX9_does 156 = .ok (.bipush 33, 2) := dk_16 33 (dk_at dksX9_does_6 17 rfl rfl)
theorem dX9_does_158 : decode cX9_does 158 = .ok (.iload_n 3, 1) := dk_29 (dk_at dksX9_does_6 19 rfl rfl)
theorem dX9_does_159 : decode cX9_does 159 = .ok (.iadd, 1) := dk_96 (dk_at dksX9_does_6 20 rfl rfl)
theorem dX9_does_160 : decode cX9_does 160 = .ok (.iload 6, 2) := dk_21 6 (dk_at dksX9_does_6 21 rfl rfl)
theorem dX9_does_162 : decode cX9_does 162 = .ok (.iload 4, 2) := dk_21 4 (dk_at dksX9_does_7 0 rfl rfl)
theorem dX9_does_164 : decode cX9_does 164 = .ok (.ixor, 1) := dk_130 (dk_at dksX9_does_7 2 rfl rfl)
theorem dX9_does_165 : decode cX9_does 165 = .ok (.iastore, 1) := dk_79 (dk_at dksX9_does_7 3 rfl rfl)
theorem dX9_does_166 : decode cX9_does 166 = .ok (.aload_n 0, 1) := dk_42 (dk_at dksX9_does_7 4 rfl rfl)
theorem dX9_does_167 : decode cX9_does 167 = .ok (.getfield 74, 3) := dk_180 0 74 (dk_at dksX9_does_7 5 rfl rfl)
theorem dX9_does_170 : decode cX9_does 170 = .ok (.iload_n 2, 1) := dk_28 (dk_at dksX9_does_7 8 rfl rfl)
theorem dX9_does_171 : decode cX9_does 171 = .ok (.invokestatic 275, 3) := dk_184 1 19 (dk_at dksX9_does_7 9 rfl rfl)
theorem dX9_does_174 : decode cX9_does 174 = .ok (.return_, 1) := dk_177 (dk_at dksX9_does_7 12 rfl rfl)
abbrev cX9_laysOrder : ByteArray := prog_13_method_51_code
def yX9_laysOrder : MethodName := ⟨RX9, "laysOrder", "([I)V"⟩
def dkwX9_laysOrder_2 : List UInt8 := [167, 255, 229, 132, 2, 1, 167, 255, 206, 177]
abbrev dktX9_laysOrder_2 : List UInt8 := dkwX9_laysOrder_2 ++ []
def dkwX9_laysOrder_1 : List UInt8 := [162, 0, 26, 42, 180, 0, 68, 28, 43, 29, 42, 180, 0, 68, 28, 46, 184, 1, 47, 79, 132, 3, 1]
abbrev dktX9_laysOrder_1 : List UInt8 := dkwX9_laysOrder_1 ++ dktX9_laysOrder_2
def dkwX9_laysOrder_0 : List UInt8 := [3, 61, 28, 42, 182, 0, 248, 162, 0, 48, 42, 180, 0, 68, 28, 28, 79, 3, 62, 29, 43, 3, 46]
abbrev dktX9_laysOrder_0 : List UInt8 := dkwX9_laysOrder_0 ++ dktX9_laysOrder_1
theorem dksX9_laysOrder_0 : cX9_laysOrder.data.toList.drop 0 = dktX9_laysOrder_0 := by decide +kernel
theorem dksX9_laysOrder_1 : cX9_laysOrder.data.toList.drop 23 = dktX9_laysOrder_1 := dk_seg dksX9_laysOrder_0 23 rfl rfl
theorem dksX9_laysOrder_2 : cX9_laysOrder.data.toList.drop 46 = dktX9_laysOrder_2 := dk_seg dksX9_laysOrder_1 23 rfl rfl
theorem dX9_laysOrder_0 : decode cX9_laysOrder 0 = .ok (.iconst 0, 1) := dk_3 (dk_at dksX9_laysOrder_0 0 rfl rfl)
theorem dX9_laysOrder_1 : decode cX9_laysOrder 1 = .ok (.istore_n 2, 1) := dk_61 (dk_at dksX9_laysOrder_0 1 rfl rfl)
theorem dX9_laysOrder_2 : decode cX9_laysOrder 2 = .ok (.iload_n 2, 1) := dk_28 (dk_at dksX9_laysOrder_0 2 rfl rfl)
theorem dX9_laysOrder_3 : decode cX9_laysOrder 3 = .ok (.aload_n 0, 1) := dk_42 (dk_at dksX9_laysOrder_0 3 rfl rfl)
theorem dX9_laysOrder_4 : decode cX9_laysOrder 4 = .ok (.invokevirtual 248, 3) := dk_182 0 248 (dk_at dksX9_laysOrder_0 4 rfl rfl)
theorem dX9_laysOrder_7 : decode cX9_laysOrder 7 = .ok (.if_icmp .ge 48, 3) := dk_162 0 48 (dk_at dksX9_laysOrder_0 7 rfl rfl)
theorem dX9_laysOrder_10 : decode cX9_laysOrder 10 = .ok (.aload_n 0, 1) := dk_42 (dk_at dksX9_laysOrder_0 10 rfl rfl)
theorem dX9_laysOrder_11 : decode cX9_laysOrder 11 = .ok (.getfield 68, 3) := dk_180 0 68 (dk_at dksX9_laysOrder_0 11 rfl rfl)
theorem dX9_laysOrder_14 : decode cX9_laysOrder 14 = .ok (.iload_n 2, 1) := dk_28 (dk_at dksX9_laysOrder_0 14 rfl rfl)
theorem dX9_laysOrder_15 : decode cX9_laysOrder 15 = .ok (.iload_n 2, 1) := dk_28 (dk_at dksX9_laysOrder_0 15 rfl rfl)
theorem dX9_laysOrder_16 : decode cX9_laysOrder 16 = .ok (.iastore, 1) := dk_79 (dk_at dksX9_laysOrder_0 16 rfl rfl)
theorem dX9_laysOrder_17 : decode cX9_laysOrder 17 = .ok (.iconst 0, 1) := dk_3 (dk_at dksX9_laysOrder_0 17 rfl rfl)
theorem dX9_laysOrder_18 : decode cX9_laysOrder 18 = .ok (.istore_n 3, 1) := dk_62 (dk_at dksX9_laysOrder_0 18 rfl rfl)
theorem dX9_laysOrder_19 : decode cX9_laysOrder 19 = .ok (.iload_n 3, 1) := dk_29 (dk_at dksX9_laysOrder_0 19 rfl rfl)
theorem dX9_laysOrder_20 : decode cX9_laysOrder 20 = .ok (.aload_n 1, 1) := dk_43 (dk_at dksX9_laysOrder_0 20 rfl rfl)
theorem dX9_laysOrder_21 : decode cX9_laysOrder 21 = .ok (.iconst 0, 1) := dk_3 (dk_at dksX9_laysOrder_0 21 rfl rfl)
theorem dX9_laysOrder_22 : decode cX9_laysOrder 22 = .ok (.iaload, 1) := dk_46 (dk_at dksX9_laysOrder_0 22 rfl rfl)
theorem dX9_laysOrder_23 : decode cX9_laysOrder 23 = .ok (.if_icmp .ge 26, 3) := dk_162 0 26 (dk_at dksX9_laysOrder_1 0 rfl rfl)
theorem dX9_laysOrder_26 : decode cX9_laysOrder 26 = .ok (.aload_n 0, 1) := dk_42 (dk_at dksX9_laysOrder_1 3 rfl rfl)
theorem dX9_laysOrder_27 : decode cX9_laysOrder 27 = .ok (.getfield 68, 3) := dk_180 0 68 (dk_at dksX9_laysOrder_1 4 rfl rfl)
theorem dX9_laysOrder_30 : decode cX9_laysOrder 30 = .ok (.iload_n 2, 1) := dk_28 (dk_at dksX9_laysOrder_1 7 rfl rfl)
theorem dX9_laysOrder_31 : decode cX9_laysOrder 31 = .ok (.aload_n 1, 1) := dk_43 (dk_at dksX9_laysOrder_1 8 rfl rfl)
theorem dX9_laysOrder_32 : decode cX9_laysOrder 32 = .ok (.iload_n 3, 1) := dk_29 (dk_at dksX9_laysOrder_1 9 rfl rfl)
theorem dX9_laysOrder_33 : decode cX9_laysOrder 33 = .ok (.aload_n 0, 1) := dk_42 (dk_at dksX9_laysOrder_1 10 rfl rfl)
theorem dX9_laysOrder_34 : decode cX9_laysOrder 34 = .ok (.getfield 68, 3) := dk_180 0 68 (dk_at dksX9_laysOrder_1 11 rfl rfl)
theorem dX9_laysOrder_37 : decode cX9_laysOrder 37 = .ok (.iload_n 2, 1) := dk_28 (dk_at dksX9_laysOrder_1 14 rfl rfl)
theorem dX9_laysOrder_38 : decode cX9_laysOrder 38 = .ok (.iaload, 1) := dk_46 (dk_at dksX9_laysOrder_1 15 rfl rfl)
theorem dX9_laysOrder_39 : decode cX9_laysOrder 39 = .ok (.invokestatic 303, 3) := dk_184 1 47 (dk_at dksX9_laysOrder_1 16 rfl rfl)
theorem dX9_laysOrder_42 : decode cX9_laysOrder 42 = .ok (.iastore, 1) := dk_79 (dk_at dksX9_laysOrder_1 19 rfl rfl)
theorem dX9_laysOrder_43 : decode cX9_laysOrder 43 = .ok (.iinc 3 1, 3) := dk_132 3 1 (dk_at dksX9_laysOrder_1 20 rfl rfl)
theorem dX9_laysOrder_46 : decode cX9_laysOrder 46 = .ok (.goto (-27), 3) := dk_167 255 229 (dk_at dksX9_laysOrder_2 0 rfl rfl)
theorem dX9_laysOrder_49 : decode cX9_laysOrder 49 = .ok (.iinc 2 1, 3) := dk_132 2 1 (dk_at dksX9_laysOrder_2 3 rfl rfl)
theorem dX9_laysOrder_52 : decode cX9_laysOrder 52 = .ok (.goto (-50), 3) := dk_167 255 206 (dk_at dksX9_laysOrder_2 6 rfl rfl)
theorem dX9_laysOrder_55 : decode cX9_laysOrder 55 = .ok (.return_, 1) := dk_177 (dk_at dksX9_laysOrder_2 9 rfl rfl)
abbrev cX9_laysFound : ByteArray := prog_13_method_68_code
def yX9_laysFound : MethodName := ⟨RX9, "laysFound", "(IZ)V"⟩
def dkwX9_laysFound_12 : List UInt8 := [132, 4, 255, 167, 255, 230, 177]
abbrev dktX9_laysFound_12 : List UInt8 := dkwX9_laysFound_12 ++ []
def dkwX9_laysFound_11 : List UInt8 := [21, 4, 155, 0, 27, 42, 42, 180, 0, 89, 21, 4, 46, 42, 180, 0, 92, 21, 4, 46, 182, 1, 101]
abbrev dktX9_laysFound_11 : List UInt8 := dkwX9_laysFound_11 ++ dktX9_laysFound_12
def dkwX9_laysFound_10 : List UInt8 := [42, 180, 0, 86, 21, 4, 46, 182, 1, 101, 132, 4, 1, 167, 255, 226, 42, 180, 1, 94, 4, 100, 54, 4]
abbrev dktX9_laysFound_10 : List UInt8 := dkwX9_laysFound_10 ++ dktX9_laysFound_11
def dkwX9_laysFound_9 : List UInt8 := [3, 181, 1, 40, 3, 54, 4, 21, 4, 42, 180, 1, 91, 162, 0, 27, 42, 42, 180, 0, 83, 21, 4, 46]
abbrev dktX9_laysFound_9 : List UInt8 := dkwX9_laysFound_9 ++ dktX9_laysFound_10
def dkwX9_laysFound_8 : List UInt8 := [120, 2, 130, 126, 21, 8, 182, 1, 97, 54, 8, 132, 9, 1, 167, 255, 205, 132, 4, 1, 167, 255, 66, 42]
abbrev dktX9_laysFound_8 : List UInt8 := dkwX9_laysFound_8 ++ dktX9_laysFound_9
def dkwX9_laysFound_7 : List UInt8 := [154, 0, 35, 21, 8, 21, 9, 184, 1, 5, 153, 0, 25, 42, 21, 7, 29, 21, 9, 21, 8, 4, 21, 9]
abbrev dktX9_laysFound_7 : List UInt8 := dkwX9_laysFound_7 ++ dktX9_laysFound_8
def dkwX9_laysFound_6 : List UInt8 := [54, 8, 132, 9, 1, 167, 255, 212, 3, 54, 9, 21, 9, 27, 162, 0, 51, 21, 4, 21, 9, 184, 1, 5]
abbrev dktX9_laysFound_6 : List UInt8 := dkwX9_laysFound_6 ++ dktX9_laysFound_7
def dkwX9_laysFound_5 : List UInt8 := [21, 8, 21, 9, 184, 1, 5, 154, 0, 18, 42, 21, 7, 29, 21, 9, 21, 8, 21, 8, 182, 1, 97]
abbrev dktX9_laysFound_5 : List UInt8 := dkwX9_laysFound_5 ++ dktX9_laysFound_6
def dkwX9_laysFound_4 : List UInt8 := [21, 5, 54, 8, 3, 54, 9, 21, 9, 27, 162, 0, 44, 21, 4, 21, 9, 184, 1, 5, 153, 0, 28]
abbrev dktX9_laysFound_4 : List UInt8 := dkwX9_laysFound_4 ++ dktX9_laysFound_5
def dkwX9_laysFound_3 : List UInt8 := [184, 1, 66, 162, 0, 7, 4, 167, 0, 4, 3, 54, 7, 21, 7, 153, 0, 8, 21, 6, 167, 0, 5]
abbrev dktX9_laysFound_3 : List UInt8 := dkwX9_laysFound_3 ++ dktX9_laysFound_4
def dkwX9_laysFound_2 : List UInt8 := [132, 6, 1, 167, 255, 241, 28, 153, 0, 26, 21, 4, 21, 6, 130, 184, 1, 66, 21, 4, 21, 5, 130]
abbrev dktX9_laysFound_2 : List UInt8 := dkwX9_laysFound_2 ++ dktX9_laysFound_3
def dkwX9_laysFound_1 : List UInt8 := [180, 0, 68, 21, 4, 46, 54, 5, 3, 54, 6, 42, 180, 0, 68, 21, 6, 46, 21, 4, 159, 0, 9]
abbrev dktX9_laysFound_1 : List UInt8 := dkwX9_laysFound_1 ++ dktX9_laysFound_2
def dkwX9_laysFound_0 : List UInt8 := [4, 27, 120, 62, 42, 3, 181, 1, 91, 42, 3, 181, 1, 94, 3, 54, 4, 21, 4, 29, 162, 0, 190, 42]
abbrev dktX9_laysFound_0 : List UInt8 := dkwX9_laysFound_0 ++ dktX9_laysFound_1
theorem dksX9_laysFound_0 : cX9_laysFound.data.toList.drop 0 = dktX9_laysFound_0 := by decide +kernel
theorem dksX9_laysFound_1 : cX9_laysFound.data.toList.drop 24 = dktX9_laysFound_1 := dk_seg dksX9_laysFound_0 24 rfl rfl
theorem dksX9_laysFound_2 : cX9_laysFound.data.toList.drop 47 = dktX9_laysFound_2 := dk_seg dksX9_laysFound_1 23 rfl rfl
theorem dksX9_laysFound_3 : cX9_laysFound.data.toList.drop 70 = dktX9_laysFound_3 := dk_seg dksX9_laysFound_2 23 rfl rfl
theorem dksX9_laysFound_4 : cX9_laysFound.data.toList.drop 93 = dktX9_laysFound_4 := dk_seg dksX9_laysFound_3 23 rfl rfl
theorem dksX9_laysFound_5 : cX9_laysFound.data.toList.drop 116 = dktX9_laysFound_5 := dk_seg dksX9_laysFound_4 23 rfl rfl
theorem dksX9_laysFound_6 : cX9_laysFound.data.toList.drop 139 = dktX9_laysFound_6 := dk_seg dksX9_laysFound_5 23 rfl rfl
theorem dksX9_laysFound_7 : cX9_laysFound.data.toList.drop 163 = dktX9_laysFound_7 := dk_seg dksX9_laysFound_6 24 rfl rfl
theorem dksX9_laysFound_8 : cX9_laysFound.data.toList.drop 187 = dktX9_laysFound_8 := dk_seg dksX9_laysFound_7 24 rfl rfl
theorem dksX9_laysFound_9 : cX9_laysFound.data.toList.drop 211 = dktX9_laysFound_9 := dk_seg dksX9_laysFound_8 24 rfl rfl
theorem dksX9_laysFound_10 : cX9_laysFound.data.toList.drop 235 = dktX9_laysFound_10 := dk_seg dksX9_laysFound_9 24 rfl rfl
theorem dksX9_laysFound_11 : cX9_laysFound.data.toList.drop 259 = dktX9_laysFound_11 := dk_seg dksX9_laysFound_10 24 rfl rfl
theorem dksX9_laysFound_12 : cX9_laysFound.data.toList.drop 282 = dktX9_laysFound_12 := dk_seg dksX9_laysFound_11 23 rfl rfl
theorem dX9_laysFound_0 : decode cX9_laysFound 0 = .ok (.iconst 1, 1) := dk_4 (dk_at dksX9_laysFound_0 0 rfl rfl)
theorem dX9_laysFound_1 : decode cX9_laysFound 1 = .ok (.iload_n 1, 1) := dk_27 (dk_at dksX9_laysFound_0 1 rfl rfl)
theorem dX9_laysFound_2 : decode cX9_laysFound 2 = .ok (.ishl, 1) := dk_120 (dk_at dksX9_laysFound_0 2 rfl rfl)
theorem dX9_laysFound_3 : decode cX9_laysFound 3 = .ok (.istore_n 3, 1) := dk_62 (dk_at dksX9_laysFound_0 3 rfl rfl)
theorem dX9_laysFound_4 : decode cX9_laysFound 4 = .ok (.aload_n 0, 1) := dk_42 (dk_at dksX9_laysFound_0 4 rfl rfl)
theorem dX9_laysFound_5 : decode cX9_laysFound 5 = .ok (.iconst 0, 1) := dk_3 (dk_at dksX9_laysFound_0 5 rfl rfl)
theorem dX9_laysFound_6 : decode cX9_laysFound 6 = .ok (.putfield 347, 3) := dk_181 1 91 (dk_at dksX9_laysFound_0 6 rfl rfl)
theorem dX9_laysFound_9 : decode cX9_laysFound 9 = .ok (.aload_n 0, 1) := dk_42 (dk_at dksX9_laysFound_0 9 rfl rfl)
theorem dX9_laysFound_10 : decode cX9_laysFound 10 = .ok (.iconst 0, 1) := dk_3 (dk_at dksX9_laysFound_0 10 rfl rfl)
theorem dX9_laysFound_11 : decode cX9_laysFound 11 = .ok (.putfield 350, 3) := dk_181 1 94 (dk_at dksX9_laysFound_0 11 rfl rfl)
theorem dX9_laysFound_14 : decode cX9_laysFound 14 = .ok (.iconst 0, 1) := dk_3 (dk_at dksX9_laysFound_0 14 rfl rfl)
theorem dX9_laysFound_15 : decode cX9_laysFound 15 = .ok (.istore 4, 2) := dk_54 4 (dk_at dksX9_laysFound_0 15 rfl rfl)
theorem dX9_laysFound_17 : decode cX9_laysFound 17 = .ok (.iload 4, 2) := dk_21 4 (dk_at dksX9_laysFound_0 17 rfl rfl)
theorem dX9_laysFound_19 : decode cX9_laysFound 19 = .ok (.iload_n 3, 1) := dk_29 (dk_at dksX9_laysFound_0 19 rfl rfl)
theorem dX9_laysFound_20 : decode cX9_laysFound 20 = .ok (.if_icmp .ge 190, 3) := dk_162 0 190 (dk_at dksX9_laysFound_0 20 rfl rfl)
theorem dX9_laysFound_23 : decode cX9_laysFound 23 = .ok (.aload_n 0, 1) := dk_42 (dk_at dksX9_laysFound_0 23 rfl rfl)
theorem dX9_laysFound_24 : decode cX9_laysFound 24 = .ok (.getfield 68, 3) := dk_180 0 68 (dk_at dksX9_laysFound_1 0 rfl rfl)
theorem dX9_laysFound_27 : decode cX9_laysFound 27 = .ok (.iload 4, 2) := dk_21 4 (dk_at dksX9_laysFound_1 3 rfl rfl)
theorem dX9_laysFound_29 : decode cX9_laysFound 29 = .ok (.iaload, 1) := dk_46 (dk_at dksX9_laysFound_1 5 rfl rfl)
theorem dX9_laysFound_30 : decode cX9_laysFound 30 = .ok (.istore 5, 2) := dk_54 5 (dk_at dksX9_laysFound_1 6 rfl rfl)
theorem dX9_laysFound_32 : decode cX9_laysFound 32 = .ok (.iconst 0, 1) := dk_3 (dk_at dksX9_laysFound_1 8 rfl rfl)
theorem dX9_laysFound_33 : decode cX9_laysFound 33 = .ok (.istore 6, 2) := dk_54 6 (dk_at dksX9_laysFound_1 9 rfl rfl)
theorem dX9_laysFound_35 : decode cX9_laysFound 35 = .ok (.aload_n 0, 1) := dk_42 (dk_at dksX9_laysFound_1 11 rfl rfl)
theorem dX9_laysFound_36 : decode cX9_laysFound 36 = .ok (.getfield 68, 3) := dk_180 0 68 (dk_at dksX9_laysFound_1 12 rfl rfl)
theorem dX9_laysFound_39 : decode cX9_laysFound 39 = .ok (.iload 6, 2) := dk_21 6 (dk_at dksX9_laysFound_1 15 rfl rfl)
theorem dX9_laysFound_41 : decode cX9_laysFound 41 = .ok (.iaload, 1) := dk_46 (dk_at dksX9_laysFound_1 17 rfl rfl)
theorem dX9_laysFound_42 : decode cX9_laysFound 42 = .ok (.iload 4, 2) := dk_21 4 (dk_at dksX9_laysFound_1 18 rfl rfl)
theorem dX9_laysFound_44 : decode cX9_laysFound 44 = .ok (.if_icmp .eq 9, 3) := dk_159 0 9 (dk_at dksX9_laysFound_1 20 rfl rfl)
theorem dX9_laysFound_47 : decode cX9_laysFound 47 = .ok (.iinc 6 1, 3) := dk_132 6 1 (dk_at dksX9_laysFound_2 0 rfl rfl)
theorem dX9_laysFound_50 : decode cX9_laysFound 50 = .ok (.goto (-15), 3) := dk_167 255 241 (dk_at dksX9_laysFound_2 3 rfl rfl)
theorem dX9_laysFound_53 : decode cX9_laysFound 53 = .ok (.iload_n 2, 1) := dk_28 (dk_at dksX9_laysFound_2 6 rfl rfl)
theorem dX9_laysFound_54 : decode cX9_laysFound 54 = .ok (.ifCond .eq 26, 3) := dk_153 0 26 (dk_at dksX9_laysFound_2 7 rfl rfl)
theorem dX9_laysFound_57 : decode cX9_laysFound 57 = .ok (.iload 4, 2) := dk_21 4 (dk_at dksX9_laysFound_2 10 rfl rfl)
theorem dX9_laysFound_59 : decode cX9_laysFound 59 = .ok (.iload 6, 2) := dk_21 6 (dk_at dksX9_laysFound_2 12 rfl rfl)
theorem dX9_laysFound_61 : decode cX9_laysFound 61 = .ok (.ixor, 1) := dk_130 (dk_at dksX9_laysFound_2 14 rfl rfl)
theorem dX9_laysFound_62 : decode cX9_laysFound 62 = .ok (.invokestatic 322, 3) := dk_184 1 66 (dk_at dksX9_laysFound_2 15 rfl rfl)
theorem dX9_laysFound_65 : decode cX9_laysFound 65 = .ok (.iload 4, 2) := dk_21 4 (dk_at dksX9_laysFound_2 18 rfl rfl)
theorem dX9_laysFound_67 : decode cX9_laysFound 67 = .ok (.iload 5, 2) := dk_21 5 (dk_at dksX9_laysFound_2 20 rfl rfl)
theorem dX9_laysFound_69 : decode cX9_laysFound 69 = .ok (.ixor, 1) := dk_130 (dk_at dksX9_laysFound_2 22 rfl rfl)
theorem dX9_laysFound_70 : decode cX9_laysFound 70 = .ok (.invokestatic 322, 3) := dk_184 1 66 (dk_at dksX9_laysFound_3 0 rfl rfl)
theorem dX9_laysFound_73 : decode cX9_laysFound 73 = .ok (.if_icmp .ge 7, 3) := dk_162 0 7 (dk_at dksX9_laysFound_3 3 rfl rfl)
theorem dX9_laysFound_76 : decode cX9_laysFound 76 = .ok (.iconst 1, 1) := dk_4 (dk_at dksX9_laysFound_3 6 rfl rfl)
theorem dX9_laysFound_77 : decode cX9_laysFound 77 = .ok (.goto 4, 3) := dk_167 0 4 (dk_at dksX9_laysFound_3 7 rfl rfl)
theorem dX9_laysFound_80 : decode cX9_laysFound 80 = .ok (.iconst 0, 1) := dk_3 (dk_at dksX9_laysFound_3 10 rfl rfl)
theorem dX9_laysFound_81 : decode cX9_laysFound 81 = .ok (.istore 7, 2) := dk_54 7 (dk_at dksX9_laysFound_3 11 rfl rfl)
theorem dX9_laysFound_83 : decode cX9_laysFound 83 = .ok (.iload 7, 2) := dk_21 7 (dk_at dksX9_laysFound_3 13 rfl rfl)
theorem dX9_laysFound_85 : decode cX9_laysFound 85 = .ok (.ifCond .eq 8, 3) := dk_153 0 8 (dk_at dksX9_laysFound_3 15 rfl rfl)
theorem dX9_laysFound_88 : decode cX9_laysFound 88 = .ok (.iload 6, 2) := dk_21 6 (dk_at dksX9_laysFound_3 18 rfl rfl)
theorem dX9_laysFound_90 : decode cX9_laysFound 90 = .ok (.goto 5, 3) := dk_167 0 5 (dk_at dksX9_laysFound_3 20 rfl rfl)
theorem dX9_laysFound_93 : decode cX9_laysFound 93 = .ok (.iload 5, 2) := dk_21 5 (dk_at dksX9_laysFound_4 0 rfl rfl)
theorem dX9_laysFound_95 : decode cX9_laysFound 95 = .ok (.istore 8, 2) := dk_54 8 (dk_at dksX9_laysFound_4 2 rfl rfl)
theorem dX9_laysFound_97 : decode cX9_laysFound 97 = .ok (.iconst 0, 1) := dk_3 (dk_at dksX9_laysFound_4 4 rfl rfl)
theorem dX9_laysFound_98 : decode cX9_laysFound 98 = .ok (.istore 9, 2) := dk_54 9 (dk_at dksX9_laysFound_4 5 rfl rfl)
theorem dX9_laysFound_100 : decode cX9_laysFound 100 = .ok (.iload 9, 2) := dk_21 9 (dk_at dksX9_laysFound_4 7 rfl rfl)
theorem dX9_laysFound_102 : decode cX9_laysFound 102 = .ok (.iload_n 1, 1) := dk_27 (dk_at dksX9_laysFound_4 9 rfl rfl)
theorem dX9_laysFound_103 : decode cX9_laysFound 103 = .ok (.if_icmp .ge 44, 3) := dk_162 0 44 (dk_at dksX9_laysFound_4 10 rfl rfl)
theorem dX9_laysFound_106 : decode cX9_laysFound 106 = .ok (.iload 4, 2) := dk_21 4 (dk_at dksX9_laysFound_4 13 rfl rfl)
theorem dX9_laysFound_108 : decode cX9_laysFound 108 = .ok (.iload 9, 2) := dk_21 9 (dk_at dksX9_laysFound_4 15 rfl rfl)
theorem dX9_laysFound_110 : decode cX9_laysFound 110 = .ok (.invokestatic 261, 3) := dk_184 1 5 (dk_at dksX9_laysFound_4 17 rfl rfl)
theorem dX9_laysFound_113 : decode cX9_laysFound 113 = .ok (.ifCond .eq 28, 3) := dk_153 0 28 (dk_at dksX9_laysFound_4 20 rfl rfl)
theorem dX9_laysFound_116 : decode cX9_laysFound 116 = .ok (.iload 8, 2) := dk_21 8 (dk_at dksX9_laysFound_5 0 rfl rfl)
theorem dX9_laysFound_118 : decode cX9_laysFound 118 = .ok (.iload 9, 2) := dk_21 9 (dk_at dksX9_laysFound_5 2 rfl rfl)
theorem dX9_laysFound_120 : decode cX9_laysFound 120 = .ok (.invokestatic 261, 3) := dk_184 1 5 (dk_at dksX9_laysFound_5 4 rfl rfl)
theorem dX9_laysFound_123 : decode cX9_laysFound 123 = .ok (.ifCond .ne 18, 3) := dk_154 0 18 (dk_at dksX9_laysFound_5 7 rfl rfl)
theorem dX9_laysFound_126 : decode cX9_laysFound 126 = .ok (.aload_n 0, 1) := dk_42 (dk_at dksX9_laysFound_5 10 rfl rfl)
theorem dX9_laysFound_127 : decode cX9_laysFound 127 = .ok (.iload 7, 2) := dk_21 7 (dk_at dksX9_laysFound_5 11 rfl rfl)
theorem dX9_laysFound_129 : decode cX9_laysFound 129 = .ok (.iload_n 3, 1) := dk_29 (dk_at dksX9_laysFound_5 13 rfl rfl)
theorem dX9_laysFound_130 : decode cX9_laysFound 130 = .ok (.iload 9, 2) := dk_21 9 (dk_at dksX9_laysFound_5 14 rfl rfl)
theorem dX9_laysFound_132 : decode cX9_laysFound 132 = .ok (.iload 8, 2) := dk_21 8 (dk_at dksX9_laysFound_5 16 rfl rfl)
theorem dX9_laysFound_134 : decode cX9_laysFound 134 = .ok (.iload 8, 2) := dk_21 8 (dk_at dksX9_laysFound_5 18 rfl rfl)
theorem dX9_laysFound_136 : decode cX9_laysFound 136 = .ok (.invokevirtual 353, 3) := dk_182 1 97 (dk_at dksX9_laysFound_5 20 rfl rfl)
theorem dX9_laysFound_139 : decode cX9_laysFound 139 = .ok (.istore 8, 2) := dk_54 8 (dk_at dksX9_laysFound_6 0 rfl rfl)
theorem dX9_laysFound_141 : decode cX9_laysFound 141 = .ok (.iinc 9 1, 3) := dk_132 9 1 (dk_at dksX9_laysFound_6 2 rfl rfl)
theorem dX9_laysFound_144 : decode cX9_laysFound 144 = .ok (.goto (-44), 3) := dk_167 255 212 (dk_at dksX9_laysFound_6 5 rfl rfl)
theorem dX9_laysFound_147 : decode cX9_laysFound 147 = .ok (.iconst 0, 1) := dk_3 (dk_at dksX9_laysFound_6 8 rfl rfl)
theorem dX9_laysFound_148 : decode cX9_laysFound 148 = .ok (.istore 9, 2) := dk_54 9 (dk_at dksX9_laysFound_6 9 rfl rfl)
theorem dX9_laysFound_150 : decode cX9_laysFound 150 = .ok (.iload 9, 2) := dk_21 9 (dk_at dksX9_laysFound_6 11 rfl rfl)
theorem dX9_laysFound_152 : decode cX9_laysFound 152 = .ok (.iload_n 1, 1) := dk_27 (dk_at dksX9_laysFound_6 13 rfl rfl)
theorem dX9_laysFound_153 : decode cX9_laysFound 153 = .ok (.if_icmp .ge 51, 3) := dk_162 0 51 (dk_at dksX9_laysFound_6 14 rfl rfl)
theorem dX9_laysFound_156 : decode cX9_laysFound 156 = .ok (.iload 4, 2) := dk_21 4 (dk_at dksX9_laysFound_6 17 rfl rfl)
theorem dX9_laysFound_158 : decode cX9_laysFound 158 = .ok (.iload 9, 2) := dk_21 9 (dk_at dksX9_laysFound_6 19 rfl rfl)
theorem dX9_laysFound_160 : decode cX9_laysFound 160 = .ok (.invokestatic 261, 3) := dk_184 1 5 (dk_at dksX9_laysFound_6 21 rfl rfl)
theorem dX9_laysFound_163 : decode cX9_laysFound 163 = .ok (.ifCond .ne 35, 3) := dk_154 0 35 (dk_at dksX9_laysFound_7 0 rfl rfl)
theorem dX9_laysFound_166 : decode cX9_laysFound 166 = .ok (.iload 8, 2) := dk_21 8 (dk_at dksX9_laysFound_7 3 rfl rfl)
theorem dX9_laysFound_168 : decode cX9_laysFound 168 = .ok (.iload 9, 2) := dk_21 9 (dk_at dksX9_laysFound_7 5 rfl rfl)
theorem dX9_laysFound_170 : decode cX9_laysFound 170 = .ok (.invokestatic 261, 3) := dk_184 1 5 (dk_at dksX9_laysFound_7 7 rfl rfl)
theorem dX9_laysFound_173 : decode cX9_laysFound 173 = .ok (.ifCond .eq 25, 3) := dk_153 0 25 (dk_at dksX9_laysFound_7 10 rfl rfl)
theorem dX9_laysFound_176 : decode cX9_laysFound 176 = .ok (.aload_n 0, 1) := dk_42 (dk_at dksX9_laysFound_7 13 rfl rfl)
theorem dX9_laysFound_177 : decode cX9_laysFound 177 = .ok (.iload 7, 2) := dk_21 7 (dk_at dksX9_laysFound_7 14 rfl rfl)
theorem dX9_laysFound_179 : decode cX9_laysFound 179 = .ok (.iload_n 3, 1) := dk_29 (dk_at dksX9_laysFound_7 16 rfl rfl)
theorem dX9_laysFound_180 : decode cX9_laysFound 180 = .ok (.iload 9, 2) := dk_21 9 (dk_at dksX9_laysFound_7 17 rfl rfl)
theorem dX9_laysFound_182 : decode cX9_laysFound 182 = .ok (.iload 8, 2) := dk_21 8 (dk_at dksX9_laysFound_7 19 rfl rfl)
theorem dX9_laysFound_184 : decode cX9_laysFound 184 = .ok (.iconst 1, 1) := dk_4 (dk_at dksX9_laysFound_7 21 rfl rfl)
theorem dX9_laysFound_185 : decode cX9_laysFound 185 = .ok (.iload 9, 2) := dk_21 9 (dk_at dksX9_laysFound_7 22 rfl rfl)
theorem dX9_laysFound_187 : decode cX9_laysFound 187 = .ok (.ishl, 1) := dk_120 (dk_at dksX9_laysFound_8 0 rfl rfl)
theorem dX9_laysFound_188 : decode cX9_laysFound 188 = .ok (.iconst (-1), 1) := dk_2 (dk_at dksX9_laysFound_8 1 rfl rfl)
theorem dX9_laysFound_189 : decode cX9_laysFound 189 = .ok (.ixor, 1) := dk_130 (dk_at dksX9_laysFound_8 2 rfl rfl)
theorem dX9_laysFound_190 : decode cX9_laysFound 190 = .ok (.iand, 1) := dk_126 (dk_at dksX9_laysFound_8 3 rfl rfl)
theorem dX9_laysFound_191 : decode cX9_laysFound 191 = .ok (.iload 8, 2) := dk_21 8 (dk_at dksX9_laysFound_8 4 rfl rfl)
theorem dX9_laysFound_193 : decode cX9_laysFound 193 = .ok (.invokevirtual 353, 3) := dk_182 1 97 (dk_at dksX9_laysFound_8 6 rfl rfl)
theorem dX9_laysFound_196 : decode cX9_laysFound 196 = .ok (.istore 8, 2) := dk_54 8 (dk_at dksX9_laysFound_8 9 rfl rfl)
theorem dX9_laysFound_198 : decode cX9_laysFound 198 = .ok (.iinc 9 1, 3) := dk_132 9 1 (dk_at dksX9_laysFound_8 11 rfl rfl)
theorem dX9_laysFound_201 : decode cX9_laysFound 201 = .ok (.goto (-51), 3) := dk_167 255 205 (dk_at dksX9_laysFound_8 14 rfl rfl)
theorem dX9_laysFound_204 : decode cX9_laysFound 204 = .ok (.iinc 4 1, 3) := dk_132 4 1 (dk_at dksX9_laysFound_8 17 rfl rfl)
theorem dX9_laysFound_207 : decode cX9_laysFound 207 = .ok (.goto (-190), 3) := dk_167 255 66 (dk_at dksX9_laysFound_8 20 rfl rfl)
theorem dX9_laysFound_210 : decode cX9_laysFound 210 = .ok (.aload_n 0, 1) := dk_42 (dk_at dksX9_laysFound_8 23 rfl rfl)
theorem dX9_laysFound_211 : decode cX9_laysFound 211 = .ok (.iconst 0, 1) := dk_3 (dk_at dksX9_laysFound_9 0 rfl rfl)
theorem dX9_laysFound_212 : decode cX9_laysFound 212 = .ok (.putfield 296, 3) := dk_181 1 40 (dk_at dksX9_laysFound_9 1 rfl rfl)
theorem dX9_laysFound_215 : decode cX9_laysFound 215 = .ok (.iconst 0, 1) := dk_3 (dk_at dksX9_laysFound_9 4 rfl rfl)
theorem dX9_laysFound_216 : decode cX9_laysFound 216 = .ok (.istore 4, 2) := dk_54 4 (dk_at dksX9_laysFound_9 5 rfl rfl)
theorem dX9_laysFound_218 : decode cX9_laysFound 218 = .ok (.iload 4, 2) := dk_21 4 (dk_at dksX9_laysFound_9 7 rfl rfl)
theorem dX9_laysFound_220 : decode cX9_laysFound 220 = .ok (.aload_n 0, 1) := dk_42 (dk_at dksX9_laysFound_9 9 rfl rfl)
theorem dX9_laysFound_221 : decode cX9_laysFound 221 = .ok (.getfield 347, 3) := dk_180 1 91 (dk_at dksX9_laysFound_9 10 rfl rfl)
theorem dX9_laysFound_224 : decode cX9_laysFound 224 = .ok (.if_icmp .ge 27, 3) := dk_162 0 27 (dk_at dksX9_laysFound_9 13 rfl rfl)
theorem dX9_laysFound_227 : decode cX9_laysFound 227 = .ok (.aload_n 0, 1) := dk_42 (dk_at dksX9_laysFound_9 16 rfl rfl)
theorem dX9_laysFound_228 : decode cX9_laysFound 228 = .ok (.aload_n 0, 1) := dk_42 (dk_at dksX9_laysFound_9 17 rfl rfl)
theorem dX9_laysFound_229 : decode cX9_laysFound 229 = .ok (.getfield 83, 3) := dk_180 0 83 (dk_at dksX9_laysFound_9 18 rfl rfl)
theorem dX9_laysFound_232 : decode cX9_laysFound 232 = .ok (.iload 4, 2) := dk_21 4 (dk_at dksX9_laysFound_9 21 rfl rfl)
theorem dX9_laysFound_234 : decode cX9_laysFound 234 = .ok (.iaload, 1) := dk_46 (dk_at dksX9_laysFound_9 23 rfl rfl)
theorem dX9_laysFound_235 : decode cX9_laysFound 235 = .ok (.aload_n 0, 1) := dk_42 (dk_at dksX9_laysFound_10 0 rfl rfl)
theorem dX9_laysFound_236 : decode cX9_laysFound 236 = .ok (.getfield 86, 3) := dk_180 0 86 (dk_at dksX9_laysFound_10 1 rfl rfl)
theorem dX9_laysFound_239 : decode cX9_laysFound 239 = .ok (.iload 4, 2) := dk_21 4 (dk_at dksX9_laysFound_10 4 rfl rfl)
theorem dX9_laysFound_241 : decode cX9_laysFound 241 = .ok (.iaload, 1) := dk_46 (dk_at dksX9_laysFound_10 6 rfl rfl)
theorem dX9_laysFound_242 : decode cX9_laysFound 242 = .ok (.invokevirtual 357, 3) := dk_182 1 101 (dk_at dksX9_laysFound_10 7 rfl rfl)
theorem dX9_laysFound_245 : decode cX9_laysFound 245 = .ok (.iinc 4 1, 3) := dk_132 4 1 (dk_at dksX9_laysFound_10 10 rfl rfl)
theorem dX9_laysFound_248 : decode cX9_laysFound 248 = .ok (.goto (-30), 3) := dk_167 255 226 (dk_at dksX9_laysFound_10 13 rfl rfl)
theorem dX9_laysFound_251 : decode cX9_laysFound 251 = .ok (.aload_n 0, 1) := dk_42 (dk_at dksX9_laysFound_10 16 rfl rfl)
theorem dX9_laysFound_252 : decode cX9_laysFound 252 = .ok (.getfield 350, 3) := dk_180 1 94 (dk_at dksX9_laysFound_10 17 rfl rfl)
theorem dX9_laysFound_255 : decode cX9_laysFound 255 = .ok (.iconst 1, 1) := dk_4 (dk_at dksX9_laysFound_10 20 rfl rfl)
theorem dX9_laysFound_256 : decode cX9_laysFound 256 = .ok (.isub, 1) := dk_100 (dk_at dksX9_laysFound_10 21 rfl rfl)
theorem dX9_laysFound_257 : decode cX9_laysFound 257 = .ok (.istore 4, 2) := dk_54 4 (dk_at dksX9_laysFound_10 22 rfl rfl)
theorem dX9_laysFound_259 : decode cX9_laysFound 259 = .ok (.iload 4, 2) := dk_21 4 (dk_at dksX9_laysFound_11 0 rfl rfl)
theorem dX9_laysFound_261 : decode cX9_laysFound 261 = .ok (.ifCond .lt 27, 3) := dk_155 0 27 (dk_at dksX9_laysFound_11 2 rfl rfl)
theorem dX9_laysFound_264 : decode cX9_laysFound 264 = .ok (.aload_n 0, 1) := dk_42 (dk_at dksX9_laysFound_11 5 rfl rfl)
theorem dX9_laysFound_265 : decode cX9_laysFound 265 = .ok (.aload_n 0, 1) := dk_42 (dk_at dksX9_laysFound_11 6 rfl rfl)
theorem dX9_laysFound_266 : decode cX9_laysFound 266 = .ok (.getfield 89, 3) := dk_180 0 89 (dk_at dksX9_laysFound_11 7 rfl rfl)
theorem dX9_laysFound_269 : decode cX9_laysFound 269 = .ok (.iload 4, 2) := dk_21 4 (dk_at dksX9_laysFound_11 10 rfl rfl)
theorem dX9_laysFound_271 : decode cX9_laysFound 271 = .ok (.iaload, 1) := dk_46 (dk_at dksX9_laysFound_11 12 rfl rfl)
theorem dX9_laysFound_272 : decode cX9_laysFound 272 = .ok (.aload_n 0, 1) := dk_42 (dk_at dksX9_laysFound_11 13 rfl rfl)
theorem dX9_laysFound_273 : decode cX9_laysFound 273 = .ok (.getfield 92, 3) := dk_180 0 92 (dk_at dksX9_laysFound_11 14 rfl rfl)
theorem dX9_laysFound_276 : decode cX9_laysFound 276 = .ok (.iload 4, 2) := dk_21 4 (dk_at dksX9_laysFound_11 17 rfl rfl)
theorem dX9_laysFound_278 : decode cX9_laysFound 278 = .ok (.iaload, 1) := dk_46 (dk_at dksX9_laysFound_11 19 rfl rfl)
theorem dX9_laysFound_279 : decode cX9_laysFound 279 = .ok (.invokevirtual 357, 3) := dk_182 1 101 (dk_at dksX9_laysFound_11 20 rfl rfl)
theorem dX9_laysFound_282 : decode cX9_laysFound 282 = .ok (.iinc 4 (-1), 3) := dk_132 4 255 (dk_at dksX9_laysFound_12 0 rfl rfl)
theorem dX9_laysFound_285 : decode cX9_laysFound 285 = .ok (.goto (-26), 3) := dk_167 255 230 (dk_at dksX9_laysFound_12 3 rfl rfl)
theorem dX9_laysFound_288 : decode cX9_laysFound 288 = .ok (.return_, 1) := dk_177 (dk_at dksX9_laysFound_12 6 rfl rfl)
abbrev cX9_notesGate : ByteArray := prog_13_method_67_code
def yX9_notesGate : MethodName := ⟨RX9, "notesGate", "(ZIIII)I"⟩
def dkwX9_notesGate_7 : List UInt8 := [180, 1, 94, 4, 96, 181, 1, 94, 21, 5, 29, 21, 4, 3, 184, 1, 43, 172]
abbrev dktX9_notesGate_7 : List UInt8 := dkwX9_notesGate_7 ++ []
def dkwX9_notesGate_6 : List UInt8 := [180, 0, 89, 42, 180, 1, 94, 29, 79, 42, 180, 0, 92, 42, 180, 1, 94, 21, 4, 79, 42, 89]
abbrev dktX9_notesGate_6 : List UInt8 := dkwX9_notesGate_6 ++ dktX9_notesGate_7
def dkwX9_notesGate_5 : List UInt8 := [21, 6, 42, 180, 0, 68, 21, 6, 46, 29, 21, 4, 3, 184, 1, 43, 79, 132, 6, 1, 167, 255, 226, 42]
abbrev dktX9_notesGate_5 : List UInt8 := dkwX9_notesGate_5 ++ dktX9_notesGate_6
def dkwX9_notesGate_4 : List UInt8 := [180, 1, 91, 4, 96, 181, 1, 91, 167, 0, 70, 3, 54, 6, 21, 6, 28, 162, 0, 30, 42, 180, 0, 68]
abbrev dktX9_notesGate_4 : List UInt8 := dkwX9_notesGate_4 ++ dktX9_notesGate_5
def dkwX9_notesGate_3 : List UInt8 := [180, 0, 83, 42, 180, 1, 91, 29, 79, 42, 180, 0, 86, 42, 180, 1, 91, 21, 4, 79, 42, 89]
abbrev dktX9_notesGate_3 : List UInt8 := dkwX9_notesGate_3 ++ dktX9_notesGate_4
def dkwX9_notesGate_2 : List UInt8 := [162, 0, 23, 42, 180, 0, 68, 21, 6, 42, 180, 0, 95, 21, 6, 46, 79, 132, 6, 1, 167, 255, 233, 42]
abbrev dktX9_notesGate_2 : List UInt8 := dkwX9_notesGate_2 ++ dktX9_notesGate_3
def dkwX9_notesGate_1 : List UInt8 := [21, 6, 29, 21, 4, 3, 184, 1, 43, 46, 79, 132, 6, 1, 167, 255, 226, 3, 54, 6, 21, 6, 28]
abbrev dktX9_notesGate_1 : List UInt8 := dkwX9_notesGate_1 ++ dktX9_notesGate_2
def dkwX9_notesGate_0 : List UInt8 := [27, 153, 0, 102, 3, 54, 6, 21, 6, 28, 162, 0, 30, 42, 180, 0, 95, 21, 6, 42, 180, 0, 68]
abbrev dktX9_notesGate_0 : List UInt8 := dkwX9_notesGate_0 ++ dktX9_notesGate_1
theorem dksX9_notesGate_0 : cX9_notesGate.data.toList.drop 0 = dktX9_notesGate_0 := by decide +kernel
theorem dksX9_notesGate_1 : cX9_notesGate.data.toList.drop 23 = dktX9_notesGate_1 := dk_seg dksX9_notesGate_0 23 rfl rfl
theorem dksX9_notesGate_2 : cX9_notesGate.data.toList.drop 46 = dktX9_notesGate_2 := dk_seg dksX9_notesGate_1 23 rfl rfl
theorem dksX9_notesGate_3 : cX9_notesGate.data.toList.drop 70 = dktX9_notesGate_3 := dk_seg dksX9_notesGate_2 24 rfl rfl
theorem dksX9_notesGate_4 : cX9_notesGate.data.toList.drop 92 = dktX9_notesGate_4 := dk_seg dksX9_notesGate_3 22 rfl rfl
theorem dksX9_notesGate_5 : cX9_notesGate.data.toList.drop 116 = dktX9_notesGate_5 := dk_seg dksX9_notesGate_4 24 rfl rfl
theorem dksX9_notesGate_6 : cX9_notesGate.data.toList.drop 140 = dktX9_notesGate_6 := dk_seg dksX9_notesGate_5 24 rfl rfl
theorem dksX9_notesGate_7 : cX9_notesGate.data.toList.drop 162 = dktX9_notesGate_7 := dk_seg dksX9_notesGate_6 22 rfl rfl
theorem dX9_notesGate_0 : decode cX9_notesGate 0 = .ok (.iload_n 1, 1) := dk_27 (dk_at dksX9_notesGate_0 0 rfl rfl)
theorem dX9_notesGate_1 : decode cX9_notesGate 1 = .ok (.ifCond .eq 102, 3) := dk_153 0 102 (dk_at dksX9_notesGate_0 1 rfl rfl)
theorem dX9_notesGate_4 : decode cX9_notesGate 4 = .ok (.iconst 0, 1) := dk_3 (dk_at dksX9_notesGate_0 4 rfl rfl)
theorem dX9_notesGate_5 : decode cX9_notesGate 5 = .ok (.istore 6, 2) := dk_54 6 (dk_at dksX9_notesGate_0 5 rfl rfl)
theorem dX9_notesGate_7 : decode cX9_notesGate 7 = .ok (.iload 6, 2) := dk_21 6 (dk_at dksX9_notesGate_0 7 rfl rfl)
theorem dX9_notesGate_9 : decode cX9_notesGate 9 = .ok (.iload_n 2, 1) := dk_28 (dk_at dksX9_notesGate_0 9 rfl rfl)
theorem dX9_notesGate_10 : decode cX9_notesGate 10 = .ok (.if_icmp .ge 30, 3) := dk_162 0 30 (dk_at dksX9_notesGate_0 10 rfl rfl)
theorem dX9_notesGate_13 : decode cX9_notesGate 13 = .ok (.aload_n 0, 1) := dk_42 (dk_at dksX9_notesGate_0 13 rfl rfl)
theorem dX9_notesGate_14 : decode cX9_notesGate 14 = .ok (.getfield 95, 3) := dk_180 0 95 (dk_at dksX9_notesGate_0 14 rfl rfl)
theorem dX9_notesGate_17 : decode cX9_notesGate 17 = .ok (.iload 6, 2) := dk_21 6 (dk_at dksX9_notesGate_0 17 rfl rfl)
theorem dX9_notesGate_19 : decode cX9_notesGate 19 = .ok (.aload_n 0, 1) := dk_42 (dk_at dksX9_notesGate_0 19 rfl rfl)
theorem dX9_notesGate_20 : decode cX9_notesGate 20 = .ok (.getfield 68, 3) := dk_180 0 68 (dk_at dksX9_notesGate_0 20 rfl rfl)
theorem dX9_notesGate_23 : decode cX9_notesGate 23 = .ok (.iload 6, 2) := dk_21 6 (dk_at dksX9_notesGate_1 0 rfl rfl)
theorem dX9_notesGate_25 : decode cX9_notesGate 25 = .ok (.iload_n 3, 1) := dk_29 (dk_at dksX9_notesGate_1 2 rfl rfl)
theorem dX9_notesGate_26 : decode cX9_notesGate 26 = .ok (.iload 4, 2) := dk_21 4 (dk_at dksX9_notesGate_1 3 rfl rfl)
theorem dX9_notesGate_28 : decode cX9_notesGate 28 = .ok (.iconst 0, 1) := dk_3 (dk_at dksX9_notesGate_1 5 rfl rfl)
theorem dX9_notesGate_29 : decode cX9_notesGate 29 = .ok (.invokestatic 299, 3) := dk_184 1 43 (dk_at dksX9_notesGate_1 6 rfl rfl)
theorem dX9_notesGate_32 : decode cX9_notesGate 32 = .ok (.iaload, 1) := dk_46 (dk_at dksX9_notesGate_1 9 rfl rfl)
theorem dX9_notesGate_33 : decode cX9_notesGate 33 = .ok (.iastore, 1) := dk_79 (dk_at dksX9_notesGate_1 10 rfl rfl)
theorem dX9_notesGate_34 : decode cX9_notesGate 34 = .ok (.iinc 6 1, 3) := dk_132 6 1 (dk_at dksX9_notesGate_1 11 rfl rfl)
theorem dX9_notesGate_37 : decode cX9_notesGate 37 = .ok (.goto (-30), 3) := dk_167 255 226 (dk_at dksX9_notesGate_1 14 rfl rfl)
theorem dX9_notesGate_40 : decode cX9_notesGate 40 = .ok (.iconst 0, 1) := dk_3 (dk_at dksX9_notesGate_1 17 rfl rfl)
theorem dX9_notesGate_41 : decode cX9_notesGate 41 = .ok (.istore 6, 2) := dk_54 6 (dk_at dksX9_notesGate_1 18 rfl rfl)
theorem dX9_notesGate_43 : decode cX9_notesGate 43 = .ok (.iload 6, 2) := dk_21 6 (dk_at dksX9_notesGate_1 20 rfl rfl)
theorem dX9_notesGate_45 : decode cX9_notesGate 45 = .ok (.iload_n 2, 1) := dk_28 (dk_at dksX9_notesGate_1 22 rfl rfl)
theorem dX9_notesGate_46 : decode cX9_notesGate 46 = .ok (.if_icmp .ge 23, 3) := dk_162 0 23 (dk_at dksX9_notesGate_2 0 rfl rfl)
theorem dX9_notesGate_49 : decode cX9_notesGate 49 = .ok (.aload_n 0, 1) := dk_42 (dk_at dksX9_notesGate_2 3 rfl rfl)
theorem dX9_notesGate_50 : decode cX9_notesGate 50 = .ok (.getfield 68, 3) := dk_180 0 68 (dk_at dksX9_notesGate_2 4 rfl rfl)
theorem dX9_notesGate_53 : decode cX9_notesGate 53 = .ok (.iload 6, 2) := dk_21 6 (dk_at dksX9_notesGate_2 7 rfl rfl)
theorem dX9_notesGate_55 : decode cX9_notesGate 55 = .ok (.aload_n 0, 1) := dk_42 (dk_at dksX9_notesGate_2 9 rfl rfl)
theorem dX9_notesGate_56 : decode cX9_notesGate 56 = .ok (.getfield 95, 3) := dk_180 0 95 (dk_at dksX9_notesGate_2 10 rfl rfl)
theorem dX9_notesGate_59 : decode cX9_notesGate 59 = .ok (.iload 6, 2) := dk_21 6 (dk_at dksX9_notesGate_2 13 rfl rfl)
theorem dX9_notesGate_61 : decode cX9_notesGate 61 = .ok (.iaload, 1) := dk_46 (dk_at dksX9_notesGate_2 15 rfl rfl)
theorem dX9_notesGate_62 : decode cX9_notesGate 62 = .ok (.iastore, 1) := dk_79 (dk_at dksX9_notesGate_2 16 rfl rfl)
theorem dX9_notesGate_63 : decode cX9_notesGate 63 = .ok (.iinc 6 1, 3) := dk_132 6 1 (dk_at dksX9_notesGate_2 17 rfl rfl)
theorem dX9_notesGate_66 : decode cX9_notesGate 66 = .ok (.goto (-23), 3) := dk_167 255 233 (dk_at dksX9_notesGate_2 20 rfl rfl)
theorem dX9_notesGate_69 : decode cX9_notesGate 69 = .ok (.aload_n 0, 1) := dk_42 (dk_at dksX9_notesGate_2 23 rfl rfl)
theorem dX9_notesGate_70 : decode cX9_notesGate 70 = .ok (.getfield 83, 3) := dk_180 0 83 (dk_at dksX9_notesGate_3 0 rfl rfl)
theorem dX9_notesGate_73 : decode cX9_notesGate 73 = .ok (.aload_n 0, 1) := dk_42 (dk_at dksX9_notesGate_3 3 rfl rfl)
theorem dX9_notesGate_74 : decode cX9_notesGate 74 = .ok (.getfield 347, 3) := dk_180 1 91 (dk_at dksX9_notesGate_3 4 rfl rfl)
theorem dX9_notesGate_77 : decode cX9_notesGate 77 = .ok (.iload_n 3, 1) := dk_29 (dk_at dksX9_notesGate_3 7 rfl rfl)
theorem dX9_notesGate_78 : decode cX9_notesGate 78 = .ok (.iastore, 1) := dk_79 (dk_at dksX9_notesGate_3 8 rfl rfl)
theorem dX9_notesGate_79 : decode cX9_notesGate 79 = .ok (.aload_n 0, 1) := dk_42 (dk_at dksX9_notesGate_3 9 rfl rfl)
theorem dX9_notesGate_80 : decode cX9_notesGate 80 = .ok (.getfield 86, 3) := dk_180 0 86 (dk_at dksX9_notesGate_3 10 rfl rfl)
theorem dX9_notesGate_83 : decode cX9_notesGate 83 = .ok (.aload_n 0, 1) := dk_42 (dk_at dksX9_notesGate_3 13 rfl rfl)
theorem dX9_notesGate_84 : decode cX9_notesGate 84 = .ok (.getfield 347, 3) := dk_180 1 91 (dk_at dksX9_notesGate_3 14 rfl rfl)
theorem dX9_notesGate_87 : decode cX9_notesGate 87 = .ok (.iload 4, 2) := dk_21 4 (dk_at dksX9_notesGate_3 17 rfl rfl)
theorem dX9_notesGate_89 : decode cX9_notesGate 89 = .ok (.iastore, 1) := dk_79 (dk_at dksX9_notesGate_3 19 rfl rfl)
theorem dX9_notesGate_90 : decode cX9_notesGate 90 = .ok (.aload_n 0, 1) := dk_42 (dk_at dksX9_notesGate_3 20 rfl rfl)
theorem dX9_notesGate_91 : decode cX9_notesGate 91 = .ok (.dup, 1) := dk_89 (dk_at dksX9_notesGate_3 21 rfl rfl)
theorem dX9_notesGate_92 : decode cX9_notesGate 92 = .ok (.getfield 347, 3) := dk_180 1 91 (dk_at dksX9_notesGate_4 0 rfl rfl)
theorem dX9_notesGate_95 : decode cX9_notesGate 95 = .ok (.iconst 1, 1) := dk_4 (dk_at dksX9_notesGate_4 3 rfl rfl)
theorem dX9_notesGate_96 : decode cX9_notesGate 96 = .ok (.iadd, 1) := dk_96 (dk_at dksX9_notesGate_4 4 rfl rfl)
theorem dX9_notesGate_97 : decode cX9_notesGate 97 = .ok (.putfield 347, 3) := dk_181 1 91 (dk_at dksX9_notesGate_4 5 rfl rfl)
theorem dX9_notesGate_100 : decode cX9_notesGate 100 = .ok (.goto 70, 3) := dk_167 0 70 (dk_at dksX9_notesGate_4 8 rfl rfl)
theorem dX9_notesGate_103 : decode cX9_notesGate 103 = .ok (.iconst 0, 1) := dk_3 (dk_at dksX9_notesGate_4 11 rfl rfl)
theorem dX9_notesGate_104 : decode cX9_notesGate 104 = .ok (.istore 6, 2) := dk_54 6 (dk_at dksX9_notesGate_4 12 rfl rfl)
theorem dX9_notesGate_106 : decode cX9_notesGate 106 = .ok (.iload 6, 2) := dk_21 6 (dk_at dksX9_notesGate_4 14 rfl rfl)
theorem dX9_notesGate_108 : decode cX9_notesGate 108 = .ok (.iload_n 2, 1) := dk_28 (dk_at dksX9_notesGate_4 16 rfl rfl)
theorem dX9_notesGate_109 : decode cX9_notesGate 109 = .ok (.if_icmp .ge 30, 3) := dk_162 0 30 (dk_at dksX9_notesGate_4 17 rfl rfl)
theorem dX9_notesGate_112 : decode cX9_notesGate 112 = .ok (.aload_n 0, 1) := dk_42 (dk_at dksX9_notesGate_4 20 rfl rfl)
theorem dX9_notesGate_113 : decode cX9_notesGate 113 = .ok (.getfield 68, 3) := dk_180 0 68 (dk_at dksX9_notesGate_4 21 rfl rfl)
theorem dX9_notesGate_116 : decode cX9_notesGate 116 = .ok (.iload 6, 2) := dk_21 6 (dk_at dksX9_notesGate_5 0 rfl rfl)
theorem dX9_notesGate_118 : decode cX9_notesGate 118 = .ok (.aload_n 0, 1) := dk_42 (dk_at dksX9_notesGate_5 2 rfl rfl)
theorem dX9_notesGate_119 : decode cX9_notesGate 119 = .ok (.getfield 68, 3) := dk_180 0 68 (dk_at dksX9_notesGate_5 3 rfl rfl)
theorem dX9_notesGate_122 : decode cX9_notesGate 122 = .ok (.iload 6, 2) := dk_21 6 (dk_at dksX9_notesGate_5 6 rfl rfl)
theorem dX9_notesGate_124 : decode cX9_notesGate 124 = .ok (.iaload, 1) := dk_46 (dk_at dksX9_notesGate_5 8 rfl rfl)
theorem dX9_notesGate_125 : decode cX9_notesGate 125 = .ok (.iload_n 3, 1) := dk_29 (dk_at dksX9_notesGate_5 9 rfl rfl)
theorem dX9_notesGate_126 : decode cX9_notesGate 126 = .ok (.iload 4, 2) := dk_21 4 (dk_at dksX9_notesGate_5 10 rfl rfl)
theorem dX9_notesGate_128 : decode cX9_notesGate 128 = .ok (.iconst 0, 1) := dk_3 (dk_at dksX9_notesGate_5 12 rfl rfl)
theorem dX9_notesGate_129 : decode cX9_notesGate 129 = .ok (.invokestatic 299, 3) := dk_184 1 43 (dk_at dksX9_notesGate_5 13 rfl rfl)
theorem dX9_notesGate_132 : decode cX9_notesGate 132 = .ok (.iastore, 1) := dk_79 (dk_at dksX9_notesGate_5 16 rfl rfl)
theorem dX9_notesGate_133 : decode cX9_notesGate 133 = .ok (.iinc 6 1, 3) := dk_132 6 1 (dk_at dksX9_notesGate_5 17 rfl rfl)
theorem dX9_notesGate_136 : decode cX9_notesGate 136 = .ok (.goto (-30), 3) := dk_167 255 226 (dk_at dksX9_notesGate_5 20 rfl rfl)
theorem dX9_notesGate_139 : decode cX9_notesGate 139 = .ok (.aload_n 0, 1) := dk_42 (dk_at dksX9_notesGate_5 23 rfl rfl)
theorem dX9_notesGate_140 : decode cX9_notesGate 140 = .ok (.getfield 89, 3) := dk_180 0 89 (dk_at dksX9_notesGate_6 0 rfl rfl)
theorem dX9_notesGate_143 : decode cX9_notesGate 143 = .ok (.aload_n 0, 1) := dk_42 (dk_at dksX9_notesGate_6 3 rfl rfl)
theorem dX9_notesGate_144 : decode cX9_notesGate 144 = .ok (.getfield 350, 3) := dk_180 1 94 (dk_at dksX9_notesGate_6 4 rfl rfl)
theorem dX9_notesGate_147 : decode cX9_notesGate 147 = .ok (.iload_n 3, 1) := dk_29 (dk_at dksX9_notesGate_6 7 rfl rfl)
theorem dX9_notesGate_148 : decode cX9_notesGate 148 = .ok (.iastore, 1) := dk_79 (dk_at dksX9_notesGate_6 8 rfl rfl)
theorem dX9_notesGate_149 : decode cX9_notesGate 149 = .ok (.aload_n 0, 1) := dk_42 (dk_at dksX9_notesGate_6 9 rfl rfl)
theorem dX9_notesGate_150 : decode cX9_notesGate 150 = .ok (.getfield 92, 3) := dk_180 0 92 (dk_at dksX9_notesGate_6 10 rfl rfl)
theorem dX9_notesGate_153 : decode cX9_notesGate 153 = .ok (.aload_n 0, 1) := dk_42 (dk_at dksX9_notesGate_6 13 rfl rfl)
theorem dX9_notesGate_154 : decode cX9_notesGate 154 = .ok (.getfield 350, 3) := dk_180 1 94 (dk_at dksX9_notesGate_6 14 rfl rfl)
theorem dX9_notesGate_157 : decode cX9_notesGate 157 = .ok (.iload 4, 2) := dk_21 4 (dk_at dksX9_notesGate_6 17 rfl rfl)
theorem dX9_notesGate_159 : decode cX9_notesGate 159 = .ok (.iastore, 1) := dk_79 (dk_at dksX9_notesGate_6 19 rfl rfl)
theorem dX9_notesGate_160 : decode cX9_notesGate 160 = .ok (.aload_n 0, 1) := dk_42 (dk_at dksX9_notesGate_6 20 rfl rfl)
theorem dX9_notesGate_161 : decode cX9_notesGate 161 = .ok (.dup, 1) := dk_89 (dk_at dksX9_notesGate_6 21 rfl rfl)
theorem dX9_notesGate_162 : decode cX9_notesGate 162 = .ok (.getfield 350, 3) := dk_180 1 94 (dk_at dksX9_notesGate_7 0 rfl rfl)
theorem dX9_notesGate_165 : decode cX9_notesGate 165 = .ok (.iconst 1, 1) := dk_4 (dk_at dksX9_notesGate_7 3 rfl rfl)
theorem dX9_notesGate_166 : decode cX9_notesGate 166 = .ok (.iadd, 1) := dk_96 (dk_at dksX9_notesGate_7 4 rfl rfl)
theorem dX9_notesGate_167 : decode cX9_notesGate 167 = .ok (.putfield 350, 3) := dk_181 1 94 (dk_at dksX9_notesGate_7 5 rfl rfl)
theorem dX9_notesGate_170 : decode cX9_notesGate 170 = .ok (.iload 5, 2) := dk_21 5 (dk_at dksX9_notesGate_7 8 rfl rfl)
theorem dX9_notesGate_172 : decode cX9_notesGate 172 = .ok (.iload_n 3, 1) := dk_29 (dk_at dksX9_notesGate_7 10 rfl rfl)
theorem dX9_notesGate_173 : decode cX9_notesGate 173 = .ok (.iload 4, 2) := dk_21 4 (dk_at dksX9_notesGate_7 11 rfl rfl)
theorem dX9_notesGate_175 : decode cX9_notesGate 175 = .ok (.iconst 0, 1) := dk_3 (dk_at dksX9_notesGate_7 13 rfl rfl)
theorem dX9_notesGate_176 : decode cX9_notesGate 176 = .ok (.invokestatic 299, 3) := dk_184 1 43 (dk_at dksX9_notesGate_7 14 rfl rfl)
theorem dX9_notesGate_179 : decode cX9_notesGate 179 = .ok (.ireturn, 1) := dk_172 (dk_at dksX9_notesGate_7 17 rfl rfl)
abbrev cX9_foundGate : ByteArray := prog_13_method_69_code
def yX9_foundGate : MethodName := ⟨RX9, "foundGate", "(II)V"⟩
def dkwX9_foundGate_1 : List UInt8 := [180, 1, 40, 4, 96, 181, 1, 40, 177]
abbrev dktX9_foundGate_1 : List UInt8 := dkwX9_foundGate_1 ++ []
def dkwX9_foundGate_0 : List UInt8 := [42, 180, 0, 77, 42, 180, 1, 40, 27, 79, 42, 180, 0, 80, 42, 180, 1, 40, 28, 79, 42, 89]
abbrev dktX9_foundGate_0 : List UInt8 := dkwX9_foundGate_0 ++ dktX9_foundGate_1
theorem dksX9_foundGate_0 : cX9_foundGate.data.toList.drop 0 = dktX9_foundGate_0 := by decide +kernel
theorem dksX9_foundGate_1 : cX9_foundGate.data.toList.drop 22 = dktX9_foundGate_1 := dk_seg dksX9_foundGate_0 22 rfl rfl
theorem dX9_foundGate_0 : decode cX9_foundGate 0 = .ok (.aload_n 0, 1) := dk_42 (dk_at dksX9_foundGate_0 0 rfl rfl)
theorem dX9_foundGate_1 : decode cX9_foundGate 1 = .ok (.getfield 77, 3) := dk_180 0 77 (dk_at dksX9_foundGate_0 1 rfl rfl)
theorem dX9_foundGate_4 : decode cX9_foundGate 4 = .ok (.aload_n 0, 1) := dk_42 (dk_at dksX9_foundGate_0 4 rfl rfl)
theorem dX9_foundGate_5 : decode cX9_foundGate 5 = .ok (.getfield 296, 3) := dk_180 1 40 (dk_at dksX9_foundGate_0 5 rfl rfl)
theorem dX9_foundGate_8 : decode cX9_foundGate 8 = .ok (.iload_n 1, 1) := dk_27 (dk_at dksX9_foundGate_0 8 rfl rfl)
theorem dX9_foundGate_9 : decode cX9_foundGate 9 = .ok (.iastore, 1) := dk_79 (dk_at dksX9_foundGate_0 9 rfl rfl)
theorem dX9_foundGate_10 : decode cX9_foundGate 10 = .ok (.aload_n 0, 1) := dk_42 (dk_at dksX9_foundGate_0 10 rfl rfl)
theorem dX9_foundGate_11 : decode cX9_foundGate 11 = .ok (.getfield 80, 3) := dk_180 0 80 (dk_at dksX9_foundGate_0 11 rfl rfl)
theorem dX9_foundGate_14 : decode cX9_foundGate 14 = .ok (.aload_n 0, 1) := dk_42 (dk_at dksX9_foundGate_0 14 rfl rfl)
theorem dX9_foundGate_15 : decode cX9_foundGate 15 = .ok (.getfield 296, 3) := dk_180 1 40 (dk_at dksX9_foundGate_0 15 rfl rfl)
theorem dX9_foundGate_18 : decode cX9_foundGate 18 = .ok (.iload_n 2, 1) := dk_28 (dk_at dksX9_foundGate_0 18 rfl rfl)
theorem dX9_foundGate_19 : decode cX9_foundGate 19 = .ok (.iastore, 1) := dk_79 (dk_at dksX9_foundGate_0 19 rfl rfl)
theorem dX9_foundGate_20 : decode cX9_foundGate 20 = .ok (.aload_n 0, 1) := dk_42 (dk_at dksX9_foundGate_0 20 rfl rfl)
theorem dX9_foundGate_21 : decode cX9_foundGate 21 = .ok (.dup, 1) := dk_89 (dk_at dksX9_foundGate_0 21 rfl rfl)
theorem dX9_foundGate_22 : decode cX9_foundGate 22 = .ok (.getfield 296, 3) := dk_180 1 40 (dk_at dksX9_foundGate_1 0 rfl rfl)
theorem dX9_foundGate_25 : decode cX9_foundGate 25 = .ok (.iconst 1, 1) := dk_4 (dk_at dksX9_foundGate_1 3 rfl rfl)
theorem dX9_foundGate_26 : decode cX9_foundGate 26 = .ok (.iadd, 1) := dk_96 (dk_at dksX9_foundGate_1 4 rfl rfl)
theorem dX9_foundGate_27 : decode cX9_foundGate 27 = .ok (.putfield 296, 3) := dk_181 1 40 (dk_at dksX9_foundGate_1 5 rfl rfl)
theorem dX9_foundGate_30 : decode cX9_foundGate 30 = .ok (.return_, 1) := dk_177 (dk_at dksX9_foundGate_1 8 rfl rfl)
abbrev cX9_laysFirst : ByteArray := prog_13_method_76_code
def yX9_laysFirst : MethodName := ⟨RX9, "laysFirst", "()V"⟩
def dkwX9_laysFirst_8 : List UInt8 := [132, 1, 255, 167, 255, 89, 177]
abbrev dktX9_laysFirst_8 : List UInt8 := dkwX9_laysFirst_8 ++ []
def dkwX9_laysFirst_7 : List UInt8 := [21, 6, 42, 180, 0, 111, 21, 6, 46, 79, 132, 6, 1, 167, 255, 230, 132, 3, 1, 167, 255, 103]
abbrev dktX9_laysFirst_7 : List UInt8 := dkwX9_laysFirst_7 ++ dktX9_laysFirst_8
def dkwX9_laysFirst_6 : List UInt8 := [21, 4, 21, 5, 182, 1, 101, 3, 54, 6, 21, 6, 42, 182, 0, 248, 162, 0, 23, 42, 180, 0, 68]
abbrev dktX9_laysFirst_6 : List UInt8 := dkwX9_laysFirst_6 ++ dktX9_laysFirst_7
def dkwX9_laysFirst_5 : List UInt8 := [180, 0, 102, 42, 42, 182, 0, 248, 182, 1, 107, 46, 27, 4, 100, 159, 0, 6, 167, 0, 45, 4, 61, 42]
abbrev dktX9_laysFirst_5 : List UInt8 := dkwX9_laysFirst_5 ++ dktX9_laysFirst_6
def dkwX9_laysFirst_4 : List UInt8 := [42, 180, 0, 68, 21, 6, 21, 4, 21, 5, 3, 184, 1, 43, 46, 79, 132, 6, 1, 167, 255, 222, 42]
abbrev dktX9_laysFirst_4 : List UInt8 := dkwX9_laysFirst_4 ++ dktX9_laysFirst_5
def dkwX9_laysFirst_3 : List UInt8 := [153, 0, 6, 167, 0, 107, 3, 54, 6, 21, 6, 42, 182, 0, 248, 162, 0, 31, 42, 180, 0, 111, 21, 6]
abbrev dktX9_laysFirst_3 : List UInt8 := dkwX9_laysFirst_3 ++ dktX9_laysFirst_4
def dkwX9_laysFirst_2 : List UInt8 := [29, 42, 182, 0, 248, 108, 54, 4, 29, 42, 182, 0, 248, 112, 54, 5, 21, 5, 21, 4, 184, 1, 5]
abbrev dktX9_laysFirst_2 : List UInt8 := dkwX9_laysFirst_2 ++ dktX9_laysFirst_3
def dkwX9_laysFirst_1 : List UInt8 := [158, 0, 169, 3, 61, 3, 62, 29, 42, 180, 0, 203, 42, 182, 0, 248, 104, 162, 0, 146, 28, 154, 0, 142]
abbrev dktX9_laysFirst_1 : List UInt8 := dkwX9_laysFirst_1 ++ dktX9_laysFirst_2
def dkwX9_laysFirst_0 : List UInt8 := [42, 182, 1, 113, 42, 42, 180, 0, 52, 182, 1, 29, 42, 3, 181, 1, 40, 42, 182, 1, 116, 60, 27]
abbrev dktX9_laysFirst_0 : List UInt8 := dkwX9_laysFirst_0 ++ dktX9_laysFirst_1
theorem dksX9_laysFirst_0 : cX9_laysFirst.data.toList.drop 0 = dktX9_laysFirst_0 := by decide +kernel
theorem dksX9_laysFirst_1 : cX9_laysFirst.data.toList.drop 23 = dktX9_laysFirst_1 := dk_seg dksX9_laysFirst_0 23 rfl rfl
theorem dksX9_laysFirst_2 : cX9_laysFirst.data.toList.drop 47 = dktX9_laysFirst_2 := dk_seg dksX9_laysFirst_1 24 rfl rfl
theorem dksX9_laysFirst_3 : cX9_laysFirst.data.toList.drop 70 = dktX9_laysFirst_3 := dk_seg dksX9_laysFirst_2 23 rfl rfl
theorem dksX9_laysFirst_4 : cX9_laysFirst.data.toList.drop 94 = dktX9_laysFirst_4 := dk_seg dksX9_laysFirst_3 24 rfl rfl
theorem dksX9_laysFirst_5 : cX9_laysFirst.data.toList.drop 117 = dktX9_laysFirst_5 := dk_seg dksX9_laysFirst_4 23 rfl rfl
theorem dksX9_laysFirst_6 : cX9_laysFirst.data.toList.drop 141 = dktX9_laysFirst_6 := dk_seg dksX9_laysFirst_5 24 rfl rfl
theorem dksX9_laysFirst_7 : cX9_laysFirst.data.toList.drop 164 = dktX9_laysFirst_7 := dk_seg dksX9_laysFirst_6 23 rfl rfl
theorem dksX9_laysFirst_8 : cX9_laysFirst.data.toList.drop 186 = dktX9_laysFirst_8 := dk_seg dksX9_laysFirst_7 22 rfl rfl
theorem dX9_laysFirst_0 : decode cX9_laysFirst 0 = .ok (.aload_n 0, 1) := dk_42 (dk_at dksX9_laysFirst_0 0 rfl rfl)
theorem dX9_laysFirst_1 : decode cX9_laysFirst 1 = .ok (.invokevirtual 369, 3) := dk_182 1 113 (dk_at dksX9_laysFirst_0 1 rfl rfl)
theorem dX9_laysFirst_4 : decode cX9_laysFirst 4 = .ok (.aload_n 0, 1) := dk_42 (dk_at dksX9_laysFirst_0 4 rfl rfl)
theorem dX9_laysFirst_5 : decode cX9_laysFirst 5 = .ok (.aload_n 0, 1) := dk_42 (dk_at dksX9_laysFirst_0 5 rfl rfl)
theorem dX9_laysFirst_6 : decode cX9_laysFirst 6 = .ok (.getfield 52, 3) := dk_180 0 52 (dk_at dksX9_laysFirst_0 6 rfl rfl)
theorem dX9_laysFirst_9 : decode cX9_laysFirst 9 = .ok (.invokevirtual 285, 3) := dk_182 1 29 (dk_at dksX9_laysFirst_0 9 rfl rfl)
theorem dX9_laysFirst_12 : decode cX9_laysFirst 12 = .ok (.aload_n 0, 1) := dk_42 (dk_at dksX9_laysFirst_0 12 rfl rfl)
theorem dX9_laysFirst_13 : decode cX9_laysFirst 13 = .ok (.iconst 0, 1) := dk_3 (dk_at dksX9_laysFirst_0 13 rfl rfl)
theorem dX9_laysFirst_14 : decode cX9_laysFirst 14 = .ok (.putfield 296, 3) := dk_181 1 40 (dk_at dksX9_laysFirst_0 14 rfl rfl)
theorem dX9_laysFirst_17 : decode cX9_laysFirst 17 = .ok (.aload_n 0, 1) := dk_42 (dk_at dksX9_laysFirst_0 17 rfl rfl)
theorem dX9_laysFirst_18 : decode cX9_laysFirst 18 = .ok (.invokevirtual 372, 3) := dk_182 1 116 (dk_at dksX9_laysFirst_0 18 rfl rfl)
theorem dX9_laysFirst_21 : decode cX9_laysFirst 21 = .ok (.istore_n 1, 1) := dk_60 (dk_at dksX9_laysFirst_0 21 rfl rfl)
theorem dX9_laysFirst_22 : decode cX9_laysFirst 22 = .ok (.iload_n 1, 1) := dk_27 (dk_at dksX9_laysFirst_0 22 rfl rfl)
theorem dX9_laysFirst_23 : decode cX9_laysFirst 23 = .ok (.ifCond .le 169, 3) := dk_158 0 169 (dk_at dksX9_laysFirst_1 0 rfl rfl)
theorem dX9_laysFirst_26 : decode cX9_laysFirst 26 = .ok (.iconst 0, 1) := dk_3 (dk_at dksX9_laysFirst_1 3 rfl rfl)
theorem dX9_laysFirst_27 : decode cX9_laysFirst 27 = .ok (.istore_n 2, 1) := dk_61 (dk_at dksX9_laysFirst_1 4 rfl rfl)
theorem dX9_laysFirst_28 : decode cX9_laysFirst 28 = .ok (.iconst 0, 1) := dk_3 (dk_at dksX9_laysFirst_1 5 rfl rfl)
theorem dX9_laysFirst_29 : decode cX9_laysFirst 29 = .ok (.istore_n 3, 1) := dk_62 (dk_at dksX9_laysFirst_1 6 rfl rfl)
theorem dX9_laysFirst_30 : decode cX9_laysFirst 30 = .ok (.iload_n 3, 1) := dk_29 (dk_at dksX9_laysFirst_1 7 rfl rfl)
theorem dX9_laysFirst_31 : decode cX9_laysFirst 31 = .ok (.aload_n 0, 1) := dk_42 (dk_at dksX9_laysFirst_1 8 rfl rfl)
theorem dX9_laysFirst_32 : decode cX9_laysFirst 32 = .ok (.getfield 203, 3) := dk_180 0 203 (dk_at dksX9_laysFirst_1 9 rfl rfl)
theorem dX9_laysFirst_35 : decode cX9_laysFirst 35 = .ok (.aload_n 0, 1) := dk_42 (dk_at dksX9_laysFirst_1 12 rfl rfl)
theorem dX9_laysFirst_36 : decode cX9_laysFirst 36 = .ok (.invokevirtual 248, 3) := dk_182 0 248 (dk_at dksX9_laysFirst_1 13 rfl rfl)
theorem dX9_laysFirst_39 : decode cX9_laysFirst 39 = .ok (.imul, 1) := dk_104 (dk_at dksX9_laysFirst_1 16 rfl rfl)
theorem dX9_laysFirst_40 : decode cX9_laysFirst 40 = .ok (.if_icmp .ge 146, 3) := dk_162 0 146 (dk_at dksX9_laysFirst_1 17 rfl rfl)
theorem dX9_laysFirst_43 : decode cX9_laysFirst 43 = .ok (.iload_n 2, 1) := dk_28 (dk_at dksX9_laysFirst_1 20 rfl rfl)
theorem dX9_laysFirst_44 : decode cX9_laysFirst 44 = .ok (.ifCond .ne 142, 3) := dk_154 0 142 (dk_at dksX9_laysFirst_1 21 rfl rfl)
theorem dX9_laysFirst_47 : decode cX9_laysFirst 47 = .ok (.iload_n 3, 1) := dk_29 (dk_at dksX9_laysFirst_2 0 rfl rfl)
theorem dX9_laysFirst_48 : decode cX9_laysFirst 48 = .ok (.aload_n 0, 1) := dk_42 (dk_at dksX9_laysFirst_2 1 rfl rfl)
theorem dX9_laysFirst_49 : decode cX9_laysFirst 49 = .ok (.invokevirtual 248, 3) := dk_182 0 248 (dk_at dksX9_laysFirst_2 2 rfl rfl)
theorem dX9_laysFirst_52 : decode cX9_laysFirst 52 = .ok (.idiv, 1) := dk_108 (dk_at dksX9_laysFirst_2 5 rfl rfl)
theorem dX9_laysFirst_53 : decode cX9_laysFirst 53 = .ok (.istore 4, 2) := dk_54 4 (dk_at dksX9_laysFirst_2 6 rfl rfl)
theorem dX9_laysFirst_55 : decode cX9_laysFirst 55 = .ok (.iload_n 3, 1) := dk_29 (dk_at dksX9_laysFirst_2 8 rfl rfl)
theorem dX9_laysFirst_56 : decode cX9_laysFirst 56 = .ok (.aload_n 0, 1) := dk_42 (dk_at dksX9_laysFirst_2 9 rfl rfl)
theorem dX9_laysFirst_57 : decode cX9_laysFirst 57 = .ok (.invokevirtual 248, 3) := dk_182 0 248 (dk_at dksX9_laysFirst_2 10 rfl rfl)
theorem dX9_laysFirst_60 : decode cX9_laysFirst 60 = .ok (.irem, 1) := dk_112 (dk_at dksX9_laysFirst_2 13 rfl rfl)
theorem dX9_laysFirst_61 : decode cX9_laysFirst 61 = .ok (.istore 5, 2) := dk_54 5 (dk_at dksX9_laysFirst_2 14 rfl rfl)
theorem dX9_laysFirst_63 : decode cX9_laysFirst 63 = .ok (.iload 5, 2) := dk_21 5 (dk_at dksX9_laysFirst_2 16 rfl rfl)
theorem dX9_laysFirst_65 : decode cX9_laysFirst 65 = .ok (.iload 4, 2) := dk_21 4 (dk_at dksX9_laysFirst_2 18 rfl rfl)
theorem dX9_laysFirst_67 : decode cX9_laysFirst 67 = .ok (.invokestatic 261, 3) := dk_184 1 5 (dk_at dksX9_laysFirst_2 20 rfl rfl)
theorem dX9_laysFirst_70 : decode cX9_laysFirst 70 = .ok (.ifCond .eq 6, 3) := dk_153 0 6 (dk_at dksX9_laysFirst_3 0 rfl rfl)
theorem dX9_laysFirst_73 : decode cX9_laysFirst 73 = .ok (.goto 107, 3) := dk_167 0 107 (dk_at dksX9_laysFirst_3 3 rfl rfl)
theorem dX9_laysFirst_76 : decode cX9_laysFirst 76 = .ok (.iconst 0, 1) := dk_3 (dk_at dksX9_laysFirst_3 6 rfl rfl)
theorem dX9_laysFirst_77 : decode cX9_laysFirst 77 = .ok (.istore 6, 2) := dk_54 6 (dk_at dksX9_laysFirst_3 7 rfl rfl)
theorem dX9_laysFirst_79 : decode cX9_laysFirst 79 = .ok (.iload 6, 2) := dk_21 6 (dk_at dksX9_laysFirst_3 9 rfl rfl)
theorem dX9_laysFirst_81 : decode cX9_laysFirst 81 = .ok (.aload_n 0, 1) := dk_42 (dk_at dksX9_laysFirst_3 11 rfl rfl)
theorem dX9_laysFirst_82 : decode cX9_laysFirst 82 = .ok (.invokevirtual 248, 3) := dk_182 0 248 (dk_at dksX9_laysFirst_3 12 rfl rfl)
theorem dX9_laysFirst_85 : decode cX9_laysFirst 85 = .ok (.if_icmp .ge 31, 3) := dk_162 0 31 (dk_at dksX9_laysFirst_3 15 rfl rfl)
theorem dX9_laysFirst_88 : decode cX9_laysFirst 88 = .ok (.aload_n 0, 1) := dk_42 (dk_at dksX9_laysFirst_3 18 rfl rfl)
theorem dX9_laysFirst_89 : decode cX9_laysFirst 89 = .ok (.getfield 111, 3) := dk_180 0 111 (dk_at dksX9_laysFirst_3 19 rfl rfl)
theorem dX9_laysFirst_92 : decode cX9_laysFirst 92 = .ok (.iload 6, 2) := dk_21 6 (dk_at dksX9_laysFirst_3 22 rfl rfl)
theorem dX9_laysFirst_94 : decode cX9_laysFirst 94 = .ok (.aload_n 0, 1) := dk_42 (dk_at dksX9_laysFirst_4 0 rfl rfl)
theorem dX9_laysFirst_95 : decode cX9_laysFirst 95 = .ok (.getfield 68, 3) := dk_180 0 68 (dk_at dksX9_laysFirst_4 1 rfl rfl)
theorem dX9_laysFirst_98 : decode cX9_laysFirst 98 = .ok (.iload 6, 2) := dk_21 6 (dk_at dksX9_laysFirst_4 4 rfl rfl)
theorem dX9_laysFirst_100 : decode cX9_laysFirst 100 = .ok (.iload 4, 2) := dk_21 4 (dk_at dksX9_laysFirst_4 6 rfl rfl)
theorem dX9_laysFirst_102 : decode cX9_laysFirst 102 = .ok (.iload 5, 2) := dk_21 5 (dk_at dksX9_laysFirst_4 8 rfl rfl)
theorem dX9_laysFirst_104 : decode cX9_laysFirst 104 = .ok (.iconst 0, 1) := dk_3 (dk_at dksX9_laysFirst_4 10 rfl rfl)
theorem dX9_laysFirst_105 : decode cX9_laysFirst 105 = .ok (.invokestatic 299, 3) := dk_184 1 43 (dk_at dksX9_laysFirst_4 11 rfl rfl)
theorem dX9_laysFirst_108 : decode cX9_laysFirst 108 = .ok (.iaload, 1) := dk_46 (dk_at dksX9_laysFirst_4 14 rfl rfl)
theorem dX9_laysFirst_109 : decode cX9_laysFirst 109 = .ok (.iastore, 1) := dk_79 (dk_at dksX9_laysFirst_4 15 rfl rfl)
theorem dX9_laysFirst_110 : decode cX9_laysFirst 110 = .ok (.iinc 6 1, 3) := dk_132 6 1 (dk_at dksX9_laysFirst_4 16 rfl rfl)
theorem dX9_laysFirst_113 : decode cX9_laysFirst 113 = .ok (.goto (-34), 3) := dk_167 255 222 (dk_at dksX9_laysFirst_4 19 rfl rfl)
theorem dX9_laysFirst_116 : decode cX9_laysFirst 116 = .ok (.aload_n 0, 1) := dk_42 (dk_at dksX9_laysFirst_4 22 rfl rfl)
theorem dX9_laysFirst_117 : decode cX9_laysFirst 117 = .ok (.getfield 102, 3) := dk_180 0 102 (dk_at dksX9_laysFirst_5 0 rfl rfl)
theorem dX9_laysFirst_120 : decode cX9_laysFirst 120 = .ok (.aload_n 0, 1) := dk_42 (dk_at dksX9_laysFirst_5 3 rfl rfl)
theorem dX9_laysFirst_121 : decode cX9_laysFirst 121 = .ok (.aload_n 0, 1) := dk_42 (dk_at dksX9_laysFirst_5 4 rfl rfl)
theorem dX9_laysFirst_122 : decode cX9_laysFirst 122 = .ok (.invokevirtual 248, 3) := dk_182 0 248 (dk_at dksX9_laysFirst_5 5 rfl rfl)
theorem dX9_laysFirst_125 : decode cX9_laysFirst 125 = .ok (.invokevirtual 363, 3) := dk_182 1 107 (dk_at dksX9_laysFirst_5 8 rfl rfl)
theorem dX9_laysFirst_128 : decode cX9_laysFirst 128 = .ok (.iaload, 1) := dk_46 (dk_at dksX9_laysFirst_5 11 rfl rfl)
theorem dX9_laysFirst_129 : decode cX9_laysFirst 129 = .ok (.iload_n 1, 1) := dk_27 (dk_at dksX9_laysFirst_5 12 rfl rfl)
theorem dX9_laysFirst_130 : decode cX9_laysFirst 130 = .ok (.iconst 1, 1) := dk_4 (dk_at dksX9_laysFirst_5 13 rfl rfl)
theorem dX9_laysFirst_131 : decode cX9_laysFirst 131 = .ok (.isub, 1) := dk_100 (dk_at dksX9_laysFirst_5 14 rfl rfl)
theorem dX9_laysFirst_132 : decode cX9_laysFirst 132 = .ok (.if_icmp .eq 6, 3) := dk_159 0 6 (dk_at dksX9_laysFirst_5 15 rfl rfl)
theorem dX9_laysFirst_135 : decode cX9_laysFirst 135 = .ok (.goto 45, 3) := dk_167 0 45 (dk_at dksX9_laysFirst_5 18 rfl rfl)
theorem dX9_laysFirst_138 : decode cX9_laysFirst 138 = .ok (.iconst 1, 1) := dk_4 (dk_at dksX9_laysFirst_5 21 rfl rfl)
theorem dX9_laysFirst_139 : decode cX9_laysFirst 139 = .ok (.istore_n 2, 1) := dk_61 (dk_at dksX9_laysFirst_5 22 rfl rfl)
theorem dX9_laysFirst_140 : decode cX9_laysFirst 140 = .ok (.aload_n 0, 1) := dk_42 (dk_at dksX9_laysFirst_5 23 rfl rfl)
theorem dX9_laysFirst_141 : decode cX9_laysFirst 141 = .ok (.iload 4, 2) := dk_21 4 (dk_at dksX9_laysFirst_6 0 rfl rfl)
theorem dX9_laysFirst_143 : decode cX9_laysFirst 143 = .ok (.iload 5, 2) := dk_21 5 (dk_at dksX9_laysFirst_6 2 rfl rfl)
theorem dX9_laysFirst_145 : decode cX9_laysFirst 145 = .ok (.invokevirtual 357, 3) := dk_182 1 101 (dk_at dksX9_laysFirst_6 4 rfl rfl)
theorem dX9_laysFirst_148 : decode cX9_laysFirst 148 = .ok (.iconst 0, 1) := dk_3 (dk_at dksX9_laysFirst_6 7 rfl rfl)
theorem dX9_laysFirst_149 : decode cX9_laysFirst 149 = .ok (.istore 6, 2) := dk_54 6 (dk_at dksX9_laysFirst_6 8 rfl rfl)
theorem dX9_laysFirst_151 : decode cX9_laysFirst 151 = .ok (.iload 6, 2) := dk_21 6 (dk_at dksX9_laysFirst_6 10 rfl rfl)
theorem dX9_laysFirst_153 : decode cX9_laysFirst 153 = .ok (.aload_n 0, 1) := dk_42 (dk_at dksX9_laysFirst_6 12 rfl rfl)
theorem dX9_laysFirst_154 : decode cX9_laysFirst 154 = .ok (.invokevirtual 248, 3) := dk_182 0 248 (dk_at dksX9_laysFirst_6 13 rfl rfl)
theorem dX9_laysFirst_157 : decode cX9_laysFirst 157 = .ok (.if_icmp .ge 23, 3) := dk_162 0 23 (dk_at dksX9_laysFirst_6 16 rfl rfl)
theorem dX9_laysFirst_160 : decode cX9_laysFirst 160 = .ok (.aload_n 0, 1) := dk_42 (dk_at dksX9_laysFirst_6 19 rfl rfl)
theorem dX9_laysFirst_161 : decode cX9_laysFirst 161 = .ok (.getfield 68, 3) := dk_180 0 68 (dk_at dksX9_laysFirst_6 20 rfl rfl)
theorem dX9_laysFirst_164 : decode cX9_laysFirst 164 = .ok (.iload 6, 2) := dk_21 6 (dk_at dksX9_laysFirst_7 0 rfl rfl)
theorem dX9_laysFirst_166 : decode cX9_laysFirst 166 = .ok (.aload_n 0, 1) := dk_42 (dk_at dksX9_laysFirst_7 2 rfl rfl)
theorem dX9_laysFirst_167 : decode cX9_laysFirst 167 = .ok (.getfield 111, 3) := dk_180 0 111 (dk_at dksX9_laysFirst_7 3 rfl rfl)
theorem dX9_laysFirst_170 : decode cX9_laysFirst 170 = .ok (.iload 6, 2) := dk_21 6 (dk_at dksX9_laysFirst_7 6 rfl rfl)
theorem dX9_laysFirst_172 : decode cX9_laysFirst 172 = .ok (.iaload, 1) := dk_46 (dk_at dksX9_laysFirst_7 8 rfl rfl)
theorem dX9_laysFirst_173 : decode cX9_laysFirst 173 = .ok (.iastore, 1) := dk_79 (dk_at dksX9_laysFirst_7 9 rfl rfl)
theorem dX9_laysFirst_174 : decode cX9_laysFirst 174 = .ok (.iinc 6 1, 3) := dk_132 6 1 (dk_at dksX9_laysFirst_7 10 rfl rfl)
theorem dX9_laysFirst_177 : decode cX9_laysFirst 177 = .ok (.goto (-26), 3) := dk_167 255 230 (dk_at dksX9_laysFirst_7 13 rfl rfl)
theorem dX9_laysFirst_180 : decode cX9_laysFirst 180 = .ok (.iinc 3 1, 3) := dk_132 3 1 (dk_at dksX9_laysFirst_7 16 rfl rfl)
theorem dX9_laysFirst_183 : decode cX9_laysFirst 183 = .ok (.goto (-153), 3) := dk_167 255 103 (dk_at dksX9_laysFirst_7 19 rfl rfl)
theorem dX9_laysFirst_186 : decode cX9_laysFirst 186 = .ok (.iinc 1 (-1), 3) := dk_132 1 255 (dk_at dksX9_laysFirst_8 0 rfl rfl)
theorem dX9_laysFirst_189 : decode cX9_laysFirst 189 = .ok (.goto (-167), 3) := dk_167 255 89 (dk_at dksX9_laysFirst_8 3 rfl rfl)
theorem dX9_laysFirst_192 : decode cX9_laysFirst 192 = .ok (.return_, 1) := dk_177 (dk_at dksX9_laysFirst_8 6 rfl rfl)
abbrev cX9_laysTable : ByteArray := prog_13_method_74_code
def yX9_laysTable : MethodName := ⟨RX9, "laysTable", "()V"⟩
def dkwX9_laysTable_11 : List UInt8 := [167, 255, 115, 132, 2, 1, 167, 255, 88, 177]
abbrev dktX9_laysTable_11 : List UInt8 := dkwX9_laysTable_11 ++ []
def dkwX9_laysTable_10 : List UInt8 := [180, 0, 105, 28, 46, 46, 4, 96, 79, 42, 180, 0, 105, 27, 21, 5, 79, 132, 1, 1, 132, 3, 1]
abbrev dktX9_laysTable_10 : List UInt8 := dkwX9_laysTable_10 ++ dktX9_laysTable_11
def dkwX9_laysTable_9 : List UInt8 := [21, 5, 46, 16, 99, 162, 0, 6, 167, 0, 34, 42, 180, 0, 102, 21, 5, 42, 180, 0, 102, 42]
abbrev dktX9_laysTable_9 : List UInt8 := dkwX9_laysTable_9 ++ dktX9_laysTable_10
def dkwX9_laysTable_8 : List UInt8 := [184, 1, 43, 79, 132, 5, 1, 167, 255, 218, 42, 42, 182, 0, 248, 182, 1, 107, 54, 5, 42, 180, 0, 102]
abbrev dktX9_laysTable_8 : List UInt8 := dkwX9_laysTable_8 ++ dktX9_laysTable_9
def dkwX9_laysTable_7 : List UInt8 := [42, 180, 0, 111, 21, 5, 42, 180, 0, 108, 21, 5, 46, 21, 4, 29, 42, 182, 0, 248, 112, 3]
abbrev dktX9_laysTable_7 : List UInt8 := dkwX9_laysTable_7 ++ dktX9_laysTable_8
def dkwX9_laysTable_6 : List UInt8 := [112, 21, 4, 184, 1, 5, 153, 0, 6, 167, 0, 103, 3, 54, 5, 21, 5, 42, 182, 0, 248, 162, 0, 35]
abbrev dktX9_laysTable_6 : List UInt8 := dkwX9_laysTable_6 ++ dktX9_laysTable_7
def dkwX9_laysTable_5 : List UInt8 := [180, 0, 203, 42, 182, 0, 248, 104, 162, 0, 134, 29, 42, 182, 0, 248, 108, 54, 4, 29, 42, 182, 0, 248]
abbrev dktX9_laysTable_5 : List UInt8 := dkwX9_laysTable_5 ++ dktX9_laysTable_6
def dkwX9_laysTable_4 : List UInt8 := [61, 28, 27, 162, 0, 169, 42, 42, 180, 0, 105, 28, 46, 42, 182, 0, 248, 182, 1, 110, 3, 62, 29, 42]
abbrev dktX9_laysTable_4 : List UInt8 := dkwX9_laysTable_4 ++ dktX9_laysTable_5
def dkwX9_laysTable_3 : List UInt8 := [42, 42, 182, 0, 248, 182, 1, 107, 79, 42, 180, 0, 102, 42, 180, 0, 105, 3, 46, 3, 79, 4, 60, 3]
abbrev dktX9_laysTable_3 : List UInt8 := dkwX9_laysTable_3 ++ dktX9_laysTable_4
def dkwX9_laysTable_2 : List UInt8 := [182, 0, 248, 162, 0, 16, 42, 180, 0, 111, 27, 27, 79, 132, 1, 1, 167, 255, 238, 42, 180, 0, 105, 3]
abbrev dktX9_laysTable_2 : List UInt8 := dkwX9_laysTable_2 ++ dktX9_laysTable_3
def dkwX9_laysTable_1 : List UInt8 := [18, 101, 162, 0, 17, 42, 180, 0, 102, 27, 16, 99, 79, 132, 1, 1, 167, 255, 239, 3, 60, 27, 42]
abbrev dktX9_laysTable_1 : List UInt8 := dkwX9_laysTable_1 ++ dktX9_laysTable_2
def dkwX9_laysTable_0 : List UInt8 := [42, 180, 0, 98, 42, 180, 0, 203, 160, 0, 4, 177, 42, 42, 180, 0, 203, 181, 0, 98, 3, 60, 27]
abbrev dktX9_laysTable_0 : List UInt8 := dkwX9_laysTable_0 ++ dktX9_laysTable_1
theorem dksX9_laysTable_0 : cX9_laysTable.data.toList.drop 0 = dktX9_laysTable_0 := by decide +kernel
theorem dksX9_laysTable_1 : cX9_laysTable.data.toList.drop 23 = dktX9_laysTable_1 := dk_seg dksX9_laysTable_0 23 rfl rfl
theorem dksX9_laysTable_2 : cX9_laysTable.data.toList.drop 46 = dktX9_laysTable_2 := dk_seg dksX9_laysTable_1 23 rfl rfl
theorem dksX9_laysTable_3 : cX9_laysTable.data.toList.drop 70 = dktX9_laysTable_3 := dk_seg dksX9_laysTable_2 24 rfl rfl
theorem dksX9_laysTable_4 : cX9_laysTable.data.toList.drop 94 = dktX9_laysTable_4 := dk_seg dksX9_laysTable_3 24 rfl rfl
theorem dksX9_laysTable_5 : cX9_laysTable.data.toList.drop 118 = dktX9_laysTable_5 := dk_seg dksX9_laysTable_4 24 rfl rfl
theorem dksX9_laysTable_6 : cX9_laysTable.data.toList.drop 142 = dktX9_laysTable_6 := dk_seg dksX9_laysTable_5 24 rfl rfl
theorem dksX9_laysTable_7 : cX9_laysTable.data.toList.drop 166 = dktX9_laysTable_7 := dk_seg dksX9_laysTable_6 24 rfl rfl
theorem dksX9_laysTable_8 : cX9_laysTable.data.toList.drop 188 = dktX9_laysTable_8 := dk_seg dksX9_laysTable_7 22 rfl rfl
theorem dksX9_laysTable_9 : cX9_laysTable.data.toList.drop 212 = dktX9_laysTable_9 := dk_seg dksX9_laysTable_8 24 rfl rfl
theorem dksX9_laysTable_10 : cX9_laysTable.data.toList.drop 234 = dktX9_laysTable_10 := dk_seg dksX9_laysTable_9 22 rfl rfl
theorem dksX9_laysTable_11 : cX9_laysTable.data.toList.drop 257 = dktX9_laysTable_11 := dk_seg dksX9_laysTable_10 23 rfl rfl
theorem dX9_laysTable_0 : decode cX9_laysTable 0 = .ok (.aload_n 0, 1) := dk_42 (dk_at dksX9_laysTable_0 0 rfl rfl)
theorem dX9_laysTable_1 : decode cX9_laysTable 1 = .ok (.getfield 98, 3) := dk_180 0 98 (dk_at dksX9_laysTable_0 1 rfl rfl)
theorem dX9_laysTable_4 : decode cX9_laysTable 4 = .ok (.aload_n 0, 1) := dk_42 (dk_at dksX9_laysTable_0 4 rfl rfl)
theorem dX9_laysTable_5 : decode cX9_laysTable 5 = .ok (.getfield 203, 3) := dk_180 0 203 (dk_at dksX9_laysTable_0 5 rfl rfl)
theorem dX9_laysTable_8 : decode cX9_laysTable 8 = .ok (.if_icmp .ne 4, 3) := dk_160 0 4 (dk_at dksX9_laysTable_0 8 rfl rfl)
theorem dX9_laysTable_11 : decode cX9_laysTable 11 = .ok (.return_, 1) := dk_177 (dk_at dksX9_laysTable_0 11 rfl rfl)
theorem dX9_laysTable_12 : decode cX9_laysTable 12 = .ok (.aload_n 0, 1) := dk_42 (dk_at dksX9_laysTable_0 12 rfl rfl)
theorem dX9_laysTable_13 : decode cX9_laysTable 13 = .ok (.aload_n 0, 1) := dk_42 (dk_at dksX9_laysTable_0 13 rfl rfl)
theorem dX9_laysTable_14 : decode cX9_laysTable 14 = .ok (.getfield 203, 3) := dk_180 0 203 (dk_at dksX9_laysTable_0 14 rfl rfl)
theorem dX9_laysTable_17 : decode cX9_laysTable 17 = .ok (.putfield 98, 3) := dk_181 0 98 (dk_at dksX9_laysTable_0 17 rfl rfl)
theorem dX9_laysTable_20 : decode cX9_laysTable 20 = .ok (.iconst 0, 1) := dk_3 (dk_at dksX9_laysTable_0 20 rfl rfl)
theorem dX9_laysTable_21 : decode cX9_laysTable 21 = .ok (.istore_n 1, 1) := dk_60 (dk_at dksX9_laysTable_0 21 rfl rfl)
theorem dX9_laysTable_22 : decode cX9_laysTable 22 = .ok (.iload_n 1, 1) := dk_27 (dk_at dksX9_laysTable_0 22 rfl rfl)
theorem dX9_laysTable_23 : decode cX9_laysTable 23 = .ok (.ldc 101, 2) := dk_18 101 (dk_at dksX9_laysTable_1 0 rfl rfl)
theorem dX9_laysTable_25 : decode cX9_laysTable 25 = .ok (.if_icmp .ge 17, 3) := dk_162 0 17 (dk_at dksX9_laysTable_1 2 rfl rfl)
theorem dX9_laysTable_28 : decode cX9_laysTable 28 = .ok (.aload_n 0, 1) := dk_42 (dk_at dksX9_laysTable_1 5 rfl rfl)
theorem dX9_laysTable_29 : decode cX9_laysTable 29 = .ok (.getfield 102, 3) := dk_180 0 102 (dk_at dksX9_laysTable_1 6 rfl rfl)
theorem dX9_laysTable_32 : decode cX9_laysTable 32 = .ok (.iload_n 1, 1) := dk_27 (dk_at dksX9_laysTable_1 9 rfl rfl)
theorem dX9_laysTable_33 : decode cX9_laysTable 33 = .ok (.bipush 99, 2) := dk_16 99 (dk_at dksX9_laysTable_1 10 rfl rfl)
theorem dX9_laysTable_35 : decode cX9_laysTable 35 = .ok (.iastore, 1) := dk_79 (dk_at dksX9_laysTable_1 12 rfl rfl)
theorem dX9_laysTable_36 : decode cX9_laysTable 36 = .ok (.iinc 1 1, 3) := dk_132 1 1 (dk_at dksX9_laysTable_1 13 rfl rfl)
theorem dX9_laysTable_39 : decode cX9_laysTable 39 = .ok (.goto (-17), 3) := dk_167 255 239 (dk_at dksX9_laysTable_1 16 rfl rfl)
theorem dX9_laysTable_42 : decode cX9_laysTable 42 = .ok (.iconst 0, 1) := dk_3 (dk_at dksX9_laysTable_1 19 rfl rfl)
theorem dX9_laysTable_43 : decode cX9_laysTable 43 = .ok (.istore_n 1, 1) := dk_60 (dk_at dksX9_laysTable_1 20 rfl rfl)
theorem dX9_laysTable_44 : decode cX9_laysTable 44 = .ok (.iload_n 1, 1) := dk_27 (dk_at dksX9_laysTable_1 21 rfl rfl)
theorem dX9_laysTable_45 : decode cX9_laysTable 45 = .ok (.aload_n 0, 1) := dk_42 (dk_at dksX9_laysTable_1 22 rfl rfl)
theorem dX9_laysTable_46 : decode cX9_laysTable 46 = .ok (.invokevirtual 248, 3) := dk_182 0 248 (dk_at dksX9_laysTable_2 0 rfl rfl)
theorem dX9_laysTable_49 : decode cX9_laysTable 49 = .ok (.if_icmp .ge 16, 3) := dk_162 0 16 (dk_at dksX9_laysTable_2 3 rfl rfl)
theorem dX9_laysTable_52 : decode cX9_laysTable 52 = .ok (.aload_n 0, 1) := dk_42 (dk_at dksX9_laysTable_2 6 rfl rfl)
theorem dX9_laysTable_53 : decode cX9_laysTable 53 = .ok (.getfield 111, 3) := dk_180 0 111 (dk_at dksX9_laysTable_2 7 rfl rfl)
theorem dX9_laysTable_56 : decode cX9_laysTable 56 = .ok (.iload_n 1, 1) := dk_27 (dk_at dksX9_laysTable_2 10 rfl rfl)
theorem dX9_laysTable_57 : decode cX9_laysTable 57 = .ok (.iload_n 1, 1) := dk_27 (dk_at dksX9_laysTable_2 11 rfl rfl)
theorem dX9_laysTable_58 : decode cX9_laysTable 58 = .ok (.iastore, 1) := dk_79 (dk_at dksX9_laysTable_2 12 rfl rfl)
theorem dX9_laysTable_59 : decode cX9_laysTable 59 = .ok (.iinc 1 1, 3) := dk_132 1 1 (dk_at dksX9_laysTable_2 13 rfl rfl)
theorem dX9_laysTable_62 : decode cX9_laysTable 62 = .ok (.goto (-18), 3) := dk_167 255 238 (dk_at dksX9_laysTable_2 16 rfl rfl)
theorem dX9_laysTable_65 : decode cX9_laysTable 65 = .ok (.aload_n 0, 1) := dk_42 (dk_at dksX9_laysTable_2 19 rfl rfl)
theorem dX9_laysTable_66 : decode cX9_laysTable 66 = .ok (.getfield 105, 3) := dk_180 0 105 (dk_at dksX9_laysTable_2 20 rfl rfl)
theorem dX9_laysTable_69 : decode cX9_laysTable 69 = .ok (.iconst 0, 1) := dk_3 (dk_at dksX9_laysTable_2 23 rfl rfl)
theorem dX9_laysTable_70 : decode cX9_laysTable 70 = .ok (.aload_n 0, 1) := dk_42 (dk_at dksX9_laysTable_3 0 rfl rfl)
theorem dX9_laysTable_71 : decode cX9_laysTable 71 = .ok (.aload_n 0, 1) := dk_42 (dk_at dksX9_laysTable_3 1 rfl rfl)
theorem dX9_laysTable_72 : decode cX9_laysTable 72 = .ok (.invokevirtual 248, 3) := dk_182 0 248 (dk_at dksX9_laysTable_3 2 rfl rfl)
theorem dX9_laysTable_75 : decode cX9_laysTable 75 = .ok (.invokevirtual 363, 3) := dk_182 1 107 (dk_at dksX9_laysTable_3 5 rfl rfl)
theorem dX9_laysTable_78 : decode cX9_laysTable 78 = .ok (.iastore, 1) := dk_79 (dk_at dksX9_laysTable_3 8 rfl rfl)
theorem dX9_laysTable_79 : decode cX9_laysTable 79 = .ok (.aload_n 0, 1) := dk_42 (dk_at dksX9_laysTable_3 9 rfl rfl)
theorem dX9_laysTable_80 : decode cX9_laysTable 80 = .ok (.getfield 102, 3) := dk_180 0 102 (dk_at dksX9_laysTable_3 10 rfl rfl)
theorem dX9_laysTable_83 : decode cX9_laysTable 83 = .ok (.aload_n 0, 1) := dk_42 (dk_at dksX9_laysTable_3 13 rfl rfl)
theorem dX9_laysTable_84 : decode cX9_laysTable 84 = .ok (.getfield 105, 3) := dk_180 0 105 (dk_at dksX9_laysTable_3 14 rfl rfl)
theorem dX9_laysTable_87 : decode cX9_laysTable 87 = .ok (.iconst 0, 1) := dk_3 (dk_at dksX9_laysTable_3 17 rfl rfl)
theorem dX9_laysTable_88 : decode cX9_laysTable 88 = .ok (.iaload, 1) := dk_46 (dk_at dksX9_laysTable_3 18 rfl rfl)
theorem dX9_laysTable_89 : decode cX9_laysTable 89 = .ok (.iconst 0, 1) := dk_3 (dk_at dksX9_laysTable_3 19 rfl rfl)
theorem dX9_laysTable_90 : decode cX9_laysTable 90 = .ok (.iastore, 1) := dk_79 (dk_at dksX9_laysTable_3 20 rfl rfl)
theorem dX9_laysTable_91 : decode cX9_laysTable 91 = .ok (.iconst 1, 1) := dk_4 (dk_at dksX9_laysTable_3 21 rfl rfl)
theorem dX9_laysTable_92 : decode cX9_laysTable 92 = .ok (.istore_n 1, 1) := dk_60 (dk_at dksX9_laysTable_3 22 rfl rfl)
theorem dX9_laysTable_93 : decode cX9_laysTable 93 = .ok (.iconst 0, 1) := dk_3 (dk_at dksX9_laysTable_3 23 rfl rfl)
theorem dX9_laysTable_94 : decode cX9_laysTable 94 = .ok (.istore_n 2, 1) := dk_61 (dk_at dksX9_laysTable_4 0 rfl rfl)
theorem dX9_laysTable_95 : decode cX9_laysTable 95 = .ok (.iload_n 2, 1) := dk_28 (dk_at dksX9_laysTable_4 1 rfl rfl)
theorem dX9_laysTable_96 : decode cX9_laysTable 96 = .ok (.iload_n 1, 1) := dk_27 (dk_at dksX9_laysTable_4 2 rfl rfl)
theorem dX9_laysTable_97 : decode cX9_laysTable 97 = .ok (.if_icmp .ge 169, 3) := dk_162 0 169 (dk_at dksX9_laysTable_4 3 rfl rfl)
theorem dX9_laysTable_100 : decode cX9_laysTable 100 = .ok (.aload_n 0, 1) := dk_42 (dk_at dksX9_laysTable_4 6 rfl rfl)
theorem dX9_laysTable_101 : decode cX9_laysTable 101 = .ok (.aload_n 0, 1) := dk_42 (dk_at dksX9_laysTable_4 7 rfl rfl)
theorem dX9_laysTable_102 : decode cX9_laysTable 102 = .ok (.getfield 105, 3) := dk_180 0 105 (dk_at dksX9_laysTable_4 8 rfl rfl)
theorem dX9_laysTable_105 : decode cX9_laysTable 105 = .ok (.iload_n 2, 1) := dk_28 (dk_at dksX9_laysTable_4 11 rfl rfl)
theorem dX9_laysTable_106 : decode cX9_laysTable 106 = .ok (.iaload, 1) := dk_46 (dk_at dksX9_laysTable_4 12 rfl rfl)
theorem dX9_laysTable_107 : decode cX9_laysTable 107 = .ok (.aload_n 0, 1) := dk_42 (dk_at dksX9_laysTable_4 13 rfl rfl)
theorem dX9_laysTable_108 : decode cX9_laysTable 108 = .ok (.invokevirtual 248, 3) := dk_182 0 248 (dk_at dksX9_laysTable_4 14 rfl rfl)
theorem dX9_laysTable_111 : decode cX9_laysTable 111 = .ok (.invokevirtual 366, 3) := dk_182 1 110 (dk_at dksX9_laysTable_4 17 rfl rfl)
theorem dX9_laysTable_114 : decode cX9_laysTable 114 = .ok (.iconst 0, 1) := dk_3 (dk_at dksX9_laysTable_4 20 rfl rfl)
theorem dX9_laysTable_115 : decode cX9_laysTable 115 = .ok (.istore_n 3, 1) := dk_62 (dk_at dksX9_laysTable_4 21 rfl rfl)
theorem dX9_laysTable_116 : decode cX9_laysTable 116 = .ok (.iload_n 3, 1) := dk_29 (dk_at dksX9_laysTable_4 22 rfl rfl)
theorem dX9_laysTable_117 : decode cX9_laysTable 117 = .ok (.aload_n 0, 1) := dk_42 (dk_at dksX9_laysTable_4 23 rfl rfl)
theorem dX9_laysTable_118 : decode cX9_laysTable 118 = .ok (.getfield 203, 3) := dk_180 0 203 (dk_at dksX9_laysTable_5 0 rfl rfl)
theorem dX9_laysTable_121 : decode cX9_laysTable 121 = .ok (.aload_n 0, 1) := dk_42 (dk_at dksX9_laysTable_5 3 rfl rfl)
theorem dX9_laysTable_122 : decode cX9_laysTable 122 = .ok (.invokevirtual 248, 3) := dk_182 0 248 (dk_at dksX9_laysTable_5 4 rfl rfl)
theorem dX9_laysTable_125 : decode cX9_laysTable 125 = .ok (.imul, 1) := dk_104 (dk_at dksX9_laysTable_5 7 rfl rfl)
theorem dX9_laysTable_126 : decode cX9_laysTable 126 = .ok (.if_icmp .ge 134, 3) := dk_162 0 134 (dk_at dksX9_laysTable_5 8 rfl rfl)
theorem dX9_laysTable_129 : decode cX9_laysTable 129 = .ok (.iload_n 3, 1) := dk_29 (dk_at dksX9_laysTable_5 11 rfl rfl)
theorem dX9_laysTable_130 : decode cX9_laysTable 130 = .ok (.aload_n 0, 1) := dk_42 (dk_at dksX9_laysTable_5 12 rfl rfl)
theorem dX9_laysTable_131 : decode cX9_laysTable 131 = .ok (.invokevirtual 248, 3) := dk_182 0 248 (dk_at dksX9_laysTable_5 13 rfl rfl)
theorem dX9_laysTable_134 : decode cX9_laysTable 134 = .ok (.idiv, 1) := dk_108 (dk_at dksX9_laysTable_5 16 rfl rfl)
theorem dX9_laysTable_135 : decode cX9_laysTable 135 = .ok (.istore 4, 2) := dk_54 4 (dk_at dksX9_laysTable_5 17 rfl rfl)
theorem dX9_laysTable_137 : decode cX9_laysTable 137 = .ok (.iload_n 3, 1) := dk_29 (dk_at dksX9_laysTable_5 19 rfl rfl)
theorem dX9_laysTable_138 : decode cX9_laysTable 138 = .ok (.aload_n 0, 1) := dk_42 (dk_at dksX9_laysTable_5 20 rfl rfl)
theorem dX9_laysTable_139 : decode cX9_laysTable 139 = .ok (.invokevirtual 248, 3) := dk_182 0 248 (dk_at dksX9_laysTable_5 21 rfl rfl)
theorem dX9_laysTable_142 : decode cX9_laysTable 142 = .ok (.irem, 1) := dk_112 (dk_at dksX9_laysTable_6 0 rfl rfl)
theorem dX9_laysTable_143 : decode cX9_laysTable 143 = .ok (.iload 4, 2) := dk_21 4 (dk_at dksX9_laysTable_6 1 rfl rfl)
theorem dX9_laysTable_145 : decode cX9_laysTable 145 = .ok (.invokestatic 261, 3) := dk_184 1 5 (dk_at dksX9_laysTable_6 3 rfl rfl)
theorem dX9_laysTable_148 : decode cX9_laysTable 148 = .ok (.ifCond .eq 6, 3) := dk_153 0 6 (dk_at dksX9_laysTable_6 6 rfl rfl)
theorem dX9_laysTable_151 : decode cX9_laysTable 151 = .ok (.goto 103, 3) := dk_167 0 103 (dk_at dksX9_laysTable_6 9 rfl rfl)
theorem dX9_laysTable_154 : decode cX9_laysTable 154 = .ok (.iconst 0, 1) := dk_3 (dk_at dksX9_laysTable_6 12 rfl rfl)
theorem dX9_laysTable_155 : decode cX9_laysTable 155 = .ok (.istore 5, 2) := dk_54 5 (dk_at dksX9_laysTable_6 13 rfl rfl)
theorem dX9_laysTable_157 : decode cX9_laysTable 157 = .ok (.iload 5, 2) := dk_21 5 (dk_at dksX9_laysTable_6 15 rfl rfl)
theorem dX9_laysTable_159 : decode cX9_laysTable 159 = .ok (.aload_n 0, 1) := dk_42 (dk_at dksX9_laysTable_6 17 rfl rfl)
theorem dX9_laysTable_160 : decode cX9_laysTable 160 = .ok (.invokevirtual 248, 3) := dk_182 0 248 (dk_at dksX9_laysTable_6 18 rfl rfl)
theorem dX9_laysTable_163 : decode cX9_laysTable 163 = .ok (.if_icmp .ge 35, 3) := dk_162 0 35 (dk_at dksX9_laysTable_6 21 rfl rfl)
theorem dX9_laysTable_166 : decode cX9_laysTable 166 = .ok (.aload_n 0, 1) := dk_42 (dk_at dksX9_laysTable_7 0 rfl rfl)
theorem dX9_laysTable_167 : decode cX9_laysTable 167 = .ok (.getfield 111, 3) := dk_180 0 111 (dk_at dksX9_laysTable_7 1 rfl rfl)
theorem dX9_laysTable_170 : decode cX9_laysTable 170 = .ok (.iload 5, 2) := dk_21 5 (dk_at dksX9_laysTable_7 4 rfl rfl)
theorem dX9_laysTable_172 : decode cX9_laysTable 172 = .ok (.aload_n 0, 1) := dk_42 (dk_at dksX9_laysTable_7 6 rfl rfl)
theorem dX9_laysTable_173 : decode cX9_laysTable 173 = .ok (.getfield 108, 3) := dk_180 0 108 (dk_at dksX9_laysTable_7 7 rfl rfl)
theorem dX9_laysTable_176 : decode cX9_laysTable 176 = .ok (.iload 5, 2) := dk_21 5 (dk_at dksX9_laysTable_7 10 rfl rfl)
theorem dX9_laysTable_178 : decode cX9_laysTable 178 = .ok (.iaload, 1) := dk_46 (dk_at dksX9_laysTable_7 12 rfl rfl)
theorem dX9_laysTable_179 : decode cX9_laysTable 179 = .ok (.iload 4, 2) := dk_21 4 (dk_at dksX9_laysTable_7 13 rfl rfl)
theorem dX9_laysTable_181 : decode cX9_laysTable 181 = .ok (.iload_n 3, 1) := dk_29 (dk_at dksX9_laysTable_7 15 rfl rfl)
theorem dX9_laysTable_182 : decode cX9_laysTable 182 = .ok (.aload_n 0, 1) := dk_42 (dk_at dksX9_laysTable_7 16 rfl rfl)
theorem dX9_laysTable_183 : decode cX9_laysTable 183 = .ok (.invokevirtual 248, 3) := dk_182 0 248 (dk_at dksX9_laysTable_7 17 rfl rfl)
theorem dX9_laysTable_186 : decode cX9_laysTable 186 = .ok (.irem, 1) := dk_112 (dk_at dksX9_laysTable_7 20 rfl rfl)
theorem dX9_laysTable_187 : decode cX9_laysTable 187 = .ok (.iconst 0, 1) := dk_3 (dk_at dksX9_laysTable_7 21 rfl rfl)
theorem dX9_laysTable_188 : decode cX9_laysTable 188 = .ok (.invokestatic 299, 3) := dk_184 1 43 (dk_at dksX9_laysTable_8 0 rfl rfl)
theorem dX9_laysTable_191 : decode cX9_laysTable 191 = .ok (.iastore, 1) := dk_79 (dk_at dksX9_laysTable_8 3 rfl rfl)
theorem dX9_laysTable_192 : decode cX9_laysTable 192 = .ok (.iinc 5 1, 3) := dk_132 5 1 (dk_at dksX9_laysTable_8 4 rfl rfl)
theorem dX9_laysTable_195 : decode cX9_laysTable 195 = .ok (.goto (-38), 3) := dk_167 255 218 (dk_at dksX9_laysTable_8 7 rfl rfl)
theorem dX9_laysTable_198 : decode cX9_laysTable 198 = .ok (.aload_n 0, 1) := dk_42 (dk_at dksX9_laysTable_8 10 rfl rfl)
theorem dX9_laysTable_199 : decode cX9_laysTable 199 = .ok (.aload_n 0, 1) := dk_42 (dk_at dksX9_laysTable_8 11 rfl rfl)
theorem dX9_laysTable_200 : decode cX9_laysTable 200 = .ok (.invokevirtual 248, 3) := dk_182 0 248 (dk_at dksX9_laysTable_8 12 rfl rfl)
theorem dX9_laysTable_203 : decode cX9_laysTable 203 = .ok (.invokevirtual 363, 3) := dk_182 1 107 (dk_at dksX9_laysTable_8 15 rfl rfl)
theorem dX9_laysTable_206 : decode cX9_laysTable 206 = .ok (.istore 5, 2) := dk_54 5 (dk_at dksX9_laysTable_8 18 rfl rfl)
theorem dX9_laysTable_208 : decode cX9_laysTable 208 = .ok (.aload_n 0, 1) := dk_42 (dk_at dksX9_laysTable_8 20 rfl rfl)
theorem dX9_laysTable_209 : decode cX9_laysTable 209 = .ok (.getfield 102, 3) := dk_180 0 102 (dk_at dksX9_laysTable_8 21 rfl rfl)
theorem dX9_laysTable_212 : decode cX9_laysTable 212 = .ok (.iload 5, 2) := dk_21 5 (dk_at dksX9_laysTable_9 0 rfl rfl)
theorem dX9_laysTable_214 : decode cX9_laysTable 214 = .ok (.iaload, 1) := dk_46 (dk_at dksX9_laysTable_9 2 rfl rfl)
theorem dX9_laysTable_215 : decode cX9_laysTable 215 = .ok (.bipush 99, 2) := dk_16 99 (dk_at dksX9_laysTable_9 3 rfl rfl)
theorem dX9_laysTable_217 : decode cX9_laysTable 217 = .ok (.if_icmp .ge 6, 3) := dk_162 0 6 (dk_at dksX9_laysTable_9 5 rfl rfl)
theorem dX9_laysTable_220 : decode cX9_laysTable 220 = .ok (.goto 34, 3) := dk_167 0 34 (dk_at dksX9_laysTable_9 8 rfl rfl)
theorem dX9_laysTable_223 : decode cX9_laysTable 223 = .ok (.aload_n 0, 1) := dk_42 (dk_at dksX9_laysTable_9 11 rfl rfl)
theorem dX9_laysTable_224 : decode cX9_laysTable 224 = .ok (.getfield 102, 3) := dk_180 0 102 (dk_at dksX9_laysTable_9 12 rfl rfl)
theorem dX9_laysTable_227 : decode cX9_laysTable 227 = .ok (.iload 5, 2) := dk_21 5 (dk_at dksX9_laysTable_9 15 rfl rfl)
theorem dX9_laysTable_229 : decode cX9_laysTable 229 = .ok (.aload_n 0, 1) := dk_42 (dk_at dksX9_laysTable_9 17 rfl rfl)
theorem dX9_laysTable_230 : decode cX9_laysTable 230 = .ok (.getfield 102, 3) := dk_180 0 102 (dk_at dksX9_laysTable_9 18 rfl rfl)
theorem dX9_laysTable_233 : decode cX9_laysTable 233 = .ok (.aload_n 0, 1) := dk_42 (dk_at dksX9_laysTable_9 21 rfl rfl)
theorem dX9_laysTable_234 : decode cX9_laysTable 234 = .ok (.getfield 105, 3) := dk_180 0 105 (dk_at dksX9_laysTable_10 0 rfl rfl)
theorem dX9_laysTable_237 : decode cX9_laysTable 237 = .ok (.iload_n 2, 1) := dk_28 (dk_at dksX9_laysTable_10 3 rfl rfl)
theorem dX9_laysTable_238 : decode cX9_laysTable 238 = .ok (.iaload, 1) := dk_46 (dk_at dksX9_laysTable_10 4 rfl rfl)
theorem dX9_laysTable_239 : decode cX9_laysTable 239 = .ok (.iaload, 1) := dk_46 (dk_at dksX9_laysTable_10 5 rfl rfl)
theorem dX9_laysTable_240 : decode cX9_laysTable 240 = .ok (.iconst 1, 1) := dk_4 (dk_at dksX9_laysTable_10 6 rfl rfl)
theorem dX9_laysTable_241 : decode cX9_laysTable 241 = .ok (.iadd, 1) := dk_96 (dk_at dksX9_laysTable_10 7 rfl rfl)
theorem dX9_laysTable_242 : decode cX9_laysTable 242 = .ok (.iastore, 1) := dk_79 (dk_at dksX9_laysTable_10 8 rfl rfl)
theorem dX9_laysTable_243 : decode cX9_laysTable 243 = .ok (.aload_n 0, 1) := dk_42 (dk_at dksX9_laysTable_10 9 rfl rfl)
theorem dX9_laysTable_244 : decode cX9_laysTable 244 = .ok (.getfield 105, 3) := dk_180 0 105 (dk_at dksX9_laysTable_10 10 rfl rfl)
theorem dX9_laysTable_247 : decode cX9_laysTable 247 = .ok (.iload_n 1, 1) := dk_27 (dk_at dksX9_laysTable_10 13 rfl rfl)
theorem dX9_laysTable_248 : decode cX9_laysTable 248 = .ok (.iload 5, 2) := dk_21 5 (dk_at dksX9_laysTable_10 14 rfl rfl)
theorem dX9_laysTable_250 : decode cX9_laysTable 250 = .ok (.iastore, 1) := dk_79 (dk_at dksX9_laysTable_10 16 rfl rfl)
theorem dX9_laysTable_251 : decode cX9_laysTable 251 = .ok (.iinc 1 1, 3) := dk_132 1 1 (dk_at dksX9_laysTable_10 17 rfl rfl)
theorem dX9_laysTable_254 : decode cX9_laysTable 254 = .ok (.iinc 3 1, 3) := dk_132 3 1 (dk_at dksX9_laysTable_10 20 rfl rfl)
theorem dX9_laysTable_257 : decode cX9_laysTable 257 = .ok (.goto (-141), 3) := dk_167 255 115 (dk_at dksX9_laysTable_11 0 rfl rfl)
theorem dX9_laysTable_260 : decode cX9_laysTable 260 = .ok (.iinc 2 1, 3) := dk_132 2 1 (dk_at dksX9_laysTable_11 3 rfl rfl)
theorem dX9_laysTable_263 : decode cX9_laysTable 263 = .ok (.goto (-168), 3) := dk_167 255 88 (dk_at dksX9_laysTable_11 6 rfl rfl)
theorem dX9_laysTable_266 : decode cX9_laysTable 266 = .ok (.return_, 1) := dk_177 (dk_at dksX9_laysTable_11 9 rfl rfl)
abbrev cX9_placeOf : ByteArray := prog_13_method_72_code
def yX9_placeOf : MethodName := ⟨RX9, "placeOf", "(I)I"⟩
def dkwX9_placeOf_2 : List UInt8 := [28, 27, 29, 100, 104, 21, 4, 96, 61, 132, 3, 1, 167, 255, 200, 28, 172]
abbrev dktX9_placeOf_2 : List UInt8 := dkwX9_placeOf_2 ++ []
def dkwX9_placeOf_1 : List UInt8 := [180, 0, 111, 21, 5, 46, 42, 180, 0, 111, 29, 46, 162, 0, 6, 132, 4, 1, 132, 5, 1, 167, 255, 228]
abbrev dktX9_placeOf_1 : List UInt8 := dkwX9_placeOf_1 ++ dktX9_placeOf_2
def dkwX9_placeOf_0 : List UInt8 := [3, 61, 3, 62, 29, 27, 162, 0, 57, 3, 54, 4, 29, 4, 96, 54, 5, 21, 5, 27, 162, 0, 28, 42]
abbrev dktX9_placeOf_0 : List UInt8 := dkwX9_placeOf_0 ++ dktX9_placeOf_1
theorem dksX9_placeOf_0 : cX9_placeOf.data.toList.drop 0 = dktX9_placeOf_0 := by decide +kernel
theorem dksX9_placeOf_1 : cX9_placeOf.data.toList.drop 24 = dktX9_placeOf_1 := dk_seg dksX9_placeOf_0 24 rfl rfl
theorem dksX9_placeOf_2 : cX9_placeOf.data.toList.drop 48 = dktX9_placeOf_2 := dk_seg dksX9_placeOf_1 24 rfl rfl
theorem dX9_placeOf_0 : decode cX9_placeOf 0 = .ok (.iconst 0, 1) := dk_3 (dk_at dksX9_placeOf_0 0 rfl rfl)
theorem dX9_placeOf_1 : decode cX9_placeOf 1 = .ok (.istore_n 2, 1) := dk_61 (dk_at dksX9_placeOf_0 1 rfl rfl)
theorem dX9_placeOf_2 : decode cX9_placeOf 2 = .ok (.iconst 0, 1) := dk_3 (dk_at dksX9_placeOf_0 2 rfl rfl)
theorem dX9_placeOf_3 : decode cX9_placeOf 3 = .ok (.istore_n 3, 1) := dk_62 (dk_at dksX9_placeOf_0 3 rfl rfl)
theorem dX9_placeOf_4 : decode cX9_placeOf 4 = .ok (.iload_n 3, 1) := dk_29 (dk_at dksX9_placeOf_0 4 rfl rfl)
theorem dX9_placeOf_5 : decode cX9_placeOf 5 = .ok (.iload_n 1, 1) := dk_27 (dk_at dksX9_placeOf_0 5 rfl rfl)
theorem dX9_placeOf_6 : decode cX9_placeOf 6 = .ok (.if_icmp .ge 57, 3) := dk_162 0 57 (dk_at dksX9_placeOf_0 6 rfl rfl)
theorem dX9_placeOf_9 : decode cX9_placeOf 9 = .ok (.iconst 0, 1) := dk_3 (dk_at dksX9_placeOf_0 9 rfl rfl)
theorem dX9_placeOf_10 : decode cX9_placeOf 10 = .ok (.istore 4, 2) := dk_54 4 (dk_at dksX9_placeOf_0 10 rfl rfl)
theorem dX9_placeOf_12 : decode cX9_placeOf 12 = .ok (.iload_n 3, 1) := dk_29 (dk_at dksX9_placeOf_0 12 rfl rfl)
theorem dX9_placeOf_13 : decode cX9_placeOf 13 = .ok (.iconst 1, 1) := dk_4 (dk_at dksX9_placeOf_0 13 rfl rfl)
theorem dX9_placeOf_14 : decode cX9_placeOf 14 = .ok (.iadd, 1) := dk_96 (dk_at dksX9_placeOf_0 14 rfl rfl)
theorem dX9_placeOf_15 : decode cX9_placeOf 15 = .ok (.istore 5, 2) := dk_54 5 (dk_at dksX9_placeOf_0 15 rfl rfl)
theorem dX9_placeOf_17 : decode cX9_placeOf 17 = .ok (.iload 5, 2) := dk_21 5 (dk_at dksX9_placeOf_0 17 rfl rfl)
theorem dX9_placeOf_19 : decode cX9_placeOf 19 = .ok (.iload_n 1, 1) := dk_27 (dk_at dksX9_placeOf_0 19 rfl rfl)
theorem dX9_placeOf_20 : decode cX9_placeOf 20 = .ok (.if_icmp .ge 28, 3) := dk_162 0 28 (dk_at dksX9_placeOf_0 20 rfl rfl)
theorem dX9_placeOf_23 : decode cX9_placeOf 23 = .ok (.aload_n 0, 1) := dk_42 (dk_at dksX9_placeOf_0 23 rfl rfl)
theorem dX9_placeOf_24 : decode cX9_placeOf 24 = .ok (.getfield 111, 3) := dk_180 0 111 (dk_at dksX9_placeOf_1 0 rfl rfl)
theorem dX9_placeOf_27 : decode cX9_placeOf 27 = .ok (.iload 5, 2) := dk_21 5 (dk_at dksX9_placeOf_1 3 rfl rfl)
theorem dX9_placeOf_29 : decode cX9_placeOf 29 = .ok (.iaload, 1) := dk_46 (dk_at dksX9_placeOf_1 5 rfl rfl)
theorem dX9_placeOf_30 : decode cX9_placeOf 30 = .ok (.aload_n 0, 1) := dk_42 (dk_at dksX9_placeOf_1 6 rfl rfl)
theorem dX9_placeOf_31 : decode cX9_placeOf 31 = .ok (.getfield 111, 3) := dk_180 0 111 (dk_at dksX9_placeOf_1 7 rfl rfl)
theorem dX9_placeOf_34 : decode cX9_placeOf 34 = .ok (.iload_n 3, 1) := dk_29 (dk_at dksX9_placeOf_1 10 rfl rfl)
theorem dX9_placeOf_35 : decode cX9_placeOf 35 = .ok (.iaload, 1) := dk_46 (dk_at dksX9_placeOf_1 11 rfl rfl)
theorem dX9_placeOf_36 : decode cX9_placeOf 36 = .ok (.if_icmp .ge 6, 3) := dk_162 0 6 (dk_at dksX9_placeOf_1 12 rfl rfl)
theorem dX9_placeOf_39 : decode cX9_placeOf 39 = .ok (.iinc 4 1, 3) := dk_132 4 1 (dk_at dksX9_placeOf_1 15 rfl rfl)
theorem dX9_placeOf_42 : decode cX9_placeOf 42 = .ok (.iinc 5 1, 3) := dk_132 5 1 (dk_at dksX9_placeOf_1 18 rfl rfl)
theorem dX9_placeOf_45 : decode cX9_placeOf 45 = .ok (.goto (-28), 3) := dk_167 255 228 (dk_at dksX9_placeOf_1 21 rfl rfl)
theorem dX9_placeOf_48 : decode cX9_placeOf 48 = .ok (.iload_n 2, 1) := dk_28 (dk_at dksX9_placeOf_2 0 rfl rfl)
theorem dX9_placeOf_49 : decode cX9_placeOf 49 = .ok (.iload_n 1, 1) := dk_27 (dk_at dksX9_placeOf_2 1 rfl rfl)
theorem dX9_placeOf_50 : decode cX9_placeOf 50 = .ok (.iload_n 3, 1) := dk_29 (dk_at dksX9_placeOf_2 2 rfl rfl)
theorem dX9_placeOf_51 : decode cX9_placeOf 51 = .ok (.isub, 1) := dk_100 (dk_at dksX9_placeOf_2 3 rfl rfl)
theorem dX9_placeOf_52 : decode cX9_placeOf 52 = .ok (.imul, 1) := dk_104 (dk_at dksX9_placeOf_2 4 rfl rfl)
theorem dX9_placeOf_53 : decode cX9_placeOf 53 = .ok (.iload 4, 2) := dk_21 4 (dk_at dksX9_placeOf_2 5 rfl rfl)
theorem dX9_placeOf_55 : decode cX9_placeOf 55 = .ok (.iadd, 1) := dk_96 (dk_at dksX9_placeOf_2 7 rfl rfl)
theorem dX9_placeOf_56 : decode cX9_placeOf 56 = .ok (.istore_n 2, 1) := dk_61 (dk_at dksX9_placeOf_2 8 rfl rfl)
theorem dX9_placeOf_57 : decode cX9_placeOf 57 = .ok (.iinc 3 1, 3) := dk_132 3 1 (dk_at dksX9_placeOf_2 9 rfl rfl)
theorem dX9_placeOf_60 : decode cX9_placeOf 60 = .ok (.goto (-56), 3) := dk_167 255 200 (dk_at dksX9_placeOf_2 12 rfl rfl)
theorem dX9_placeOf_63 : decode cX9_placeOf 63 = .ok (.iload_n 2, 1) := dk_28 (dk_at dksX9_placeOf_2 15 rfl rfl)
theorem dX9_placeOf_64 : decode cX9_placeOf 64 = .ok (.ireturn, 1) := dk_172 (dk_at dksX9_placeOf_2 16 rfl rfl)
abbrev cX9_laysPlace : ByteArray := prog_13_method_73_code
def yX9_laysPlace : MethodName := ⟨RX9, "laysPlace", "(II)V"⟩
def dkwX9_laysPlace_3 : List UInt8 := [132, 5, 1, 167, 255, 219, 132, 4, 255, 167, 255, 182, 177]
abbrev dktX9_laysPlace_3 : List UInt8 := dkwX9_laysPlace_3 ++ []
def dkwX9_laysPlace_2 : List UInt8 := [21, 5, 46, 42, 180, 0, 108, 21, 4, 46, 161, 0, 14, 42, 180, 0, 108, 21, 5, 92, 46, 4, 96, 79]
abbrev dktX9_laysPlace_2 : List UInt8 := dkwX9_laysPlace_2 ++ dktX9_laysPlace_3
def dkwX9_laysPlace_1 : List UInt8 := [79, 29, 28, 21, 4, 100, 108, 62, 21, 4, 4, 96, 54, 5, 21, 5, 28, 162, 0, 37, 42, 180, 0, 108]
abbrev dktX9_laysPlace_1 : List UInt8 := dkwX9_laysPlace_1 ++ dktX9_laysPlace_2
def dkwX9_laysPlace_0 : List UInt8 := [27, 62, 28, 4, 100, 54, 4, 21, 4, 155, 0, 75, 42, 180, 0, 108, 21, 4, 29, 28, 21, 4, 100, 112]
abbrev dktX9_laysPlace_0 : List UInt8 := dkwX9_laysPlace_0 ++ dktX9_laysPlace_1
theorem dksX9_laysPlace_0 : cX9_laysPlace.data.toList.drop 0 = dktX9_laysPlace_0 := by decide +kernel
theorem dksX9_laysPlace_1 : cX9_laysPlace.data.toList.drop 24 = dktX9_laysPlace_1 := dk_seg dksX9_laysPlace_0 24 rfl rfl
theorem dksX9_laysPlace_2 : cX9_laysPlace.data.toList.drop 48 = dktX9_laysPlace_2 := dk_seg dksX9_laysPlace_1 24 rfl rfl
theorem dksX9_laysPlace_3 : cX9_laysPlace.data.toList.drop 72 = dktX9_laysPlace_3 := dk_seg dksX9_laysPlace_2 24 rfl rfl
theorem dX9_laysPlace_0 : decode cX9_laysPlace 0 = .ok (.iload_n 1, 1) := dk_27 (dk_at dksX9_laysPlace_0 0 rfl rfl)
theorem dX9_laysPlace_1 : decode cX9_laysPlace 1 = .ok (.istore_n 3, 1) := dk_62 (dk_at dksX9_laysPlace_0 1 rfl rfl)
theorem dX9_laysPlace_2 : decode cX9_laysPlace 2 = .ok (.iload_n 2, 1) := dk_28 (dk_at dksX9_laysPlace_0 2 rfl rfl)
theorem dX9_laysPlace_3 : decode cX9_laysPlace 3 = .ok (.iconst 1, 1) := dk_4 (dk_at dksX9_laysPlace_0 3 rfl rfl)
theorem dX9_laysPlace_4 : decode cX9_laysPlace 4 = .ok (.isub, 1) := dk_100 (dk_at dksX9_laysPlace_0 4 rfl rfl)
theorem dX9_laysPlace_5 : decode cX9_laysPlace 5 = .ok (.istore 4, 2) := dk_54 4 (dk_at dksX9_laysPlace_0 5 rfl rfl)
theorem dX9_laysPlace_7 : decode cX9_laysPlace 7 = .ok (.iload 4, 2) := dk_21 4 (dk_at dksX9_laysPlace_0 7 rfl rfl)
theorem dX9_laysPlace_9 : decode cX9_laysPlace 9 = .ok (.ifCond .lt 75, 3) := dk_155 0 75 (dk_at dksX9_laysPlace_0 9 rfl rfl)
theorem dX9_laysPlace_12 : decode cX9_laysPlace 12 = .ok (.aload_n 0, 1) := dk_42 (dk_at dksX9_laysPlace_0 12 rfl rfl)
theorem dX9_laysPlace_13 : decode cX9_laysPlace 13 = .ok (.getfield 108, 3) := dk_180 0 108 (dk_at dksX9_laysPlace_0 13 rfl rfl)
theorem dX9_laysPlace_16 : decode cX9_laysPlace 16 = .ok (.iload 4, 2) := dk_21 4 (dk_at dksX9_laysPlace_0 16 rfl rfl)
theorem dX9_laysPlace_18 : decode cX9_laysPlace 18 = .ok (.iload_n 3, 1) := dk_29 (dk_at dksX9_laysPlace_0 18 rfl rfl)
theorem dX9_laysPlace_19 : decode cX9_laysPlace 19 = .ok (.iload_n 2, 1) := dk_28 (dk_at dksX9_laysPlace_0 19 rfl rfl)
theorem dX9_laysPlace_20 : decode cX9_laysPlace 20 = .ok (.iload 4, 2) := dk_21 4 (dk_at dksX9_laysPlace_0 20 rfl rfl)
theorem dX9_laysPlace_22 : decode cX9_laysPlace 22 = .ok (.isub, 1) := dk_100 (dk_at dksX9_laysPlace_0 22 rfl rfl)
theorem dX9_laysPlace_23 : decode cX9_laysPlace 23 = .ok (.irem, 1) := dk_112 (dk_at dksX9_laysPlace_0 23 rfl rfl)
theorem dX9_laysPlace_24 : decode cX9_laysPlace 24 = .ok (.iastore, 1) := dk_79 (dk_at dksX9_laysPlace_1 0 rfl rfl)
theorem dX9_laysPlace_25 : decode cX9_laysPlace 25 = .ok (.iload_n 3, 1) := dk_29 (dk_at dksX9_laysPlace_1 1 rfl rfl)
theorem dX9_laysPlace_26 : decode cX9_laysPlace 26 = .ok (.iload_n 2, 1) := dk_28 (dk_at dksX9_laysPlace_1 2 rfl rfl)
theorem dX9_laysPlace_27 : decode cX9_laysPlace 27 = .ok (.iload 4, 2) := dk_21 4 (dk_at dksX9_laysPlace_1 3 rfl rfl)
theorem dX9_laysPlace_29 : decode cX9_laysPlace 29 = .ok (.isub, 1) := dk_100 (dk_at dksX9_laysPlace_1 5 rfl rfl)
theorem dX9_laysPlace_30 : decode cX9_laysPlace 30 = .ok (.idiv, 1) := dk_108 (dk_at dksX9_laysPlace_1 6 rfl rfl)
theorem dX9_laysPlace_31 : decode cX9_laysPlace 31 = .ok (.istore_n 3, 1) := dk_62 (dk_at dksX9_laysPlace_1 7 rfl rfl)
theorem dX9_laysPlace_32 : decode cX9_laysPlace 32 = .ok (.iload 4, 2) := dk_21 4 (dk_at dksX9_laysPlace_1 8 rfl rfl)
theorem dX9_laysPlace_34 : decode cX9_laysPlace 34 = .ok (.iconst 1, 1) := dk_4 (dk_at dksX9_laysPlace_1 10 rfl rfl)
theorem dX9_laysPlace_35 : decode cX9_laysPlace 35 = .ok (.iadd, 1) := dk_96 (dk_at dksX9_laysPlace_1 11 rfl rfl)
theorem dX9_laysPlace_36 : decode cX9_laysPlace 36 = .ok (.istore 5, 2) := dk_54 5 (dk_at dksX9_laysPlace_1 12 rfl rfl)
theorem dX9_laysPlace_38 : decode cX9_laysPlace 38 = .ok (.iload 5, 2) := dk_21 5 (dk_at dksX9_laysPlace_1 14 rfl rfl)
theorem dX9_laysPlace_40 : decode cX9_laysPlace 40 = .ok (.iload_n 2, 1) := dk_28 (dk_at dksX9_laysPlace_1 16 rfl rfl)
theorem dX9_laysPlace_41 : decode cX9_laysPlace 41 = .ok (.if_icmp .ge 37, 3) := dk_162 0 37 (dk_at dksX9_laysPlace_1 17 rfl rfl)
theorem dX9_laysPlace_44 : decode cX9_laysPlace 44 = .ok (.aload_n 0, 1) := dk_42 (dk_at dksX9_laysPlace_1 20 rfl rfl)
theorem dX9_laysPlace_45 : decode cX9_laysPlace 45 = .ok (.getfield 108, 3) := dk_180 0 108 (dk_at dksX9_laysPlace_1 21 rfl rfl)
theorem dX9_laysPlace_48 : decode cX9_laysPlace 48 = .ok (.iload 5, 2) := dk_21 5 (dk_at dksX9_laysPlace_2 0 rfl rfl)
theorem dX9_laysPlace_50 : decode cX9_laysPlace 50 = .ok (.iaload, 1) := dk_46 (dk_at dksX9_laysPlace_2 2 rfl rfl)
theorem dX9_laysPlace_51 : decode cX9_laysPlace 51 = .ok (.aload_n 0, 1) := dk_42 (dk_at dksX9_laysPlace_2 3 rfl rfl)
theorem dX9_laysPlace_52 : decode cX9_laysPlace 52 = .ok (.getfield 108, 3) := dk_180 0 108 (dk_at dksX9_laysPlace_2 4 rfl rfl)
theorem dX9_laysPlace_55 : decode cX9_laysPlace 55 = .ok (.iload 4, 2) := dk_21 4 (dk_at dksX9_laysPlace_2 7 rfl rfl)
theorem dX9_laysPlace_57 : decode cX9_laysPlace 57 = .ok (.iaload, 1) := dk_46 (dk_at dksX9_laysPlace_2 9 rfl rfl)
theorem dX9_laysPlace_58 : decode cX9_laysPlace 58 = .ok (.if_icmp .lt 14, 3) := dk_161 0 14 (dk_at dksX9_laysPlace_2 10 rfl rfl)
theorem dX9_laysPlace_61 : decode cX9_laysPlace 61 = .ok (.aload_n 0, 1) := dk_42 (dk_at dksX9_laysPlace_2 13 rfl rfl)
theorem dX9_laysPlace_62 : decode cX9_laysPlace 62 = .ok (.getfield 108, 3) := dk_180 0 108 (dk_at dksX9_laysPlace_2 14 rfl rfl)
theorem dX9_laysPlace_65 : decode cX9_laysPlace 65 = .ok (.iload 5, 2) := dk_21 5 (dk_at dksX9_laysPlace_2 17 rfl rfl)
theorem dX9_laysPlace_67 : decode cX9_laysPlace 67 = .ok (.dup2, 1) := dk_92 (dk_at dksX9_laysPlace_2 19 rfl rfl)
theorem dX9_laysPlace_68 : decode cX9_laysPlace 68 = .ok (.iaload, 1) := dk_46 (dk_at dksX9_laysPlace_2 20 rfl rfl)
theorem dX9_laysPlace_69 : decode cX9_laysPlace 69 = .ok (.iconst 1, 1) := dk_4 (dk_at dksX9_laysPlace_2 21 rfl rfl)
theorem dX9_laysPlace_70 : decode cX9_laysPlace 70 = .ok (.iadd, 1) := dk_96 (dk_at dksX9_laysPlace_2 22 rfl rfl)
theorem dX9_laysPlace_71 : decode cX9_laysPlace 71 = .ok (.iastore, 1) := dk_79 (dk_at dksX9_laysPlace_2 23 rfl rfl)
theorem dX9_laysPlace_72 : decode cX9_laysPlace 72 = .ok (.iinc 5 1, 3) := dk_132 5 1 (dk_at dksX9_laysPlace_3 0 rfl rfl)
theorem dX9_laysPlace_75 : decode cX9_laysPlace 75 = .ok (.goto (-37), 3) := dk_167 255 219 (dk_at dksX9_laysPlace_3 3 rfl rfl)
theorem dX9_laysPlace_78 : decode cX9_laysPlace 78 = .ok (.iinc 4 (-1), 3) := dk_132 4 255 (dk_at dksX9_laysPlace_3 6 rfl rfl)
theorem dX9_laysPlace_81 : decode cX9_laysPlace 81 = .ok (.goto (-74), 3) := dk_167 255 182 (dk_at dksX9_laysPlace_3 9 rfl rfl)
theorem dX9_laysPlace_84 : decode cX9_laysPlace 84 = .ok (.return_, 1) := dk_177 (dk_at dksX9_laysPlace_3 12 rfl rfl)
abbrev cX9_fewestFor : ByteArray := prog_13_method_75_code
def yX9_fewestFor : MethodName := ⟨RX9, "fewestFor", "()I"⟩
def dkwX9_fewestFor_1 : List UInt8 := [132, 1, 1, 167, 255, 233, 42, 180, 0, 102, 42, 42, 182, 0, 248, 182, 1, 107, 46, 172]
abbrev dktX9_fewestFor_1 : List UInt8 := dkwX9_fewestFor_1 ++ []
def dkwX9_fewestFor_0 : List UInt8 := [3, 60, 27, 42, 182, 0, 248, 162, 0, 21, 42, 180, 0, 111, 27, 42, 180, 0, 68, 27, 46, 79]
abbrev dktX9_fewestFor_0 : List UInt8 := dkwX9_fewestFor_0 ++ dktX9_fewestFor_1
theorem dksX9_fewestFor_0 : cX9_fewestFor.data.toList.drop 0 = dktX9_fewestFor_0 := by decide +kernel
theorem dksX9_fewestFor_1 : cX9_fewestFor.data.toList.drop 22 = dktX9_fewestFor_1 := dk_seg dksX9_fewestFor_0 22 rfl rfl
theorem dX9_fewestFor_0 : decode cX9_fewestFor 0 = .ok (.iconst 0, 1) := dk_3 (dk_at dksX9_fewestFor_0 0 rfl rfl)
theorem dX9_fewestFor_1 : decode cX9_fewestFor 1 = .ok (.istore_n 1, 1) := dk_60 (dk_at dksX9_fewestFor_0 1 rfl rfl)
theorem dX9_fewestFor_2 : decode cX9_fewestFor 2 = .ok (.iload_n 1, 1) := dk_27 (dk_at dksX9_fewestFor_0 2 rfl rfl)
theorem dX9_fewestFor_3 : decode cX9_fewestFor 3 = .ok (.aload_n 0, 1) := dk_42 (dk_at dksX9_fewestFor_0 3 rfl rfl)
theorem dX9_fewestFor_4 : decode cX9_fewestFor 4 = .ok (.invokevirtual 248, 3) := dk_182 0 248 (dk_at dksX9_fewestFor_0 4 rfl rfl)
theorem dX9_fewestFor_7 : decode cX9_fewestFor 7 = .ok (.if_icmp .ge 21, 3) := dk_162 0 21 (dk_at dksX9_fewestFor_0 7 rfl rfl)
theorem dX9_fewestFor_10 : decode cX9_fewestFor 10 = .ok (.aload_n 0, 1) := dk_42 (dk_at dksX9_fewestFor_0 10 rfl rfl)
theorem dX9_fewestFor_11 : decode cX9_fewestFor 11 = .ok (.getfield 111, 3) := dk_180 0 111 (dk_at dksX9_fewestFor_0 11 rfl rfl)
theorem dX9_fewestFor_14 : decode cX9_fewestFor 14 = .ok (.iload_n 1, 1) := dk_27 (dk_at dksX9_fewestFor_0 14 rfl rfl)
theorem dX9_fewestFor_15 : decode cX9_fewestFor 15 = .ok (.aload_n 0, 1) := dk_42 (dk_at dksX9_fewestFor_0 15 rfl rfl)
theorem dX9_fewestFor_16 : decode cX9_fewestFor 16 = .ok (.getfield 68, 3) := dk_180 0 68 (dk_at dksX9_fewestFor_0 16 rfl rfl)
theorem dX9_fewestFor_19 : decode cX9_fewestFor 19 = .ok (.iload_n 1, 1) := dk_27 (dk_at dksX9_fewestFor_0 19 rfl rfl)
theorem dX9_fewestFor_20 : decode cX9_fewestFor 20 = .ok (.iaload, 1) := dk_46 (dk_at dksX9_fewestFor_0 20 rfl rfl)
theorem dX9_fewestFor_21 : decode cX9_fewestFor 21 = .ok (.iastore, 1) := dk_79 (dk_at dksX9_fewestFor_0 21 rfl rfl)
theorem dX9_fewestFor_22 : decode cX9_fewestFor 22 = .ok (.iinc 1 1, 3) := dk_132 1 1 (dk_at dksX9_fewestFor_1 0 rfl rfl)
theorem dX9_fewestFor_25 : decode cX9_fewestFor 25 = .ok (.goto (-23), 3) := dk_167 255 233 (dk_at dksX9_fewestFor_1 3 rfl rfl)
theorem dX9_fewestFor_28 : decode cX9_fewestFor 28 = .ok (.aload_n 0, 1) := dk_42 (dk_at dksX9_fewestFor_1 6 rfl rfl)
theorem dX9_fewestFor_29 : decode cX9_fewestFor 29 = .ok (.getfield 102, 3) := dk_180 0 102 (dk_at dksX9_fewestFor_1 7 rfl rfl)
theorem dX9_fewestFor_32 : decode cX9_fewestFor 32 = .ok (.aload_n 0, 1) := dk_42 (dk_at dksX9_fewestFor_1 10 rfl rfl)
theorem dX9_fewestFor_33 : decode cX9_fewestFor 33 = .ok (.aload_n 0, 1) := dk_42 (dk_at dksX9_fewestFor_1 11 rfl rfl)
theorem dX9_fewestFor_34 : decode cX9_fewestFor 34 = .ok (.invokevirtual 248, 3) := dk_182 0 248 (dk_at dksX9_fewestFor_1 12 rfl rfl)
theorem dX9_fewestFor_37 : decode cX9_fewestFor 37 = .ok (.invokevirtual 363, 3) := dk_182 1 107 (dk_at dksX9_fewestFor_1 15 rfl rfl)
theorem dX9_fewestFor_40 : decode cX9_fewestFor 40 = .ok (.iaload, 1) := dk_46 (dk_at dksX9_fewestFor_1 18 rfl rfl)
theorem dX9_fewestFor_41 : decode cX9_fewestFor 41 = .ok (.ireturn, 1) := dk_172 (dk_at dksX9_fewestFor_1 19 rfl rfl)
abbrev cX9_undo : ByteArray := prog_13_method_43_code
def yX9_undo : MethodName := ⟨RX9, "undo", "()Z"⟩
def dkwX9_undo_2 : List UInt8 := [180, 0, 52, 28, 42, 180, 0, 58, 27, 28, 96, 46, 79, 132, 2, 1, 167, 255, 233, 4, 172]
abbrev dktX9_undo_2 : List UInt8 := dkwX9_undo_2 ++ []
def dkwX9_undo_1 : List UInt8 := [180, 0, 251, 42, 180, 0, 218, 96, 16, 40, 112, 104, 60, 3, 61, 28, 16, 49, 162, 0, 23, 42]
abbrev dktX9_undo_1 : List UInt8 := dkwX9_undo_1 ++ dktX9_undo_2
def dkwX9_undo_0 : List UInt8 := [42, 180, 0, 218, 154, 0, 5, 3, 172, 42, 89, 180, 0, 218, 4, 100, 181, 0, 218, 16, 49, 42]
abbrev dktX9_undo_0 : List UInt8 := dkwX9_undo_0 ++ dktX9_undo_1
theorem dksX9_undo_0 : cX9_undo.data.toList.drop 0 = dktX9_undo_0 := by decide +kernel
theorem dksX9_undo_1 : cX9_undo.data.toList.drop 22 = dktX9_undo_1 := dk_seg dksX9_undo_0 22 rfl rfl
theorem dksX9_undo_2 : cX9_undo.data.toList.drop 44 = dktX9_undo_2 := dk_seg dksX9_undo_1 22 rfl rfl
theorem dX9_undo_0 : decode cX9_undo 0 = .ok (.aload_n 0, 1) := dk_42 (dk_at dksX9_undo_0 0 rfl rfl)
theorem dX9_undo_1 : decode cX9_undo 1 = .ok (.getfield 218, 3) := dk_180 0 218 (dk_at dksX9_undo_0 1 rfl rfl)
theorem dX9_undo_4 : decode cX9_undo 4 = .ok (.ifCond .ne 5, 3) := dk_154 0 5 (dk_at dksX9_undo_0 4 rfl rfl)
theorem dX9_undo_7 : decode cX9_undo 7 = .ok (.iconst 0, 1) := dk_3 (dk_at dksX9_undo_0 7 rfl rfl)
theorem dX9_undo_8 : decode cX9_undo 8 = .ok (.ireturn, 1) := dk_172 (dk_at dksX9_undo_0 8 rfl rfl)
theorem dX9_undo_9 : decode cX9_undo 9 = .ok (.aload_n 0, 1) := dk_42 (dk_at dksX9_undo_0 9 rfl rfl)
theorem dX9_undo_10 : decode cX9_undo 10 = .ok (.dup, 1) := dk_89 (dk_at dksX9_undo_0 10 rfl rfl)
theorem dX9_undo_11 : decode cX9_undo 11 = .ok (.getfield 218, 3) := dk_180 0 218 (dk_at dksX9_undo_0 11 rfl rfl)
theorem dX9_undo_14 : decode cX9_undo 14 = .ok (.iconst 1, 1) := dk_4 (dk_at dksX9_undo_0 14 rfl rfl)
theorem dX9_undo_15 : decode cX9_undo 15 = .ok (.isub, 1) := dk_100 (dk_at dksX9_undo_0 15 rfl rfl)
theorem dX9_undo_16 : decode cX9_undo 16 = .ok (.putfield 218, 3) := dk_181 0 218 (dk_at dksX9_undo_0 16 rfl rfl)
theorem dX9_undo_19 : decode cX9_undo 19 = .ok (.bipush 49, 2) := dk_16 49 (dk_at dksX9_undo_0 19 rfl rfl)
theorem dX9_undo_21 : decode cX9_undo 21 = .ok (.aload_n 0, 1) := dk_42 (dk_at dksX9_undo_0 21 rfl rfl)
theorem dX9_undo_22 : decode cX9_undo 22 = .ok (.getfield 251, 3) := dk_180 0 251 (dk_at dksX9_undo_1 0 rfl rfl)
theorem dX9_undo_25 : decode cX9_undo 25 = .ok (.aload_n 0, 1) := dk_42 (dk_at dksX9_undo_1 3 rfl rfl)
theorem dX9_undo_26 : decode cX9_undo 26 = .ok (.getfield 218, 3) := dk_180 0 218 (dk_at dksX9_undo_1 4 rfl rfl)
theorem dX9_undo_29 : decode cX9_undo 29 = .ok (.iadd, 1) := dk_96 (dk_at dksX9_undo_1 7 rfl rfl)
theorem dX9_undo_30 : decode cX9_undo 30 = .ok (.bipush 40, 2) := dk_16 40 (dk_at dksX9_undo_1 8 rfl rfl)
theorem dX9_undo_32 : decode cX9_undo 32 = .ok (.irem, 1) := dk_112 (dk_at dksX9_undo_1 10 rfl rfl)
theorem dX9_undo_33 : decode cX9_undo 33 = .ok (.imul, 1) := dk_104 (dk_at dksX9_undo_1 11 rfl rfl)
theorem dX9_undo_34 : decode cX9_undo 34 = .ok (.istore_n 1, 1) := dk_60 (dk_at dksX9_undo_1 12 rfl rfl)
theorem dX9_undo_35 : decode cX9_undo 35 = .ok (.iconst 0, 1) := dk_3 (dk_at dksX9_undo_1 13 rfl rfl)
theorem dX9_undo_36 : decode cX9_undo 36 = .ok (.istore_n 2, 1) := dk_61 (dk_at dksX9_undo_1 14 rfl rfl)
theorem dX9_undo_37 : decode cX9_undo 37 = .ok (.iload_n 2, 1) := dk_28 (dk_at dksX9_undo_1 15 rfl rfl)
theorem dX9_undo_38 : decode cX9_undo 38 = .ok (.bipush 49, 2) := dk_16 49 (dk_at dksX9_undo_1 16 rfl rfl)
theorem dX9_undo_40 : decode cX9_undo 40 = .ok (.if_icmp .ge 23, 3) := dk_162 0 23 (dk_at dksX9_undo_1 18 rfl rfl)
theorem dX9_undo_43 : decode cX9_undo 43 = .ok (.aload_n 0, 1) := dk_42 (dk_at dksX9_undo_1 21 rfl rfl)
theorem dX9_undo_44 : decode cX9_undo 44 = .ok (.getfield 52, 3) := dk_180 0 52 (dk_at dksX9_undo_2 0 rfl rfl)
theorem dX9_undo_47 : decode cX9_undo 47 = .ok (.iload_n 2, 1) := dk_28 (dk_at dksX9_undo_2 3 rfl rfl)
theorem dX9_undo_48 : decode cX9_undo 48 = .ok (.aload_n 0, 1) := dk_42 (dk_at dksX9_undo_2 4 rfl rfl)
theorem dX9_undo_49 : decode cX9_undo 49 = .ok (.getfield 58, 3) := dk_180 0 58 (dk_at dksX9_undo_2 5 rfl rfl)
theorem dX9_undo_52 : decode cX9_undo 52 = .ok (.iload_n 1, 1) := dk_27 (dk_at dksX9_undo_2 8 rfl rfl)
theorem dX9_undo_53 : decode cX9_undo 53 = .ok (.iload_n 2, 1) := dk_28 (dk_at dksX9_undo_2 9 rfl rfl)
theorem dX9_undo_54 : decode cX9_undo 54 = .ok (.iadd, 1) := dk_96 (dk_at dksX9_undo_2 10 rfl rfl)
theorem dX9_undo_55 : decode cX9_undo 55 = .ok (.iaload, 1) := dk_46 (dk_at dksX9_undo_2 11 rfl rfl)
theorem dX9_undo_56 : decode cX9_undo 56 = .ok (.iastore, 1) := dk_79 (dk_at dksX9_undo_2 12 rfl rfl)
theorem dX9_undo_57 : decode cX9_undo 57 = .ok (.iinc 2 1, 3) := dk_132 2 1 (dk_at dksX9_undo_2 13 rfl rfl)
theorem dX9_undo_60 : decode cX9_undo 60 = .ok (.goto (-23), 3) := dk_167 255 233 (dk_at dksX9_undo_2 16 rfl rfl)
theorem dX9_undo_63 : decode cX9_undo 63 = .ok (.iconst 1, 1) := dk_4 (dk_at dksX9_undo_2 19 rfl rfl)
theorem dX9_undo_64 : decode cX9_undo 64 = .ok (.ireturn, 1) := dk_172 (dk_at dksX9_undo_2 20 rfl rfl)
abbrev cX9_hold : ByteArray := prog_13_method_44_code
def yX9_hold : MethodName := ⟨RX9, "hold", "(I)Z"⟩
def dkwX9_hold_2 : List UInt8 := [4, 84, 4, 172]
abbrev dktX9_hold_2 : List UInt8 := dkwX9_hold_2 ++ []
def dkwX9_hold_1 : List UInt8 := [16, 49, 27, 104, 28, 96, 42, 180, 0, 52, 28, 46, 79, 132, 2, 1, 167, 255, 230, 42, 180, 0, 64, 27]
abbrev dktX9_hold_1 : List UInt8 := dkwX9_hold_1 ++ dktX9_hold_2
def dkwX9_hold_0 : List UInt8 := [27, 3, 5, 184, 0, 237, 154, 0, 5, 3, 172, 3, 61, 28, 16, 49, 162, 0, 26, 42, 180, 0, 61]
abbrev dktX9_hold_0 : List UInt8 := dkwX9_hold_0 ++ dktX9_hold_1
theorem dksX9_hold_0 : cX9_hold.data.toList.drop 0 = dktX9_hold_0 := by decide +kernel
theorem dksX9_hold_1 : cX9_hold.data.toList.drop 23 = dktX9_hold_1 := dk_seg dksX9_hold_0 23 rfl rfl
theorem dksX9_hold_2 : cX9_hold.data.toList.drop 47 = dktX9_hold_2 := dk_seg dksX9_hold_1 24 rfl rfl
theorem dX9_hold_0 : decode cX9_hold 0 = .ok (.iload_n 1, 1) := dk_27 (dk_at dksX9_hold_0 0 rfl rfl)
theorem dX9_hold_1 : decode cX9_hold 1 = .ok (.iconst 0, 1) := dk_3 (dk_at dksX9_hold_0 1 rfl rfl)
theorem dX9_hold_2 : decode cX9_hold 2 = .ok (.iconst 2, 1) := dk_5 (dk_at dksX9_hold_0 2 rfl rfl)
theorem dX9_hold_3 : decode cX9_hold 3 = .ok (.invokestatic 237, 3) := dk_184 0 237 (dk_at dksX9_hold_0 3 rfl rfl)
theorem dX9_hold_6 : decode cX9_hold 6 = .ok (.ifCond .ne 5, 3) := dk_154 0 5 (dk_at dksX9_hold_0 6 rfl rfl)
theorem dX9_hold_9 : decode cX9_hold 9 = .ok (.iconst 0, 1) := dk_3 (dk_at dksX9_hold_0 9 rfl rfl)
theorem dX9_hold_10 : decode cX9_hold 10 = .ok (.ireturn, 1) := dk_172 (dk_at dksX9_hold_0 10 rfl rfl)
theorem dX9_hold_11 : decode cX9_hold 11 = .ok (.iconst 0, 1) := dk_3 (dk_at dksX9_hold_0 11 rfl rfl)
theorem dX9_hold_12 : decode cX9_hold 12 = .ok (.istore_n 2, 1) := dk_61 (dk_at dksX9_hold_0 12 rfl rfl)
theorem dX9_hold_13 : decode cX9_hold 13 = .ok (.iload_n 2, 1) := dk_28 (dk_at dksX9_hold_0 13 rfl rfl)
theorem dX9_hold_14 : decode cX9_hold 14 = .ok (.bipush 49, 2) := dk_16 49 (dk_at dksX9_hold_0 14 rfl rfl)
theorem dX9_hold_16 : decode cX9_hold 16 = .ok (.if_icmp .ge 26, 3) := dk_162 0 26 (dk_at dksX9_hold_0 16 rfl rfl)
theorem dX9_hold_19 : decode cX9_hold 19 = .ok (.aload_n 0, 1) := dk_42 (dk_at dksX9_hold_0 19 rfl rfl)
theorem dX9_hold_20 : decode cX9_hold 20 = .ok (.getfield 61, 3) := dk_180 0 61 (dk_at dksX9_hold_0 20 rfl rfl)
theorem dX9_hold_23 : decode cX9_hold 23 = .ok (.bipush 49, 2) := dk_16 49 (dk_at dksX9_hold_1 0 rfl rfl)
theorem dX9_hold_25 : decode cX9_hold 25 = .ok (.iload_n 1, 1) := dk_27 (dk_at dksX9_hold_1 2 rfl rfl)
theorem dX9_hold_26 : decode cX9_hold 26 = .ok (.imul, 1) := dk_104 (dk_at dksX9_hold_1 3 rfl rfl)
theorem dX9_hold_27 : decode cX9_hold 27 = .ok (.iload_n 2, 1) := dk_28 (dk_at dksX9_hold_1 4 rfl rfl)
theorem dX9_hold_28 : decode cX9_hold 28 = .ok (.iadd, 1) := dk_96 (dk_at dksX9_hold_1 5 rfl rfl)
theorem dX9_hold_29 : decode cX9_hold 29 = .ok (.aload_n 0, 1) := dk_42 (dk_at dksX9_hold_1 6 rfl rfl)
theorem dX9_hold_30 : decode cX9_hold 30 = .ok (.getfield 52, 3) := dk_180 0 52 (dk_at dksX9_hold_1 7 rfl rfl)
theorem dX9_hold_33 : decode cX9_hold 33 = .ok (.iload_n 2, 1) := dk_28 (dk_at dksX9_hold_1 10 rfl rfl)
theorem dX9_hold_34 : decode cX9_hold 34 = .ok (.iaload, 1) := dk_46 (dk_at dksX9_hold_1 11 rfl rfl)
theorem dX9_hold_35 : decode cX9_hold 35 = .ok (.iastore, 1) := dk_79 (dk_at dksX9_hold_1 12 rfl rfl)
theorem dX9_hold_36 : decode cX9_hold 36 = .ok (.iinc 2 1, 3) := dk_132 2 1 (dk_at dksX9_hold_1 13 rfl rfl)
theorem dX9_hold_39 : decode cX9_hold 39 = .ok (.goto (-26), 3) := dk_167 255 230 (dk_at dksX9_hold_1 16 rfl rfl)
theorem dX9_hold_42 : decode cX9_hold 42 = .ok (.aload_n 0, 1) := dk_42 (dk_at dksX9_hold_1 19 rfl rfl)
theorem dX9_hold_43 : decode cX9_hold 43 = .ok (.getfield 64, 3) := dk_180 0 64 (dk_at dksX9_hold_1 20 rfl rfl)
theorem dX9_hold_46 : decode cX9_hold 46 = .ok (.iload_n 1, 1) := dk_27 (dk_at dksX9_hold_1 23 rfl rfl)
theorem dX9_hold_47 : decode cX9_hold 47 = .ok (.iconst 1, 1) := dk_4 (dk_at dksX9_hold_2 0 rfl rfl)
theorem dX9_hold_48 : decode cX9_hold 48 = .ok (.bastore, 1) := dk_84 (dk_at dksX9_hold_2 1 rfl rfl)
theorem dX9_hold_49 : decode cX9_hold 49 = .ok (.iconst 1, 1) := dk_4 (dk_at dksX9_hold_2 2 rfl rfl)
theorem dX9_hold_50 : decode cX9_hold 50 = .ok (.ireturn, 1) := dk_172 (dk_at dksX9_hold_2 3 rfl rfl)
abbrev cX9_restore : ByteArray := prog_13_method_45_code
def yX9_restore : MethodName := ⟨RX9, "restore", "(I)Z"⟩
def dkwX9_restore_2 : List UInt8 := [132, 2, 1, 167, 255, 230, 42, 3, 181, 0, 218, 4, 172]
abbrev dktX9_restore_2 : List UInt8 := dkwX9_restore_2 ++ []
def dkwX9_restore_1 : List UInt8 := [16, 49, 162, 0, 26, 42, 180, 0, 52, 28, 42, 180, 0, 61, 16, 49, 27, 104, 28, 96, 46, 79]
abbrev dktX9_restore_1 : List UInt8 := dkwX9_restore_1 ++ dktX9_restore_2
def dkwX9_restore_0 : List UInt8 := [27, 3, 5, 184, 0, 237, 153, 0, 12, 42, 180, 0, 64, 27, 51, 154, 0, 5, 3, 172, 3, 61, 28]
abbrev dktX9_restore_0 : List UInt8 := dkwX9_restore_0 ++ dktX9_restore_1
theorem dksX9_restore_0 : cX9_restore.data.toList.drop 0 = dktX9_restore_0 := by decide +kernel
theorem dksX9_restore_1 : cX9_restore.data.toList.drop 23 = dktX9_restore_1 := dk_seg dksX9_restore_0 23 rfl rfl
theorem dksX9_restore_2 : cX9_restore.data.toList.drop 45 = dktX9_restore_2 := dk_seg dksX9_restore_1 22 rfl rfl
theorem dX9_restore_0 : decode cX9_restore 0 = .ok (.iload_n 1, 1) := dk_27 (dk_at dksX9_restore_0 0 rfl rfl)
theorem dX9_restore_1 : decode cX9_restore 1 = .ok (.iconst 0, 1) := dk_3 (dk_at dksX9_restore_0 1 rfl rfl)
theorem dX9_restore_2 : decode cX9_restore 2 = .ok (.iconst 2, 1) := dk_5 (dk_at dksX9_restore_0 2 rfl rfl)
theorem dX9_restore_3 : decode cX9_restore 3 = .ok (.invokestatic 237, 3) := dk_184 0 237 (dk_at dksX9_restore_0 3 rfl rfl)
theorem dX9_restore_6 : decode cX9_restore 6 = .ok (.ifCond .eq 12, 3) := dk_153 0 12 (dk_at dksX9_restore_0 6 rfl rfl)
theorem dX9_restore_9 : decode cX9_restore 9 = .ok (.aload_n 0, 1) := dk_42 (dk_at dksX9_restore_0 9 rfl rfl)
theorem dX9_restore_10 : decode cX9_restore 10 = .ok (.getfield 64, 3) := dk_180 0 64 (dk_at dksX9_restore_0 10 rfl rfl)
theorem dX9_restore_13 : decode cX9_restore 13 = .ok (.iload_n 1, 1) := dk_27 (dk_at dksX9_restore_0 13 rfl rfl)
theorem dX9_restore_14 : decode cX9_restore 14 = .ok (.baload, 1) := dk_51 (dk_at dksX9_restore_0 14 rfl rfl)
theorem dX9_restore_15 : decode cX9_restore 15 = .ok (.ifCond .ne 5, 3) := dk_154 0 5 (dk_at dksX9_restore_0 15 rfl rfl)
theorem dX9_restore_18 : decode cX9_restore 18 = .ok (.iconst 0, 1) := dk_3 (dk_at dksX9_restore_0 18 rfl rfl)
theorem dX9_restore_19 : decode cX9_restore 19 = .ok (.ireturn, 1) := dk_172 (dk_at dksX9_restore_0 19 rfl rfl)
theorem dX9_restore_20 : decode cX9_restore 20 = .ok (.iconst 0, 1) := dk_3 (dk_at dksX9_restore_0 20 rfl rfl)
theorem dX9_restore_21 : decode cX9_restore 21 = .ok (.istore_n 2, 1) := dk_61 (dk_at dksX9_restore_0 21 rfl rfl)
theorem dX9_restore_22 : decode cX9_restore 22 = .ok (.iload_n 2, 1) := dk_28 (dk_at dksX9_restore_0 22 rfl rfl)
theorem dX9_restore_23 : decode cX9_restore 23 = .ok (.bipush 49, 2) := dk_16 49 (dk_at dksX9_restore_1 0 rfl rfl)
theorem dX9_restore_25 : decode cX9_restore 25 = .ok (.if_icmp .ge 26, 3) := dk_162 0 26 (dk_at dksX9_restore_1 2 rfl rfl)
theorem dX9_restore_28 : decode cX9_restore 28 = .ok (.aload_n 0, 1) := dk_42 (dk_at dksX9_restore_1 5 rfl rfl)
theorem dX9_restore_29 : decode cX9_restore 29 = .ok (.getfield 52, 3) := dk_180 0 52 (dk_at dksX9_restore_1 6 rfl rfl)
theorem dX9_restore_32 : decode cX9_restore 32 = .ok (.iload_n 2, 1) := dk_28 (dk_at dksX9_restore_1 9 rfl rfl)
theorem dX9_restore_33 : decode cX9_restore 33 = .ok (.aload_n 0, 1) := dk_42 (dk_at dksX9_restore_1 10 rfl rfl)
theorem dX9_restore_34 : decode cX9_restore 34 = .ok (.getfield 61, 3) := dk_180 0 61 (dk_at dksX9_restore_1 11 rfl rfl)
theorem dX9_restore_37 : decode cX9_restore 37 = .ok (.bipush 49, 2) := dk_16 49 (dk_at dksX9_restore_1 14 rfl rfl)
theorem dX9_restore_39 : decode cX9_restore 39 = .ok (.iload_n 1, 1) := dk_27 (dk_at dksX9_restore_1 16 rfl rfl)
theorem dX9_restore_40 : decode cX9_restore 40 = .ok (.imul, 1) := dk_104 (dk_at dksX9_restore_1 17 rfl rfl)
theorem dX9_restore_41 : decode cX9_restore 41 = .ok (.iload_n 2, 1) := dk_28 (dk_at dksX9_restore_1 18 rfl rfl)
theorem dX9_restore_42 : decode cX9_restore 42 = .ok (.iadd, 1) := dk_96 (dk_at dksX9_restore_1 19 rfl rfl)
theorem dX9_restore_43 : decode cX9_restore 43 = .ok (.iaload, 1) := dk_46 (dk_at dksX9_restore_1 20 rfl rfl)
theorem dX9_restore_44 : decode cX9_restore 44 = .ok (.iastore, 1) := dk_79 (dk_at dksX9_restore_1 21 rfl rfl)
theorem dX9_restore_45 : decode cX9_restore 45 = .ok (.iinc 2 1, 3) := dk_132 2 1 (dk_at dksX9_restore_2 0 rfl rfl)
theorem dX9_restore_48 : decode cX9_restore 48 = .ok (.goto (-26), 3) := dk_167 255 230 (dk_at dksX9_restore_2 3 rfl rfl)
theorem dX9_restore_51 : decode cX9_restore 51 = .ok (.aload_n 0, 1) := dk_42 (dk_at dksX9_restore_2 6 rfl rfl)
theorem dX9_restore_52 : decode cX9_restore 52 = .ok (.iconst 0, 1) := dk_3 (dk_at dksX9_restore_2 7 rfl rfl)
theorem dX9_restore_53 : decode cX9_restore 53 = .ok (.putfield 218, 3) := dk_181 0 218 (dk_at dksX9_restore_2 8 rfl rfl)
theorem dX9_restore_56 : decode cX9_restore 56 = .ok (.iconst 1, 1) := dk_4 (dk_at dksX9_restore_2 11 rfl rfl)
theorem dX9_restore_57 : decode cX9_restore 57 = .ok (.ireturn, 1) := dk_172 (dk_at dksX9_restore_2 12 rfl rfl)
abbrev cX9_made : ByteArray := prog_13_method_49_code
def yX9_made : MethodName := ⟨RX9, "made", "(II)I"⟩
def dkwX9_made_1 : List UInt8 := [182, 1, 51, 167, 0, 4, 2, 172]
abbrev dktX9_made_1 : List UInt8 := dkwX9_made_1 ++ []
def dkwX9_made_0 : List UInt8 := [42, 27, 182, 1, 2, 153, 0, 25, 28, 3, 42, 182, 0, 244, 184, 0, 237, 153, 0, 13, 42, 27, 3, 28]
abbrev dktX9_made_0 : List UInt8 := dkwX9_made_0 ++ dktX9_made_1
theorem dksX9_made_0 : cX9_made.data.toList.drop 0 = dktX9_made_0 := by decide +kernel
theorem dksX9_made_1 : cX9_made.data.toList.drop 24 = dktX9_made_1 := dk_seg dksX9_made_0 24 rfl rfl
theorem dX9_made_0 : decode cX9_made 0 = .ok (.aload_n 0, 1) := dk_42 (dk_at dksX9_made_0 0 rfl rfl)
theorem dX9_made_1 : decode cX9_made 1 = .ok (.iload_n 1, 1) := dk_27 (dk_at dksX9_made_0 1 rfl rfl)
theorem dX9_made_2 : decode cX9_made 2 = .ok (.invokevirtual 258, 3) := dk_182 1 2 (dk_at dksX9_made_0 2 rfl rfl)
theorem dX9_made_5 : decode cX9_made 5 = .ok (.ifCond .eq 25, 3) := dk_153 0 25 (dk_at dksX9_made_0 5 rfl rfl)
theorem dX9_made_8 : decode cX9_made 8 = .ok (.iload_n 2, 1) := dk_28 (dk_at dksX9_made_0 8 rfl rfl)
theorem dX9_made_9 : decode cX9_made 9 = .ok (.iconst 0, 1) := dk_3 (dk_at dksX9_made_0 9 rfl rfl)
theorem dX9_made_10 : decode cX9_made 10 = .ok (.aload_n 0, 1) := dk_42 (dk_at dksX9_made_0 10 rfl rfl)
theorem dX9_made_11 : decode cX9_made 11 = .ok (.invokevirtual 244, 3) := dk_182 0 244 (dk_at dksX9_made_0 11 rfl rfl)
theorem dX9_made_14 : decode cX9_made 14 = .ok (.invokestatic 237, 3) := dk_184 0 237 (dk_at dksX9_made_0 14 rfl rfl)
theorem dX9_made_17 : decode cX9_made 17 = .ok (.ifCond .eq 13, 3) := dk_153 0 13 (dk_at dksX9_made_0 17 rfl rfl)
theorem dX9_made_20 : decode cX9_made 20 = .ok (.aload_n 0, 1) := dk_42 (dk_at dksX9_made_0 20 rfl rfl)
theorem dX9_made_21 : decode cX9_made 21 = .ok (.iload_n 1, 1) := dk_27 (dk_at dksX9_made_0 21 rfl rfl)
theorem dX9_made_22 : decode cX9_made 22 = .ok (.iconst 0, 1) := dk_3 (dk_at dksX9_made_0 22 rfl rfl)
theorem dX9_made_23 : decode cX9_made 23 = .ok (.iload_n 2, 1) := dk_28 (dk_at dksX9_made_0 23 rfl rfl)
theorem dX9_made_24 : decode cX9_made 24 = .ok (.invokevirtual 307, 3) := dk_182 1 51 (dk_at dksX9_made_1 0 rfl rfl)
theorem dX9_made_27 : decode cX9_made 27 = .ok (.goto 4, 3) := dk_167 0 4 (dk_at dksX9_made_1 3 rfl rfl)
theorem dX9_made_30 : decode cX9_made 30 = .ok (.iconst (-1), 1) := dk_2 (dk_at dksX9_made_1 6 rfl rfl)
theorem dX9_made_31 : decode cX9_made 31 = .ok (.ireturn, 1) := dk_172 (dk_at dksX9_made_1 7 rfl rfl)
abbrev cX9_madeBy : ByteArray := prog_13_method_48_code
def yX9_madeBy : MethodName := ⟨RX9, "madeBy", "(III)I"⟩
def dkwX9_madeBy_1 : List UInt8 := [54, 4, 132, 5, 1, 167, 255, 234, 21, 4, 172]
abbrev dktX9_madeBy_1 : List UInt8 := dkwX9_madeBy_1 ++ []
def dkwX9_madeBy_0 : List UInt8 := [27, 54, 4, 28, 54, 5, 21, 5, 29, 162, 0, 22, 42, 180, 0, 52, 21, 5, 21, 4, 184, 1, 47]
abbrev dktX9_madeBy_0 : List UInt8 := dkwX9_madeBy_0 ++ dktX9_madeBy_1
theorem dksX9_madeBy_0 : cX9_madeBy.data.toList.drop 0 = dktX9_madeBy_0 := by decide +kernel
theorem dksX9_madeBy_1 : cX9_madeBy.data.toList.drop 23 = dktX9_madeBy_1 := dk_seg dksX9_madeBy_0 23 rfl rfl
theorem dX9_madeBy_0 : decode cX9_madeBy 0 = .ok (.iload_n 1, 1) := dk_27 (dk_at dksX9_madeBy_0 0 rfl rfl)
theorem dX9_madeBy_1 : decode cX9_madeBy 1 = .ok (.istore 4, 2) := dk_54 4 (dk_at dksX9_madeBy_0 1 rfl rfl)
theorem dX9_madeBy_3 : decode cX9_madeBy 3 = .ok (.iload_n 2, 1) := dk_28 (dk_at dksX9_madeBy_0 3 rfl rfl)
theorem dX9_madeBy_4 : decode cX9_madeBy 4 = .ok (.istore 5, 2) := dk_54 5 (dk_at dksX9_madeBy_0 4 rfl rfl)
theorem dX9_madeBy_6 : decode cX9_madeBy 6 = .ok (.iload 5, 2) := dk_21 5 (dk_at dksX9_madeBy_0 6 rfl rfl)
theorem dX9_madeBy_8 : decode cX9_madeBy 8 = .ok (.iload_n 3, 1) := dk_29 (dk_at dksX9_madeBy_0 8 rfl rfl)
theorem dX9_madeBy_9 : decode cX9_madeBy 9 = .ok (.if_icmp .ge 22, 3) := dk_162 0 22 (dk_at dksX9_madeBy_0 9 rfl rfl)
theorem dX9_madeBy_12 : decode cX9_madeBy 12 = .ok (.aload_n 0, 1) := dk_42 (dk_at dksX9_madeBy_0 12 rfl rfl)
theorem dX9_madeBy_13 : decode cX9_madeBy 13 = .ok (.getfield 52, 3) := dk_180 0 52 (dk_at dksX9_madeBy_0 13 rfl rfl)
theorem dX9_madeBy_16 : decode cX9_madeBy 16 = .ok (.iload 5, 2) := dk_21 5 (dk_at dksX9_madeBy_0 16 rfl rfl)
theorem dX9_madeBy_18 : decode cX9_madeBy 18 = .ok (.iload 4, 2) := dk_21 4 (dk_at dksX9_madeBy_0 18 rfl rfl)
theorem dX9_madeBy_20 : decode cX9_madeBy 20 = .ok (.invokestatic 303, 3) := dk_184 1 47 (dk_at dksX9_madeBy_0 20 rfl rfl)
theorem dX9_madeBy_23 : decode cX9_madeBy 23 = .ok (.istore 4, 2) := dk_54 4 (dk_at dksX9_madeBy_1 0 rfl rfl)
theorem dX9_madeBy_25 : decode cX9_madeBy 25 = .ok (.iinc 5 1, 3) := dk_132 5 1 (dk_at dksX9_madeBy_1 2 rfl rfl)
theorem dX9_madeBy_28 : decode cX9_madeBy 28 = .ok (.goto (-22), 3) := dk_167 255 234 (dk_at dksX9_madeBy_1 5 rfl rfl)
theorem dX9_madeBy_31 : decode cX9_madeBy 31 = .ok (.iload 4, 2) := dk_21 4 (dk_at dksX9_madeBy_1 8 rfl rfl)
theorem dX9_madeBy_33 : decode cX9_madeBy 33 = .ok (.ireturn, 1) := dk_172 (dk_at dksX9_madeBy_1 10 rfl rfl)
abbrev cX9_undone : ByteArray := prog_13_method_50_code
def yX9_undone : MethodName := ⟨RX9, "undone", "(I)I"⟩
def dkwX9_undone_1 : List UInt8 := [180, 0, 52, 29, 28, 184, 1, 47, 61, 132, 3, 255, 167, 255, 239, 28, 172]
abbrev dktX9_undone_1 : List UInt8 := dkwX9_undone_1 ++ []
def dkwX9_undone_0 : List UInt8 := [42, 27, 182, 1, 2, 154, 0, 5, 2, 172, 27, 61, 42, 182, 0, 244, 4, 100, 62, 29, 155, 0, 19, 42]
abbrev dktX9_undone_0 : List UInt8 := dkwX9_undone_0 ++ dktX9_undone_1
theorem dksX9_undone_0 : cX9_undone.data.toList.drop 0 = dktX9_undone_0 := by decide +kernel
theorem dksX9_undone_1 : cX9_undone.data.toList.drop 24 = dktX9_undone_1 := dk_seg dksX9_undone_0 24 rfl rfl
theorem dX9_undone_0 : decode cX9_undone 0 = .ok (.aload_n 0, 1) := dk_42 (dk_at dksX9_undone_0 0 rfl rfl)
theorem dX9_undone_1 : decode cX9_undone 1 = .ok (.iload_n 1, 1) := dk_27 (dk_at dksX9_undone_0 1 rfl rfl)
theorem dX9_undone_2 : decode cX9_undone 2 = .ok (.invokevirtual 258, 3) := dk_182 1 2 (dk_at dksX9_undone_0 2 rfl rfl)
theorem dX9_undone_5 : decode cX9_undone 5 = .ok (.ifCond .ne 5, 3) := dk_154 0 5 (dk_at dksX9_undone_0 5 rfl rfl)
theorem dX9_undone_8 : decode cX9_undone 8 = .ok (.iconst (-1), 1) := dk_2 (dk_at dksX9_undone_0 8 rfl rfl)
theorem dX9_undone_9 : decode cX9_undone 9 = .ok (.ireturn, 1) := dk_172 (dk_at dksX9_undone_0 9 rfl rfl)
theorem dX9_undone_10 : decode cX9_undone 10 = .ok (.iload_n 1, 1) := dk_27 (dk_at dksX9_undone_0 10 rfl rfl)
theorem dX9_undone_11 : decode cX9_undone 11 = .ok (.istore_n 2, 1) := dk_61 (dk_at dksX9_undone_0 11 rfl rfl)
theorem dX9_undone_12 : decode cX9_undone 12 = .ok (.aload_n 0, 1) := dk_42 (dk_at dksX9_undone_0 12 rfl rfl)
theorem dX9_undone_13 : decode cX9_undone 13 = .ok (.invokevirtual 244, 3) := dk_182 0 244 (dk_at dksX9_undone_0 13 rfl rfl)
theorem dX9_undone_16 : decode cX9_undone 16 = .ok (.iconst 1, 1) := dk_4 (dk_at dksX9_undone_0 16 rfl rfl)
theorem dX9_undone_17 : decode cX9_undone 17 = .ok (.isub, 1) := dk_100 (dk_at dksX9_undone_0 17 rfl rfl)
theorem dX9_undone_18 : decode cX9_undone 18 = .ok (.istore_n 3, 1) := dk_62 (dk_at dksX9_undone_0 18 rfl rfl)
theorem dX9_undone_19 : decode cX9_undone 19 = .ok (.iload_n 3, 1) := dk_29 (dk_at dksX9_undone_0 19 rfl rfl)
theorem dX9_undone_20 : decode cX9_undone 20 = .ok (.ifCond .lt 19, 3) := dk_155 0 19 (dk_at dksX9_undone_0 20 rfl rfl)
theorem dX9_undone_23 : decode cX9_undone 23 = .ok (.aload_n 0, 1) := dk_42 (dk_at dksX9_undone_0 23 rfl rfl)
theorem dX9_undone_24 : decode cX9_undone 24 = .ok (.getfield 52, 3) := dk_180 0 52 (dk_at dksX9_undone_1 0 rfl rfl)
theorem dX9_undone_27 : decode cX9_undone 27 = .ok (.iload_n 3, 1) := dk_29 (dk_at dksX9_undone_1 3 rfl rfl)
theorem dX9_undone_28 : decode cX9_undone 28 = .ok (.iload_n 2, 1) := dk_28 (dk_at dksX9_undone_1 4 rfl rfl)
theorem dX9_undone_29 : decode cX9_undone 29 = .ok (.invokestatic 303, 3) := dk_184 1 47 (dk_at dksX9_undone_1 5 rfl rfl)
theorem dX9_undone_32 : decode cX9_undone 32 = .ok (.istore_n 2, 1) := dk_61 (dk_at dksX9_undone_1 8 rfl rfl)
theorem dX9_undone_33 : decode cX9_undone 33 = .ok (.iinc 3 (-1), 3) := dk_132 3 255 (dk_at dksX9_undone_1 9 rfl rfl)
theorem dX9_undone_36 : decode cX9_undone 36 = .ok (.goto (-17), 3) := dk_167 255 239 (dk_at dksX9_undone_1 12 rfl rfl)
theorem dX9_undone_39 : decode cX9_undone 39 = .ok (.iload_n 2, 1) := dk_28 (dk_at dksX9_undone_1 15 rfl rfl)
theorem dX9_undone_40 : decode cX9_undone 40 = .ok (.ireturn, 1) := dk_172 (dk_at dksX9_undone_1 16 rfl rfl)
abbrev cX9_order : ByteArray := prog_13_method_53_code
def yX9_order : MethodName := ⟨RX9, "order", "(I)I"⟩
def dkwX9_order_7 : List UInt8 := [167, 0, 23, 27, 6, 160, 0, 16, 4, 42, 182, 0, 248, 28, 100, 5, 112, 100, 167, 0, 5, 21, 5, 172]
abbrev dktX9_order_7 : List UInt8 := dkwX9_order_7 ++ []
def dkwX9_order_6 : List UInt8 := [27, 154, 0, 7, 28, 167, 0, 42, 27, 4, 160, 0, 7, 29, 167, 0, 33, 27, 5, 160, 0, 8, 21, 4]
abbrev dktX9_order_6 : List UInt8 := dkwX9_order_6 ++ dktX9_order_7
def dkwX9_order_5 : List UInt8 := [132, 5, 1, 21, 4, 21, 4, 21, 7, 184, 1, 55, 108, 21, 7, 104, 54, 4, 132, 6, 1, 167, 255, 149]
abbrev dktX9_order_5 : List UInt8 := dkwX9_order_5 ++ dktX9_order_6
def dkwX9_order_4 : List UInt8 := [162, 0, 6, 167, 0, 39, 132, 2, 1, 21, 7, 29, 164, 0, 6, 21, 7, 62, 21, 7, 4, 160, 0, 6]
abbrev dktX9_order_4 : List UInt8 := dkwX9_order_4 ++ dktX9_order_5
def dkwX9_order_3 : List UInt8 := [21, 9, 54, 8, 132, 7, 1, 42, 180, 0, 68, 21, 9, 46, 54, 9, 167, 255, 226, 21, 8, 21, 6]
abbrev dktX9_order_3 : List UInt8 := dkwX9_order_3 ++ dktX9_order_4
def dkwX9_order_2 : List UInt8 := [42, 180, 0, 68, 21, 6, 46, 54, 9, 21, 9, 21, 6, 159, 0, 29, 21, 9, 21, 8, 162, 0, 7]
abbrev dktX9_order_2 : List UInt8 := dkwX9_order_2 ++ dktX9_order_3
def dkwX9_order_1 : List UInt8 := [54, 4, 3, 54, 5, 3, 54, 6, 21, 6, 42, 182, 0, 248, 162, 0, 104, 4, 54, 7, 21, 6, 54, 8]
abbrev dktX9_order_1 : List UInt8 := dkwX9_order_1 ++ dktX9_order_2
def dkwX9_order_0 : List UInt8 := [27, 3, 7, 184, 0, 237, 154, 0, 5, 2, 172, 42, 42, 180, 0, 52, 182, 1, 29, 3, 61, 3, 62, 4]
abbrev dktX9_order_0 : List UInt8 := dkwX9_order_0 ++ dktX9_order_1
theorem dksX9_order_0 : cX9_order.data.toList.drop 0 = dktX9_order_0 := by decide +kernel
theorem dksX9_order_1 : cX9_order.data.toList.drop 24 = dktX9_order_1 := dk_seg dksX9_order_0 24 rfl rfl
theorem dksX9_order_2 : cX9_order.data.toList.drop 48 = dktX9_order_2 := dk_seg dksX9_order_1 24 rfl rfl
theorem dksX9_order_3 : cX9_order.data.toList.drop 71 = dktX9_order_3 := dk_seg dksX9_order_2 23 rfl rfl
theorem dksX9_order_4 : cX9_order.data.toList.drop 94 = dktX9_order_4 := dk_seg dksX9_order_3 23 rfl rfl
theorem dksX9_order_5 : cX9_order.data.toList.drop 118 = dktX9_order_5 := dk_seg dksX9_order_4 24 rfl rfl
theorem dksX9_order_6 : cX9_order.data.toList.drop 142 = dktX9_order_6 := dk_seg dksX9_order_5 24 rfl rfl
theorem dksX9_order_7 : cX9_order.data.toList.drop 166 = dktX9_order_7 := dk_seg dksX9_order_6 24 rfl rfl
theorem dX9_order_0 : decode cX9_order 0 = .ok (.iload_n 1, 1) := dk_27 (dk_at dksX9_order_0 0 rfl rfl)
theorem dX9_order_1 : decode cX9_order 1 = .ok (.iconst 0, 1) := dk_3 (dk_at dksX9_order_0 1 rfl rfl)
theorem dX9_order_2 : decode cX9_order 2 = .ok (.iconst 4, 1) := dk_7 (dk_at dksX9_order_0 2 rfl rfl)
theorem dX9_order_3 : decode cX9_order 3 = .ok (.invokestatic 237, 3) := dk_184 0 237 (dk_at dksX9_order_0 3 rfl rfl)
theorem dX9_order_6 : decode cX9_order 6 = .ok (.ifCond .ne 5, 3) := dk_154 0 5 (dk_at dksX9_order_0 6 rfl rfl)
theorem dX9_order_9 : decode cX9_order 9 = .ok (.iconst (-1), 1) := dk_2 (dk_at dksX9_order_0 9 rfl rfl)
theorem dX9_order_10 : decode cX9_order 10 = .ok (.ireturn, 1) := dk_172 (dk_at dksX9_order_0 10 rfl rfl)
theorem dX9_order_11 : decode cX9_order 11 = .ok (.aload_n 0, 1) := dk_42 (dk_at dksX9_order_0 11 rfl rfl)
theorem dX9_order_12 : decode cX9_order 12 = .ok (.aload_n 0, 1) := dk_42 (dk_at dksX9_order_0 12 rfl rfl)
theorem dX9_order_13 : decode cX9_order 13 = .ok (.getfield 52, 3) := dk_180 0 52 (dk_at dksX9_order_0 13 rfl rfl)
theorem dX9_order_16 : decode cX9_order 16 = .ok (.invokevirtual 285, 3) := dk_182 1 29 (dk_at dksX9_order_0 16 rfl rfl)
theorem dX9_order_19 : decode cX9_order 19 = .ok (.iconst 0, 1) := dk_3 (dk_at dksX9_order_0 19 rfl rfl)
theorem dX9_order_20 : decode cX9_order 20 = .ok (.istore_n 2, 1) := dk_61 (dk_at dksX9_order_0 20 rfl rfl)
theorem dX9_order_21 : decode cX9_order 21 = .ok (.iconst 0, 1) := dk_3 (dk_at dksX9_order_0 21 rfl rfl)
theorem dX9_order_22 : decode cX9_order 22 = .ok (.istore_n 3, 1) := dk_62 (dk_at dksX9_order_0 22 rfl rfl)
theorem dX9_order_23 : decode cX9_order 23 = .ok (.iconst 1, 1) := dk_4 (dk_at dksX9_order_0 23 rfl rfl)
theorem dX9_order_24 : decode cX9_order 24 = .ok (.istore 4, 2) := dk_54 4 (dk_at dksX9_order_1 0 rfl rfl)
theorem dX9_order_26 : decode cX9_order 26 = .ok (.iconst 0, 1) := dk_3 (dk_at dksX9_order_1 2 rfl rfl)
theorem dX9_order_27 : decode cX9_order 27 = .ok (.istore 5, 2) := dk_54 5 (dk_at dksX9_order_1 3 rfl rfl)
theorem dX9_order_29 : decode cX9_order 29 = .ok (.iconst 0, 1) := dk_3 (dk_at dksX9_order_1 5 rfl rfl)
theorem dX9_order_30 : decode cX9_order 30 = .ok (.istore 6, 2) := dk_54 6 (dk_at dksX9_order_1 6 rfl rfl)
theorem dX9_order_32 : decode cX9_order 32 = .ok (.iload 6, 2) := dk_21 6 (dk_at dksX9_order_1 8 rfl rfl)
theorem dX9_order_34 : decode cX9_order 34 = .ok (.aload_n 0, 1) := dk_42 (dk_at dksX9_order_1 10 rfl rfl)
theorem dX9_order_35 : decode cX9_order 35 = .ok (.invokevirtual 248, 3) := dk_182 0 248 (dk_at dksX9_order_1 11 rfl rfl)
theorem dX9_order_38 : decode cX9_order 38 = .ok (.if_icmp .ge 104, 3) := dk_162 0 104 (dk_at dksX9_order_1 14 rfl rfl)
theorem dX9_order_41 : decode cX9_order 41 = .ok (.iconst 1, 1) := dk_4 (dk_at dksX9_order_1 17 rfl rfl)
theorem dX9_order_42 : decode cX9_order 42 = .ok (.istore 7, 2) := dk_54 7 (dk_at dksX9_order_1 18 rfl rfl)
theorem dX9_order_44 : decode cX9_order 44 = .ok (.iload 6, 2) := dk_21 6 (dk_at dksX9_order_1 20 rfl rfl)
theorem dX9_order_46 : decode cX9_order 46 = .ok (.istore 8, 2) := dk_54 8 (dk_at dksX9_order_1 22 rfl rfl)
theorem dX9_order_48 : decode cX9_order 48 = .ok (.aload_n 0, 1) := dk_42 (dk_at dksX9_order_2 0 rfl rfl)
theorem dX9_order_49 : decode cX9_order 49 = .ok (.getfield 68, 3) := dk_180 0 68 (dk_at dksX9_order_2 1 rfl rfl)
theorem dX9_order_52 : decode cX9_order 52 = .ok (.iload 6, 2) := dk_21 6 (dk_at dksX9_order_2 4 rfl rfl)
theorem dX9_order_54 : decode cX9_order 54 = .ok (.iaload, 1) := dk_46 (dk_at dksX9_order_2 6 rfl rfl)
theorem dX9_order_55 : decode cX9_order 55 = .ok (.istore 9, 2) := dk_54 9 (dk_at dksX9_order_2 7 rfl rfl)
theorem dX9_order_57 : decode cX9_order 57 = .ok (.iload 9, 2) := dk_21 9 (dk_at dksX9_order_2 9 rfl rfl)
theorem dX9_order_59 : decode cX9_order 59 = .ok (.iload 6, 2) := dk_21 6 (dk_at dksX9_order_2 11 rfl rfl)
theorem dX9_order_61 : decode cX9_order 61 = .ok (.if_icmp .eq 29, 3) := dk_159 0 29 (dk_at dksX9_order_2 13 rfl rfl)
theorem dX9_order_64 : decode cX9_order 64 = .ok (.iload 9, 2) := dk_21 9 (dk_at dksX9_order_2 16 rfl rfl)
theorem dX9_order_66 : decode cX9_order 66 = .ok (.iload 8, 2) := dk_21 8 (dk_at dksX9_order_2 18 rfl rfl)
theorem dX9_order_68 : decode cX9_order 68 = .ok (.if_icmp .ge 7, 3) := dk_162 0 7 (dk_at dksX9_order_2 20 rfl rfl)
theorem dX9_order_71 : decode cX9_order 71 = .ok (.iload 9, 2) := dk_21 9 (dk_at dksX9_order_3 0 rfl rfl)
theorem dX9_order_73 : decode cX9_order 73 = .ok (.istore 8, 2) := dk_54 8 (dk_at dksX9_order_3 2 rfl rfl)
theorem dX9_order_75 : decode cX9_order 75 = .ok (.iinc 7 1, 3) := dk_132 7 1 (dk_at dksX9_order_3 4 rfl rfl)
theorem dX9_order_78 : decode cX9_order 78 = .ok (.aload_n 0, 1) := dk_42 (dk_at dksX9_order_3 7 rfl rfl)
theorem dX9_order_79 : decode cX9_order 79 = .ok (.getfield 68, 3) := dk_180 0 68 (dk_at dksX9_order_3 8 rfl rfl)
theorem dX9_order_82 : decode cX9_order 82 = .ok (.iload 9, 2) := dk_21 9 (dk_at dksX9_order_3 11 rfl rfl)
theorem dX9_order_84 : decode cX9_order 84 = .ok (.iaload, 1) := dk_46 (dk_at dksX9_order_3 13 rfl rfl)
theorem dX9_order_85 : decode cX9_order 85 = .ok (.istore 9, 2) := dk_54 9 (dk_at dksX9_order_3 14 rfl rfl)
theorem dX9_order_87 : decode cX9_order 87 = .ok (.goto (-30), 3) := dk_167 255 226 (dk_at dksX9_order_3 16 rfl rfl)
theorem dX9_order_90 : decode cX9_order 90 = .ok (.iload 8, 2) := dk_21 8 (dk_at dksX9_order_3 19 rfl rfl)
theorem dX9_order_92 : decode cX9_order 92 = .ok (.iload 6, 2) := dk_21 6 (dk_at dksX9_order_3 21 rfl rfl)
theorem dX9_order_94 : decode cX9_order 94 = .ok (.if_icmp .ge 6, 3) := dk_162 0 6 (dk_at dksX9_order_4 0 rfl rfl)
theorem dX9_order_97 : decode cX9_order 97 = .ok (.goto 39, 3) := dk_167 0 39 (dk_at dksX9_order_4 3 rfl rfl)
theorem dX9_order_100 : decode cX9_order 100 = .ok (.iinc 2 1, 3) := dk_132 2 1 (dk_at dksX9_order_4 6 rfl rfl)
theorem dX9_order_103 : decode cX9_order 103 = .ok (.iload 7, 2) := dk_21 7 (dk_at dksX9_order_4 9 rfl rfl)
theorem dX9_order_105 : decode cX9_order 105 = .ok (.iload_n 3, 1) := dk_29 (dk_at dksX9_order_4 11 rfl rfl)
theorem dX9_order_106 : decode cX9_order 106 = .ok (.if_icmp .le 6, 3) := dk_164 0 6 (dk_at dksX9_order_4 12 rfl rfl)
theorem dX9_order_109 : decode cX9_order 109 = .ok (.iload 7, 2) := dk_21 7 (dk_at dksX9_order_4 15 rfl rfl)
theorem dX9_order_111 : decode cX9_order 111 = .ok (.istore_n 3, 1) := dk_62 (dk_at dksX9_order_4 17 rfl rfl)
theorem dX9_order_112 : decode cX9_order 112 = .ok (.iload 7, 2) := dk_21 7 (dk_at dksX9_order_4 18 rfl rfl)
theorem dX9_order_114 : decode cX9_order 114 = .ok (.iconst 1, 1) := dk_4 (dk_at dksX9_order_4 20 rfl rfl)
theorem dX9_order_115 : decode cX9_order 115 = .ok (.if_icmp .ne 6, 3) := dk_160 0 6 (dk_at dksX9_order_4 21 rfl rfl)
theorem dX9_order_118 : decode cX9_order 118 = .ok (.iinc 5 1, 3) := dk_132 5 1 (dk_at dksX9_order_5 0 rfl rfl)
theorem dX9_order_121 : decode cX9_order 121 = .ok (.iload 4, 2) := dk_21 4 (dk_at dksX9_order_5 3 rfl rfl)
theorem dX9_order_123 : decode cX9_order 123 = .ok (.iload 4, 2) := dk_21 4 (dk_at dksX9_order_5 5 rfl rfl)
theorem dX9_order_125 : decode cX9_order 125 = .ok (.iload 7, 2) := dk_21 7 (dk_at dksX9_order_5 7 rfl rfl)
theorem dX9_order_127 : decode cX9_order 127 = .ok (.invokestatic 311, 3) := dk_184 1 55 (dk_at dksX9_order_5 9 rfl rfl)
theorem dX9_order_130 : decode cX9_order 130 = .ok (.idiv, 1) := dk_108 (dk_at dksX9_order_5 12 rfl rfl)
theorem dX9_order_131 : decode cX9_order 131 = .ok (.iload 7, 2) := dk_21 7 (dk_at dksX9_order_5 13 rfl rfl)
theorem dX9_order_133 : decode cX9_order 133 = .ok (.imul, 1) := dk_104 (dk_at dksX9_order_5 15 rfl rfl)
theorem dX9_order_134 : decode cX9_order 134 = .ok (.istore 4, 2) := dk_54 4 (dk_at dksX9_order_5 16 rfl rfl)
theorem dX9_order_136 : decode cX9_order 136 = .ok (.iinc 6 1, 3) := dk_132 6 1 (dk_at dksX9_order_5 18 rfl rfl)
theorem dX9_order_139 : decode cX9_order 139 = .ok (.goto (-107), 3) := dk_167 255 149 (dk_at dksX9_order_5 21 rfl rfl)
theorem dX9_order_142 : decode cX9_order 142 = .ok (.iload_n 1, 1) := dk_27 (dk_at dksX9_order_6 0 rfl rfl)
theorem dX9_order_143 : decode cX9_order 143 = .ok (.ifCond .ne 7, 3) := dk_154 0 7 (dk_at dksX9_order_6 1 rfl rfl)
theorem dX9_order_146 : decode cX9_order 146 = .ok (.iload_n 2, 1) := dk_28 (dk_at dksX9_order_6 4 rfl rfl)
theorem dX9_order_147 : decode cX9_order 147 = .ok (.goto 42, 3) := dk_167 0 42 (dk_at dksX9_order_6 5 rfl rfl)
theorem dX9_order_150 : decode cX9_order 150 = .ok (.iload_n 1, 1) := dk_27 (dk_at dksX9_order_6 8 rfl rfl)
theorem dX9_order_151 : decode cX9_order 151 = .ok (.iconst 1, 1) := dk_4 (dk_at dksX9_order_6 9 rfl rfl)
theorem dX9_order_152 : decode cX9_order 152 = .ok (.if_icmp .ne 7, 3) := dk_160 0 7 (dk_at dksX9_order_6 10 rfl rfl)
theorem dX9_order_155 : decode cX9_order 155 = .ok (.iload_n 3, 1) := dk_29 (dk_at dksX9_order_6 13 rfl rfl)
theorem dX9_order_156 : decode cX9_order 156 = .ok (.goto 33, 3) := dk_167 0 33 (dk_at dksX9_order_6 14 rfl rfl)
theorem dX9_order_159 : decode cX9_order 159 = .ok (.iload_n 1, 1) := dk_27 (dk_at dksX9_order_6 17 rfl rfl)
theorem dX9_order_160 : decode cX9_order 160 = .ok (.iconst 2, 1) := dk_5 (dk_at dksX9_order_6 18 rfl rfl)
theorem dX9_order_161 : decode cX9_order 161 = .ok (.if_icmp .ne 8, 3) := dk_160 0 8 (dk_at dksX9_order_6 19 rfl rfl)
theorem dX9_order_164 : decode cX9_order 164 = .ok (.iload 4, 2) := dk_21 4 (dk_at dksX9_order_6 22 rfl rfl)
theorem dX9_order_166 : decode cX9_order 166 = .ok (.goto 23, 3) := dk_167 0 23 (dk_at dksX9_order_7 0 rfl rfl)
theorem dX9_order_169 : decode cX9_order 169 = .ok (.iload_n 1, 1) := dk_27 (dk_at dksX9_order_7 3 rfl rfl)
theorem dX9_order_170 : decode cX9_order 170 = .ok (.iconst 3, 1) := dk_6 (dk_at dksX9_order_7 4 rfl rfl)
theorem dX9_order_171 : decode cX9_order 171 = .ok (.if_icmp .ne 16, 3) := dk_160 0 16 (dk_at dksX9_order_7 5 rfl rfl)
theorem dX9_order_174 : decode cX9_order 174 = .ok (.iconst 1, 1) := dk_4 (dk_at dksX9_order_7 8 rfl rfl)
theorem dX9_order_175 : decode cX9_order 175 = .ok (.aload_n 0, 1) := dk_42 (dk_at dksX9_order_7 9 rfl rfl)
theorem dX9_order_176 : decode cX9_order 176 = .ok (.invokevirtual 248, 3) := dk_182 0 248 (dk_at dksX9_order_7 10 rfl rfl)
theorem dX9_order_179 : decode cX9_order 179 = .ok (.iload_n 2, 1) := dk_28 (dk_at dksX9_order_7 13 rfl rfl)
theorem dX9_order_180 : decode cX9_order 180 = .ok (.isub, 1) := dk_100 (dk_at dksX9_order_7 14 rfl rfl)
theorem dX9_order_181 : decode cX9_order 181 = .ok (.iconst 2, 1) := dk_5 (dk_at dksX9_order_7 15 rfl rfl)
theorem dX9_order_182 : decode cX9_order 182 = .ok (.irem, 1) := dk_112 (dk_at dksX9_order_7 16 rfl rfl)
theorem dX9_order_183 : decode cX9_order 183 = .ok (.isub, 1) := dk_100 (dk_at dksX9_order_7 17 rfl rfl)
theorem dX9_order_184 : decode cX9_order 184 = .ok (.goto 5, 3) := dk_167 0 5 (dk_at dksX9_order_7 18 rfl rfl)
theorem dX9_order_187 : decode cX9_order 187 = .ok (.iload 5, 2) := dk_21 5 (dk_at dksX9_order_7 21 rfl rfl)
theorem dX9_order_189 : decode cX9_order 189 = .ok (.ireturn, 1) := dk_172 (dk_at dksX9_order_7 23 rfl rfl)
abbrev cX9_common : ByteArray := prog_13_method_52_code
def yX9_common : MethodName := ⟨RX9, "common", "(II)I"⟩
def dkwX9_common_0 : List UInt8 := [26, 61, 27, 62, 29, 158, 0, 16, 28, 29, 112, 54, 4, 29, 61, 21, 4, 62, 167, 255, 242, 28, 172]
abbrev dktX9_common_0 : List UInt8 := dkwX9_common_0 ++ []
theorem dksX9_common_0 : cX9_common.data.toList.drop 0 = dktX9_common_0 := by decide +kernel
theorem dX9_common_0 : decode cX9_common 0 = .ok (.iload_n 0, 1) := dk_26 (dk_at dksX9_common_0 0 rfl rfl)
theorem dX9_common_1 : decode cX9_common 1 = .ok (.istore_n 2, 1) := dk_61 (dk_at dksX9_common_0 1 rfl rfl)
theorem dX9_common_2 : decode cX9_common 2 = .ok (.iload_n 1, 1) := dk_27 (dk_at dksX9_common_0 2 rfl rfl)
theorem dX9_common_3 : decode cX9_common 3 = .ok (.istore_n 3, 1) := dk_62 (dk_at dksX9_common_0 3 rfl rfl)
theorem dX9_common_4 : decode cX9_common 4 = .ok (.iload_n 3, 1) := dk_29 (dk_at dksX9_common_0 4 rfl rfl)
theorem dX9_common_5 : decode cX9_common 5 = .ok (.ifCond .le 16, 3) := dk_158 0 16 (dk_at dksX9_common_0 5 rfl rfl)
theorem dX9_common_8 : decode cX9_common 8 = .ok (.iload_n 2, 1) := dk_28 (dk_at dksX9_common_0 8 rfl rfl)
theorem dX9_common_9 : decode cX9_common 9 = .ok (.iload_n 3, 1) := dk_29 (dk_at dksX9_common_0 9 rfl rfl)
theorem dX9_common_10 : decode cX9_common 10 = .ok (.irem, 1) := dk_112 (dk_at dksX9_common_0 10 rfl rfl)
theorem dX9_common_11 : decode cX9_common 11 = .ok (.istore 4, 2) := dk_54 4 (dk_at dksX9_common_0 11 rfl rfl)
theorem dX9_common_13 : decode cX9_common 13 = .ok (.iload_n 3, 1) := dk_29 (dk_at dksX9_common_0 13 rfl rfl)
theorem dX9_common_14 : decode cX9_common 14 = .ok (.istore_n 2, 1) := dk_61 (dk_at dksX9_common_0 14 rfl rfl)
theorem dX9_common_15 : decode cX9_common 15 = .ok (.iload 4, 2) := dk_21 4 (dk_at dksX9_common_0 15 rfl rfl)
theorem dX9_common_17 : decode cX9_common 17 = .ok (.istore_n 3, 1) := dk_62 (dk_at dksX9_common_0 17 rfl rfl)
theorem dX9_common_18 : decode cX9_common 18 = .ok (.goto (-14), 3) := dk_167 255 242 (dk_at dksX9_common_0 18 rfl rfl)
theorem dX9_common_21 : decode cX9_common 21 = .ok (.iload_n 2, 1) := dk_28 (dk_at dksX9_common_0 21 rfl rfl)
theorem dX9_common_22 : decode cX9_common 22 = .ok (.ireturn, 1) := dk_172 (dk_at dksX9_common_0 22 rfl rfl)
abbrev cX9_agree : ByteArray := prog_13_method_55_code
def yX9_agree : MethodName := ⟨RX9, "agree", "(II)I"⟩
def dkwX9_agree_1 : List UInt8 := [182, 1, 58, 153, 0, 7, 4, 167, 0, 8, 3, 167, 0, 4, 2, 172]
abbrev dktX9_agree_1 : List UInt8 := dkwX9_agree_1 ++ []
def dkwX9_agree_0 : List UInt8 := [42, 27, 182, 1, 16, 153, 0, 32, 42, 28, 182, 1, 16, 153, 0, 24, 42, 42, 180, 0, 52, 27, 28]
abbrev dktX9_agree_0 : List UInt8 := dkwX9_agree_0 ++ dktX9_agree_1
theorem dksX9_agree_0 : cX9_agree.data.toList.drop 0 = dktX9_agree_0 := by decide +kernel
theorem dksX9_agree_1 : cX9_agree.data.toList.drop 23 = dktX9_agree_1 := dk_seg dksX9_agree_0 23 rfl rfl
theorem dX9_agree_0 : decode cX9_agree 0 = .ok (.aload_n 0, 1) := dk_42 (dk_at dksX9_agree_0 0 rfl rfl)
theorem dX9_agree_1 : decode cX9_agree 1 = .ok (.iload_n 1, 1) := dk_27 (dk_at dksX9_agree_0 1 rfl rfl)
theorem dX9_agree_2 : decode cX9_agree 2 = .ok (.invokevirtual 272, 3) := dk_182 1 16 (dk_at dksX9_agree_0 2 rfl rfl)
theorem dX9_agree_5 : decode cX9_agree 5 = .ok (.ifCond .eq 32, 3) := dk_153 0 32 (dk_at dksX9_agree_0 5 rfl rfl)
theorem dX9_agree_8 : decode cX9_agree 8 = .ok (.aload_n 0, 1) := dk_42 (dk_at dksX9_agree_0 8 rfl rfl)
theorem dX9_agree_9 : decode cX9_agree 9 = .ok (.iload_n 2, 1) := dk_28 (dk_at dksX9_agree_0 9 rfl rfl)
theorem dX9_agree_10 : decode cX9_agree 10 = .ok (.invokevirtual 272, 3) := dk_182 1 16 (dk_at dksX9_agree_0 10 rfl rfl)
theorem dX9_agree_13 : decode cX9_agree 13 = .ok (.ifCond .eq 24, 3) := dk_153 0 24 (dk_at dksX9_agree_0 13 rfl rfl)
theorem dX9_agree_16 : decode cX9_agree 16 = .ok (.aload_n 0, 1) := dk_42 (dk_at dksX9_agree_0 16 rfl rfl)
theorem dX9_agree_17 : decode cX9_agree 17 = .ok (.aload_n 0, 1) := dk_42 (dk_at dksX9_agree_0 17 rfl rfl)
theorem dX9_agree_18 : decode cX9_agree 18 = .ok (.getfield 52, 3) := dk_180 0 52 (dk_at dksX9_agree_0 18 rfl rfl)
theorem dX9_agree_21 : decode cX9_agree 21 = .ok (.iload_n 1, 1) := dk_27 (dk_at dksX9_agree_0 21 rfl rfl)
theorem dX9_agree_22 : decode cX9_agree 22 = .ok (.iload_n 2, 1) := dk_28 (dk_at dksX9_agree_0 22 rfl rfl)
theorem dX9_agree_23 : decode cX9_agree 23 = .ok (.invokevirtual 314, 3) := dk_182 1 58 (dk_at dksX9_agree_1 0 rfl rfl)
theorem dX9_agree_26 : decode cX9_agree 26 = .ok (.ifCond .eq 7, 3) := dk_153 0 7 (dk_at dksX9_agree_1 3 rfl rfl)
theorem dX9_agree_29 : decode cX9_agree 29 = .ok (.iconst 1, 1) := dk_4 (dk_at dksX9_agree_1 6 rfl rfl)
theorem dX9_agree_30 : decode cX9_agree 30 = .ok (.goto 8, 3) := dk_167 0 8 (dk_at dksX9_agree_1 7 rfl rfl)
theorem dX9_agree_33 : decode cX9_agree 33 = .ok (.iconst 0, 1) := dk_3 (dk_at dksX9_agree_1 10 rfl rfl)
theorem dX9_agree_34 : decode cX9_agree 34 = .ok (.goto 4, 3) := dk_167 0 4 (dk_at dksX9_agree_1 11 rfl rfl)
theorem dX9_agree_37 : decode cX9_agree 37 = .ok (.iconst (-1), 1) := dk_2 (dk_at dksX9_agree_1 14 rfl rfl)
theorem dX9_agree_38 : decode cX9_agree 38 = .ok (.ireturn, 1) := dk_172 (dk_at dksX9_agree_1 15 rfl rfl)
abbrev cX9_gate : ByteArray := prog_13_method_60_code
def yX9_gate : MethodName := ⟨RX9, "gate", "(II)I"⟩
def dkwX9_gate_4 : List UInt8 := [180, 0, 71, 27, 46, 172, 42, 27, 2, 182, 1, 75, 172, 42, 27, 4, 182, 1, 75, 172, 2, 172]
abbrev dktX9_gate_4 : List UInt8 := dkwX9_gate_4 ++ []
def dkwX9_gate_3 : List UInt8 := [16, 33, 27, 96, 46, 172, 42, 180, 0, 40, 42, 27, 182, 1, 69, 46, 172, 42, 182, 1, 72, 87, 42]
abbrev dktX9_gate_3 : List UInt8 := dkwX9_gate_3 ++ dktX9_gate_4
def dkwX9_gate_2 : List UInt8 := [42, 180, 0, 52, 4, 27, 96, 46, 172, 42, 180, 0, 52, 16, 17, 27, 96, 46, 172, 42, 180, 0, 52]
abbrev dktX9_gate_2 : List UInt8 := dkwX9_gate_2 ++ dktX9_gate_3
def dkwX9_gate_1 : List UInt8 := [170, 0, 0, 0, 107, 0, 0, 0, 0, 0, 0, 0, 6, 0, 0, 0, 41, 0, 0, 0, 50, 0, 0, 0, 60, 0, 0, 0, 70, 0, 0, 0, 81, 0, 0, 0, 93, 0, 0, 0, 100]
abbrev dktX9_gate_1 : List UInt8 := dkwX9_gate_1 ++ dktX9_gate_2
def dkwX9_gate_0 : List UInt8 := [42, 27, 182, 1, 16, 154, 0, 5, 2, 172, 28]
abbrev dktX9_gate_0 : List UInt8 := dkwX9_gate_0 ++ dktX9_gate_1
theorem dksX9_gate_0 : cX9_gate.data.toList.drop 0 = dktX9_gate_0 := by decide +kernel
theorem dksX9_gate_1 : cX9_gate.data.toList.drop 11 = dktX9_gate_1 := dk_seg dksX9_gate_0 11 rfl rfl
theorem dksX9_gate_2 : cX9_gate.data.toList.drop 52 = dktX9_gate_2 := dk_seg dksX9_gate_1 41 rfl rfl
theorem dksX9_gate_3 : cX9_gate.data.toList.drop 75 = dktX9_gate_3 := dk_seg dksX9_gate_2 23 rfl rfl
theorem dksX9_gate_4 : cX9_gate.data.toList.drop 98 = dktX9_gate_4 := dk_seg dksX9_gate_3 23 rfl rfl
theorem dX9_gate_0 : decode cX9_gate 0 = .ok (.aload_n 0, 1) := dk_42 (dk_at dksX9_gate_0 0 rfl rfl)
theorem dX9_gate_1 : decode cX9_gate 1 = .ok (.iload_n 1, 1) := dk_27 (dk_at dksX9_gate_0 1 rfl rfl)
theorem dX9_gate_2 : decode cX9_gate 2 = .ok (.invokevirtual 272, 3) := dk_182 1 16 (dk_at dksX9_gate_0 2 rfl rfl)
theorem dX9_gate_5 : decode cX9_gate 5 = .ok (.ifCond .ne 5, 3) := dk_154 0 5 (dk_at dksX9_gate_0 5 rfl rfl)
theorem dX9_gate_8 : decode cX9_gate 8 = .ok (.iconst (-1), 1) := dk_2 (dk_at dksX9_gate_0 8 rfl rfl)
theorem dX9_gate_9 : decode cX9_gate 9 = .ok (.ireturn, 1) := dk_172 (dk_at dksX9_gate_0 9 rfl rfl)
theorem dX9_gate_10 : decode cX9_gate 10 = .ok (.iload_n 2, 1) := dk_28 (dk_at dksX9_gate_0 10 rfl rfl)
theorem dX9_gate_11 : decode cX9_gate 11 = .ok (.tableswitch 107 0 6 #[41, 50, 60, 70, 81, 93, 100], 41) := by decide +kernel
theorem dX9_gate_52 : decode cX9_gate 52 = .ok (.aload_n 0, 1) := dk_42 (dk_at dksX9_gate_2 0 rfl rfl)
theorem dX9_gate_53 : decode cX9_gate 53 = .ok (.getfield 52, 3) := dk_180 0 52 (dk_at dksX9_gate_2 1 rfl rfl)
theorem dX9_gate_56 : decode cX9_gate 56 = .ok (.iconst 1, 1) := dk_4 (dk_at dksX9_gate_2 4 rfl rfl)
theorem dX9_gate_57 : decode cX9_gate 57 = .ok (.iload_n 1, 1) := dk_27 (dk_at dksX9_gate_2 5 rfl rfl)
theorem dX9_gate_58 : decode cX9_gate 58 = .ok (.iadd, 1) := dk_96 (dk_at dksX9_gate_2 6 rfl rfl)
theorem dX9_gate_59 : decode cX9_gate 59 = .ok (.iaload, 1) := dk_46 (dk_at dksX9_gate_2 7 rfl rfl)
theorem dX9_gate_60 : decode cX9_gate 60 = .ok (.ireturn, 1) := dk_172 (dk_at dksX9_gate_2 8 rfl rfl)
theorem dX9_gate_61 : decode cX9_gate 61 = .ok (.aload_n 0, 1) := dk_42 (dk_at dksX9_gate_2 9 rfl rfl)
theorem dX9_gate_62 : decode cX9_gate 62 = .ok (.getfield 52, 3) := dk_180 0 52 (dk_at dksX9_gate_2 10 rfl rfl)
theorem dX9_gate_65 : decode cX9_gate 65 = .ok (.bipush 17, 2) := dk_16 17 (dk_at dksX9_gate_2 13 rfl rfl)
theorem dX9_gate_67 : decode cX9_gate 67 = .ok (.iload_n 1, 1) := dk_27 (dk_at dksX9_gate_2 15 rfl rfl)
theorem dX9_gate_68 : decode cX9_gate 68 = .ok (.iadd, 1) := dk_96 (dk_at dksX9_gate_2 16 rfl rfl)
theorem dX9_gate_69 : decode cX9_gate 69 = .ok (.iaload, 1) := dk_46 (dk_at dksX9_gate_2 17 rfl rfl)
theorem dX9_gate_70 : decode cX9_gate 70 = .ok (.ireturn, 1) := dk_172 (dk_at dksX9_gate_2 18 rfl rfl)
theorem dX9_gate_71 : decode cX9_gate 71 = .ok (.aload_n 0, 1) := dk_42 (dk_at dksX9_gate_2 19 rfl rfl)
theorem dX9_gate_72 : decode cX9_gate 72 = .ok (.getfield 52, 3) := dk_180 0 52 (dk_at dksX9_gate_2 20 rfl rfl)
theorem dX9_gate_75 : decode cX9_gate 75 = .ok (.bipush 33, 2) := dk_16 33 (dk_at dksX9_gate_3 0 rfl rfl)
theorem dX9_gate_77 : decode cX9_gate 77 = .ok (.iload_n 1, 1) := dk_27 (dk_at dksX9_gate_3 2 rfl rfl)
theorem dX9_gate_78 : decode cX9_gate 78 = .ok (.iadd, 1) := dk_96 (dk_at dksX9_gate_3 3 rfl rfl)
theorem dX9_gate_79 : decode cX9_gate 79 = .ok (.iaload, 1) := dk_46 (dk_at dksX9_gate_3 4 rfl rfl)
theorem dX9_gate_80 : decode cX9_gate 80 = .ok (.ireturn, 1) := dk_172 (dk_at dksX9_gate_3 5 rfl rfl)
theorem dX9_gate_81 : decode cX9_gate 81 = .ok (.aload_n 0, 1) := dk_42 (dk_at dksX9_gate_3 6 rfl rfl)
theorem dX9_gate_82 : decode cX9_gate 82 = .ok (.getfield 40, 3) := dk_180 0 40 (dk_at dksX9_gate_3 7 rfl rfl)
theorem dX9_gate_85 : decode cX9_gate 85 = .ok (.aload_n 0, 1) := dk_42 (dk_at dksX9_gate_3 10 rfl rfl)
theorem dX9_gate_86 : decode cX9_gate 86 = .ok (.iload_n 1, 1) := dk_27 (dk_at dksX9_gate_3 11 rfl rfl)
theorem dX9_gate_87 : decode cX9_gate 87 = .ok (.invokevirtual 325, 3) := dk_182 1 69 (dk_at dksX9_gate_3 12 rfl rfl)
theorem dX9_gate_90 : decode cX9_gate 90 = .ok (.iaload, 1) := dk_46 (dk_at dksX9_gate_3 15 rfl rfl)
theorem dX9_gate_91 : decode cX9_gate 91 = .ok (.ireturn, 1) := dk_172 (dk_at dksX9_gate_3 16 rfl rfl)
theorem dX9_gate_92 : decode cX9_gate 92 = .ok (.aload_n 0, 1) := dk_42 (dk_at dksX9_gate_3 17 rfl rfl)
theorem dX9_gate_93 : decode cX9_gate 93 = .ok (.invokevirtual 328, 3) := dk_182 1 72 (dk_at dksX9_gate_3 18 rfl rfl)
theorem dX9_gate_96 : decode cX9_gate 96 = .ok (.pop, 1) := dk_87 (dk_at dksX9_gate_3 21 rfl rfl)
theorem dX9_gate_97 : decode cX9_gate 97 = .ok (.aload_n 0, 1) := dk_42 (dk_at dksX9_gate_3 22 rfl rfl)
theorem dX9_gate_98 : decode cX9_gate 98 = .ok (.getfield 71, 3) := dk_180 0 71 (dk_at dksX9_gate_4 0 rfl rfl)
theorem dX9_gate_101 : decode cX9_gate 101 = .ok (.iload_n 1, 1) := dk_27 (dk_at dksX9_gate_4 3 rfl rfl)
theorem dX9_gate_102 : decode cX9_gate 102 = .ok (.iaload, 1) := dk_46 (dk_at dksX9_gate_4 4 rfl rfl)
theorem dX9_gate_103 : decode cX9_gate 103 = .ok (.ireturn, 1) := dk_172 (dk_at dksX9_gate_4 5 rfl rfl)
theorem dX9_gate_104 : decode cX9_gate 104 = .ok (.aload_n 0, 1) := dk_42 (dk_at dksX9_gate_4 6 rfl rfl)
theorem dX9_gate_105 : decode cX9_gate 105 = .ok (.iload_n 1, 1) := dk_27 (dk_at dksX9_gate_4 7 rfl rfl)
theorem dX9_gate_106 : decode cX9_gate 106 = .ok (.iconst (-1), 1) := dk_2 (dk_at dksX9_gate_4 8 rfl rfl)
theorem dX9_gate_107 : decode cX9_gate 107 = .ok (.invokevirtual 331, 3) := dk_182 1 75 (dk_at dksX9_gate_4 9 rfl rfl)
theorem dX9_gate_110 : decode cX9_gate 110 = .ok (.ireturn, 1) := dk_172 (dk_at dksX9_gate_4 12 rfl rfl)
theorem dX9_gate_111 : decode cX9_gate 111 = .ok (.aload_n 0, 1) := dk_42 (dk_at dksX9_gate_4 13 rfl rfl)
theorem dX9_gate_112 : decode cX9_gate 112 = .ok (.iload_n 1, 1) := dk_27 (dk_at dksX9_gate_4 14 rfl rfl)
theorem dX9_gate_113 : decode cX9_gate 113 = .ok (.iconst 1, 1) := dk_4 (dk_at dksX9_gate_4 15 rfl rfl)
theorem dX9_gate_114 : decode cX9_gate 114 = .ok (.invokevirtual 331, 3) := dk_182 1 75 (dk_at dksX9_gate_4 16 rfl rfl)
theorem dX9_gate_117 : decode cX9_gate 117 = .ok (.ireturn, 1) := dk_172 (dk_at dksX9_gate_4 19 rfl rfl)
theorem dX9_gate_118 : decode cX9_gate 118 = .ok (.iconst (-1), 1) := dk_2 (dk_at dksX9_gate_4 20 rfl rfl)
theorem dX9_gate_119 : decode cX9_gate 119 = .ok (.ireturn, 1) := dk_172 (dk_at dksX9_gate_4 21 rfl rfl)
abbrev cX9_controlsOf : ByteArray := prog_13_method_59_code
def yX9_controlsOf : MethodName := ⟨RX9, "controlsOf", "(I)I"⟩
def dkwX9_controlsOf_0 : List UInt8 := [42, 180, 0, 52, 16, 17, 27, 96, 46, 42, 180, 0, 52, 16, 33, 27, 96, 46, 128, 184, 1, 66, 172]
abbrev dktX9_controlsOf_0 : List UInt8 := dkwX9_controlsOf_0 ++ []
theorem dksX9_controlsOf_0 : cX9_controlsOf.data.toList.drop 0 = dktX9_controlsOf_0 := by decide +kernel
theorem dX9_controlsOf_0 : decode cX9_controlsOf 0 = .ok (.aload_n 0, 1) := dk_42 (dk_at dksX9_controlsOf_0 0 rfl rfl)
theorem dX9_controlsOf_1 : decode cX9_controlsOf 1 = .ok (.getfield 52, 3) := dk_180 0 52 (dk_at dksX9_controlsOf_0 1 rfl rfl)
theorem dX9_controlsOf_4 : decode cX9_controlsOf 4 = .ok (.bipush 17, 2) := dk_16 17 (dk_at dksX9_controlsOf_0 4 rfl rfl)
theorem dX9_controlsOf_6 : decode cX9_controlsOf 6 = .ok (.iload_n 1, 1) := dk_27 (dk_at dksX9_controlsOf_0 6 rfl rfl)
theorem dX9_controlsOf_7 : decode cX9_controlsOf 7 = .ok (.iadd, 1) := dk_96 (dk_at dksX9_controlsOf_0 7 rfl rfl)
theorem dX9_controlsOf_8 : decode cX9_controlsOf 8 = .ok (.iaload, 1) := dk_46 (dk_at dksX9_controlsOf_0 8 rfl rfl)
theorem dX9_controlsOf_9 : decode cX9_controlsOf 9 = .ok (.aload_n 0, 1) := dk_42 (dk_at dksX9_controlsOf_0 9 rfl rfl)
theorem dX9_controlsOf_10 : decode cX9_controlsOf 10 = .ok (.getfield 52, 3) := dk_180 0 52 (dk_at dksX9_controlsOf_0 10 rfl rfl)
theorem dX9_controlsOf_13 : decode cX9_controlsOf 13 = .ok (.bipush 33, 2) := dk_16 33 (dk_at dksX9_controlsOf_0 13 rfl rfl)
theorem dX9_controlsOf_15 : decode cX9_controlsOf 15 = .ok (.iload_n 1, 1) := dk_27 (dk_at dksX9_controlsOf_0 15 rfl rfl)
theorem dX9_controlsOf_16 : decode cX9_controlsOf 16 = .ok (.iadd, 1) := dk_96 (dk_at dksX9_controlsOf_0 16 rfl rfl)
theorem dX9_controlsOf_17 : decode cX9_controlsOf 17 = .ok (.iaload, 1) := dk_46 (dk_at dksX9_controlsOf_0 17 rfl rfl)
theorem dX9_controlsOf_18 : decode cX9_controlsOf 18 = .ok (.ior, 1) := dk_128 (dk_at dksX9_controlsOf_0 18 rfl rfl)
theorem dX9_controlsOf_19 : decode cX9_controlsOf 19 = .ok (.invokestatic 322, 3) := dk_184 1 66 (dk_at dksX9_controlsOf_0 19 rfl rfl)
theorem dX9_controlsOf_22 : decode cX9_controlsOf 22 = .ok (.ireturn, 1) := dk_172 (dk_at dksX9_controlsOf_0 22 rfl rfl)
abbrev cX9_laysLevels : ByteArray := prog_13_method_58_code
def yX9_laysLevels : MethodName := ⟨RX9, "laysLevels", "()I"⟩
def dkwX9_laysLevels_4 : List UInt8 := [28, 46, 4, 96, 60, 132, 2, 1, 167, 255, 157, 27, 172]
abbrev dktX9_laysLevels_4 : List UInt8 := dkwX9_laysLevels_4 ++ []
def dkwX9_laysLevels_3 : List UInt8 := [46, 4, 96, 79, 132, 3, 1, 167, 255, 199, 42, 180, 0, 71, 28, 46, 27, 161, 0, 12, 42, 180, 0, 71]
abbrev dktX9_laysLevels_3 : List UInt8 := dkwX9_laysLevels_3 ++ dktX9_laysLevels_4
def dkwX9_laysLevels_2 : List UInt8 := [180, 0, 71, 29, 46, 42, 180, 0, 71, 28, 46, 161, 0, 17, 42, 180, 0, 71, 28, 42, 180, 0, 71, 29]
abbrev dktX9_laysLevels_2 : List UInt8 := dkwX9_laysLevels_2 ++ dktX9_laysLevels_3
def dkwX9_laysLevels_1 : List UInt8 := [162, 0, 58, 42, 180, 0, 52, 28, 184, 1, 62, 42, 180, 0, 52, 29, 184, 1, 62, 126, 153, 0, 32, 42]
abbrev dktX9_laysLevels_1 : List UInt8 := dkwX9_laysLevels_1 ++ dktX9_laysLevels_2
def dkwX9_laysLevels_0 : List UInt8 := [3, 60, 3, 61, 28, 42, 182, 0, 244, 162, 0, 97, 42, 180, 0, 71, 28, 3, 79, 3, 62, 29, 28]
abbrev dktX9_laysLevels_0 : List UInt8 := dkwX9_laysLevels_0 ++ dktX9_laysLevels_1
theorem dksX9_laysLevels_0 : cX9_laysLevels.data.toList.drop 0 = dktX9_laysLevels_0 := by decide +kernel
theorem dksX9_laysLevels_1 : cX9_laysLevels.data.toList.drop 23 = dktX9_laysLevels_1 := dk_seg dksX9_laysLevels_0 23 rfl rfl
theorem dksX9_laysLevels_2 : cX9_laysLevels.data.toList.drop 47 = dktX9_laysLevels_2 := dk_seg dksX9_laysLevels_1 24 rfl rfl
theorem dksX9_laysLevels_3 : cX9_laysLevels.data.toList.drop 71 = dktX9_laysLevels_3 := dk_seg dksX9_laysLevels_2 24 rfl rfl
theorem dksX9_laysLevels_4 : cX9_laysLevels.data.toList.drop 95 = dktX9_laysLevels_4 := dk_seg dksX9_laysLevels_3 24 rfl rfl
theorem dX9_laysLevels_0 : decode cX9_laysLevels 0 = .ok (.iconst 0, 1) := dk_3 (dk_at dksX9_laysLevels_0 0 rfl rfl)
theorem dX9_laysLevels_1 : decode cX9_laysLevels 1 = .ok (.istore_n 1, 1) := dk_60 (dk_at dksX9_laysLevels_0 1 rfl rfl)
theorem dX9_laysLevels_2 : decode cX9_laysLevels 2 = .ok (.iconst 0, 1) := dk_3 (dk_at dksX9_laysLevels_0 2 rfl rfl)
theorem dX9_laysLevels_3 : decode cX9_laysLevels 3 = .ok (.istore_n 2, 1) := dk_61 (dk_at dksX9_laysLevels_0 3 rfl rfl)
theorem dX9_laysLevels_4 : decode cX9_laysLevels 4 = .ok (.iload_n 2, 1) := dk_28 (dk_at dksX9_laysLevels_0 4 rfl rfl)
theorem dX9_laysLevels_5 : decode cX9_laysLevels 5 = .ok (.aload_n 0, 1) := dk_42 (dk_at dksX9_laysLevels_0 5 rfl rfl)
theorem dX9_laysLevels_6 : decode cX9_laysLevels 6 = .ok (.invokevirtual 244, 3) := dk_182 0 244 (dk_at dksX9_laysLevels_0 6 rfl rfl)
theorem dX9_laysLevels_9 : decode cX9_laysLevels 9 = .ok (.if_icmp .ge 97, 3) := dk_162 0 97 (dk_at dksX9_laysLevels_0 9 rfl rfl)
theorem dX9_laysLevels_12 : decode cX9_laysLevels 12 = .ok (.aload_n 0, 1) := dk_42 (dk_at dksX9_laysLevels_0 12 rfl rfl)
theorem dX9_laysLevels_13 : decode cX9_laysLevels 13 = .ok (.getfield 71, 3) := dk_180 0 71 (dk_at dksX9_laysLevels_0 13 rfl rfl)
theorem dX9_laysLevels_16 : decode cX9_laysLevels 16 = .ok (.iload_n 2, 1) := dk_28 (dk_at dksX9_laysLevels_0 16 rfl rfl)
theorem dX9_laysLevels_17 : decode cX9_laysLevels 17 = .ok (.iconst 0, 1) := dk_3 (dk_at dksX9_laysLevels_0 17 rfl rfl)
theorem dX9_laysLevels_18 : decode cX9_laysLevels 18 = .ok (.iastore, 1) := dk_79 (dk_at dksX9_laysLevels_0 18 rfl rfl)
theorem dX9_laysLevels_19 : decode cX9_laysLevels 19 = .ok (.iconst 0, 1) := dk_3 (dk_at dksX9_laysLevels_0 19 rfl rfl)
theorem dX9_laysLevels_20 : decode cX9_laysLevels 20 = .ok (.istore_n 3, 1) := dk_62 (dk_at dksX9_laysLevels_0 20 rfl rfl)
theorem dX9_laysLevels_21 : decode cX9_laysLevels 21 = .ok (.iload_n 3, 1) := dk_29 (dk_at dksX9_laysLevels_0 21 rfl rfl)
theorem dX9_laysLevels_22 : decode cX9_laysLevels 22 = .ok (.iload_n 2, 1) := dk_28 (dk_at dksX9_laysLevels_0 22 rfl rfl)
theorem dX9_laysLevels_23 : decode cX9_laysLevels 23 = .ok (.if_icmp .ge 58, 3) := dk_162 0 58 (dk_at dksX9_laysLevels_1 0 rfl rfl)
theorem dX9_laysLevels_26 : decode cX9_laysLevels 26 = .ok (.aload_n 0, 1) := dk_42 (dk_at dksX9_laysLevels_1 3 rfl rfl)
theorem dX9_laysLevels_27 : decode cX9_laysLevels 27 = .ok (.getfield 52, 3) := dk_180 0 52 (dk_at dksX9_laysLevels_1 4 rfl rfl)
theorem dX9_laysLevels_30 : decode cX9_laysLevels 30 = .ok (.iload_n 2, 1) := dk_28 (dk_at dksX9_laysLevels_1 7 rfl rfl)
theorem dX9_laysLevels_31 : decode cX9_laysLevels 31 = .ok (.invokestatic 318, 3) := dk_184 1 62 (dk_at dksX9_laysLevels_1 8 rfl rfl)
theorem dX9_laysLevels_34 : decode cX9_laysLevels 34 = .ok (.aload_n 0, 1) := dk_42 (dk_at dksX9_laysLevels_1 11 rfl rfl)
theorem dX9_laysLevels_35 : decode cX9_laysLevels 35 = .ok (.getfield 52, 3) := dk_180 0 52 (dk_at dksX9_laysLevels_1 12 rfl rfl)
theorem dX9_laysLevels_38 : decode cX9_laysLevels 38 = .ok (.iload_n 3, 1) := dk_29 (dk_at dksX9_laysLevels_1 15 rfl rfl)
theorem dX9_laysLevels_39 : decode cX9_laysLevels 39 = .ok (.invokestatic 318, 3) := dk_184 1 62 (dk_at dksX9_laysLevels_1 16 rfl rfl)
theorem dX9_laysLevels_42 : decode cX9_laysLevels 42 = .ok (.iand, 1) := dk_126 (dk_at dksX9_laysLevels_1 19 rfl rfl)
theorem dX9_laysLevels_43 : decode cX9_laysLevels 43 = .ok (.ifCond .eq 32, 3) := dk_153 0 32 (dk_at dksX9_laysLevels_1 20 rfl rfl)
theorem dX9_laysLevels_46 : decode cX9_laysLevels 46 = .ok (.aload_n 0, 1) := dk_42 (dk_at dksX9_laysLevels_1 23 rfl rfl)
theorem dX9_laysLevels_47 : decode cX9_laysLevels 47 = .ok (.getfield 71, 3) := dk_180 0 71 (dk_at dksX9_laysLevels_2 0 rfl rfl)
theorem dX9_laysLevels_50 : decode cX9_laysLevels 50 = .ok (.iload_n 3, 1) := dk_29 (dk_at dksX9_laysLevels_2 3 rfl rfl)
theorem dX9_laysLevels_51 : decode cX9_laysLevels 51 = .ok (.iaload, 1) := dk_46 (dk_at dksX9_laysLevels_2 4 rfl rfl)
theorem dX9_laysLevels_52 : decode cX9_laysLevels 52 = .ok (.aload_n 0, 1) := dk_42 (dk_at dksX9_laysLevels_2 5 rfl rfl)
theorem dX9_laysLevels_53 : decode cX9_laysLevels 53 = .ok (.getfield 71, 3) := dk_180 0 71 (dk_at dksX9_laysLevels_2 6 rfl rfl)
theorem dX9_laysLevels_56 : decode cX9_laysLevels 56 = .ok (.iload_n 2, 1) := dk_28 (dk_at dksX9_laysLevels_2 9 rfl rfl)
theorem dX9_laysLevels_57 : decode cX9_laysLevels 57 = .ok (.iaload, 1) := dk_46 (dk_at dksX9_laysLevels_2 10 rfl rfl)
theorem dX9_laysLevels_58 : decode cX9_laysLevels 58 = .ok (.if_icmp .lt 17, 3) := dk_161 0 17 (dk_at dksX9_laysLevels_2 11 rfl rfl)
theorem dX9_laysLevels_61 : decode cX9_laysLevels 61 = .ok (.aload_n 0, 1) := dk_42 (dk_at dksX9_laysLevels_2 14 rfl rfl)
theorem dX9_laysLevels_62 : decode cX9_laysLevels 62 = .ok (.getfield 71, 3) := dk_180 0 71 (dk_at dksX9_laysLevels_2 15 rfl rfl)
theorem dX9_laysLevels_65 : decode cX9_laysLevels 65 = .ok (.iload_n 2, 1) := dk_28 (dk_at dksX9_laysLevels_2 18 rfl rfl)
theorem dX9_laysLevels_66 : decode cX9_laysLevels 66 = .ok (.aload_n 0, 1) := dk_42 (dk_at dksX9_laysLevels_2 19 rfl rfl)
theorem dX9_laysLevels_67 : decode cX9_laysLevels 67 = .ok (.getfield 71, 3) := dk_180 0 71 (dk_at dksX9_laysLevels_2 20 rfl rfl)
theorem dX9_laysLevels_70 : decode cX9_laysLevels 70 = .ok (.iload_n 3, 1) := dk_29 (dk_at dksX9_laysLevels_2 23 rfl rfl)
theorem dX9_laysLevels_71 : decode cX9_laysLevels 71 = .ok (.iaload, 1) := dk_46 (dk_at dksX9_laysLevels_3 0 rfl rfl)
theorem dX9_laysLevels_72 : decode cX9_laysLevels 72 = .ok (.iconst 1, 1) := dk_4 (dk_at dksX9_laysLevels_3 1 rfl rfl)
theorem dX9_laysLevels_73 : decode cX9_laysLevels 73 = .ok (.iadd, 1) := dk_96 (dk_at dksX9_laysLevels_3 2 rfl rfl)
theorem dX9_laysLevels_74 : decode cX9_laysLevels 74 = .ok (.iastore, 1) := dk_79 (dk_at dksX9_laysLevels_3 3 rfl rfl)
theorem dX9_laysLevels_75 : decode cX9_laysLevels 75 = .ok (.iinc 3 1, 3) := dk_132 3 1 (dk_at dksX9_laysLevels_3 4 rfl rfl)
theorem dX9_laysLevels_78 : decode cX9_laysLevels 78 = .ok (.goto (-57), 3) := dk_167 255 199 (dk_at dksX9_laysLevels_3 7 rfl rfl)
theorem dX9_laysLevels_81 : decode cX9_laysLevels 81 = .ok (.aload_n 0, 1) := dk_42 (dk_at dksX9_laysLevels_3 10 rfl rfl)
theorem dX9_laysLevels_82 : decode cX9_laysLevels 82 = .ok (.getfield 71, 3) := dk_180 0 71 (dk_at dksX9_laysLevels_3 11 rfl rfl)
theorem dX9_laysLevels_85 : decode cX9_laysLevels 85 = .ok (.iload_n 2, 1) := dk_28 (dk_at dksX9_laysLevels_3 14 rfl rfl)
theorem dX9_laysLevels_86 : decode cX9_laysLevels 86 = .ok (.iaload, 1) := dk_46 (dk_at dksX9_laysLevels_3 15 rfl rfl)
theorem dX9_laysLevels_87 : decode cX9_laysLevels 87 = .ok (.iload_n 1, 1) := dk_27 (dk_at dksX9_laysLevels_3 16 rfl rfl)
theorem dX9_laysLevels_88 : decode cX9_laysLevels 88 = .ok (.if_icmp .lt 12, 3) := dk_161 0 12 (dk_at dksX9_laysLevels_3 17 rfl rfl)
theorem dX9_laysLevels_91 : decode cX9_laysLevels 91 = .ok (.aload_n 0, 1) := dk_42 (dk_at dksX9_laysLevels_3 20 rfl rfl)
theorem dX9_laysLevels_92 : decode cX9_laysLevels 92 = .ok (.getfield 71, 3) := dk_180 0 71 (dk_at dksX9_laysLevels_3 21 rfl rfl)
theorem dX9_laysLevels_95 : decode cX9_laysLevels 95 = .ok (.iload_n 2, 1) := dk_28 (dk_at dksX9_laysLevels_4 0 rfl rfl)
theorem dX9_laysLevels_96 : decode cX9_laysLevels 96 = .ok (.iaload, 1) := dk_46 (dk_at dksX9_laysLevels_4 1 rfl rfl)
theorem dX9_laysLevels_97 : decode cX9_laysLevels 97 = .ok (.iconst 1, 1) := dk_4 (dk_at dksX9_laysLevels_4 2 rfl rfl)
theorem dX9_laysLevels_98 : decode cX9_laysLevels 98 = .ok (.iadd, 1) := dk_96 (dk_at dksX9_laysLevels_4 3 rfl rfl)
theorem dX9_laysLevels_99 : decode cX9_laysLevels 99 = .ok (.istore_n 1, 1) := dk_60 (dk_at dksX9_laysLevels_4 4 rfl rfl)
theorem dX9_laysLevels_100 : decode cX9_laysLevels 100 = .ok (.iinc 2 1, 3) := dk_132 2 1 (dk_at dksX9_laysLevels_4 5 rfl rfl)
theorem dX9_laysLevels_103 : decode cX9_laysLevels 103 = .ok (.goto (-99), 3) := dk_167 255 157 (dk_at dksX9_laysLevels_4 8 rfl rfl)
theorem dX9_laysLevels_106 : decode cX9_laysLevels 106 = .ok (.iload_n 1, 1) := dk_27 (dk_at dksX9_laysLevels_4 11 rfl rfl)
theorem dX9_laysLevels_107 : decode cX9_laysLevels 107 = .ok (.ireturn, 1) := dk_172 (dk_at dksX9_laysLevels_4 12 rfl rfl)
abbrev cX9_wiresOf : ByteArray := prog_13_method_57_code
def yX9_wiresOf : MethodName := ⟨RX9, "wiresOf", "([II)I"⟩
def dkwX9_wiresOf_0 : List UInt8 := [42, 16, 17, 27, 96, 46, 42, 16, 33, 27, 96, 46, 128, 4, 42, 4, 27, 96, 46, 120, 128, 172]
abbrev dktX9_wiresOf_0 : List UInt8 := dkwX9_wiresOf_0 ++ []
theorem dksX9_wiresOf_0 : cX9_wiresOf.data.toList.drop 0 = dktX9_wiresOf_0 := by decide +kernel
theorem dX9_wiresOf_0 : decode cX9_wiresOf 0 = .ok (.aload_n 0, 1) := dk_42 (dk_at dksX9_wiresOf_0 0 rfl rfl)
theorem dX9_wiresOf_1 : decode cX9_wiresOf 1 = .ok (.bipush 17, 2) := dk_16 17 (dk_at dksX9_wiresOf_0 1 rfl rfl)
theorem dX9_wiresOf_3 : decode cX9_wiresOf 3 = .ok (.iload_n 1, 1) := dk_27 (dk_at dksX9_wiresOf_0 3 rfl rfl)
theorem dX9_wiresOf_4 : decode cX9_wiresOf 4 = .ok (.iadd, 1) := dk_96 (dk_at dksX9_wiresOf_0 4 rfl rfl)
theorem dX9_wiresOf_5 : decode cX9_wiresOf 5 = .ok (.iaload, 1) := dk_46 (dk_at dksX9_wiresOf_0 5 rfl rfl)
theorem dX9_wiresOf_6 : decode cX9_wiresOf 6 = .ok (.aload_n 0, 1) := dk_42 (dk_at dksX9_wiresOf_0 6 rfl rfl)
theorem dX9_wiresOf_7 : decode cX9_wiresOf 7 = .ok (.bipush 33, 2) := dk_16 33 (dk_at dksX9_wiresOf_0 7 rfl rfl)
theorem dX9_wiresOf_9 : decode cX9_wiresOf 9 = .ok (.iload_n 1, 1) := dk_27 (dk_at dksX9_wiresOf_0 9 rfl rfl)
theorem dX9_wiresOf_10 : decode cX9_wiresOf 10 = .ok (.iadd, 1) := dk_96 (dk_at dksX9_wiresOf_0 10 rfl rfl)
theorem dX9_wiresOf_11 : decode cX9_wiresOf 11 = .ok (.iaload, 1) := dk_46 (dk_at dksX9_wiresOf_0 11 rfl rfl)
theorem dX9_wiresOf_12 : decode cX9_wiresOf 12 = .ok (.ior, 1) := dk_128 (dk_at dksX9_wiresOf_0 12 rfl rfl)
theorem dX9_wiresOf_13 : decode cX9_wiresOf 13 = .ok (.iconst 1, 1) := dk_4 (dk_at dksX9_wiresOf_0 13 rfl rfl)
theorem dX9_wiresOf_14 : decode cX9_wiresOf 14 = .ok (.aload_n 0, 1) := dk_42 (dk_at dksX9_wiresOf_0 14 rfl rfl)
theorem dX9_wiresOf_15 : decode cX9_wiresOf 15 = .ok (.iconst 1, 1) := dk_4 (dk_at dksX9_wiresOf_0 15 rfl rfl)
theorem dX9_wiresOf_16 : decode cX9_wiresOf 16 = .ok (.iload_n 1, 1) := dk_27 (dk_at dksX9_wiresOf_0 16 rfl rfl)
theorem dX9_wiresOf_17 : decode cX9_wiresOf 17 = .ok (.iadd, 1) := dk_96 (dk_at dksX9_wiresOf_0 17 rfl rfl)
theorem dX9_wiresOf_18 : decode cX9_wiresOf 18 = .ok (.iaload, 1) := dk_46 (dk_at dksX9_wiresOf_0 18 rfl rfl)
theorem dX9_wiresOf_19 : decode cX9_wiresOf 19 = .ok (.ishl, 1) := dk_120 (dk_at dksX9_wiresOf_0 19 rfl rfl)
theorem dX9_wiresOf_20 : decode cX9_wiresOf 20 = .ok (.ior, 1) := dk_128 (dk_at dksX9_wiresOf_0 20 rfl rfl)
theorem dX9_wiresOf_21 : decode cX9_wiresOf 21 = .ok (.ireturn, 1) := dk_172 (dk_at dksX9_wiresOf_0 21 rfl rfl)
abbrev cX9_freeOf : ByteArray := prog_13_method_56_code
def yX9_freeOf : MethodName := ⟨RX9, "freeOf", "(II)I"⟩
def dkwX9_freeOf_1 : List UInt8 := [182, 1, 58, 153, 0, 15, 132, 3, 1, 21, 4, 28, 96, 54, 4, 167, 255, 224, 29, 172]
abbrev dktX9_freeOf_1 : List UInt8 := dkwX9_freeOf_1 ++ []
def dkwX9_freeOf_0 : List UInt8 := [3, 62, 27, 28, 96, 54, 4, 42, 21, 4, 182, 1, 16, 153, 0, 29, 42, 42, 180, 0, 52, 27, 21, 4]
abbrev dktX9_freeOf_0 : List UInt8 := dkwX9_freeOf_0 ++ dktX9_freeOf_1
theorem dksX9_freeOf_0 : cX9_freeOf.data.toList.drop 0 = dktX9_freeOf_0 := by decide +kernel
theorem dksX9_freeOf_1 : cX9_freeOf.data.toList.drop 24 = dktX9_freeOf_1 := dk_seg dksX9_freeOf_0 24 rfl rfl
theorem dX9_freeOf_0 : decode cX9_freeOf 0 = .ok (.iconst 0, 1) := dk_3 (dk_at dksX9_freeOf_0 0 rfl rfl)
theorem dX9_freeOf_1 : decode cX9_freeOf 1 = .ok (.istore_n 3, 1) := dk_62 (dk_at dksX9_freeOf_0 1 rfl rfl)
theorem dX9_freeOf_2 : decode cX9_freeOf 2 = .ok (.iload_n 1, 1) := dk_27 (dk_at dksX9_freeOf_0 2 rfl rfl)
theorem dX9_freeOf_3 : decode cX9_freeOf 3 = .ok (.iload_n 2, 1) := dk_28 (dk_at dksX9_freeOf_0 3 rfl rfl)
theorem dX9_freeOf_4 : decode cX9_freeOf 4 = .ok (.iadd, 1) := dk_96 (dk_at dksX9_freeOf_0 4 rfl rfl)
theorem dX9_freeOf_5 : decode cX9_freeOf 5 = .ok (.istore 4, 2) := dk_54 4 (dk_at dksX9_freeOf_0 5 rfl rfl)
theorem dX9_freeOf_7 : decode cX9_freeOf 7 = .ok (.aload_n 0, 1) := dk_42 (dk_at dksX9_freeOf_0 7 rfl rfl)
theorem dX9_freeOf_8 : decode cX9_freeOf 8 = .ok (.iload 4, 2) := dk_21 4 (dk_at dksX9_freeOf_0 8 rfl rfl)
theorem dX9_freeOf_10 : decode cX9_freeOf 10 = .ok (.invokevirtual 272, 3) := dk_182 1 16 (dk_at dksX9_freeOf_0 10 rfl rfl)
theorem dX9_freeOf_13 : decode cX9_freeOf 13 = .ok (.ifCond .eq 29, 3) := dk_153 0 29 (dk_at dksX9_freeOf_0 13 rfl rfl)
theorem dX9_freeOf_16 : decode cX9_freeOf 16 = .ok (.aload_n 0, 1) := dk_42 (dk_at dksX9_freeOf_0 16 rfl rfl)
theorem dX9_freeOf_17 : decode cX9_freeOf 17 = .ok (.aload_n 0, 1) := dk_42 (dk_at dksX9_freeOf_0 17 rfl rfl)
theorem dX9_freeOf_18 : decode cX9_freeOf 18 = .ok (.getfield 52, 3) := dk_180 0 52 (dk_at dksX9_freeOf_0 18 rfl rfl)
theorem dX9_freeOf_21 : decode cX9_freeOf 21 = .ok (.iload_n 1, 1) := dk_27 (dk_at dksX9_freeOf_0 21 rfl rfl)
theorem dX9_freeOf_22 : decode cX9_freeOf 22 = .ok (.iload 4, 2) := dk_21 4 (dk_at dksX9_freeOf_0 22 rfl rfl)
theorem dX9_freeOf_24 : decode cX9_freeOf 24 = .ok (.invokevirtual 314, 3) := dk_182 1 58 (dk_at dksX9_freeOf_1 0 rfl rfl)
theorem dX9_freeOf_27 : decode cX9_freeOf 27 = .ok (.ifCond .eq 15, 3) := dk_153 0 15 (dk_at dksX9_freeOf_1 3 rfl rfl)
theorem dX9_freeOf_30 : decode cX9_freeOf 30 = .ok (.iinc 3 1, 3) := dk_132 3 1 (dk_at dksX9_freeOf_1 6 rfl rfl)
theorem dX9_freeOf_33 : decode cX9_freeOf 33 = .ok (.iload 4, 2) := dk_21 4 (dk_at dksX9_freeOf_1 9 rfl rfl)
theorem dX9_freeOf_35 : decode cX9_freeOf 35 = .ok (.iload_n 2, 1) := dk_28 (dk_at dksX9_freeOf_1 11 rfl rfl)
theorem dX9_freeOf_36 : decode cX9_freeOf 36 = .ok (.iadd, 1) := dk_96 (dk_at dksX9_freeOf_1 12 rfl rfl)
theorem dX9_freeOf_37 : decode cX9_freeOf 37 = .ok (.istore 4, 2) := dk_54 4 (dk_at dksX9_freeOf_1 13 rfl rfl)
theorem dX9_freeOf_39 : decode cX9_freeOf 39 = .ok (.goto (-32), 3) := dk_167 255 224 (dk_at dksX9_freeOf_1 15 rfl rfl)
theorem dX9_freeOf_42 : decode cX9_freeOf 42 = .ok (.iload_n 3, 1) := dk_29 (dk_at dksX9_freeOf_1 18 rfl rfl)
theorem dX9_freeOf_43 : decode cX9_freeOf 43 = .ok (.ireturn, 1) := dk_172 (dk_at dksX9_freeOf_1 19 rfl rfl)
abbrev cX9_shrunk : ByteArray := prog_13_method_66_code
def yX9_shrunk : MethodName := ⟨RX9, "shrunk", "(II)I"⟩
def dkwX9_shrunk_3 : List UInt8 := [167, 0, 12, 42, 180, 0, 74, 16, 33, 27, 96, 46, 172]
abbrev dktX9_shrunk_3 : List UInt8 := dkwX9_shrunk_3 ++ []
def dkwX9_shrunk_2 : List UInt8 := [180, 0, 74, 4, 27, 96, 46, 167, 0, 29, 28, 4, 160, 0, 15, 42, 180, 0, 74, 16, 17, 27, 96, 46]
abbrev dktX9_shrunk_2 : List UInt8 := dkwX9_shrunk_2 ++ dktX9_shrunk_3
def dkwX9_shrunk_1 : List UInt8 := [4, 100, 184, 0, 237, 153, 0, 12, 28, 3, 5, 184, 0, 237, 154, 0, 5, 2, 172, 28, 154, 0, 14, 42]
abbrev dktX9_shrunk_1 : List UInt8 := dkwX9_shrunk_1 ++ dktX9_shrunk_2
def dkwX9_shrunk_0 : List UInt8 := [42, 182, 1, 26, 27, 2, 160, 0, 10, 42, 180, 0, 74, 3, 46, 172, 27, 3, 42, 180, 0, 74, 3, 46]
abbrev dktX9_shrunk_0 : List UInt8 := dkwX9_shrunk_0 ++ dktX9_shrunk_1
theorem dksX9_shrunk_0 : cX9_shrunk.data.toList.drop 0 = dktX9_shrunk_0 := by decide +kernel
theorem dksX9_shrunk_1 : cX9_shrunk.data.toList.drop 24 = dktX9_shrunk_1 := dk_seg dksX9_shrunk_0 24 rfl rfl
theorem dksX9_shrunk_2 : cX9_shrunk.data.toList.drop 48 = dktX9_shrunk_2 := dk_seg dksX9_shrunk_1 24 rfl rfl
theorem dksX9_shrunk_3 : cX9_shrunk.data.toList.drop 72 = dktX9_shrunk_3 := dk_seg dksX9_shrunk_2 24 rfl rfl
theorem dX9_shrunk_0 : decode cX9_shrunk 0 = .ok (.aload_n 0, 1) := dk_42 (dk_at dksX9_shrunk_0 0 rfl rfl)
theorem dX9_shrunk_1 : decode cX9_shrunk 1 = .ok (.invokevirtual 282, 3) := dk_182 1 26 (dk_at dksX9_shrunk_0 1 rfl rfl)
theorem dX9_shrunk_4 : decode cX9_shrunk 4 = .ok (.iload_n 1, 1) := dk_27 (dk_at dksX9_shrunk_0 4 rfl rfl)
theorem dX9_shrunk_5 : decode cX9_shrunk 5 = .ok (.iconst (-1), 1) := dk_2 (dk_at dksX9_shrunk_0 5 rfl rfl)
theorem dX9_shrunk_6 : decode cX9_shrunk 6 = .ok (.if_icmp .ne 10, 3) := dk_160 0 10 (dk_at dksX9_shrunk_0 6 rfl rfl)
theorem dX9_shrunk_9 : decode cX9_shrunk 9 = .ok (.aload_n 0, 1) := dk_42 (dk_at dksX9_shrunk_0 9 rfl rfl)
theorem dX9_shrunk_10 : decode cX9_shrunk 10 = .ok (.getfield 74, 3) := dk_180 0 74 (dk_at dksX9_shrunk_0 10 rfl rfl)
theorem dX9_shrunk_13 : decode cX9_shrunk 13 = .ok (.iconst 0, 1) := dk_3 (dk_at dksX9_shrunk_0 13 rfl rfl)
theorem dX9_shrunk_14 : decode cX9_shrunk 14 = .ok (.iaload, 1) := dk_46 (dk_at dksX9_shrunk_0 14 rfl rfl)
theorem dX9_shrunk_15 : decode cX9_shrunk 15 = .ok (.ireturn, 1) := dk_172 (dk_at dksX9_shrunk_0 15 rfl rfl)
theorem dX9_shrunk_16 : decode cX9_shrunk 16 = .ok (.iload_n 1, 1) := dk_27 (dk_at dksX9_shrunk_0 16 rfl rfl)
theorem dX9_shrunk_17 : decode cX9_shrunk 17 = .ok (.iconst 0, 1) := dk_3 (dk_at dksX9_shrunk_0 17 rfl rfl)
theorem dX9_shrunk_18 : decode cX9_shrunk 18 = .ok (.aload_n 0, 1) := dk_42 (dk_at dksX9_shrunk_0 18 rfl rfl)
theorem dX9_shrunk_19 : decode cX9_shrunk 19 = .ok (.getfield 74, 3) := dk_180 0 74 (dk_at dksX9_shrunk_0 19 rfl rfl)
theorem dX9_shrunk_22 : decode cX9_shrunk 22 = .ok (.iconst 0, 1) := dk_3 (dk_at dksX9_shrunk_0 22 rfl rfl)
theorem dX9_shrunk_23 : decode cX9_shrunk 23 = .ok (.iaload, 1) := dk_46 (dk_at dksX9_shrunk_0 23 rfl rfl)
theorem dX9_shrunk_24 : decode cX9_shrunk 24 = .ok (.iconst 1, 1) := dk_4 (dk_at dksX9_shrunk_1 0 rfl rfl)
theorem dX9_shrunk_25 : decode cX9_shrunk 25 = .ok (.isub, 1) := dk_100 (dk_at dksX9_shrunk_1 1 rfl rfl)
theorem dX9_shrunk_26 : decode cX9_shrunk 26 = .ok (.invokestatic 237, 3) := dk_184 0 237 (dk_at dksX9_shrunk_1 2 rfl rfl)
theorem dX9_shrunk_29 : decode cX9_shrunk 29 = .ok (.ifCond .eq 12, 3) := dk_153 0 12 (dk_at dksX9_shrunk_1 5 rfl rfl)
theorem dX9_shrunk_32 : decode cX9_shrunk 32 = .ok (.iload_n 2, 1) := dk_28 (dk_at dksX9_shrunk_1 8 rfl rfl)
theorem dX9_shrunk_33 : decode cX9_shrunk 33 = .ok (.iconst 0, 1) := dk_3 (dk_at dksX9_shrunk_1 9 rfl rfl)
theorem dX9_shrunk_34 : decode cX9_shrunk 34 = .ok (.iconst 2, 1) := dk_5 (dk_at dksX9_shrunk_1 10 rfl rfl)
theorem dX9_shrunk_35 : decode cX9_shrunk 35 = .ok (.invokestatic 237, 3) := dk_184 0 237 (dk_at dksX9_shrunk_1 11 rfl rfl)
theorem dX9_shrunk_38 : decode cX9_shrunk 38 = .ok (.ifCond .ne 5, 3) := dk_154 0 5 (dk_at dksX9_shrunk_1 14 rfl rfl)
theorem dX9_shrunk_41 : decode cX9_shrunk 41 = .ok (.iconst (-1), 1) := dk_2 (dk_at dksX9_shrunk_1 17 rfl rfl)
theorem dX9_shrunk_42 : decode cX9_shrunk 42 = .ok (.ireturn, 1) := dk_172 (dk_at dksX9_shrunk_1 18 rfl rfl)
theorem dX9_shrunk_43 : decode cX9_shrunk 43 = .ok (.iload_n 2, 1) := dk_28 (dk_at dksX9_shrunk_1 19 rfl rfl)
theorem dX9_shrunk_44 : decode cX9_shrunk 44 = .ok (.ifCond .ne 14, 3) := dk_154 0 14 (dk_at dksX9_shrunk_1 20 rfl rfl)
theorem dX9_shrunk_47 : decode cX9_shrunk 47 = .ok (.aload_n 0, 1) := dk_42 (dk_at dksX9_shrunk_1 23 rfl rfl)
theorem dX9_shrunk_48 : decode cX9_shrunk 48 = .ok (.getfield 74, 3) := dk_180 0 74 (dk_at dksX9_shrunk_2 0 rfl rfl)
theorem dX9_shrunk_51 : decode cX9_shrunk 51 = .ok (.iconst 1, 1) := dk_4 (dk_at dksX9_shrunk_2 3 rfl rfl)
theorem dX9_shrunk_52 : decode cX9_shrunk 52 = .ok (.iload_n 1, 1) := dk_27 (dk_at dksX9_shrunk_2 4 rfl rfl)
theorem dX9_shrunk_53 : decode cX9_shrunk 53 = .ok (.iadd, 1) := dk_96 (dk_at dksX9_shrunk_2 5 rfl rfl)
theorem dX9_shrunk_54 : decode cX9_shrunk 54 = .ok (.iaload, 1) := dk_46 (dk_at dksX9_shrunk_2 6 rfl rfl)
theorem dX9_shrunk_55 : decode cX9_shrunk 55 = .ok (.goto 29, 3) := dk_167 0 29 (dk_at dksX9_shrunk_2 7 rfl rfl)
theorem dX9_shrunk_58 : decode cX9_shrunk 58 = .ok (.iload_n 2, 1) := dk_28 (dk_at dksX9_shrunk_2 10 rfl rfl)
theorem dX9_shrunk_59 : decode cX9_shrunk 59 = .ok (.iconst 1, 1) := dk_4 (dk_at dksX9_shrunk_2 11 rfl rfl)
theorem dX9_shrunk_60 : decode cX9_shrunk 60 = .ok (.if_icmp .ne 15, 3) := dk_160 0 15 (dk_at dksX9_shrunk_2 12 rfl rfl)
theorem dX9_shrunk_63 : decode cX9_shrunk 63 = .ok (.aload_n 0, 1) := dk_42 (dk_at dksX9_shrunk_2 15 rfl rfl)
theorem dX9_shrunk_64 : decode cX9_shrunk 64 = .ok (.getfield 74, 3) := dk_180 0 74 (dk_at dksX9_shrunk_2 16 rfl rfl)
theorem dX9_shrunk_67 : decode cX9_shrunk 67 = .ok (.bipush 17, 2) := dk_16 17 (dk_at dksX9_shrunk_2 19 rfl rfl)
theorem dX9_shrunk_69 : decode cX9_shrunk 69 = .ok (.iload_n 1, 1) := dk_27 (dk_at dksX9_shrunk_2 21 rfl rfl)
theorem dX9_shrunk_70 : decode cX9_shrunk 70 = .ok (.iadd, 1) := dk_96 (dk_at dksX9_shrunk_2 22 rfl rfl)
theorem dX9_shrunk_71 : decode cX9_shrunk 71 = .ok (.iaload, 1) := dk_46 (dk_at dksX9_shrunk_2 23 rfl rfl)
theorem dX9_shrunk_72 : decode cX9_shrunk 72 = .ok (.goto 12, 3) := dk_167 0 12 (dk_at dksX9_shrunk_3 0 rfl rfl)
theorem dX9_shrunk_75 : decode cX9_shrunk 75 = .ok (.aload_n 0, 1) := dk_42 (dk_at dksX9_shrunk_3 3 rfl rfl)
theorem dX9_shrunk_76 : decode cX9_shrunk 76 = .ok (.getfield 74, 3) := dk_180 0 74 (dk_at dksX9_shrunk_3 4 rfl rfl)
theorem dX9_shrunk_79 : decode cX9_shrunk 79 = .ok (.bipush 33, 2) := dk_16 33 (dk_at dksX9_shrunk_3 7 rfl rfl)
theorem dX9_shrunk_81 : decode cX9_shrunk 81 = .ok (.iload_n 1, 1) := dk_27 (dk_at dksX9_shrunk_3 9 rfl rfl)
theorem dX9_shrunk_82 : decode cX9_shrunk 82 = .ok (.iadd, 1) := dk_96 (dk_at dksX9_shrunk_3 10 rfl rfl)
theorem dX9_shrunk_83 : decode cX9_shrunk 83 = .ok (.iaload, 1) := dk_46 (dk_at dksX9_shrunk_3 11 rfl rfl)
theorem dX9_shrunk_84 : decode cX9_shrunk 84 = .ok (.ireturn, 1) := dk_172 (dk_at dksX9_shrunk_3 12 rfl rfl)
abbrev cX9_found : ByteArray := prog_13_method_71_code
def yX9_found : MethodName := ⟨RX9, "found", "(ZII)I"⟩
def dkwX9_found_0 : List UInt8 := [42, 42, 180, 0, 52, 182, 1, 29, 42, 42, 180, 0, 203, 27, 182, 1, 33, 42, 28, 29, 182, 1, 104, 172]
abbrev dktX9_found_0 : List UInt8 := dkwX9_found_0 ++ []
theorem dksX9_found_0 : cX9_found.data.toList.drop 0 = dktX9_found_0 := by decide +kernel
theorem dX9_found_0 : decode cX9_found 0 = .ok (.aload_n 0, 1) := dk_42 (dk_at dksX9_found_0 0 rfl rfl)
theorem dX9_found_1 : decode cX9_found 1 = .ok (.aload_n 0, 1) := dk_42 (dk_at dksX9_found_0 1 rfl rfl)
theorem dX9_found_2 : decode cX9_found 2 = .ok (.getfield 52, 3) := dk_180 0 52 (dk_at dksX9_found_0 2 rfl rfl)
theorem dX9_found_5 : decode cX9_found 5 = .ok (.invokevirtual 285, 3) := dk_182 1 29 (dk_at dksX9_found_0 5 rfl rfl)
theorem dX9_found_8 : decode cX9_found 8 = .ok (.aload_n 0, 1) := dk_42 (dk_at dksX9_found_0 8 rfl rfl)
theorem dX9_found_9 : decode cX9_found 9 = .ok (.aload_n 0, 1) := dk_42 (dk_at dksX9_found_0 9 rfl rfl)
theorem dX9_found_10 : decode cX9_found 10 = .ok (.getfield 203, 3) := dk_180 0 203 (dk_at dksX9_found_0 10 rfl rfl)
theorem dX9_found_13 : decode cX9_found 13 = .ok (.iload_n 1, 1) := dk_27 (dk_at dksX9_found_0 13 rfl rfl)
theorem dX9_found_14 : decode cX9_found 14 = .ok (.invokevirtual 289, 3) := dk_182 1 33 (dk_at dksX9_found_0 14 rfl rfl)
theorem dX9_found_17 : decode cX9_found 17 = .ok (.aload_n 0, 1) := dk_42 (dk_at dksX9_found_0 17 rfl rfl)
theorem dX9_found_18 : decode cX9_found 18 = .ok (.iload_n 2, 1) := dk_28 (dk_at dksX9_found_0 18 rfl rfl)
theorem dX9_found_19 : decode cX9_found 19 = .ok (.iload_n 3, 1) := dk_29 (dk_at dksX9_found_0 19 rfl rfl)
theorem dX9_found_20 : decode cX9_found 20 = .ok (.invokevirtual 360, 3) := dk_182 1 104 (dk_at dksX9_found_0 20 rfl rfl)
theorem dX9_found_23 : decode cX9_found 23 = .ok (.ireturn, 1) := dk_172 (dk_at dksX9_found_0 23 rfl rfl)
abbrev cX9_foundOf : ByteArray := prog_13_method_70_code
def yX9_foundOf : MethodName := ⟨RX9, "foundOf", "(II)I"⟩
def dkwX9_foundOf_2 : List UInt8 := [42, 180, 0, 80, 27, 46, 172]
abbrev dktX9_foundOf_2 : List UInt8 := dkwX9_foundOf_2 ++ []
def dkwX9_foundOf_1 : List UInt8 := [28, 3, 4, 184, 0, 237, 154, 0, 5, 2, 172, 28, 154, 0, 12, 42, 180, 0, 77, 27, 46, 167, 0, 9]
abbrev dktX9_foundOf_1 : List UInt8 := dkwX9_foundOf_1 ++ dktX9_foundOf_2
def dkwX9_foundOf_0 : List UInt8 := [27, 2, 160, 0, 8, 42, 180, 1, 40, 172, 27, 3, 42, 180, 1, 40, 4, 100, 184, 0, 237, 153, 0, 12]
abbrev dktX9_foundOf_0 : List UInt8 := dkwX9_foundOf_0 ++ dktX9_foundOf_1
theorem dksX9_foundOf_0 : cX9_foundOf.data.toList.drop 0 = dktX9_foundOf_0 := by decide +kernel
theorem dksX9_foundOf_1 : cX9_foundOf.data.toList.drop 24 = dktX9_foundOf_1 := dk_seg dksX9_foundOf_0 24 rfl rfl
theorem dksX9_foundOf_2 : cX9_foundOf.data.toList.drop 48 = dktX9_foundOf_2 := dk_seg dksX9_foundOf_1 24 rfl rfl
theorem dX9_foundOf_0 : decode cX9_foundOf 0 = .ok (.iload_n 1, 1) := dk_27 (dk_at dksX9_foundOf_0 0 rfl rfl)
theorem dX9_foundOf_1 : decode cX9_foundOf 1 = .ok (.iconst (-1), 1) := dk_2 (dk_at dksX9_foundOf_0 1 rfl rfl)
theorem dX9_foundOf_2 : decode cX9_foundOf 2 = .ok (.if_icmp .ne 8, 3) := dk_160 0 8 (dk_at dksX9_foundOf_0 2 rfl rfl)
theorem dX9_foundOf_5 : decode cX9_foundOf 5 = .ok (.aload_n 0, 1) := dk_42 (dk_at dksX9_foundOf_0 5 rfl rfl)
theorem dX9_foundOf_6 : decode cX9_foundOf 6 = .ok (.getfield 296, 3) := dk_180 1 40 (dk_at dksX9_foundOf_0 6 rfl rfl)
theorem dX9_foundOf_9 : decode cX9_foundOf 9 = .ok (.ireturn, 1) := dk_172 (dk_at dksX9_foundOf_0 9 rfl rfl)
theorem dX9_foundOf_10 : decode cX9_foundOf 10 = .ok (.iload_n 1, 1) := dk_27 (dk_at dksX9_foundOf_0 10 rfl rfl)
theorem dX9_foundOf_11 : decode cX9_foundOf 11 = .ok (.iconst 0, 1) := dk_3 (dk_at dksX9_foundOf_0 11 rfl rfl)
theorem dX9_foundOf_12 : decode cX9_foundOf 12 = .ok (.aload_n 0, 1) := dk_42 (dk_at dksX9_foundOf_0 12 rfl rfl)
theorem dX9_foundOf_13 : decode cX9_foundOf 13 = .ok (.getfield 296, 3) := dk_180 1 40 (dk_at dksX9_foundOf_0 13 rfl rfl)
theorem dX9_foundOf_16 : decode cX9_foundOf 16 = .ok (.iconst 1, 1) := dk_4 (dk_at dksX9_foundOf_0 16 rfl rfl)
theorem dX9_foundOf_17 : decode cX9_foundOf 17 = .ok (.isub, 1) := dk_100 (dk_at dksX9_foundOf_0 17 rfl rfl)
theorem dX9_foundOf_18 : decode cX9_foundOf 18 = .ok (.invokestatic 237, 3) := dk_184 0 237 (dk_at dksX9_foundOf_0 18 rfl rfl)
theorem dX9_foundOf_21 : decode cX9_foundOf 21 = .ok (.ifCond .eq 12, 3) := dk_153 0 12 (dk_at dksX9_foundOf_0 21 rfl rfl)
theorem dX9_foundOf_24 : decode cX9_foundOf 24 = .ok (.iload_n 2, 1) := dk_28 (dk_at dksX9_foundOf_1 0 rfl rfl)
theorem dX9_foundOf_25 : decode cX9_foundOf 25 = .ok (.iconst 0, 1) := dk_3 (dk_at dksX9_foundOf_1 1 rfl rfl)
theorem dX9_foundOf_26 : decode cX9_foundOf 26 = .ok (.iconst 1, 1) := dk_4 (dk_at dksX9_foundOf_1 2 rfl rfl)
theorem dX9_foundOf_27 : decode cX9_foundOf 27 = .ok (.invokestatic 237, 3) := dk_184 0 237 (dk_at dksX9_foundOf_1 3 rfl rfl)
theorem dX9_foundOf_30 : decode cX9_foundOf 30 = .ok (.ifCond .ne 5, 3) := dk_154 0 5 (dk_at dksX9_foundOf_1 6 rfl rfl)
theorem dX9_foundOf_33 : decode cX9_foundOf 33 = .ok (.iconst (-1), 1) := dk_2 (dk_at dksX9_foundOf_1 9 rfl rfl)
theorem dX9_foundOf_34 : decode cX9_foundOf 34 = .ok (.ireturn, 1) := dk_172 (dk_at dksX9_foundOf_1 10 rfl rfl)
theorem dX9_foundOf_35 : decode cX9_foundOf 35 = .ok (.iload_n 2, 1) := dk_28 (dk_at dksX9_foundOf_1 11 rfl rfl)
theorem dX9_foundOf_36 : decode cX9_foundOf 36 = .ok (.ifCond .ne 12, 3) := dk_154 0 12 (dk_at dksX9_foundOf_1 12 rfl rfl)
theorem dX9_foundOf_39 : decode cX9_foundOf 39 = .ok (.aload_n 0, 1) := dk_42 (dk_at dksX9_foundOf_1 15 rfl rfl)
theorem dX9_foundOf_40 : decode cX9_foundOf 40 = .ok (.getfield 77, 3) := dk_180 0 77 (dk_at dksX9_foundOf_1 16 rfl rfl)
theorem dX9_foundOf_43 : decode cX9_foundOf 43 = .ok (.iload_n 1, 1) := dk_27 (dk_at dksX9_foundOf_1 19 rfl rfl)
theorem dX9_foundOf_44 : decode cX9_foundOf 44 = .ok (.iaload, 1) := dk_46 (dk_at dksX9_foundOf_1 20 rfl rfl)
theorem dX9_foundOf_45 : decode cX9_foundOf 45 = .ok (.goto 9, 3) := dk_167 0 9 (dk_at dksX9_foundOf_1 21 rfl rfl)
theorem dX9_foundOf_48 : decode cX9_foundOf 48 = .ok (.aload_n 0, 1) := dk_42 (dk_at dksX9_foundOf_2 0 rfl rfl)
theorem dX9_foundOf_49 : decode cX9_foundOf 49 = .ok (.getfield 80, 3) := dk_180 0 80 (dk_at dksX9_foundOf_2 1 rfl rfl)
theorem dX9_foundOf_52 : decode cX9_foundOf 52 = .ok (.iload_n 1, 1) := dk_27 (dk_at dksX9_foundOf_2 4 rfl rfl)
theorem dX9_foundOf_53 : decode cX9_foundOf 53 = .ok (.iaload, 1) := dk_46 (dk_at dksX9_foundOf_2 5 rfl rfl)
theorem dX9_foundOf_54 : decode cX9_foundOf 54 = .ok (.ireturn, 1) := dk_172 (dk_at dksX9_foundOf_2 6 rfl rfl)
abbrev cX9_least : ByteArray := prog_13_method_77_code
def yX9_least : MethodName := ⟨RX9, "least", "(II)I"⟩
def dkwX9_least_0 : List UInt8 := [42, 180, 0, 203, 7, 160, 0, 5, 2, 172, 42, 182, 1, 37, 42, 27, 28, 182, 1, 104, 172]
abbrev dktX9_least_0 : List UInt8 := dkwX9_least_0 ++ []
theorem dksX9_least_0 : cX9_least.data.toList.drop 0 = dktX9_least_0 := by decide +kernel
theorem dX9_least_0 : decode cX9_least 0 = .ok (.aload_n 0, 1) := dk_42 (dk_at dksX9_least_0 0 rfl rfl)
theorem dX9_least_1 : decode cX9_least 1 = .ok (.getfield 203, 3) := dk_180 0 203 (dk_at dksX9_least_0 1 rfl rfl)
theorem dX9_least_4 : decode cX9_least 4 = .ok (.iconst 4, 1) := dk_7 (dk_at dksX9_least_0 4 rfl rfl)
theorem dX9_least_5 : decode cX9_least 5 = .ok (.if_icmp .ne 5, 3) := dk_160 0 5 (dk_at dksX9_least_0 5 rfl rfl)
theorem dX9_least_8 : decode cX9_least 8 = .ok (.iconst (-1), 1) := dk_2 (dk_at dksX9_least_0 8 rfl rfl)
theorem dX9_least_9 : decode cX9_least 9 = .ok (.ireturn, 1) := dk_172 (dk_at dksX9_least_0 9 rfl rfl)
theorem dX9_least_10 : decode cX9_least 10 = .ok (.aload_n 0, 1) := dk_42 (dk_at dksX9_least_0 10 rfl rfl)
theorem dX9_least_11 : decode cX9_least 11 = .ok (.invokevirtual 293, 3) := dk_182 1 37 (dk_at dksX9_least_0 11 rfl rfl)
theorem dX9_least_14 : decode cX9_least 14 = .ok (.aload_n 0, 1) := dk_42 (dk_at dksX9_least_0 14 rfl rfl)
theorem dX9_least_15 : decode cX9_least 15 = .ok (.iload_n 1, 1) := dk_27 (dk_at dksX9_least_0 15 rfl rfl)
theorem dX9_least_16 : decode cX9_least 16 = .ok (.iload_n 2, 1) := dk_28 (dk_at dksX9_least_0 16 rfl rfl)
theorem dX9_least_17 : decode cX9_least 17 = .ok (.invokevirtual 360, 3) := dk_182 1 104 (dk_at dksX9_least_0 17 rfl rfl)
theorem dX9_least_20 : decode cX9_least 20 = .ok (.ireturn, 1) := dk_172 (dk_at dksX9_least_0 20 rfl rfl)
abbrev cX9_off : ByteArray := prog_13_method_79_code
def yX9_off : MethodName := ⟨RX9, "off", "(I)I"⟩
def dkwX9_off_3 : List UInt8 := [167, 255, 224, 42, 180, 0, 102, 42, 42, 182, 0, 248, 182, 1, 107, 46, 172]
abbrev dktX9_off_3 : List UInt8 := dkwX9_off_3 ++ []
def dkwX9_off_2 : List UInt8 := [42, 180, 0, 111, 42, 28, 3, 42, 182, 0, 244, 182, 1, 51, 42, 180, 0, 68, 28, 46, 79, 132, 2, 1]
abbrev dktX9_off_2 : List UInt8 := dkwX9_off_2 ++ dktX9_off_3
def dkwX9_off_1 : List UInt8 := [160, 0, 5, 2, 172, 42, 182, 1, 113, 42, 27, 182, 1, 119, 3, 61, 28, 42, 182, 0, 248, 162, 0, 30]
abbrev dktX9_off_1 : List UInt8 := dkwX9_off_1 ++ dktX9_off_2
def dkwX9_off_0 : List UInt8 := [27, 3, 5, 184, 0, 237, 153, 0, 20, 42, 180, 0, 64, 27, 51, 153, 0, 11, 42, 180, 0, 203, 7]
abbrev dktX9_off_0 : List UInt8 := dkwX9_off_0 ++ dktX9_off_1
theorem dksX9_off_0 : cX9_off.data.toList.drop 0 = dktX9_off_0 := by decide +kernel
theorem dksX9_off_1 : cX9_off.data.toList.drop 23 = dktX9_off_1 := dk_seg dksX9_off_0 23 rfl rfl
theorem dksX9_off_2 : cX9_off.data.toList.drop 47 = dktX9_off_2 := dk_seg dksX9_off_1 24 rfl rfl
theorem dksX9_off_3 : cX9_off.data.toList.drop 71 = dktX9_off_3 := dk_seg dksX9_off_2 24 rfl rfl
theorem dX9_off_0 : decode cX9_off 0 = .ok (.iload_n 1, 1) := dk_27 (dk_at dksX9_off_0 0 rfl rfl)
theorem dX9_off_1 : decode cX9_off 1 = .ok (.iconst 0, 1) := dk_3 (dk_at dksX9_off_0 1 rfl rfl)
theorem dX9_off_2 : decode cX9_off 2 = .ok (.iconst 2, 1) := dk_5 (dk_at dksX9_off_0 2 rfl rfl)
theorem dX9_off_3 : decode cX9_off 3 = .ok (.invokestatic 237, 3) := dk_184 0 237 (dk_at dksX9_off_0 3 rfl rfl)
theorem dX9_off_6 : decode cX9_off 6 = .ok (.ifCond .eq 20, 3) := dk_153 0 20 (dk_at dksX9_off_0 6 rfl rfl)
theorem dX9_off_9 : decode cX9_off 9 = .ok (.aload_n 0, 1) := dk_42 (dk_at dksX9_off_0 9 rfl rfl)
theorem dX9_off_10 : decode cX9_off 10 = .ok (.getfield 64, 3) := dk_180 0 64 (dk_at dksX9_off_0 10 rfl rfl)
theorem dX9_off_13 : decode cX9_off 13 = .ok (.iload_n 1, 1) := dk_27 (dk_at dksX9_off_0 13 rfl rfl)
theorem dX9_off_14 : decode cX9_off 14 = .ok (.baload, 1) := dk_51 (dk_at dksX9_off_0 14 rfl rfl)
theorem dX9_off_15 : decode cX9_off 15 = .ok (.ifCond .eq 11, 3) := dk_153 0 11 (dk_at dksX9_off_0 15 rfl rfl)
theorem dX9_off_18 : decode cX9_off 18 = .ok (.aload_n 0, 1) := dk_42 (dk_at dksX9_off_0 18 rfl rfl)
theorem dX9_off_19 : decode cX9_off 19 = .ok (.getfield 203, 3) := dk_180 0 203 (dk_at dksX9_off_0 19 rfl rfl)
theorem dX9_off_22 : decode cX9_off 22 = .ok (.iconst 4, 1) := dk_7 (dk_at dksX9_off_0 22 rfl rfl)
theorem dX9_off_23 : decode cX9_off 23 = .ok (.if_icmp .ne 5, 3) := dk_160 0 5 (dk_at dksX9_off_1 0 rfl rfl)
theorem dX9_off_26 : decode cX9_off 26 = .ok (.iconst (-1), 1) := dk_2 (dk_at dksX9_off_1 3 rfl rfl)
theorem dX9_off_27 : decode cX9_off 27 = .ok (.ireturn, 1) := dk_172 (dk_at dksX9_off_1 4 rfl rfl)
theorem dX9_off_28 : decode cX9_off 28 = .ok (.aload_n 0, 1) := dk_42 (dk_at dksX9_off_1 5 rfl rfl)
theorem dX9_off_29 : decode cX9_off 29 = .ok (.invokevirtual 369, 3) := dk_182 1 113 (dk_at dksX9_off_1 6 rfl rfl)
theorem dX9_off_32 : decode cX9_off 32 = .ok (.aload_n 0, 1) := dk_42 (dk_at dksX9_off_1 9 rfl rfl)
theorem dX9_off_33 : decode cX9_off 33 = .ok (.iload_n 1, 1) := dk_27 (dk_at dksX9_off_1 10 rfl rfl)
theorem dX9_off_34 : decode cX9_off 34 = .ok (.invokevirtual 375, 3) := dk_182 1 119 (dk_at dksX9_off_1 11 rfl rfl)
theorem dX9_off_37 : decode cX9_off 37 = .ok (.iconst 0, 1) := dk_3 (dk_at dksX9_off_1 14 rfl rfl)
theorem dX9_off_38 : decode cX9_off 38 = .ok (.istore_n 2, 1) := dk_61 (dk_at dksX9_off_1 15 rfl rfl)
theorem dX9_off_39 : decode cX9_off 39 = .ok (.iload_n 2, 1) := dk_28 (dk_at dksX9_off_1 16 rfl rfl)
theorem dX9_off_40 : decode cX9_off 40 = .ok (.aload_n 0, 1) := dk_42 (dk_at dksX9_off_1 17 rfl rfl)
theorem dX9_off_41 : decode cX9_off 41 = .ok (.invokevirtual 248, 3) := dk_182 0 248 (dk_at dksX9_off_1 18 rfl rfl)
theorem dX9_off_44 : decode cX9_off 44 = .ok (.if_icmp .ge 30, 3) := dk_162 0 30 (dk_at dksX9_off_1 21 rfl rfl)
theorem dX9_off_47 : decode cX9_off 47 = .ok (.aload_n 0, 1) := dk_42 (dk_at dksX9_off_2 0 rfl rfl)
theorem dX9_off_48 : decode cX9_off 48 = .ok (.getfield 111, 3) := dk_180 0 111 (dk_at dksX9_off_2 1 rfl rfl)
theorem dX9_off_51 : decode cX9_off 51 = .ok (.aload_n 0, 1) := dk_42 (dk_at dksX9_off_2 4 rfl rfl)
theorem dX9_off_52 : decode cX9_off 52 = .ok (.iload_n 2, 1) := dk_28 (dk_at dksX9_off_2 5 rfl rfl)
theorem dX9_off_53 : decode cX9_off 53 = .ok (.iconst 0, 1) := dk_3 (dk_at dksX9_off_2 6 rfl rfl)
theorem dX9_off_54 : decode cX9_off 54 = .ok (.aload_n 0, 1) := dk_42 (dk_at dksX9_off_2 7 rfl rfl)
theorem dX9_off_55 : decode cX9_off 55 = .ok (.invokevirtual 244, 3) := dk_182 0 244 (dk_at dksX9_off_2 8 rfl rfl)
theorem dX9_off_58 : decode cX9_off 58 = .ok (.invokevirtual 307, 3) := dk_182 1 51 (dk_at dksX9_off_2 11 rfl rfl)
theorem dX9_off_61 : decode cX9_off 61 = .ok (.aload_n 0, 1) := dk_42 (dk_at dksX9_off_2 14 rfl rfl)
theorem dX9_off_62 : decode cX9_off 62 = .ok (.getfield 68, 3) := dk_180 0 68 (dk_at dksX9_off_2 15 rfl rfl)
theorem dX9_off_65 : decode cX9_off 65 = .ok (.iload_n 2, 1) := dk_28 (dk_at dksX9_off_2 18 rfl rfl)
theorem dX9_off_66 : decode cX9_off 66 = .ok (.iaload, 1) := dk_46 (dk_at dksX9_off_2 19 rfl rfl)
theorem dX9_off_67 : decode cX9_off 67 = .ok (.iastore, 1) := dk_79 (dk_at dksX9_off_2 20 rfl rfl)
theorem dX9_off_68 : decode cX9_off 68 = .ok (.iinc 2 1, 3) := dk_132 2 1 (dk_at dksX9_off_2 21 rfl rfl)
theorem dX9_off_71 : decode cX9_off 71 = .ok (.goto (-32), 3) := dk_167 255 224 (dk_at dksX9_off_3 0 rfl rfl)
theorem dX9_off_74 : decode cX9_off 74 = .ok (.aload_n 0, 1) := dk_42 (dk_at dksX9_off_3 3 rfl rfl)
theorem dX9_off_75 : decode cX9_off 75 = .ok (.getfield 102, 3) := dk_180 0 102 (dk_at dksX9_off_3 4 rfl rfl)
theorem dX9_off_78 : decode cX9_off 78 = .ok (.aload_n 0, 1) := dk_42 (dk_at dksX9_off_3 7 rfl rfl)
theorem dX9_off_79 : decode cX9_off 79 = .ok (.aload_n 0, 1) := dk_42 (dk_at dksX9_off_3 8 rfl rfl)
theorem dX9_off_80 : decode cX9_off 80 = .ok (.invokevirtual 248, 3) := dk_182 0 248 (dk_at dksX9_off_3 9 rfl rfl)
theorem dX9_off_83 : decode cX9_off 83 = .ok (.invokevirtual 363, 3) := dk_182 1 107 (dk_at dksX9_off_3 12 rfl rfl)
theorem dX9_off_86 : decode cX9_off 86 = .ok (.iaload, 1) := dk_46 (dk_at dksX9_off_3 15 rfl rfl)
theorem dX9_off_87 : decode cX9_off 87 = .ok (.ireturn, 1) := dk_172 (dk_at dksX9_off_3 16 rfl rfl)
abbrev cX9_laysSlot : ByteArray := prog_13_method_78_code
def yX9_laysSlot : MethodName := ⟨RX9, "laysSlot", "(I)V"⟩
def dkwX9_laysSlot_1 : List UInt8 := [79, 132, 2, 1, 167, 255, 230, 42, 42, 180, 0, 74, 182, 1, 29, 177]
abbrev dktX9_laysSlot_1 : List UInt8 := dkwX9_laysSlot_1 ++ []
def dkwX9_laysSlot_0 : List UInt8 := [3, 61, 28, 16, 49, 162, 0, 26, 42, 180, 0, 74, 28, 42, 180, 0, 61, 16, 49, 27, 104, 28, 96, 46]
abbrev dktX9_laysSlot_0 : List UInt8 := dkwX9_laysSlot_0 ++ dktX9_laysSlot_1
theorem dksX9_laysSlot_0 : cX9_laysSlot.data.toList.drop 0 = dktX9_laysSlot_0 := by decide +kernel
theorem dksX9_laysSlot_1 : cX9_laysSlot.data.toList.drop 24 = dktX9_laysSlot_1 := dk_seg dksX9_laysSlot_0 24 rfl rfl
theorem dX9_laysSlot_0 : decode cX9_laysSlot 0 = .ok (.iconst 0, 1) := dk_3 (dk_at dksX9_laysSlot_0 0 rfl rfl)
theorem dX9_laysSlot_1 : decode cX9_laysSlot 1 = .ok (.istore_n 2, 1) := dk_61 (dk_at dksX9_laysSlot_0 1 rfl rfl)
theorem dX9_laysSlot_2 : decode cX9_laysSlot 2 = .ok (.iload_n 2, 1) := dk_28 (dk_at dksX9_laysSlot_0 2 rfl rfl)
theorem dX9_laysSlot_3 : decode cX9_laysSlot 3 = .ok (.bipush 49, 2) := dk_16 49 (dk_at dksX9_laysSlot_0 3 rfl rfl)
theorem dX9_laysSlot_5 : decode cX9_laysSlot 5 = .ok (.if_icmp .ge 26, 3) := dk_162 0 26 (dk_at dksX9_laysSlot_0 5 rfl rfl)
theorem dX9_laysSlot_8 : decode cX9_laysSlot 8 = .ok (.aload_n 0, 1) := dk_42 (dk_at dksX9_laysSlot_0 8 rfl rfl)
theorem dX9_laysSlot_9 : decode cX9_laysSlot 9 = .ok (.getfield 74, 3) := dk_180 0 74 (dk_at dksX9_laysSlot_0 9 rfl rfl)
theorem dX9_laysSlot_12 : decode cX9_laysSlot 12 = .ok (.iload_n 2, 1) := dk_28 (dk_at dksX9_laysSlot_0 12 rfl rfl)
theorem dX9_laysSlot_13 : decode cX9_laysSlot 13 = .ok (.aload_n 0, 1) := dk_42 (dk_at dksX9_laysSlot_0 13 rfl rfl)
theorem dX9_laysSlot_14 : decode cX9_laysSlot 14 = .ok (.getfield 61, 3) := dk_180 0 61 (dk_at dksX9_laysSlot_0 14 rfl rfl)
theorem dX9_laysSlot_17 : decode cX9_laysSlot 17 = .ok (.bipush 49, 2) := dk_16 49 (dk_at dksX9_laysSlot_0 17 rfl rfl)
theorem dX9_laysSlot_19 : decode cX9_laysSlot 19 = .ok (.iload_n 1, 1) := dk_27 (dk_at dksX9_laysSlot_0 19 rfl rfl)
theorem dX9_laysSlot_20 : decode cX9_laysSlot 20 = .ok (.imul, 1) := dk_104 (dk_at dksX9_laysSlot_0 20 rfl rfl)
theorem dX9_laysSlot_21 : decode cX9_laysSlot 21 = .ok (.iload_n 2, 1) := dk_28 (dk_at dksX9_laysSlot_0 21 rfl rfl)
theorem dX9_laysSlot_22 : decode cX9_laysSlot 22 = .ok (.iadd, 1) := dk_96 (dk_at dksX9_laysSlot_0 22 rfl rfl)
theorem dX9_laysSlot_23 : decode cX9_laysSlot 23 = .ok (.iaload, 1) := dk_46 (dk_at dksX9_laysSlot_0 23 rfl rfl)
theorem dX9_laysSlot_24 : decode cX9_laysSlot 24 = .ok (.iastore, 1) := dk_79 (dk_at dksX9_laysSlot_1 0 rfl rfl)
theorem dX9_laysSlot_25 : decode cX9_laysSlot 25 = .ok (.iinc 2 1, 3) := dk_132 2 1 (dk_at dksX9_laysSlot_1 1 rfl rfl)
theorem dX9_laysSlot_28 : decode cX9_laysSlot 28 = .ok (.goto (-26), 3) := dk_167 255 230 (dk_at dksX9_laysSlot_1 4 rfl rfl)
theorem dX9_laysSlot_31 : decode cX9_laysSlot 31 = .ok (.aload_n 0, 1) := dk_42 (dk_at dksX9_laysSlot_1 7 rfl rfl)
theorem dX9_laysSlot_32 : decode cX9_laysSlot 32 = .ok (.aload_n 0, 1) := dk_42 (dk_at dksX9_laysSlot_1 8 rfl rfl)
theorem dX9_laysSlot_33 : decode cX9_laysSlot 33 = .ok (.getfield 74, 3) := dk_180 0 74 (dk_at dksX9_laysSlot_1 9 rfl rfl)
theorem dX9_laysSlot_36 : decode cX9_laysSlot 36 = .ok (.invokevirtual 285, 3) := dk_182 1 29 (dk_at dksX9_laysSlot_1 12 rfl rfl)
theorem dX9_laysSlot_39 : decode cX9_laysSlot 39 = .ok (.return_, 1) := dk_177 (dk_at dksX9_laysSlot_1 15 rfl rfl)
abbrev cX9_like : ByteArray := prog_13_method_82_code
def yX9_like : MethodName := ⟨RX9, "like", "(I)I"⟩
def dkwX9_like_7 : List UInt8 := [182, 1, 125, 153, 0, 6, 132, 3, 1, 132, 4, 1, 167, 255, 133, 29, 172]
abbrev dktX9_like_7 : List UInt8 := dkwX9_like_7 ++ []
def dkwX9_like_6 : List UInt8 := [4, 21, 9, 120, 128, 54, 6, 42, 180, 0, 114, 21, 7, 21, 9, 79, 132, 7, 1, 167, 255, 165, 42]
abbrev dktX9_like_6 : List UInt8 := dkwX9_like_6 ++ dktX9_like_7
def dkwX9_like_5 : List UInt8 := [158, 0, 22, 21, 6, 21, 9, 184, 1, 5, 154, 0, 6, 132, 8, 255, 132, 9, 1, 167, 255, 225, 21, 6]
abbrev dktX9_like_5 : List UInt8 := dkwX9_like_5 ++ dktX9_like_6
def dkwX9_like_4 : List UInt8 := [180, 0, 203, 21, 7, 100, 108, 54, 5, 3, 54, 9, 21, 6, 21, 9, 184, 1, 5, 154, 0, 8, 21, 8]
abbrev dktX9_like_4 : List UInt8 := dkwX9_like_4 ++ dktX9_like_5
def dkwX9_like_3 : List UInt8 := [21, 7, 42, 180, 0, 203, 162, 0, 88, 21, 5, 42, 180, 0, 203, 21, 7, 100, 112, 54, 8, 21, 5, 42]
abbrev dktX9_like_3 : List UInt8 := dkwX9_like_3 ++ dktX9_like_4
def dkwX9_like_2 : List UInt8 := [167, 255, 241, 3, 62, 3, 54, 4, 21, 4, 28, 162, 0, 123, 21, 4, 54, 5, 3, 54, 6, 3, 54, 7]
abbrev dktX9_like_2 : List UInt8 := dkwX9_like_2 ++ dktX9_like_3
def dkwX9_like_1 : List UInt8 := [182, 1, 119, 4, 61, 5, 62, 29, 42, 180, 0, 203, 163, 0, 13, 28, 29, 104, 61, 132, 3, 1]
abbrev dktX9_like_1 : List UInt8 := dkwX9_like_1 ++ dktX9_like_2
def dkwX9_like_0 : List UInt8 := [27, 3, 5, 184, 0, 237, 153, 0, 12, 42, 180, 0, 64, 27, 51, 154, 0, 5, 2, 172, 42, 27]
abbrev dktX9_like_0 : List UInt8 := dkwX9_like_0 ++ dktX9_like_1
theorem dksX9_like_0 : cX9_like.data.toList.drop 0 = dktX9_like_0 := by decide +kernel
theorem dksX9_like_1 : cX9_like.data.toList.drop 22 = dktX9_like_1 := dk_seg dksX9_like_0 22 rfl rfl
theorem dksX9_like_2 : cX9_like.data.toList.drop 44 = dktX9_like_2 := dk_seg dksX9_like_1 22 rfl rfl
theorem dksX9_like_3 : cX9_like.data.toList.drop 68 = dktX9_like_3 := dk_seg dksX9_like_2 24 rfl rfl
theorem dksX9_like_4 : cX9_like.data.toList.drop 92 = dktX9_like_4 := dk_seg dksX9_like_3 24 rfl rfl
theorem dksX9_like_5 : cX9_like.data.toList.drop 116 = dktX9_like_5 := dk_seg dksX9_like_4 24 rfl rfl
theorem dksX9_like_6 : cX9_like.data.toList.drop 140 = dktX9_like_6 := dk_seg dksX9_like_5 24 rfl rfl
theorem dksX9_like_7 : cX9_like.data.toList.drop 163 = dktX9_like_7 := dk_seg dksX9_like_6 23 rfl rfl
theorem dX9_like_0 : decode cX9_like 0 = .ok (.iload_n 1, 1) := dk_27 (dk_at dksX9_like_0 0 rfl rfl)
theorem dX9_like_1 : decode cX9_like 1 = .ok (.iconst 0, 1) := dk_3 (dk_at dksX9_like_0 1 rfl rfl)
theorem dX9_like_2 : decode cX9_like 2 = .ok (.iconst 2, 1) := dk_5 (dk_at dksX9_like_0 2 rfl rfl)
theorem dX9_like_3 : decode cX9_like 3 = .ok (.invokestatic 237, 3) := dk_184 0 237 (dk_at dksX9_like_0 3 rfl rfl)
theorem dX9_like_6 : decode cX9_like 6 = .ok (.ifCond .eq 12, 3) := dk_153 0 12 (dk_at dksX9_like_0 6 rfl rfl)
theorem dX9_like_9 : decode cX9_like 9 = .ok (.aload_n 0, 1) := dk_42 (dk_at dksX9_like_0 9 rfl rfl)
theorem dX9_like_10 : decode cX9_like 10 = .ok (.getfield 64, 3) := dk_180 0 64 (dk_at dksX9_like_0 10 rfl rfl)
theorem dX9_like_13 : decode cX9_like 13 = .ok (.iload_n 1, 1) := dk_27 (dk_at dksX9_like_0 13 rfl rfl)
theorem dX9_like_14 : decode cX9_like 14 = .ok (.baload, 1) := dk_51 (dk_at dksX9_like_0 14 rfl rfl)
theorem dX9_like_15 : decode cX9_like 15 = .ok (.ifCond .ne 5, 3) := dk_154 0 5 (dk_at dksX9_like_0 15 rfl rfl)
theorem dX9_like_18 : decode cX9_like 18 = .ok (.iconst (-1), 1) := dk_2 (dk_at dksX9_like_0 18 rfl rfl)
theorem dX9_like_19 : decode cX9_like 19 = .ok (.ireturn, 1) := dk_172 (dk_at dksX9_like_0 19 rfl rfl)
theorem dX9_like_20 : decode cX9_like 20 = .ok (.aload_n 0, 1) := dk_42 (dk_at dksX9_like_0 20 rfl rfl)
theorem dX9_like_21 : decode cX9_like 21 = .ok (.iload_n 1, 1) := dk_27 (dk_at dksX9_like_0 21 rfl rfl)
theorem dX9_like_22 : decode cX9_like 22 = .ok (.invokevirtual 375, 3) := dk_182 1 119 (dk_at dksX9_like_1 0 rfl rfl)
theorem dX9_like_25 : decode cX9_like 25 = .ok (.iconst 1, 1) := dk_4 (dk_at dksX9_like_1 3 rfl rfl)
theorem dX9_like_26 : decode cX9_like 26 = .ok (.istore_n 2, 1) := dk_61 (dk_at dksX9_like_1 4 rfl rfl)
theorem dX9_like_27 : decode cX9_like 27 = .ok (.iconst 2, 1) := dk_5 (dk_at dksX9_like_1 5 rfl rfl)
theorem dX9_like_28 : decode cX9_like 28 = .ok (.istore_n 3, 1) := dk_62 (dk_at dksX9_like_1 6 rfl rfl)
theorem dX9_like_29 : decode cX9_like 29 = .ok (.iload_n 3, 1) := dk_29 (dk_at dksX9_like_1 7 rfl rfl)
theorem dX9_like_30 : decode cX9_like 30 = .ok (.aload_n 0, 1) := dk_42 (dk_at dksX9_like_1 8 rfl rfl)
theorem dX9_like_31 : decode cX9_like 31 = .ok (.getfield 203, 3) := dk_180 0 203 (dk_at dksX9_like_1 9 rfl rfl)
theorem dX9_like_34 : decode cX9_like 34 = .ok (.if_icmp .gt 13, 3) := dk_163 0 13 (dk_at dksX9_like_1 12 rfl rfl)
theorem dX9_like_37 : decode cX9_like 37 = .ok (.iload_n 2, 1) := dk_28 (dk_at dksX9_like_1 15 rfl rfl)
theorem dX9_like_38 : decode cX9_like 38 = .ok (.iload_n 3, 1) := dk_29 (dk_at dksX9_like_1 16 rfl rfl)
theorem dX9_like_39 : decode cX9_like 39 = .ok (.imul, 1) := dk_104 (dk_at dksX9_like_1 17 rfl rfl)
theorem dX9_like_40 : decode cX9_like 40 = .ok (.istore_n 2, 1) := dk_61 (dk_at dksX9_like_1 18 rfl rfl)
theorem dX9_like_41 : decode cX9_like 41 = .ok (.iinc 3 1, 3) := dk_132 3 1 (dk_at dksX9_like_1 19 rfl rfl)
theorem dX9_like_44 : decode cX9_like 44 = .ok (.goto (-15), 3) := dk_167 255 241 (dk_at dksX9_like_2 0 rfl rfl)
theorem dX9_like_47 : decode cX9_like 47 = .ok (.iconst 0, 1) := dk_3 (dk_at dksX9_like_2 3 rfl rfl)
theorem dX9_like_48 : decode cX9_like 48 = .ok (.istore_n 3, 1) := dk_62 (dk_at dksX9_like_2 4 rfl rfl)
theorem dX9_like_49 : decode cX9_like 49 = .ok (.iconst 0, 1) := dk_3 (dk_at dksX9_like_2 5 rfl rfl)
theorem dX9_like_50 : decode cX9_like 50 = .ok (.istore 4, 2) := dk_54 4 (dk_at dksX9_like_2 6 rfl rfl)
theorem dX9_like_52 : decode cX9_like 52 = .ok (.iload 4, 2) := dk_21 4 (dk_at dksX9_like_2 8 rfl rfl)
theorem dX9_like_54 : decode cX9_like 54 = .ok (.iload_n 2, 1) := dk_28 (dk_at dksX9_like_2 10 rfl rfl)
theorem dX9_like_55 : decode cX9_like 55 = .ok (.if_icmp .ge 123, 3) := dk_162 0 123 (dk_at dksX9_like_2 11 rfl rfl)
theorem dX9_like_58 : decode cX9_like 58 = .ok (.iload 4, 2) := dk_21 4 (dk_at dksX9_like_2 14 rfl rfl)
theorem dX9_like_60 : decode cX9_like 60 = .ok (.istore 5, 2) := dk_54 5 (dk_at dksX9_like_2 16 rfl rfl)
theorem dX9_like_62 : decode cX9_like 62 = .ok (.iconst 0, 1) := dk_3 (dk_at dksX9_like_2 18 rfl rfl)
theorem dX9_like_63 : decode cX9_like 63 = .ok (.istore 6, 2) := dk_54 6 (dk_at dksX9_like_2 19 rfl rfl)
theorem dX9_like_65 : decode cX9_like 65 = .ok (.iconst 0, 1) := dk_3 (dk_at dksX9_like_2 21 rfl rfl)
theorem dX9_like_66 : decode cX9_like 66 = .ok (.istore 7, 2) := dk_54 7 (dk_at dksX9_like_2 22 rfl rfl)
theorem dX9_like_68 : decode cX9_like 68 = .ok (.iload 7, 2) := dk_21 7 (dk_at dksX9_like_3 0 rfl rfl)
theorem dX9_like_70 : decode cX9_like 70 = .ok (.aload_n 0, 1) := dk_42 (dk_at dksX9_like_3 2 rfl rfl)
theorem dX9_like_71 : decode cX9_like 71 = .ok (.getfield 203, 3) := dk_180 0 203 (dk_at dksX9_like_3 3 rfl rfl)
theorem dX9_like_74 : decode cX9_like 74 = .ok (.if_icmp .ge 88, 3) := dk_162 0 88 (dk_at dksX9_like_3 6 rfl rfl)
theorem dX9_like_77 : decode cX9_like 77 = .ok (.iload 5, 2) := dk_21 5 (dk_at dksX9_like_3 9 rfl rfl)
theorem dX9_like_79 : decode cX9_like 79 = .ok (.aload_n 0, 1) := dk_42 (dk_at dksX9_like_3 11 rfl rfl)
theorem dX9_like_80 : decode cX9_like 80 = .ok (.getfield 203, 3) := dk_180 0 203 (dk_at dksX9_like_3 12 rfl rfl)
theorem dX9_like_83 : decode cX9_like 83 = .ok (.iload 7, 2) := dk_21 7 (dk_at dksX9_like_3 15 rfl rfl)
theorem dX9_like_85 : decode cX9_like 85 = .ok (.isub, 1) := dk_100 (dk_at dksX9_like_3 17 rfl rfl)
theorem dX9_like_86 : decode cX9_like 86 = .ok (.irem, 1) := dk_112 (dk_at dksX9_like_3 18 rfl rfl)
theorem dX9_like_87 : decode cX9_like 87 = .ok (.istore 8, 2) := dk_54 8 (dk_at dksX9_like_3 19 rfl rfl)
theorem dX9_like_89 : decode cX9_like 89 = .ok (.iload 5, 2) := dk_21 5 (dk_at dksX9_like_3 21 rfl rfl)
theorem dX9_like_91 : decode cX9_like 91 = .ok (.aload_n 0, 1) := dk_42 (dk_at dksX9_like_3 23 rfl rfl)
theorem dX9_like_92 : decode cX9_like 92 = .ok (.getfield 203, 3) := dk_180 0 203 (dk_at dksX9_like_4 0 rfl rfl)
theorem dX9_like_95 : decode cX9_like 95 = .ok (.iload 7, 2) := dk_21 7 (dk_at dksX9_like_4 3 rfl rfl)
theorem dX9_like_97 : decode cX9_like 97 = .ok (.isub, 1) := dk_100 (dk_at dksX9_like_4 5 rfl rfl)
theorem dX9_like_98 : decode cX9_like 98 = .ok (.idiv, 1) := dk_108 (dk_at dksX9_like_4 6 rfl rfl)
theorem dX9_like_99 : decode cX9_like 99 = .ok (.istore 5, 2) := dk_54 5 (dk_at dksX9_like_4 7 rfl rfl)
theorem dX9_like_101 : decode cX9_like 101 = .ok (.iconst 0, 1) := dk_3 (dk_at dksX9_like_4 9 rfl rfl)
theorem dX9_like_102 : decode cX9_like 102 = .ok (.istore 9, 2) := dk_54 9 (dk_at dksX9_like_4 10 rfl rfl)
theorem dX9_like_104 : decode cX9_like 104 = .ok (.iload 6, 2) := dk_21 6 (dk_at dksX9_like_4 12 rfl rfl)
theorem dX9_like_106 : decode cX9_like 106 = .ok (.iload 9, 2) := dk_21 9 (dk_at dksX9_like_4 14 rfl rfl)
theorem dX9_like_108 : decode cX9_like 108 = .ok (.invokestatic 261, 3) := dk_184 1 5 (dk_at dksX9_like_4 16 rfl rfl)
theorem dX9_like_111 : decode cX9_like 111 = .ok (.ifCond .ne 8, 3) := dk_154 0 8 (dk_at dksX9_like_4 19 rfl rfl)
theorem dX9_like_114 : decode cX9_like 114 = .ok (.iload 8, 2) := dk_21 8 (dk_at dksX9_like_4 22 rfl rfl)
theorem dX9_like_116 : decode cX9_like 116 = .ok (.ifCond .le 22, 3) := dk_158 0 22 (dk_at dksX9_like_5 0 rfl rfl)
theorem dX9_like_119 : decode cX9_like 119 = .ok (.iload 6, 2) := dk_21 6 (dk_at dksX9_like_5 3 rfl rfl)
theorem dX9_like_121 : decode cX9_like 121 = .ok (.iload 9, 2) := dk_21 9 (dk_at dksX9_like_5 5 rfl rfl)
theorem dX9_like_123 : decode cX9_like 123 = .ok (.invokestatic 261, 3) := dk_184 1 5 (dk_at dksX9_like_5 7 rfl rfl)
theorem dX9_like_126 : decode cX9_like 126 = .ok (.ifCond .ne 6, 3) := dk_154 0 6 (dk_at dksX9_like_5 10 rfl rfl)
theorem dX9_like_129 : decode cX9_like 129 = .ok (.iinc 8 (-1), 3) := dk_132 8 255 (dk_at dksX9_like_5 13 rfl rfl)
theorem dX9_like_132 : decode cX9_like 132 = .ok (.iinc 9 1, 3) := dk_132 9 1 (dk_at dksX9_like_5 16 rfl rfl)
theorem dX9_like_135 : decode cX9_like 135 = .ok (.goto (-31), 3) := dk_167 255 225 (dk_at dksX9_like_5 19 rfl rfl)
theorem dX9_like_138 : decode cX9_like 138 = .ok (.iload 6, 2) := dk_21 6 (dk_at dksX9_like_5 22 rfl rfl)
theorem dX9_like_140 : decode cX9_like 140 = .ok (.iconst 1, 1) := dk_4 (dk_at dksX9_like_6 0 rfl rfl)
theorem dX9_like_141 : decode cX9_like 141 = .ok (.iload 9, 2) := dk_21 9 (dk_at dksX9_like_6 1 rfl rfl)
theorem dX9_like_143 : decode cX9_like 143 = .ok (.ishl, 1) := dk_120 (dk_at dksX9_like_6 3 rfl rfl)
theorem dX9_like_144 : decode cX9_like 144 = .ok (.ior, 1) := dk_128 (dk_at dksX9_like_6 4 rfl rfl)
theorem dX9_like_145 : decode cX9_like 145 = .ok (.istore 6, 2) := dk_54 6 (dk_at dksX9_like_6 5 rfl rfl)
theorem dX9_like_147 : decode cX9_like 147 = .ok (.aload_n 0, 1) := dk_42 (dk_at dksX9_like_6 7 rfl rfl)
theorem dX9_like_148 : decode cX9_like 148 = .ok (.getfield 114, 3) := dk_180 0 114 (dk_at dksX9_like_6 8 rfl rfl)
theorem dX9_like_151 : decode cX9_like 151 = .ok (.iload 7, 2) := dk_21 7 (dk_at dksX9_like_6 11 rfl rfl)
theorem dX9_like_153 : decode cX9_like 153 = .ok (.iload 9, 2) := dk_21 9 (dk_at dksX9_like_6 13 rfl rfl)
theorem dX9_like_155 : decode cX9_like 155 = .ok (.iastore, 1) := dk_79 (dk_at dksX9_like_6 15 rfl rfl)
theorem dX9_like_156 : decode cX9_like 156 = .ok (.iinc 7 1, 3) := dk_132 7 1 (dk_at dksX9_like_6 16 rfl rfl)
theorem dX9_like_159 : decode cX9_like 159 = .ok (.goto (-91), 3) := dk_167 255 165 (dk_at dksX9_like_6 19 rfl rfl)
theorem dX9_like_162 : decode cX9_like 162 = .ok (.aload_n 0, 1) := dk_42 (dk_at dksX9_like_6 22 rfl rfl)
theorem dX9_like_163 : decode cX9_like 163 = .ok (.invokevirtual 381, 3) := dk_182 1 125 (dk_at dksX9_like_7 0 rfl rfl)
theorem dX9_like_166 : decode cX9_like 166 = .ok (.ifCond .eq 6, 3) := dk_153 0 6 (dk_at dksX9_like_7 3 rfl rfl)
theorem dX9_like_169 : decode cX9_like 169 = .ok (.iinc 3 1, 3) := dk_132 3 1 (dk_at dksX9_like_7 6 rfl rfl)
theorem dX9_like_172 : decode cX9_like 172 = .ok (.iinc 4 1, 3) := dk_132 4 1 (dk_at dksX9_like_7 9 rfl rfl)
theorem dX9_like_175 : decode cX9_like 175 = .ok (.goto (-123), 3) := dk_167 255 133 (dk_at dksX9_like_7 12 rfl rfl)
theorem dX9_like_178 : decode cX9_like 178 = .ok (.iload_n 3, 1) := dk_29 (dk_at dksX9_like_7 15 rfl rfl)
theorem dX9_like_179 : decode cX9_like 179 = .ok (.ireturn, 1) := dk_172 (dk_at dksX9_like_7 16 rfl rfl)
abbrev cX9_isRenamed : ByteArray := prog_13_method_81_code
def yX9_isRenamed : MethodName := ⟨RX9, "isRenamed", "()Z"⟩
def dkwX9_isRenamed_1 : List UInt8 := [42, 182, 0, 244, 182, 1, 51, 182, 1, 122, 159, 0, 5, 3, 172, 132, 1, 1, 167, 255, 216, 4, 172]
abbrev dktX9_isRenamed_1 : List UInt8 := dkwX9_isRenamed_1 ++ []
def dkwX9_isRenamed_0 : List UInt8 := [3, 60, 27, 42, 182, 0, 248, 162, 0, 38, 42, 180, 0, 68, 42, 27, 182, 1, 122, 46, 42, 42, 27, 3]
abbrev dktX9_isRenamed_0 : List UInt8 := dkwX9_isRenamed_0 ++ dktX9_isRenamed_1
theorem dksX9_isRenamed_0 : cX9_isRenamed.data.toList.drop 0 = dktX9_isRenamed_0 := by decide +kernel
theorem dksX9_isRenamed_1 : cX9_isRenamed.data.toList.drop 24 = dktX9_isRenamed_1 := dk_seg dksX9_isRenamed_0 24 rfl rfl
theorem dX9_isRenamed_0 : decode cX9_isRenamed 0 = .ok (.iconst 0, 1) := dk_3 (dk_at dksX9_isRenamed_0 0 rfl rfl)
theorem dX9_isRenamed_1 : decode cX9_isRenamed 1 = .ok (.istore_n 1, 1) := dk_60 (dk_at dksX9_isRenamed_0 1 rfl rfl)
theorem dX9_isRenamed_2 : decode cX9_isRenamed 2 = .ok (.iload_n 1, 1) := dk_27 (dk_at dksX9_isRenamed_0 2 rfl rfl)
theorem dX9_isRenamed_3 : decode cX9_isRenamed 3 = .ok (.aload_n 0, 1) := dk_42 (dk_at dksX9_isRenamed_0 3 rfl rfl)
theorem dX9_isRenamed_4 : decode cX9_isRenamed 4 = .ok (.invokevirtual 248, 3) := dk_182 0 248 (dk_at dksX9_isRenamed_0 4 rfl rfl)
theorem dX9_isRenamed_7 : decode cX9_isRenamed 7 = .ok (.if_icmp .ge 38, 3) := dk_162 0 38 (dk_at dksX9_isRenamed_0 7 rfl rfl)
theorem dX9_isRenamed_10 : decode cX9_isRenamed 10 = .ok (.aload_n 0, 1) := dk_42 (dk_at dksX9_isRenamed_0 10 rfl rfl)
theorem dX9_isRenamed_11 : decode cX9_isRenamed 11 = .ok (.getfield 68, 3) := dk_180 0 68 (dk_at dksX9_isRenamed_0 11 rfl rfl)
theorem dX9_isRenamed_14 : decode cX9_isRenamed 14 = .ok (.aload_n 0, 1) := dk_42 (dk_at dksX9_isRenamed_0 14 rfl rfl)
theorem dX9_isRenamed_15 : decode cX9_isRenamed 15 = .ok (.iload_n 1, 1) := dk_27 (dk_at dksX9_isRenamed_0 15 rfl rfl)
theorem dX9_isRenamed_16 : decode cX9_isRenamed 16 = .ok (.invokevirtual 378, 3) := dk_182 1 122 (dk_at dksX9_isRenamed_0 16 rfl rfl)
theorem dX9_isRenamed_19 : decode cX9_isRenamed 19 = .ok (.iaload, 1) := dk_46 (dk_at dksX9_isRenamed_0 19 rfl rfl)
theorem dX9_isRenamed_20 : decode cX9_isRenamed 20 = .ok (.aload_n 0, 1) := dk_42 (dk_at dksX9_isRenamed_0 20 rfl rfl)
theorem dX9_isRenamed_21 : decode cX9_isRenamed 21 = .ok (.aload_n 0, 1) := dk_42 (dk_at dksX9_isRenamed_0 21 rfl rfl)
theorem dX9_isRenamed_22 : decode cX9_isRenamed 22 = .ok (.iload_n 1, 1) := dk_27 (dk_at dksX9_isRenamed_0 22 rfl rfl)
theorem dX9_isRenamed_23 : decode cX9_isRenamed 23 = .ok (.iconst 0, 1) := dk_3 (dk_at dksX9_isRenamed_0 23 rfl rfl)
theorem dX9_isRenamed_24 : decode cX9_isRenamed 24 = .ok (.aload_n 0, 1) := dk_42 (dk_at dksX9_isRenamed_1 0 rfl rfl)
theorem dX9_isRenamed_25 : decode cX9_isRenamed 25 = .ok (.invokevirtual 244, 3) := dk_182 0 244 (dk_at dksX9_isRenamed_1 1 rfl rfl)
theorem dX9_isRenamed_28 : decode cX9_isRenamed 28 = .ok (.invokevirtual 307, 3) := dk_182 1 51 (dk_at dksX9_isRenamed_1 4 rfl rfl)
theorem dX9_isRenamed_31 : decode cX9_isRenamed 31 = .ok (.invokevirtual 378, 3) := dk_182 1 122 (dk_at dksX9_isRenamed_1 7 rfl rfl)
theorem dX9_isRenamed_34 : decode cX9_isRenamed 34 = .ok (.if_icmp .eq 5, 3) := dk_159 0 5 (dk_at dksX9_isRenamed_1 10 rfl rfl)
theorem dX9_isRenamed_37 : decode cX9_isRenamed 37 = .ok (.iconst 0, 1) := dk_3 (dk_at dksX9_isRenamed_1 13 rfl rfl)
theorem dX9_isRenamed_38 : decode cX9_isRenamed 38 = .ok (.ireturn, 1) := dk_172 (dk_at dksX9_isRenamed_1 14 rfl rfl)
theorem dX9_isRenamed_39 : decode cX9_isRenamed 39 = .ok (.iinc 1 1, 3) := dk_132 1 1 (dk_at dksX9_isRenamed_1 15 rfl rfl)
theorem dX9_isRenamed_42 : decode cX9_isRenamed 42 = .ok (.goto (-40), 3) := dk_167 255 216 (dk_at dksX9_isRenamed_1 18 rfl rfl)
theorem dX9_isRenamed_45 : decode cX9_isRenamed 45 = .ok (.iconst 1, 1) := dk_4 (dk_at dksX9_isRenamed_1 21 rfl rfl)
theorem dX9_isRenamed_46 : decode cX9_isRenamed 46 = .ok (.ireturn, 1) := dk_172 (dk_at dksX9_isRenamed_1 22 rfl rfl)
abbrev cX9_renamed : ByteArray := prog_13_method_80_code
def yX9_renamed : MethodName := ⟨RX9, "renamed", "(I)I"⟩
def dkwX9_renamed_1 : List UInt8 := [180, 0, 114, 29, 46, 120, 128, 61, 132, 3, 1, 167, 255, 226, 28, 172]
abbrev dktX9_renamed_1 : List UInt8 := dkwX9_renamed_1 ++ []
def dkwX9_renamed_0 : List UInt8 := [3, 61, 3, 62, 29, 42, 180, 0, 203, 162, 0, 28, 27, 29, 184, 1, 5, 153, 0, 14, 28, 4, 42]
abbrev dktX9_renamed_0 : List UInt8 := dkwX9_renamed_0 ++ dktX9_renamed_1
theorem dksX9_renamed_0 : cX9_renamed.data.toList.drop 0 = dktX9_renamed_0 := by decide +kernel
theorem dksX9_renamed_1 : cX9_renamed.data.toList.drop 23 = dktX9_renamed_1 := dk_seg dksX9_renamed_0 23 rfl rfl
theorem dX9_renamed_0 : decode cX9_renamed 0 = .ok (.iconst 0, 1) := dk_3 (dk_at dksX9_renamed_0 0 rfl rfl)
theorem dX9_renamed_1 : decode cX9_renamed 1 = .ok (.istore_n 2, 1) := dk_61 (dk_at dksX9_renamed_0 1 rfl rfl)
theorem dX9_renamed_2 : decode cX9_renamed 2 = .ok (.iconst 0, 1) := dk_3 (dk_at dksX9_renamed_0 2 rfl rfl)
theorem dX9_renamed_3 : decode cX9_renamed 3 = .ok (.istore_n 3, 1) := dk_62 (dk_at dksX9_renamed_0 3 rfl rfl)
theorem dX9_renamed_4 : decode cX9_renamed 4 = .ok (.iload_n 3, 1) := dk_29 (dk_at dksX9_renamed_0 4 rfl rfl)
theorem dX9_renamed_5 : decode cX9_renamed 5 = .ok (.aload_n 0, 1) := dk_42 (dk_at dksX9_renamed_0 5 rfl rfl)
theorem dX9_renamed_6 : decode cX9_renamed 6 = .ok (.getfield 203, 3) := dk_180 0 203 (dk_at dksX9_renamed_0 6 rfl rfl)
theorem dX9_renamed_9 : decode cX9_renamed 9 = .ok (.if_icmp .ge 28, 3) := dk_162 0 28 (dk_at dksX9_renamed_0 9 rfl rfl)
theorem dX9_renamed_12 : decode cX9_renamed 12 = .ok (.iload_n 1, 1) := dk_27 (dk_at dksX9_renamed_0 12 rfl rfl)
theorem dX9_renamed_13 : decode cX9_renamed 13 = .ok (.iload_n 3, 1) := dk_29 (dk_at dksX9_renamed_0 13 rfl rfl)
theorem dX9_renamed_14 : decode cX9_renamed 14 = .ok (.invokestatic 261, 3) := dk_184 1 5 (dk_at dksX9_renamed_0 14 rfl rfl)
theorem dX9_renamed_17 : decode cX9_renamed 17 = .ok (.ifCond .eq 14, 3) := dk_153 0 14 (dk_at dksX9_renamed_0 17 rfl rfl)
theorem dX9_renamed_20 : decode cX9_renamed 20 = .ok (.iload_n 2, 1) := dk_28 (dk_at dksX9_renamed_0 20 rfl rfl)
theorem dX9_renamed_21 : decode cX9_renamed 21 = .ok (.iconst 1, 1) := dk_4 (dk_at dksX9_renamed_0 21 rfl rfl)
theorem dX9_renamed_22 : decode cX9_renamed 22 = .ok (.aload_n 0, 1) := dk_42 (dk_at dksX9_renamed_0 22 rfl rfl)
theorem dX9_renamed_23 : decode cX9_renamed 23 = .ok (.getfield 114, 3) := dk_180 0 114 (dk_at dksX9_renamed_1 0 rfl rfl)
theorem dX9_renamed_26 : decode cX9_renamed 26 = .ok (.iload_n 3, 1) := dk_29 (dk_at dksX9_renamed_1 3 rfl rfl)
theorem dX9_renamed_27 : decode cX9_renamed 27 = .ok (.iaload, 1) := dk_46 (dk_at dksX9_renamed_1 4 rfl rfl)
theorem dX9_renamed_28 : decode cX9_renamed 28 = .ok (.ishl, 1) := dk_120 (dk_at dksX9_renamed_1 5 rfl rfl)
theorem dX9_renamed_29 : decode cX9_renamed 29 = .ok (.ior, 1) := dk_128 (dk_at dksX9_renamed_1 6 rfl rfl)
theorem dX9_renamed_30 : decode cX9_renamed 30 = .ok (.istore_n 2, 1) := dk_61 (dk_at dksX9_renamed_1 7 rfl rfl)
theorem dX9_renamed_31 : decode cX9_renamed 31 = .ok (.iinc 3 1, 3) := dk_132 3 1 (dk_at dksX9_renamed_1 8 rfl rfl)
theorem dX9_renamed_34 : decode cX9_renamed 34 = .ok (.goto (-30), 3) := dk_167 255 226 (dk_at dksX9_renamed_1 11 rfl rfl)
theorem dX9_renamed_37 : decode cX9_renamed 37 = .ok (.iload_n 2, 1) := dk_28 (dk_at dksX9_renamed_1 14 rfl rfl)
theorem dX9_renamed_38 : decode cX9_renamed 38 = .ok (.ireturn, 1) := dk_172 (dk_at dksX9_renamed_1 15 rfl rfl)
abbrev cX9_stuck : ByteArray := prog_13_method_84_code
def yX9_stuck : MethodName := ⟨RX9, "stuck", "(IIZ)I"⟩
def dkwX9_stuck_1 : List UInt8 := [28, 29, 153, 0, 7, 4, 167, 0, 4, 3, 182, 1, 129, 167, 0, 4, 2, 172]
abbrev dktX9_stuck_1 : List UInt8 := dkwX9_stuck_1 ++ []
def dkwX9_stuck_0 : List UInt8 := [42, 27, 182, 1, 2, 153, 0, 35, 28, 3, 42, 180, 0, 203, 4, 100, 184, 0, 237, 153, 0, 21, 42, 27]
abbrev dktX9_stuck_0 : List UInt8 := dkwX9_stuck_0 ++ dktX9_stuck_1
theorem dksX9_stuck_0 : cX9_stuck.data.toList.drop 0 = dktX9_stuck_0 := by decide +kernel
theorem dksX9_stuck_1 : cX9_stuck.data.toList.drop 24 = dktX9_stuck_1 := dk_seg dksX9_stuck_0 24 rfl rfl
theorem dX9_stuck_0 : decode cX9_stuck 0 = .ok (.aload_n 0, 1) := dk_42 (dk_at dksX9_stuck_0 0 rfl rfl)
theorem dX9_stuck_1 : decode cX9_stuck 1 = .ok (.iload_n 1, 1) := dk_27 (dk_at dksX9_stuck_0 1 rfl rfl)
theorem dX9_stuck_2 : decode cX9_stuck 2 = .ok (.invokevirtual 258, 3) := dk_182 1 2 (dk_at dksX9_stuck_0 2 rfl rfl)
theorem dX9_stuck_5 : decode cX9_stuck 5 = .ok (.ifCond .eq 35, 3) := dk_153 0 35 (dk_at dksX9_stuck_0 5 rfl rfl)
theorem dX9_stuck_8 : decode cX9_stuck 8 = .ok (.iload_n 2, 1) := dk_28 (dk_at dksX9_stuck_0 8 rfl rfl)
theorem dX9_stuck_9 : decode cX9_stuck 9 = .ok (.iconst 0, 1) := dk_3 (dk_at dksX9_stuck_0 9 rfl rfl)
theorem dX9_stuck_10 : decode cX9_stuck 10 = .ok (.aload_n 0, 1) := dk_42 (dk_at dksX9_stuck_0 10 rfl rfl)
theorem dX9_stuck_11 : decode cX9_stuck 11 = .ok (.getfield 203, 3) := dk_180 0 203 (dk_at dksX9_stuck_0 11 rfl rfl)
theorem dX9_stuck_14 : decode cX9_stuck 14 = .ok (.iconst 1, 1) := dk_4 (dk_at dksX9_stuck_0 14 rfl rfl)
theorem dX9_stuck_15 : decode cX9_stuck 15 = .ok (.isub, 1) := dk_100 (dk_at dksX9_stuck_0 15 rfl rfl)
theorem dX9_stuck_16 : decode cX9_stuck 16 = .ok (.invokestatic 237, 3) := dk_184 0 237 (dk_at dksX9_stuck_0 16 rfl rfl)
theorem dX9_stuck_19 : decode cX9_stuck 19 = .ok (.ifCond .eq 21, 3) := dk_153 0 21 (dk_at dksX9_stuck_0 19 rfl rfl)
theorem dX9_stuck_22 : decode cX9_stuck 22 = .ok (.aload_n 0, 1) := dk_42 (dk_at dksX9_stuck_0 22 rfl rfl)
theorem dX9_stuck_23 : decode cX9_stuck 23 = .ok (.iload_n 1, 1) := dk_27 (dk_at dksX9_stuck_0 23 rfl rfl)
theorem dX9_stuck_24 : decode cX9_stuck 24 = .ok (.iload_n 2, 1) := dk_28 (dk_at dksX9_stuck_1 0 rfl rfl)
theorem dX9_stuck_25 : decode cX9_stuck 25 = .ok (.iload_n 3, 1) := dk_29 (dk_at dksX9_stuck_1 1 rfl rfl)
theorem dX9_stuck_26 : decode cX9_stuck 26 = .ok (.ifCond .eq 7, 3) := dk_153 0 7 (dk_at dksX9_stuck_1 2 rfl rfl)
theorem dX9_stuck_29 : decode cX9_stuck 29 = .ok (.iconst 1, 1) := dk_4 (dk_at dksX9_stuck_1 5 rfl rfl)
theorem dX9_stuck_30 : decode cX9_stuck 30 = .ok (.goto 4, 3) := dk_167 0 4 (dk_at dksX9_stuck_1 6 rfl rfl)
theorem dX9_stuck_33 : decode cX9_stuck 33 = .ok (.iconst 0, 1) := dk_3 (dk_at dksX9_stuck_1 9 rfl rfl)
theorem dX9_stuck_34 : decode cX9_stuck 34 = .ok (.invokevirtual 385, 3) := dk_182 1 129 (dk_at dksX9_stuck_1 10 rfl rfl)
theorem dX9_stuck_37 : decode cX9_stuck 37 = .ok (.goto 4, 3) := dk_167 0 4 (dk_at dksX9_stuck_1 13 rfl rfl)
theorem dX9_stuck_40 : decode cX9_stuck 40 = .ok (.iconst (-1), 1) := dk_2 (dk_at dksX9_stuck_1 16 rfl rfl)
theorem dX9_stuck_41 : decode cX9_stuck 41 = .ok (.ireturn, 1) := dk_172 (dk_at dksX9_stuck_1 17 rfl rfl)
abbrev cX9_stuckBy : ByteArray := prog_13_method_83_code
def yX9_stuckBy : MethodName := ⟨RX9, "stuckBy", "(III)I"⟩
def dkwX9_stuckBy_2 : List UInt8 := [54, 4, 132, 5, 1, 167, 255, 221, 21, 4, 172]
abbrev dktX9_stuckBy_2 : List UInt8 := dkwX9_stuckBy_2 ++ []
def dkwX9_stuckBy_1 : List UInt8 := [162, 0, 32, 42, 180, 0, 52, 21, 5, 21, 4, 184, 1, 47, 4, 28, 120, 2, 130, 126, 29, 28, 120, 128]
abbrev dktX9_stuckBy_1 : List UInt8 := dkwX9_stuckBy_1 ++ dktX9_stuckBy_2
def dkwX9_stuckBy_0 : List UInt8 := [27, 4, 28, 120, 2, 130, 126, 29, 28, 120, 128, 54, 4, 3, 54, 5, 21, 5, 42, 182, 0, 244]
abbrev dktX9_stuckBy_0 : List UInt8 := dkwX9_stuckBy_0 ++ dktX9_stuckBy_1
theorem dksX9_stuckBy_0 : cX9_stuckBy.data.toList.drop 0 = dktX9_stuckBy_0 := by decide +kernel
theorem dksX9_stuckBy_1 : cX9_stuckBy.data.toList.drop 22 = dktX9_stuckBy_1 := dk_seg dksX9_stuckBy_0 22 rfl rfl
theorem dksX9_stuckBy_2 : cX9_stuckBy.data.toList.drop 46 = dktX9_stuckBy_2 := dk_seg dksX9_stuckBy_1 24 rfl rfl
theorem dX9_stuckBy_0 : decode cX9_stuckBy 0 = .ok (.iload_n 1, 1) := dk_27 (dk_at dksX9_stuckBy_0 0 rfl rfl)
theorem dX9_stuckBy_1 : decode cX9_stuckBy 1 = .ok (.iconst 1, 1) := dk_4 (dk_at dksX9_stuckBy_0 1 rfl rfl)
theorem dX9_stuckBy_2 : decode cX9_stuckBy 2 = .ok (.iload_n 2, 1) := dk_28 (dk_at dksX9_stuckBy_0 2 rfl rfl)
theorem dX9_stuckBy_3 : decode cX9_stuckBy 3 = .ok (.ishl, 1) := dk_120 (dk_at dksX9_stuckBy_0 3 rfl rfl)
theorem dX9_stuckBy_4 : decode cX9_stuckBy 4 = .ok (.iconst (-1), 1) := dk_2 (dk_at dksX9_stuckBy_0 4 rfl rfl)
theorem dX9_stuckBy_5 : decode cX9_stuckBy 5 = .ok (.ixor, 1) := dk_130 (dk_at dksX9_stuckBy_0 5 rfl rfl)
theorem dX9_stuckBy_6 : decode cX9_stuckBy 6 = .ok (.iand, 1) := dk_126 (dk_at dksX9_stuckBy_0 6 rfl rfl)
theorem dX9_stuckBy_7 : decode cX9_stuckBy 7 = .ok (.iload_n 3, 1) := dk_29 (dk_at dksX9_stuckBy_0 7 rfl rfl)
theorem dX9_stuckBy_8 : decode cX9_stuckBy 8 = .ok (.iload_n 2, 1) := dk_28 (dk_at dksX9_stuckBy_0 8 rfl rfl)
theorem dX9_stuckBy_9 : decode cX9_stuckBy 9 = .ok (.ishl, 1) := dk_120 (dk_at dksX9_stuckBy_0 9 rfl rfl)
theorem dX9_stuckBy_10 : decode cX9_stuckBy 10 = .ok (.ior, 1) := dk_128 (dk_at dksX9_stuckBy_0 10 rfl rfl)
theorem dX9_stuckBy_11 : decode cX9_stuckBy 11 = .ok (.istore 4, 2) := dk_54 4 (dk_at dksX9_stuckBy_0 11 rfl rfl)
theorem dX9_stuckBy_13 : decode cX9_stuckBy 13 = .ok (.iconst 0, 1) := dk_3 (dk_at dksX9_stuckBy_0 13 rfl rfl)
theorem dX9_stuckBy_14 : decode cX9_stuckBy 14 = .ok (.istore 5, 2) := dk_54 5 (dk_at dksX9_stuckBy_0 14 rfl rfl)
theorem dX9_stuckBy_16 : decode cX9_stuckBy 16 = .ok (.iload 5, 2) := dk_21 5 (dk_at dksX9_stuckBy_0 16 rfl rfl)
theorem dX9_stuckBy_18 : decode cX9_stuckBy 18 = .ok (.aload_n 0, 1) := dk_42 (dk_at dksX9_stuckBy_0 18 rfl rfl)
theorem dX9_stuckBy_19 : decode cX9_stuckBy 19 = .ok (.invokevirtual 244, 3) := dk_182 0 244 (dk_at dksX9_stuckBy_0 19 rfl rfl)
theorem dX9_stuckBy_22 : decode cX9_stuckBy 22 = .ok (.if_icmp .ge 32, 3) := dk_162 0 32 (dk_at dksX9_stuckBy_1 0 rfl rfl)
theorem dX9_stuckBy_25 : decode cX9_stuckBy 25 = .ok (.aload_n 0, 1) := dk_42 (dk_at dksX9_stuckBy_1 3 rfl rfl)
theorem dX9_stuckBy_26 : decode cX9_stuckBy 26 = .ok (.getfield 52, 3) := dk_180 0 52 (dk_at dksX9_stuckBy_1 4 rfl rfl)
theorem dX9_stuckBy_29 : decode cX9_stuckBy 29 = .ok (.iload 5, 2) := dk_21 5 (dk_at dksX9_stuckBy_1 7 rfl rfl)
theorem dX9_stuckBy_31 : decode cX9_stuckBy 31 = .ok (.iload 4, 2) := dk_21 4 (dk_at dksX9_stuckBy_1 9 rfl rfl)
theorem dX9_stuckBy_33 : decode cX9_stuckBy 33 = .ok (.invokestatic 303, 3) := dk_184 1 47 (dk_at dksX9_stuckBy_1 11 rfl rfl)
theorem dX9_stuckBy_36 : decode cX9_stuckBy 36 = .ok (.iconst 1, 1) := dk_4 (dk_at dksX9_stuckBy_1 14 rfl rfl)
theorem dX9_stuckBy_37 : decode cX9_stuckBy 37 = .ok (.iload_n 2, 1) := dk_28 (dk_at dksX9_stuckBy_1 15 rfl rfl)
theorem dX9_stuckBy_38 : decode cX9_stuckBy 38 = .ok (.ishl, 1) := dk_120 (dk_at dksX9_stuckBy_1 16 rfl rfl)
theorem dX9_stuckBy_39 : decode cX9_stuckBy 39 = .ok (.iconst (-1), 1) := dk_2 (dk_at dksX9_stuckBy_1 17 rfl rfl)
theorem dX9_stuckBy_40 : decode cX9_stuckBy 40 = .ok (.ixor, 1) := dk_130 (dk_at dksX9_stuckBy_1 18 rfl rfl)
theorem dX9_stuckBy_41 : decode cX9_stuckBy 41 = .ok (.iand, 1) := dk_126 (dk_at dksX9_stuckBy_1 19 rfl rfl)
theorem dX9_stuckBy_42 : decode cX9_stuckBy 42 = .ok (.iload_n 3, 1) := dk_29 (dk_at dksX9_stuckBy_1 20 rfl rfl)
theorem dX9_stuckBy_43 : decode cX9_stuckBy 43 = .ok (.iload_n 2, 1) := dk_28 (dk_at dksX9_stuckBy_1 21 rfl rfl)
theorem dX9_stuckBy_44 : decode cX9_stuckBy 44 = .ok (.ishl, 1) := dk_120 (dk_at dksX9_stuckBy_1 22 rfl rfl)
theorem dX9_stuckBy_45 : decode cX9_stuckBy 45 = .ok (.ior, 1) := dk_128 (dk_at dksX9_stuckBy_1 23 rfl rfl)
theorem dX9_stuckBy_46 : decode cX9_stuckBy 46 = .ok (.istore 4, 2) := dk_54 4 (dk_at dksX9_stuckBy_2 0 rfl rfl)
theorem dX9_stuckBy_48 : decode cX9_stuckBy 48 = .ok (.iinc 5 1, 3) := dk_132 5 1 (dk_at dksX9_stuckBy_2 2 rfl rfl)
theorem dX9_stuckBy_51 : decode cX9_stuckBy 51 = .ok (.goto (-35), 3) := dk_167 255 221 (dk_at dksX9_stuckBy_2 5 rfl rfl)
theorem dX9_stuckBy_54 : decode cX9_stuckBy 54 = .ok (.iload 4, 2) := dk_21 4 (dk_at dksX9_stuckBy_2 8 rfl rfl)
theorem dX9_stuckBy_56 : decode cX9_stuckBy 56 = .ok (.ireturn, 1) := dk_172 (dk_at dksX9_stuckBy_2 10 rfl rfl)
abbrev cX9_test : ByteArray := prog_13_method_88_code
def yX9_test : MethodName := ⟨RX9, "test", "(I)I"⟩
def dkwX9_test_2 : List UInt8 := [132, 3, 1, 132, 4, 1, 167, 255, 221, 27, 2, 160, 0, 7, 29, 167, 0, 4, 2, 172]
abbrev dktX9_test_2 : List UInt8 := dkwX9_test_2 ++ []
def dkwX9_test_1 : List UInt8 := [162, 0, 32, 28, 21, 4, 184, 1, 5, 154, 0, 6, 167, 0, 14, 29, 27, 160, 0, 6, 21, 4, 172]
abbrev dktX9_test_1 : List UInt8 := dkwX9_test_1 ++ dktX9_test_2
def dkwX9_test_0 : List UInt8 := [27, 2, 162, 0, 5, 2, 172, 42, 182, 1, 138, 61, 3, 62, 3, 54, 4, 21, 4, 42, 182, 0, 248]
abbrev dktX9_test_0 : List UInt8 := dkwX9_test_0 ++ dktX9_test_1
theorem dksX9_test_0 : cX9_test.data.toList.drop 0 = dktX9_test_0 := by decide +kernel
theorem dksX9_test_1 : cX9_test.data.toList.drop 23 = dktX9_test_1 := dk_seg dksX9_test_0 23 rfl rfl
theorem dksX9_test_2 : cX9_test.data.toList.drop 46 = dktX9_test_2 := dk_seg dksX9_test_1 23 rfl rfl
theorem dX9_test_0 : decode cX9_test 0 = .ok (.iload_n 1, 1) := dk_27 (dk_at dksX9_test_0 0 rfl rfl)
theorem dX9_test_1 : decode cX9_test 1 = .ok (.iconst (-1), 1) := dk_2 (dk_at dksX9_test_0 1 rfl rfl)
theorem dX9_test_2 : decode cX9_test 2 = .ok (.if_icmp .ge 5, 3) := dk_162 0 5 (dk_at dksX9_test_0 2 rfl rfl)
theorem dX9_test_5 : decode cX9_test 5 = .ok (.iconst (-1), 1) := dk_2 (dk_at dksX9_test_0 5 rfl rfl)
theorem dX9_test_6 : decode cX9_test 6 = .ok (.ireturn, 1) := dk_172 (dk_at dksX9_test_0 6 rfl rfl)
theorem dX9_test_7 : decode cX9_test 7 = .ok (.aload_n 0, 1) := dk_42 (dk_at dksX9_test_0 7 rfl rfl)
theorem dX9_test_8 : decode cX9_test 8 = .ok (.invokevirtual 394, 3) := dk_182 1 138 (dk_at dksX9_test_0 8 rfl rfl)
theorem dX9_test_11 : decode cX9_test 11 = .ok (.istore_n 2, 1) := dk_61 (dk_at dksX9_test_0 11 rfl rfl)
theorem dX9_test_12 : decode cX9_test 12 = .ok (.iconst 0, 1) := dk_3 (dk_at dksX9_test_0 12 rfl rfl)
theorem dX9_test_13 : decode cX9_test 13 = .ok (.istore_n 3, 1) := dk_62 (dk_at dksX9_test_0 13 rfl rfl)
theorem dX9_test_14 : decode cX9_test 14 = .ok (.iconst 0, 1) := dk_3 (dk_at dksX9_test_0 14 rfl rfl)
theorem dX9_test_15 : decode cX9_test 15 = .ok (.istore 4, 2) := dk_54 4 (dk_at dksX9_test_0 15 rfl rfl)
theorem dX9_test_17 : decode cX9_test 17 = .ok (.iload 4, 2) := dk_21 4 (dk_at dksX9_test_0 17 rfl rfl)
theorem dX9_test_19 : decode cX9_test 19 = .ok (.aload_n 0, 1) := dk_42 (dk_at dksX9_test_0 19 rfl rfl)
theorem dX9_test_20 : decode cX9_test 20 = .ok (.invokevirtual 248, 3) := dk_182 0 248 (dk_at dksX9_test_0 20 rfl rfl)
theorem dX9_test_23 : decode cX9_test 23 = .ok (.if_icmp .ge 32, 3) := dk_162 0 32 (dk_at dksX9_test_1 0 rfl rfl)
theorem dX9_test_26 : decode cX9_test 26 = .ok (.iload_n 2, 1) := dk_28 (dk_at dksX9_test_1 3 rfl rfl)
theorem dX9_test_27 : decode cX9_test 27 = .ok (.iload 4, 2) := dk_21 4 (dk_at dksX9_test_1 4 rfl rfl)
theorem dX9_test_29 : decode cX9_test 29 = .ok (.invokestatic 261, 3) := dk_184 1 5 (dk_at dksX9_test_1 6 rfl rfl)
theorem dX9_test_32 : decode cX9_test 32 = .ok (.ifCond .ne 6, 3) := dk_154 0 6 (dk_at dksX9_test_1 9 rfl rfl)
theorem dX9_test_35 : decode cX9_test 35 = .ok (.goto 14, 3) := dk_167 0 14 (dk_at dksX9_test_1 12 rfl rfl)
theorem dX9_test_38 : decode cX9_test 38 = .ok (.iload_n 3, 1) := dk_29 (dk_at dksX9_test_1 15 rfl rfl)
theorem dX9_test_39 : decode cX9_test 39 = .ok (.iload_n 1, 1) := dk_27 (dk_at dksX9_test_1 16 rfl rfl)
theorem dX9_test_40 : decode cX9_test 40 = .ok (.if_icmp .ne 6, 3) := dk_160 0 6 (dk_at dksX9_test_1 17 rfl rfl)
theorem dX9_test_43 : decode cX9_test 43 = .ok (.iload 4, 2) := dk_21 4 (dk_at dksX9_test_1 20 rfl rfl)
theorem dX9_test_45 : decode cX9_test 45 = .ok (.ireturn, 1) := dk_172 (dk_at dksX9_test_1 22 rfl rfl)
theorem dX9_test_46 : decode cX9_test 46 = .ok (.iinc 3 1, 3) := dk_132 3 1 (dk_at dksX9_test_2 0 rfl rfl)
theorem dX9_test_49 : decode cX9_test 49 = .ok (.iinc 4 1, 3) := dk_132 4 1 (dk_at dksX9_test_2 3 rfl rfl)
theorem dX9_test_52 : decode cX9_test 52 = .ok (.goto (-35), 3) := dk_167 255 221 (dk_at dksX9_test_2 6 rfl rfl)
theorem dX9_test_55 : decode cX9_test 55 = .ok (.iload_n 1, 1) := dk_27 (dk_at dksX9_test_2 9 rfl rfl)
theorem dX9_test_56 : decode cX9_test 56 = .ok (.iconst (-1), 1) := dk_2 (dk_at dksX9_test_2 10 rfl rfl)
theorem dX9_test_57 : decode cX9_test 57 = .ok (.if_icmp .ne 7, 3) := dk_160 0 7 (dk_at dksX9_test_2 11 rfl rfl)
theorem dX9_test_60 : decode cX9_test 60 = .ok (.iload_n 3, 1) := dk_29 (dk_at dksX9_test_2 14 rfl rfl)
theorem dX9_test_61 : decode cX9_test 61 = .ok (.goto 4, 3) := dk_167 0 4 (dk_at dksX9_test_2 15 rfl rfl)
theorem dX9_test_64 : decode cX9_test 64 = .ok (.iconst (-1), 1) := dk_2 (dk_at dksX9_test_2 18 rfl rfl)
theorem dX9_test_65 : decode cX9_test 65 = .ok (.ireturn, 1) := dk_172 (dk_at dksX9_test_2 19 rfl rfl)
abbrev cX9_testRows : ByteArray := prog_13_method_86_code
def yX9_testRows : MethodName := ⟨RX9, "testRows", "()I"⟩
def dkwX9_testRows_5 : List UInt8 := [132, 3, 1, 167, 255, 178, 28, 172]
abbrev dktX9_testRows_5 : List UInt8 := dkwX9_testRows_5 ++ []
def dkwX9_testRows_4 : List UInt8 := [180, 0, 117, 21, 5, 46, 128, 54, 4, 132, 5, 1, 167, 255, 223, 21, 4, 27, 160, 0, 5, 29, 61]
abbrev dktX9_testRows_4 : List UInt8 := dkwX9_testRows_4 ++ dktX9_testRows_5
def dkwX9_testRows_3 : List UInt8 := [54, 5, 21, 5, 42, 182, 0, 248, 162, 0, 30, 29, 21, 5, 184, 1, 5, 153, 0, 15, 21, 4, 42]
abbrev dktX9_testRows_3 : List UInt8 := dkwX9_testRows_3 ++ dktX9_testRows_4
def dkwX9_testRows_2 : List UInt8 := [120, 162, 0, 74, 28, 155, 0, 14, 29, 28, 184, 1, 135, 154, 0, 6, 167, 0, 53, 3, 54, 4, 3]
abbrev dktX9_testRows_2 : List UInt8 := dkwX9_testRows_2 ++ dktX9_testRows_3
def dkwX9_testRows_1 : List UInt8 := [42, 180, 0, 117, 28, 46, 128, 60, 132, 2, 1, 167, 255, 225, 2, 61, 3, 62, 29, 4, 42, 182, 0, 248]
abbrev dktX9_testRows_1 : List UInt8 := dkwX9_testRows_1 ++ dktX9_testRows_2
def dkwX9_testRows_0 : List UInt8 := [3, 60, 3, 61, 28, 42, 182, 0, 248, 162, 0, 29, 42, 180, 0, 117, 28, 42, 28, 182, 1, 132, 79, 27]
abbrev dktX9_testRows_0 : List UInt8 := dkwX9_testRows_0 ++ dktX9_testRows_1
theorem dksX9_testRows_0 : cX9_testRows.data.toList.drop 0 = dktX9_testRows_0 := by decide +kernel
theorem dksX9_testRows_1 : cX9_testRows.data.toList.drop 24 = dktX9_testRows_1 := dk_seg dksX9_testRows_0 24 rfl rfl
theorem dksX9_testRows_2 : cX9_testRows.data.toList.drop 48 = dktX9_testRows_2 := dk_seg dksX9_testRows_1 24 rfl rfl
theorem dksX9_testRows_3 : cX9_testRows.data.toList.drop 71 = dktX9_testRows_3 := dk_seg dksX9_testRows_2 23 rfl rfl
theorem dksX9_testRows_4 : cX9_testRows.data.toList.drop 94 = dktX9_testRows_4 := dk_seg dksX9_testRows_3 23 rfl rfl
theorem dksX9_testRows_5 : cX9_testRows.data.toList.drop 117 = dktX9_testRows_5 := dk_seg dksX9_testRows_4 23 rfl rfl
theorem dX9_testRows_0 : decode cX9_testRows 0 = .ok (.iconst 0, 1) := dk_3 (dk_at dksX9_testRows_0 0 rfl rfl)
theorem dX9_testRows_1 : decode cX9_testRows 1 = .ok (.istore_n 1, 1) := dk_60 (dk_at dksX9_testRows_0 1 rfl rfl)
theorem dX9_testRows_2 : decode cX9_testRows 2 = .ok (.iconst 0, 1) := dk_3 (dk_at dksX9_testRows_0 2 rfl rfl)
theorem dX9_testRows_3 : decode cX9_testRows 3 = .ok (.istore_n 2, 1) := dk_61 (dk_at dksX9_testRows_0 3 rfl rfl)
theorem dX9_testRows_4 : decode cX9_testRows 4 = .ok (.iload_n 2, 1) := dk_28 (dk_at dksX9_testRows_0 4 rfl rfl)
theorem dX9_testRows_5 : decode cX9_testRows 5 = .ok (.aload_n 0, 1) := dk_42 (dk_at dksX9_testRows_0 5 rfl rfl)
theorem dX9_testRows_6 : decode cX9_testRows 6 = .ok (.invokevirtual 248, 3) := dk_182 0 248 (dk_at dksX9_testRows_0 6 rfl rfl)
theorem dX9_testRows_9 : decode cX9_testRows 9 = .ok (.if_icmp .ge 29, 3) := dk_162 0 29 (dk_at dksX9_testRows_0 9 rfl rfl)
theorem dX9_testRows_12 : decode cX9_testRows 12 = .ok (.aload_n 0, 1) := dk_42 (dk_at dksX9_testRows_0 12 rfl rfl)
theorem dX9_testRows_13 : decode cX9_testRows 13 = .ok (.getfield 117, 3) := dk_180 0 117 (dk_at dksX9_testRows_0 13 rfl rfl)
theorem dX9_testRows_16 : decode cX9_testRows 16 = .ok (.iload_n 2, 1) := dk_28 (dk_at dksX9_testRows_0 16 rfl rfl)
theorem dX9_testRows_17 : decode cX9_testRows 17 = .ok (.aload_n 0, 1) := dk_42 (dk_at dksX9_testRows_0 17 rfl rfl)
theorem dX9_testRows_18 : decode cX9_testRows 18 = .ok (.iload_n 2, 1) := dk_28 (dk_at dksX9_testRows_0 18 rfl rfl)
theorem dX9_testRows_19 : decode cX9_testRows 19 = .ok (.invokevirtual 388, 3) := dk_182 1 132 (dk_at dksX9_testRows_0 19 rfl rfl)
theorem dX9_testRows_22 : decode cX9_testRows 22 = .ok (.iastore, 1) := dk_79 (dk_at dksX9_testRows_0 22 rfl rfl)
theorem dX9_testRows_23 : decode cX9_testRows 23 = .ok (.iload_n 1, 1) := dk_27 (dk_at dksX9_testRows_0 23 rfl rfl)
theorem dX9_testRows_24 : decode cX9_testRows 24 = .ok (.aload_n 0, 1) := dk_42 (dk_at dksX9_testRows_1 0 rfl rfl)
theorem dX9_testRows_25 : decode cX9_testRows 25 = .ok (.getfield 117, 3) := dk_180 0 117 (dk_at dksX9_testRows_1 1 rfl rfl)
theorem dX9_testRows_28 : decode cX9_testRows 28 = .ok (.iload_n 2, 1) := dk_28 (dk_at dksX9_testRows_1 4 rfl rfl)
theorem dX9_testRows_29 : decode cX9_testRows 29 = .ok (.iaload, 1) := dk_46 (dk_at dksX9_testRows_1 5 rfl rfl)
theorem dX9_testRows_30 : decode cX9_testRows 30 = .ok (.ior, 1) := dk_128 (dk_at dksX9_testRows_1 6 rfl rfl)
theorem dX9_testRows_31 : decode cX9_testRows 31 = .ok (.istore_n 1, 1) := dk_60 (dk_at dksX9_testRows_1 7 rfl rfl)
theorem dX9_testRows_32 : decode cX9_testRows 32 = .ok (.iinc 2 1, 3) := dk_132 2 1 (dk_at dksX9_testRows_1 8 rfl rfl)
theorem dX9_testRows_35 : decode cX9_testRows 35 = .ok (.goto (-31), 3) := dk_167 255 225 (dk_at dksX9_testRows_1 11 rfl rfl)
theorem dX9_testRows_38 : decode cX9_testRows 38 = .ok (.iconst (-1), 1) := dk_2 (dk_at dksX9_testRows_1 14 rfl rfl)
theorem dX9_testRows_39 : decode cX9_testRows 39 = .ok (.istore_n 2, 1) := dk_61 (dk_at dksX9_testRows_1 15 rfl rfl)
theorem dX9_testRows_40 : decode cX9_testRows 40 = .ok (.iconst 0, 1) := dk_3 (dk_at dksX9_testRows_1 16 rfl rfl)
theorem dX9_testRows_41 : decode cX9_testRows 41 = .ok (.istore_n 3, 1) := dk_62 (dk_at dksX9_testRows_1 17 rfl rfl)
theorem dX9_testRows_42 : decode cX9_testRows 42 = .ok (.iload_n 3, 1) := dk_29 (dk_at dksX9_testRows_1 18 rfl rfl)
theorem dX9_testRows_43 : decode cX9_testRows 43 = .ok (.iconst 1, 1) := dk_4 (dk_at dksX9_testRows_1 19 rfl rfl)
theorem dX9_testRows_44 : decode cX9_testRows 44 = .ok (.aload_n 0, 1) := dk_42 (dk_at dksX9_testRows_1 20 rfl rfl)
theorem dX9_testRows_45 : decode cX9_testRows 45 = .ok (.invokevirtual 248, 3) := dk_182 0 248 (dk_at dksX9_testRows_1 21 rfl rfl)
theorem dX9_testRows_48 : decode cX9_testRows 48 = .ok (.ishl, 1) := dk_120 (dk_at dksX9_testRows_2 0 rfl rfl)
theorem dX9_testRows_49 : decode cX9_testRows 49 = .ok (.if_icmp .ge 74, 3) := dk_162 0 74 (dk_at dksX9_testRows_2 1 rfl rfl)
theorem dX9_testRows_52 : decode cX9_testRows 52 = .ok (.iload_n 2, 1) := dk_28 (dk_at dksX9_testRows_2 4 rfl rfl)
theorem dX9_testRows_53 : decode cX9_testRows 53 = .ok (.ifCond .lt 14, 3) := dk_155 0 14 (dk_at dksX9_testRows_2 5 rfl rfl)
theorem dX9_testRows_56 : decode cX9_testRows 56 = .ok (.iload_n 3, 1) := dk_29 (dk_at dksX9_testRows_2 8 rfl rfl)
theorem dX9_testRows_57 : decode cX9_testRows 57 = .ok (.iload_n 2, 1) := dk_28 (dk_at dksX9_testRows_2 9 rfl rfl)
theorem dX9_testRows_58 : decode cX9_testRows 58 = .ok (.invokestatic 391, 3) := dk_184 1 135 (dk_at dksX9_testRows_2 10 rfl rfl)
theorem dX9_testRows_61 : decode cX9_testRows 61 = .ok (.ifCond .ne 6, 3) := dk_154 0 6 (dk_at dksX9_testRows_2 13 rfl rfl)
theorem dX9_testRows_64 : decode cX9_testRows 64 = .ok (.goto 53, 3) := dk_167 0 53 (dk_at dksX9_testRows_2 16 rfl rfl)
theorem dX9_testRows_67 : decode cX9_testRows 67 = .ok (.iconst 0, 1) := dk_3 (dk_at dksX9_testRows_2 19 rfl rfl)
theorem dX9_testRows_68 : decode cX9_testRows 68 = .ok (.istore 4, 2) := dk_54 4 (dk_at dksX9_testRows_2 20 rfl rfl)
theorem dX9_testRows_70 : decode cX9_testRows 70 = .ok (.iconst 0, 1) := dk_3 (dk_at dksX9_testRows_2 22 rfl rfl)
theorem dX9_testRows_71 : decode cX9_testRows 71 = .ok (.istore 5, 2) := dk_54 5 (dk_at dksX9_testRows_3 0 rfl rfl)
theorem dX9_testRows_73 : decode cX9_testRows 73 = .ok (.iload 5, 2) := dk_21 5 (dk_at dksX9_testRows_3 2 rfl rfl)
theorem dX9_testRows_75 : decode cX9_testRows 75 = .ok (.aload_n 0, 1) := dk_42 (dk_at dksX9_testRows_3 4 rfl rfl)
theorem dX9_testRows_76 : decode cX9_testRows 76 = .ok (.invokevirtual 248, 3) := dk_182 0 248 (dk_at dksX9_testRows_3 5 rfl rfl)
theorem dX9_testRows_79 : decode cX9_testRows 79 = .ok (.if_icmp .ge 30, 3) := dk_162 0 30 (dk_at dksX9_testRows_3 8 rfl rfl)
theorem dX9_testRows_82 : decode cX9_testRows 82 = .ok (.iload_n 3, 1) := dk_29 (dk_at dksX9_testRows_3 11 rfl rfl)
theorem dX9_testRows_83 : decode cX9_testRows 83 = .ok (.iload 5, 2) := dk_21 5 (dk_at dksX9_testRows_3 12 rfl rfl)
theorem dX9_testRows_85 : decode cX9_testRows 85 = .ok (.invokestatic 261, 3) := dk_184 1 5 (dk_at dksX9_testRows_3 14 rfl rfl)
theorem dX9_testRows_88 : decode cX9_testRows 88 = .ok (.ifCond .eq 15, 3) := dk_153 0 15 (dk_at dksX9_testRows_3 17 rfl rfl)
theorem dX9_testRows_91 : decode cX9_testRows 91 = .ok (.iload 4, 2) := dk_21 4 (dk_at dksX9_testRows_3 20 rfl rfl)
theorem dX9_testRows_93 : decode cX9_testRows 93 = .ok (.aload_n 0, 1) := dk_42 (dk_at dksX9_testRows_3 22 rfl rfl)
theorem dX9_testRows_94 : decode cX9_testRows 94 = .ok (.getfield 117, 3) := dk_180 0 117 (dk_at dksX9_testRows_4 0 rfl rfl)
theorem dX9_testRows_97 : decode cX9_testRows 97 = .ok (.iload 5, 2) := dk_21 5 (dk_at dksX9_testRows_4 3 rfl rfl)
theorem dX9_testRows_99 : decode cX9_testRows 99 = .ok (.iaload, 1) := dk_46 (dk_at dksX9_testRows_4 5 rfl rfl)
theorem dX9_testRows_100 : decode cX9_testRows 100 = .ok (.ior, 1) := dk_128 (dk_at dksX9_testRows_4 6 rfl rfl)
theorem dX9_testRows_101 : decode cX9_testRows 101 = .ok (.istore 4, 2) := dk_54 4 (dk_at dksX9_testRows_4 7 rfl rfl)
theorem dX9_testRows_103 : decode cX9_testRows 103 = .ok (.iinc 5 1, 3) := dk_132 5 1 (dk_at dksX9_testRows_4 9 rfl rfl)
theorem dX9_testRows_106 : decode cX9_testRows 106 = .ok (.goto (-33), 3) := dk_167 255 223 (dk_at dksX9_testRows_4 12 rfl rfl)
theorem dX9_testRows_109 : decode cX9_testRows 109 = .ok (.iload 4, 2) := dk_21 4 (dk_at dksX9_testRows_4 15 rfl rfl)
theorem dX9_testRows_111 : decode cX9_testRows 111 = .ok (.iload_n 1, 1) := dk_27 (dk_at dksX9_testRows_4 17 rfl rfl)
theorem dX9_testRows_112 : decode cX9_testRows 112 = .ok (.if_icmp .ne 5, 3) := dk_160 0 5 (dk_at dksX9_testRows_4 18 rfl rfl)
theorem dX9_testRows_115 : decode cX9_testRows 115 = .ok (.iload_n 3, 1) := dk_29 (dk_at dksX9_testRows_4 21 rfl rfl)
theorem dX9_testRows_116 : decode cX9_testRows 116 = .ok (.istore_n 2, 1) := dk_61 (dk_at dksX9_testRows_4 22 rfl rfl)
theorem dX9_testRows_117 : decode cX9_testRows 117 = .ok (.iinc 3 1, 3) := dk_132 3 1 (dk_at dksX9_testRows_5 0 rfl rfl)
theorem dX9_testRows_120 : decode cX9_testRows 120 = .ok (.goto (-78), 3) := dk_167 255 178 (dk_at dksX9_testRows_5 3 rfl rfl)
theorem dX9_testRows_123 : decode cX9_testRows 123 = .ok (.iload_n 2, 1) := dk_28 (dk_at dksX9_testRows_5 6 rfl rfl)
theorem dX9_testRows_124 : decode cX9_testRows 124 = .ok (.ireturn, 1) := dk_172 (dk_at dksX9_testRows_5 7 rfl rfl)
abbrev cX9_seenBy : ByteArray := prog_13_method_85_code
def yX9_seenBy : MethodName := ⟨RX9, "seenBy", "(I)I"⟩
def dkwX9_seenBy_2 : List UInt8 := [132, 3, 1, 167, 255, 213, 28, 172]
abbrev dktX9_seenBy_2 : List UInt8 := dkwX9_seenBy_2 ++ []
def dkwX9_seenBy_1 : List UInt8 := [182, 1, 129, 42, 27, 3, 42, 182, 0, 244, 182, 1, 51, 159, 0, 9, 28, 4, 29, 120, 128, 61]
abbrev dktX9_seenBy_1 : List UInt8 := dkwX9_seenBy_1 ++ dktX9_seenBy_2
def dkwX9_seenBy_0 : List UInt8 := [3, 61, 3, 62, 29, 5, 42, 180, 0, 203, 104, 162, 0, 39, 42, 27, 29, 5, 108, 29, 5, 112]
abbrev dktX9_seenBy_0 : List UInt8 := dkwX9_seenBy_0 ++ dktX9_seenBy_1
theorem dksX9_seenBy_0 : cX9_seenBy.data.toList.drop 0 = dktX9_seenBy_0 := by decide +kernel
theorem dksX9_seenBy_1 : cX9_seenBy.data.toList.drop 22 = dktX9_seenBy_1 := dk_seg dksX9_seenBy_0 22 rfl rfl
theorem dksX9_seenBy_2 : cX9_seenBy.data.toList.drop 44 = dktX9_seenBy_2 := dk_seg dksX9_seenBy_1 22 rfl rfl
theorem dX9_seenBy_0 : decode cX9_seenBy 0 = .ok (.iconst 0, 1) := dk_3 (dk_at dksX9_seenBy_0 0 rfl rfl)
theorem dX9_seenBy_1 : decode cX9_seenBy 1 = .ok (.istore_n 2, 1) := dk_61 (dk_at dksX9_seenBy_0 1 rfl rfl)
theorem dX9_seenBy_2 : decode cX9_seenBy 2 = .ok (.iconst 0, 1) := dk_3 (dk_at dksX9_seenBy_0 2 rfl rfl)
theorem dX9_seenBy_3 : decode cX9_seenBy 3 = .ok (.istore_n 3, 1) := dk_62 (dk_at dksX9_seenBy_0 3 rfl rfl)
theorem dX9_seenBy_4 : decode cX9_seenBy 4 = .ok (.iload_n 3, 1) := dk_29 (dk_at dksX9_seenBy_0 4 rfl rfl)
theorem dX9_seenBy_5 : decode cX9_seenBy 5 = .ok (.iconst 2, 1) := dk_5 (dk_at dksX9_seenBy_0 5 rfl rfl)
theorem dX9_seenBy_6 : decode cX9_seenBy 6 = .ok (.aload_n 0, 1) := dk_42 (dk_at dksX9_seenBy_0 6 rfl rfl)
theorem dX9_seenBy_7 : decode cX9_seenBy 7 = .ok (.getfield 203, 3) := dk_180 0 203 (dk_at dksX9_seenBy_0 7 rfl rfl)
theorem dX9_seenBy_10 : decode cX9_seenBy 10 = .ok (.imul, 1) := dk_104 (dk_at dksX9_seenBy_0 10 rfl rfl)
theorem dX9_seenBy_11 : decode cX9_seenBy 11 = .ok (.if_icmp .ge 39, 3) := dk_162 0 39 (dk_at dksX9_seenBy_0 11 rfl rfl)
theorem dX9_seenBy_14 : decode cX9_seenBy 14 = .ok (.aload_n 0, 1) := dk_42 (dk_at dksX9_seenBy_0 14 rfl rfl)
theorem dX9_seenBy_15 : decode cX9_seenBy 15 = .ok (.iload_n 1, 1) := dk_27 (dk_at dksX9_seenBy_0 15 rfl rfl)
theorem dX9_seenBy_16 : decode cX9_seenBy 16 = .ok (.iload_n 3, 1) := dk_29 (dk_at dksX9_seenBy_0 16 rfl rfl)
theorem dX9_seenBy_17 : decode cX9_seenBy 17 = .ok (.iconst 2, 1) := dk_5 (dk_at dksX9_seenBy_0 17 rfl rfl)
theorem dX9_seenBy_18 : decode cX9_seenBy 18 = .ok (.idiv, 1) := dk_108 (dk_at dksX9_seenBy_0 18 rfl rfl)
theorem dX9_seenBy_19 : decode cX9_seenBy 19 = .ok (.iload_n 3, 1) := dk_29 (dk_at dksX9_seenBy_0 19 rfl rfl)
theorem dX9_seenBy_20 : decode cX9_seenBy 20 = .ok (.iconst 2, 1) := dk_5 (dk_at dksX9_seenBy_0 20 rfl rfl)
theorem dX9_seenBy_21 : decode cX9_seenBy 21 = .ok (.irem, 1) := dk_112 (dk_at dksX9_seenBy_0 21 rfl rfl)
theorem dX9_seenBy_22 : decode cX9_seenBy 22 = .ok (.invokevirtual 385, 3) := dk_182 1 129 (dk_at dksX9_seenBy_1 0 rfl rfl)
theorem dX9_seenBy_25 : decode cX9_seenBy 25 = .ok (.aload_n 0, 1) := dk_42 (dk_at dksX9_seenBy_1 3 rfl rfl)
theorem dX9_seenBy_26 : decode cX9_seenBy 26 = .ok (.iload_n 1, 1) := dk_27 (dk_at dksX9_seenBy_1 4 rfl rfl)
theorem dX9_seenBy_27 : decode cX9_seenBy 27 = .ok (.iconst 0, 1) := dk_3 (dk_at dksX9_seenBy_1 5 rfl rfl)
theorem dX9_seenBy_28 : decode cX9_seenBy 28 = .ok (.aload_n 0, 1) := dk_42 (dk_at dksX9_seenBy_1 6 rfl rfl)
theorem dX9_seenBy_29 : decode cX9_seenBy 29 = .ok (.invokevirtual 244, 3) := dk_182 0 244 (dk_at dksX9_seenBy_1 7 rfl rfl)
theorem dX9_seenBy_32 : decode cX9_seenBy 32 = .ok (.invokevirtual 307, 3) := dk_182 1 51 (dk_at dksX9_seenBy_1 10 rfl rfl)
theorem dX9_seenBy_35 : decode cX9_seenBy 35 = .ok (.if_icmp .eq 9, 3) := dk_159 0 9 (dk_at dksX9_seenBy_1 13 rfl rfl)
theorem dX9_seenBy_38 : decode cX9_seenBy 38 = .ok (.iload_n 2, 1) := dk_28 (dk_at dksX9_seenBy_1 16 rfl rfl)
theorem dX9_seenBy_39 : decode cX9_seenBy 39 = .ok (.iconst 1, 1) := dk_4 (dk_at dksX9_seenBy_1 17 rfl rfl)
theorem dX9_seenBy_40 : decode cX9_seenBy 40 = .ok (.iload_n 3, 1) := dk_29 (dk_at dksX9_seenBy_1 18 rfl rfl)
theorem dX9_seenBy_41 : decode cX9_seenBy 41 = .ok (.ishl, 1) := dk_120 (dk_at dksX9_seenBy_1 19 rfl rfl)
theorem dX9_seenBy_42 : decode cX9_seenBy 42 = .ok (.ior, 1) := dk_128 (dk_at dksX9_seenBy_1 20 rfl rfl)
theorem dX9_seenBy_43 : decode cX9_seenBy 43 = .ok (.istore_n 2, 1) := dk_61 (dk_at dksX9_seenBy_1 21 rfl rfl)
theorem dX9_seenBy_44 : decode cX9_seenBy 44 = .ok (.iinc 3 1, 3) := dk_132 3 1 (dk_at dksX9_seenBy_2 0 rfl rfl)
theorem dX9_seenBy_47 : decode cX9_seenBy 47 = .ok (.goto (-43), 3) := dk_167 255 213 (dk_at dksX9_seenBy_2 3 rfl rfl)
theorem dX9_seenBy_50 : decode cX9_seenBy 50 = .ok (.iload_n 2, 1) := dk_28 (dk_at dksX9_seenBy_2 6 rfl rfl)
theorem dX9_seenBy_51 : decode cX9_seenBy 51 = .ok (.ireturn, 1) := dk_172 (dk_at dksX9_seenBy_2 7 rfl rfl)
abbrev cX9_isFirst : ByteArray := prog_13_method_87_code
def yX9_isFirst : MethodName := ⟨RX9, "isFirst", "(II)Z"⟩
def dkwX9_isFirst_1 : List UInt8 := [167, 0, 4, 3, 172, 26, 27, 130, 61, 26, 28, 126, 28, 116, 126, 153, 0, 7, 4, 167, 0, 4, 3, 172]
abbrev dktX9_isFirst_1 : List UInt8 := dkwX9_isFirst_1 ++ []
def dkwX9_isFirst_0 : List UInt8 := [26, 184, 1, 66, 27, 184, 1, 66, 159, 0, 20, 26, 184, 1, 66, 27, 184, 1, 66, 162, 0, 7, 4]
abbrev dktX9_isFirst_0 : List UInt8 := dkwX9_isFirst_0 ++ dktX9_isFirst_1
theorem dksX9_isFirst_0 : cX9_isFirst.data.toList.drop 0 = dktX9_isFirst_0 := by decide +kernel
theorem dksX9_isFirst_1 : cX9_isFirst.data.toList.drop 23 = dktX9_isFirst_1 := dk_seg dksX9_isFirst_0 23 rfl rfl
theorem dX9_isFirst_0 : decode cX9_isFirst 0 = .ok (.iload_n 0, 1) := dk_26 (dk_at dksX9_isFirst_0 0 rfl rfl)
theorem dX9_isFirst_1 : decode cX9_isFirst 1 = .ok (.invokestatic 322, 3) := dk_184 1 66 (dk_at dksX9_isFirst_0 1 rfl rfl)
theorem dX9_isFirst_4 : decode cX9_isFirst 4 = .ok (.iload_n 1, 1) := dk_27 (dk_at dksX9_isFirst_0 4 rfl rfl)
theorem dX9_isFirst_5 : decode cX9_isFirst 5 = .ok (.invokestatic 322, 3) := dk_184 1 66 (dk_at dksX9_isFirst_0 5 rfl rfl)
theorem dX9_isFirst_8 : decode cX9_isFirst 8 = .ok (.if_icmp .eq 20, 3) := dk_159 0 20 (dk_at dksX9_isFirst_0 8 rfl rfl)
theorem dX9_isFirst_11 : decode cX9_isFirst 11 = .ok (.iload_n 0, 1) := dk_26 (dk_at dksX9_isFirst_0 11 rfl rfl)
theorem dX9_isFirst_12 : decode cX9_isFirst 12 = .ok (.invokestatic 322, 3) := dk_184 1 66 (dk_at dksX9_isFirst_0 12 rfl rfl)
theorem dX9_isFirst_15 : decode cX9_isFirst 15 = .ok (.iload_n 1, 1) := dk_27 (dk_at dksX9_isFirst_0 15 rfl rfl)
theorem dX9_isFirst_16 : decode cX9_isFirst 16 = .ok (.invokestatic 322, 3) := dk_184 1 66 (dk_at dksX9_isFirst_0 16 rfl rfl)
theorem dX9_isFirst_19 : decode cX9_isFirst 19 = .ok (.if_icmp .ge 7, 3) := dk_162 0 7 (dk_at dksX9_isFirst_0 19 rfl rfl)
theorem dX9_isFirst_22 : decode cX9_isFirst 22 = .ok (.iconst 1, 1) := dk_4 (dk_at dksX9_isFirst_0 22 rfl rfl)
theorem dX9_isFirst_23 : decode cX9_isFirst 23 = .ok (.goto 4, 3) := dk_167 0 4 (dk_at dksX9_isFirst_1 0 rfl rfl)
theorem dX9_isFirst_26 : decode cX9_isFirst 26 = .ok (.iconst 0, 1) := dk_3 (dk_at dksX9_isFirst_1 3 rfl rfl)
theorem dX9_isFirst_27 : decode cX9_isFirst 27 = .ok (.ireturn, 1) := dk_172 (dk_at dksX9_isFirst_1 4 rfl rfl)
theorem dX9_isFirst_28 : decode cX9_isFirst 28 = .ok (.iload_n 0, 1) := dk_26 (dk_at dksX9_isFirst_1 5 rfl rfl)
theorem dX9_isFirst_29 : decode cX9_isFirst 29 = .ok (.iload_n 1, 1) := dk_27 (dk_at dksX9_isFirst_1 6 rfl rfl)
theorem dX9_isFirst_30 : decode cX9_isFirst 30 = .ok (.ixor, 1) := dk_130 (dk_at dksX9_isFirst_1 7 rfl rfl)
theorem dX9_isFirst_31 : decode cX9_isFirst 31 = .ok (.istore_n 2, 1) := dk_61 (dk_at dksX9_isFirst_1 8 rfl rfl)
theorem dX9_isFirst_32 : decode cX9_isFirst 32 = .ok (.iload_n 0, 1) := dk_26 (dk_at dksX9_isFirst_1 9 rfl rfl)
theorem dX9_isFirst_33 : decode cX9_isFirst 33 = .ok (.iload_n 2, 1) := dk_28 (dk_at dksX9_isFirst_1 10 rfl rfl)
theorem dX9_isFirst_34 : decode cX9_isFirst 34 = .ok (.iand, 1) := dk_126 (dk_at dksX9_isFirst_1 11 rfl rfl)
theorem dX9_isFirst_35 : decode cX9_isFirst 35 = .ok (.iload_n 2, 1) := dk_28 (dk_at dksX9_isFirst_1 12 rfl rfl)
theorem dX9_isFirst_36 : decode cX9_isFirst 36 = .ok (.ineg, 1) := dk_116 (dk_at dksX9_isFirst_1 13 rfl rfl)
theorem dX9_isFirst_37 : decode cX9_isFirst 37 = .ok (.iand, 1) := dk_126 (dk_at dksX9_isFirst_1 14 rfl rfl)
theorem dX9_isFirst_38 : decode cX9_isFirst 38 = .ok (.ifCond .eq 7, 3) := dk_153 0 7 (dk_at dksX9_isFirst_1 15 rfl rfl)
theorem dX9_isFirst_41 : decode cX9_isFirst 41 = .ok (.iconst 1, 1) := dk_4 (dk_at dksX9_isFirst_1 18 rfl rfl)
theorem dX9_isFirst_42 : decode cX9_isFirst 42 = .ok (.goto 4, 3) := dk_167 0 4 (dk_at dksX9_isFirst_1 19 rfl rfl)
theorem dX9_isFirst_45 : decode cX9_isFirst 45 = .ok (.iconst 0, 1) := dk_3 (dk_at dksX9_isFirst_1 22 rfl rfl)
theorem dX9_isFirst_46 : decode cX9_isFirst 46 = .ok (.ireturn, 1) := dk_172 (dk_at dksX9_isFirst_1 23 rfl rfl)
abbrev cX9_terms : ByteArray := prog_13_method_90_code
def yX9_terms : MethodName := ⟨RX9, "terms", "(I)I"⟩
def dkwX9_terms_0 : List UInt8 := [27, 3, 42, 180, 0, 203, 4, 100, 184, 0, 237, 153, 0, 11, 42, 27, 182, 1, 141, 167, 0, 4, 2, 172]
abbrev dktX9_terms_0 : List UInt8 := dkwX9_terms_0 ++ []
theorem dksX9_terms_0 : cX9_terms.data.toList.drop 0 = dktX9_terms_0 := by decide +kernel
theorem dX9_terms_0 : decode cX9_terms 0 = .ok (.iload_n 1, 1) := dk_27 (dk_at dksX9_terms_0 0 rfl rfl)
theorem dX9_terms_1 : decode cX9_terms 1 = .ok (.iconst 0, 1) := dk_3 (dk_at dksX9_terms_0 1 rfl rfl)
theorem dX9_terms_2 : decode cX9_terms 2 = .ok (.aload_n 0, 1) := dk_42 (dk_at dksX9_terms_0 2 rfl rfl)
theorem dX9_terms_3 : decode cX9_terms 3 = .ok (.getfield 203, 3) := dk_180 0 203 (dk_at dksX9_terms_0 3 rfl rfl)
theorem dX9_terms_6 : decode cX9_terms 6 = .ok (.iconst 1, 1) := dk_4 (dk_at dksX9_terms_0 6 rfl rfl)
theorem dX9_terms_7 : decode cX9_terms 7 = .ok (.isub, 1) := dk_100 (dk_at dksX9_terms_0 7 rfl rfl)
theorem dX9_terms_8 : decode cX9_terms 8 = .ok (.invokestatic 237, 3) := dk_184 0 237 (dk_at dksX9_terms_0 8 rfl rfl)
theorem dX9_terms_11 : decode cX9_terms 11 = .ok (.ifCond .eq 11, 3) := dk_153 0 11 (dk_at dksX9_terms_0 11 rfl rfl)
theorem dX9_terms_14 : decode cX9_terms 14 = .ok (.aload_n 0, 1) := dk_42 (dk_at dksX9_terms_0 14 rfl rfl)
theorem dX9_terms_15 : decode cX9_terms 15 = .ok (.iload_n 1, 1) := dk_27 (dk_at dksX9_terms_0 15 rfl rfl)
theorem dX9_terms_16 : decode cX9_terms 16 = .ok (.invokevirtual 397, 3) := dk_182 1 141 (dk_at dksX9_terms_0 16 rfl rfl)
theorem dX9_terms_19 : decode cX9_terms 19 = .ok (.goto 4, 3) := dk_167 0 4 (dk_at dksX9_terms_0 19 rfl rfl)
theorem dX9_terms_22 : decode cX9_terms 22 = .ok (.iconst (-1), 1) := dk_2 (dk_at dksX9_terms_0 22 rfl rfl)
theorem dX9_terms_23 : decode cX9_terms 23 = .ok (.ireturn, 1) := dk_172 (dk_at dksX9_terms_0 23 rfl rfl)
abbrev cX9_termsOf : ByteArray := prog_13_method_89_code
def yX9_termsOf : MethodName := ⟨RX9, "termsOf", "(I)I"⟩
def dkwX9_termsOf_3 : List UInt8 := [132, 3, 1, 167, 255, 188, 28, 172]
abbrev dktX9_termsOf_3 : List UInt8 := dkwX9_termsOf_3 ++ []
def dkwX9_termsOf_2 : List UInt8 := [182, 1, 51, 27, 122, 4, 126, 130, 54, 4, 132, 5, 1, 167, 255, 215, 28, 21, 4, 29, 120, 128, 61]
abbrev dktX9_termsOf_2 : List UInt8 := dkwX9_termsOf_2 ++ dktX9_termsOf_3
def dkwX9_termsOf_1 : List UInt8 := [162, 0, 38, 21, 5, 29, 2, 130, 126, 154, 0, 23, 21, 4, 42, 21, 5, 3, 42, 182, 0, 244]
abbrev dktX9_termsOf_1 : List UInt8 := dkwX9_termsOf_1 ++ dktX9_termsOf_2
def dkwX9_termsOf_0 : List UInt8 := [3, 61, 3, 62, 29, 42, 182, 0, 248, 162, 0, 66, 3, 54, 4, 3, 54, 5, 21, 5, 42, 182, 0, 248]
abbrev dktX9_termsOf_0 : List UInt8 := dkwX9_termsOf_0 ++ dktX9_termsOf_1
theorem dksX9_termsOf_0 : cX9_termsOf.data.toList.drop 0 = dktX9_termsOf_0 := by decide +kernel
theorem dksX9_termsOf_1 : cX9_termsOf.data.toList.drop 24 = dktX9_termsOf_1 := dk_seg dksX9_termsOf_0 24 rfl rfl
theorem dksX9_termsOf_2 : cX9_termsOf.data.toList.drop 46 = dktX9_termsOf_2 := dk_seg dksX9_termsOf_1 22 rfl rfl
theorem dksX9_termsOf_3 : cX9_termsOf.data.toList.drop 69 = dktX9_termsOf_3 := dk_seg dksX9_termsOf_2 23 rfl rfl
theorem dX9_termsOf_0 : decode cX9_termsOf 0 = .ok (.iconst 0, 1) := dk_3 (dk_at dksX9_termsOf_0 0 rfl rfl)
theorem dX9_termsOf_1 : decode cX9_termsOf 1 = .ok (.istore_n 2, 1) := dk_61 (dk_at dksX9_termsOf_0 1 rfl rfl)
theorem dX9_termsOf_2 : decode cX9_termsOf 2 = .ok (.iconst 0, 1) := dk_3 (dk_at dksX9_termsOf_0 2 rfl rfl)
theorem dX9_termsOf_3 : decode cX9_termsOf 3 = .ok (.istore_n 3, 1) := dk_62 (dk_at dksX9_termsOf_0 3 rfl rfl)
theorem dX9_termsOf_4 : decode cX9_termsOf 4 = .ok (.iload_n 3, 1) := dk_29 (dk_at dksX9_termsOf_0 4 rfl rfl)
theorem dX9_termsOf_5 : decode cX9_termsOf 5 = .ok (.aload_n 0, 1) := dk_42 (dk_at dksX9_termsOf_0 5 rfl rfl)
theorem dX9_termsOf_6 : decode cX9_termsOf 6 = .ok (.invokevirtual 248, 3) := dk_182 0 248 (dk_at dksX9_termsOf_0 6 rfl rfl)
theorem dX9_termsOf_9 : decode cX9_termsOf 9 = .ok (.if_icmp .ge 66, 3) := dk_162 0 66 (dk_at dksX9_termsOf_0 9 rfl rfl)
theorem dX9_termsOf_12 : decode cX9_termsOf 12 = .ok (.iconst 0, 1) := dk_3 (dk_at dksX9_termsOf_0 12 rfl rfl)
theorem dX9_termsOf_13 : decode cX9_termsOf 13 = .ok (.istore 4, 2) := dk_54 4 (dk_at dksX9_termsOf_0 13 rfl rfl)
theorem dX9_termsOf_15 : decode cX9_termsOf 15 = .ok (.iconst 0, 1) := dk_3 (dk_at dksX9_termsOf_0 15 rfl rfl)
theorem dX9_termsOf_16 : decode cX9_termsOf 16 = .ok (.istore 5, 2) := dk_54 5 (dk_at dksX9_termsOf_0 16 rfl rfl)
theorem dX9_termsOf_18 : decode cX9_termsOf 18 = .ok (.iload 5, 2) := dk_21 5 (dk_at dksX9_termsOf_0 18 rfl rfl)
theorem dX9_termsOf_20 : decode cX9_termsOf 20 = .ok (.aload_n 0, 1) := dk_42 (dk_at dksX9_termsOf_0 20 rfl rfl)
theorem dX9_termsOf_21 : decode cX9_termsOf 21 = .ok (.invokevirtual 248, 3) := dk_182 0 248 (dk_at dksX9_termsOf_0 21 rfl rfl)
theorem dX9_termsOf_24 : decode cX9_termsOf 24 = .ok (.if_icmp .ge 38, 3) := dk_162 0 38 (dk_at dksX9_termsOf_1 0 rfl rfl)
theorem dX9_termsOf_27 : decode cX9_termsOf 27 = .ok (.iload 5, 2) := dk_21 5 (dk_at dksX9_termsOf_1 3 rfl rfl)
theorem dX9_termsOf_29 : decode cX9_termsOf 29 = .ok (.iload_n 3, 1) := dk_29 (dk_at dksX9_termsOf_1 5 rfl rfl)
theorem dX9_termsOf_30 : decode cX9_termsOf 30 = .ok (.iconst (-1), 1) := dk_2 (dk_at dksX9_termsOf_1 6 rfl rfl)
theorem dX9_termsOf_31 : decode cX9_termsOf 31 = .ok (.ixor, 1) := dk_130 (dk_at dksX9_termsOf_1 7 rfl rfl)
theorem dX9_termsOf_32 : decode cX9_termsOf 32 = .ok (.iand, 1) := dk_126 (dk_at dksX9_termsOf_1 8 rfl rfl)
theorem dX9_termsOf_33 : decode cX9_termsOf 33 = .ok (.ifCond .ne 23, 3) := dk_154 0 23 (dk_at dksX9_termsOf_1 9 rfl rfl)
theorem dX9_termsOf_36 : decode cX9_termsOf 36 = .ok (.iload 4, 2) := dk_21 4 (dk_at dksX9_termsOf_1 12 rfl rfl)
theorem dX9_termsOf_38 : decode cX9_termsOf 38 = .ok (.aload_n 0, 1) := dk_42 (dk_at dksX9_termsOf_1 14 rfl rfl)
theorem dX9_termsOf_39 : decode cX9_termsOf 39 = .ok (.iload 5, 2) := dk_21 5 (dk_at dksX9_termsOf_1 15 rfl rfl)
theorem dX9_termsOf_41 : decode cX9_termsOf 41 = .ok (.iconst 0, 1) := dk_3 (dk_at dksX9_termsOf_1 17 rfl rfl)
theorem dX9_termsOf_42 : decode cX9_termsOf 42 = .ok (.aload_n 0, 1) := dk_42 (dk_at dksX9_termsOf_1 18 rfl rfl)
theorem dX9_termsOf_43 : decode cX9_termsOf 43 = .ok (.invokevirtual 244, 3) := dk_182 0 244 (dk_at dksX9_termsOf_1 19 rfl rfl)
theorem dX9_termsOf_46 : decode cX9_termsOf 46 = .ok (.invokevirtual 307, 3) := dk_182 1 51 (dk_at dksX9_termsOf_2 0 rfl rfl)
theorem dX9_termsOf_49 : decode cX9_termsOf 49 = .ok (.iload_n 1, 1) := dk_27 (dk_at dksX9_termsOf_2 3 rfl rfl)
theorem dX9_termsOf_50 : decode cX9_termsOf 50 = .ok (.ishr, 1) := dk_122 (dk_at dksX9_termsOf_2 4 rfl rfl)
theorem dX9_termsOf_51 : decode cX9_termsOf 51 = .ok (.iconst 1, 1) := dk_4 (dk_at dksX9_termsOf_2 5 rfl rfl)
theorem dX9_termsOf_52 : decode cX9_termsOf 52 = .ok (.iand, 1) := dk_126 (dk_at dksX9_termsOf_2 6 rfl rfl)
theorem dX9_termsOf_53 : decode cX9_termsOf 53 = .ok (.ixor, 1) := dk_130 (dk_at dksX9_termsOf_2 7 rfl rfl)
theorem dX9_termsOf_54 : decode cX9_termsOf 54 = .ok (.istore 4, 2) := dk_54 4 (dk_at dksX9_termsOf_2 8 rfl rfl)
theorem dX9_termsOf_56 : decode cX9_termsOf 56 = .ok (.iinc 5 1, 3) := dk_132 5 1 (dk_at dksX9_termsOf_2 10 rfl rfl)
theorem dX9_termsOf_59 : decode cX9_termsOf 59 = .ok (.goto (-41), 3) := dk_167 255 215 (dk_at dksX9_termsOf_2 13 rfl rfl)
theorem dX9_termsOf_62 : decode cX9_termsOf 62 = .ok (.iload_n 2, 1) := dk_28 (dk_at dksX9_termsOf_2 16 rfl rfl)
theorem dX9_termsOf_63 : decode cX9_termsOf 63 = .ok (.iload 4, 2) := dk_21 4 (dk_at dksX9_termsOf_2 17 rfl rfl)
theorem dX9_termsOf_65 : decode cX9_termsOf 65 = .ok (.iload_n 3, 1) := dk_29 (dk_at dksX9_termsOf_2 19 rfl rfl)
theorem dX9_termsOf_66 : decode cX9_termsOf 66 = .ok (.ishl, 1) := dk_120 (dk_at dksX9_termsOf_2 20 rfl rfl)
theorem dX9_termsOf_67 : decode cX9_termsOf 67 = .ok (.ior, 1) := dk_128 (dk_at dksX9_termsOf_2 21 rfl rfl)
theorem dX9_termsOf_68 : decode cX9_termsOf 68 = .ok (.istore_n 2, 1) := dk_61 (dk_at dksX9_termsOf_2 22 rfl rfl)
theorem dX9_termsOf_69 : decode cX9_termsOf 69 = .ok (.iinc 3 1, 3) := dk_132 3 1 (dk_at dksX9_termsOf_3 0 rfl rfl)
theorem dX9_termsOf_72 : decode cX9_termsOf 72 = .ok (.goto (-68), 3) := dk_167 255 188 (dk_at dksX9_termsOf_3 3 rfl rfl)
theorem dX9_termsOf_75 : decode cX9_termsOf 75 = .ok (.iload_n 2, 1) := dk_28 (dk_at dksX9_termsOf_3 6 rfl rfl)
theorem dX9_termsOf_76 : decode cX9_termsOf 76 = .ok (.ireturn, 1) := dk_172 (dk_at dksX9_termsOf_3 7 rfl rfl)
abbrev cX9_idle : ByteArray := prog_13_method_93_code
def yX9_idle : MethodName := ⟨RX9, "idle", "(I)I"⟩
def dkwX9_idle_3 : List UInt8 := [167, 255, 200, 16, 254, 172]
abbrev dktX9_idle_3 : List UInt8 := dkwX9_idle_3 ++ []
def dkwX9_idle_2 : List UInt8 := [154, 0, 7, 29, 167, 0, 8, 29, 28, 96, 4, 100, 172, 132, 3, 1, 167, 255, 216, 132, 2, 1]
abbrev dktX9_idle_2 : List UInt8 := dkwX9_idle_2 ++ dktX9_idle_3
def dkwX9_idle_1 : List UInt8 := [28, 96, 42, 182, 0, 244, 163, 0, 36, 42, 29, 29, 28, 96, 4, 100, 182, 1, 144, 153, 0, 17, 27]
abbrev dktX9_idle_1 : List UInt8 := dkwX9_idle_1 ++ dktX9_idle_2
def dkwX9_idle_0 : List UInt8 := [27, 3, 4, 184, 0, 237, 154, 0, 5, 2, 172, 4, 61, 28, 42, 182, 0, 244, 163, 0, 54, 3, 62, 29]
abbrev dktX9_idle_0 : List UInt8 := dkwX9_idle_0 ++ dktX9_idle_1
theorem dksX9_idle_0 : cX9_idle.data.toList.drop 0 = dktX9_idle_0 := by decide +kernel
theorem dksX9_idle_1 : cX9_idle.data.toList.drop 24 = dktX9_idle_1 := dk_seg dksX9_idle_0 24 rfl rfl
theorem dksX9_idle_2 : cX9_idle.data.toList.drop 47 = dktX9_idle_2 := dk_seg dksX9_idle_1 23 rfl rfl
theorem dksX9_idle_3 : cX9_idle.data.toList.drop 69 = dktX9_idle_3 := dk_seg dksX9_idle_2 22 rfl rfl
theorem dX9_idle_0 : decode cX9_idle 0 = .ok (.iload_n 1, 1) := dk_27 (dk_at dksX9_idle_0 0 rfl rfl)
theorem dX9_idle_1 : decode cX9_idle 1 = .ok (.iconst 0, 1) := dk_3 (dk_at dksX9_idle_0 1 rfl rfl)
theorem dX9_idle_2 : decode cX9_idle 2 = .ok (.iconst 1, 1) := dk_4 (dk_at dksX9_idle_0 2 rfl rfl)
theorem dX9_idle_3 : decode cX9_idle 3 = .ok (.invokestatic 237, 3) := dk_184 0 237 (dk_at dksX9_idle_0 3 rfl rfl)
theorem dX9_idle_6 : decode cX9_idle 6 = .ok (.ifCond .ne 5, 3) := dk_154 0 5 (dk_at dksX9_idle_0 6 rfl rfl)
theorem dX9_idle_9 : decode cX9_idle 9 = .ok (.iconst (-1), 1) := dk_2 (dk_at dksX9_idle_0 9 rfl rfl)
theorem dX9_idle_10 : decode cX9_idle 10 = .ok (.ireturn, 1) := dk_172 (dk_at dksX9_idle_0 10 rfl rfl)
theorem dX9_idle_11 : decode cX9_idle 11 = .ok (.iconst 1, 1) := dk_4 (dk_at dksX9_idle_0 11 rfl rfl)
theorem dX9_idle_12 : decode cX9_idle 12 = .ok (.istore_n 2, 1) := dk_61 (dk_at dksX9_idle_0 12 rfl rfl)
theorem dX9_idle_13 : decode cX9_idle 13 = .ok (.iload_n 2, 1) := dk_28 (dk_at dksX9_idle_0 13 rfl rfl)
theorem dX9_idle_14 : decode cX9_idle 14 = .ok (.aload_n 0, 1) := dk_42 (dk_at dksX9_idle_0 14 rfl rfl)
theorem dX9_idle_15 : decode cX9_idle 15 = .ok (.invokevirtual 244, 3) := dk_182 0 244 (dk_at dksX9_idle_0 15 rfl rfl)
theorem dX9_idle_18 : decode cX9_idle 18 = .ok (.if_icmp .gt 54, 3) := dk_163 0 54 (dk_at dksX9_idle_0 18 rfl rfl)
theorem dX9_idle_21 : decode cX9_idle 21 = .ok (.iconst 0, 1) := dk_3 (dk_at dksX9_idle_0 21 rfl rfl)
theorem dX9_idle_22 : decode cX9_idle 22 = .ok (.istore_n 3, 1) := dk_62 (dk_at dksX9_idle_0 22 rfl rfl)
theorem dX9_idle_23 : decode cX9_idle 23 = .ok (.iload_n 3, 1) := dk_29 (dk_at dksX9_idle_0 23 rfl rfl)
theorem dX9_idle_24 : decode cX9_idle 24 = .ok (.iload_n 2, 1) := dk_28 (dk_at dksX9_idle_1 0 rfl rfl)
theorem dX9_idle_25 : decode cX9_idle 25 = .ok (.iadd, 1) := dk_96 (dk_at dksX9_idle_1 1 rfl rfl)
theorem dX9_idle_26 : decode cX9_idle 26 = .ok (.aload_n 0, 1) := dk_42 (dk_at dksX9_idle_1 2 rfl rfl)
theorem dX9_idle_27 : decode cX9_idle 27 = .ok (.invokevirtual 244, 3) := dk_182 0 244 (dk_at dksX9_idle_1 3 rfl rfl)
theorem dX9_idle_30 : decode cX9_idle 30 = .ok (.if_icmp .gt 36, 3) := dk_163 0 36 (dk_at dksX9_idle_1 6 rfl rfl)
theorem dX9_idle_33 : decode cX9_idle 33 = .ok (.aload_n 0, 1) := dk_42 (dk_at dksX9_idle_1 9 rfl rfl)
theorem dX9_idle_34 : decode cX9_idle 34 = .ok (.iload_n 3, 1) := dk_29 (dk_at dksX9_idle_1 10 rfl rfl)
theorem dX9_idle_35 : decode cX9_idle 35 = .ok (.iload_n 3, 1) := dk_29 (dk_at dksX9_idle_1 11 rfl rfl)
theorem dX9_idle_36 : decode cX9_idle 36 = .ok (.iload_n 2, 1) := dk_28 (dk_at dksX9_idle_1 12 rfl rfl)
theorem dX9_idle_37 : decode cX9_idle 37 = .ok (.iadd, 1) := dk_96 (dk_at dksX9_idle_1 13 rfl rfl)
theorem dX9_idle_38 : decode cX9_idle 38 = .ok (.iconst 1, 1) := dk_4 (dk_at dksX9_idle_1 14 rfl rfl)
theorem dX9_idle_39 : decode cX9_idle 39 = .ok (.isub, 1) := dk_100 (dk_at dksX9_idle_1 15 rfl rfl)
theorem dX9_idle_40 : decode cX9_idle 40 = .ok (.invokevirtual 400, 3) := dk_182 1 144 (dk_at dksX9_idle_1 16 rfl rfl)
theorem dX9_idle_43 : decode cX9_idle 43 = .ok (.ifCond .eq 17, 3) := dk_153 0 17 (dk_at dksX9_idle_1 19 rfl rfl)
theorem dX9_idle_46 : decode cX9_idle 46 = .ok (.iload_n 1, 1) := dk_27 (dk_at dksX9_idle_1 22 rfl rfl)
theorem dX9_idle_47 : decode cX9_idle 47 = .ok (.ifCond .ne 7, 3) := dk_154 0 7 (dk_at dksX9_idle_2 0 rfl rfl)
theorem dX9_idle_50 : decode cX9_idle 50 = .ok (.iload_n 3, 1) := dk_29 (dk_at dksX9_idle_2 3 rfl rfl)
theorem dX9_idle_51 : decode cX9_idle 51 = .ok (.goto 8, 3) := dk_167 0 8 (dk_at dksX9_idle_2 4 rfl rfl)
theorem dX9_idle_54 : decode cX9_idle 54 = .ok (.iload_n 3, 1) := dk_29 (dk_at dksX9_idle_2 7 rfl rfl)
theorem dX9_idle_55 : decode cX9_idle 55 = .ok (.iload_n 2, 1) := dk_28 (dk_at dksX9_idle_2 8 rfl rfl)
theorem dX9_idle_56 : decode cX9_idle 56 = .ok (.iadd, 1) := dk_96 (dk_at dksX9_idle_2 9 rfl rfl)
theorem dX9_idle_57 : decode cX9_idle 57 = .ok (.iconst 1, 1) := dk_4 (dk_at dksX9_idle_2 10 rfl rfl)
theorem dX9_idle_58 : decode cX9_idle 58 = .ok (.isub, 1) := dk_100 (dk_at dksX9_idle_2 11 rfl rfl)
theorem dX9_idle_59 : decode cX9_idle 59 = .ok (.ireturn, 1) := dk_172 (dk_at dksX9_idle_2 12 rfl rfl)
theorem dX9_idle_60 : decode cX9_idle 60 = .ok (.iinc 3 1, 3) := dk_132 3 1 (dk_at dksX9_idle_2 13 rfl rfl)
theorem dX9_idle_63 : decode cX9_idle 63 = .ok (.goto (-40), 3) := dk_167 255 216 (dk_at dksX9_idle_2 16 rfl rfl)
theorem dX9_idle_66 : decode cX9_idle 66 = .ok (.iinc 2 1, 3) := dk_132 2 1 (dk_at dksX9_idle_2 19 rfl rfl)
theorem dX9_idle_69 : decode cX9_idle 69 = .ok (.goto (-56), 3) := dk_167 255 200 (dk_at dksX9_idle_3 0 rfl rfl)
theorem dX9_idle_72 : decode cX9_idle 72 = .ok (.bipush (-2), 2) := dk_16 254 (dk_at dksX9_idle_3 3 rfl rfl)
theorem dX9_idle_74 : decode cX9_idle 74 = .ok (.ireturn, 1) := dk_172 (dk_at dksX9_idle_3 5 rfl rfl)
abbrev cX9_isIdle : ByteArray := prog_13_method_92_code
def yX9_isIdle : MethodName := ⟨RX9, "isIdle", "(II)Z"⟩
def dkwX9_isIdle_1 : List UInt8 := [172, 132, 3, 1, 167, 255, 230, 4, 172]
abbrev dktX9_isIdle_1 : List UInt8 := dkwX9_isIdle_1 ++ []
def dkwX9_isIdle_0 : List UInt8 := [3, 62, 29, 42, 182, 0, 248, 162, 0, 24, 42, 29, 27, 28, 4, 96, 182, 1, 51, 29, 159, 0, 5, 3]
abbrev dktX9_isIdle_0 : List UInt8 := dkwX9_isIdle_0 ++ dktX9_isIdle_1
theorem dksX9_isIdle_0 : cX9_isIdle.data.toList.drop 0 = dktX9_isIdle_0 := by decide +kernel
theorem dksX9_isIdle_1 : cX9_isIdle.data.toList.drop 24 = dktX9_isIdle_1 := dk_seg dksX9_isIdle_0 24 rfl rfl
theorem dX9_isIdle_0 : decode cX9_isIdle 0 = .ok (.iconst 0, 1) := dk_3 (dk_at dksX9_isIdle_0 0 rfl rfl)
theorem dX9_isIdle_1 : decode cX9_isIdle 1 = .ok (.istore_n 3, 1) := dk_62 (dk_at dksX9_isIdle_0 1 rfl rfl)
theorem dX9_isIdle_2 : decode cX9_isIdle 2 = .ok (.iload_n 3, 1) := dk_29 (dk_at dksX9_isIdle_0 2 rfl rfl)
theorem dX9_isIdle_3 : decode cX9_isIdle 3 = .ok (.aload_n 0, 1) := dk_42 (dk_at dksX9_isIdle_0 3 rfl rfl)
theorem dX9_isIdle_4 : decode cX9_isIdle 4 = .ok (.invokevirtual 248, 3) := dk_182 0 248 (dk_at dksX9_isIdle_0 4 rfl rfl)
theorem dX9_isIdle_7 : decode cX9_isIdle 7 = .ok (.if_icmp .ge 24, 3) := dk_162 0 24 (dk_at dksX9_isIdle_0 7 rfl rfl)
theorem dX9_isIdle_10 : decode cX9_isIdle 10 = .ok (.aload_n 0, 1) := dk_42 (dk_at dksX9_isIdle_0 10 rfl rfl)
theorem dX9_isIdle_11 : decode cX9_isIdle 11 = .ok (.iload_n 3, 1) := dk_29 (dk_at dksX9_isIdle_0 11 rfl rfl)
theorem dX9_isIdle_12 : decode cX9_isIdle 12 = .ok (.iload_n 1, 1) := dk_27 (dk_at dksX9_isIdle_0 12 rfl rfl)
theorem dX9_isIdle_13 : decode cX9_isIdle 13 = .ok (.iload_n 2, 1) := dk_28 (dk_at dksX9_isIdle_0 13 rfl rfl)
theorem dX9_isIdle_14 : decode cX9_isIdle 14 = .ok (.iconst 1, 1) := dk_4 (dk_at dksX9_isIdle_0 14 rfl rfl)
theorem dX9_isIdle_15 : decode cX9_isIdle 15 = .ok (.iadd, 1) := dk_96 (dk_at dksX9_isIdle_0 15 rfl rfl)
theorem dX9_isIdle_16 : decode cX9_isIdle 16 = .ok (.invokevirtual 307, 3) := dk_182 1 51 (dk_at dksX9_isIdle_0 16 rfl rfl)
theorem dX9_isIdle_19 : decode cX9_isIdle 19 = .ok (.iload_n 3, 1) := dk_29 (dk_at dksX9_isIdle_0 19 rfl rfl)
theorem dX9_isIdle_20 : decode cX9_isIdle 20 = .ok (.if_icmp .eq 5, 3) := dk_159 0 5 (dk_at dksX9_isIdle_0 20 rfl rfl)
theorem dX9_isIdle_23 : decode cX9_isIdle 23 = .ok (.iconst 0, 1) := dk_3 (dk_at dksX9_isIdle_0 23 rfl rfl)
theorem dX9_isIdle_24 : decode cX9_isIdle 24 = .ok (.ireturn, 1) := dk_172 (dk_at dksX9_isIdle_1 0 rfl rfl)
theorem dX9_isIdle_25 : decode cX9_isIdle 25 = .ok (.iinc 3 1, 3) := dk_132 3 1 (dk_at dksX9_isIdle_1 1 rfl rfl)
theorem dX9_isIdle_28 : decode cX9_isIdle 28 = .ok (.goto (-26), 3) := dk_167 255 230 (dk_at dksX9_isIdle_1 4 rfl rfl)
theorem dX9_isIdle_31 : decode cX9_isIdle 31 = .ok (.iconst 1, 1) := dk_4 (dk_at dksX9_isIdle_1 7 rfl rfl)
theorem dX9_isIdle_32 : decode cX9_isIdle 32 = .ok (.ireturn, 1) := dk_172 (dk_at dksX9_isIdle_1 8 rfl rfl)
abbrev cX9_table : ByteArray := prog_13_method_98_code
def yX9_table : MethodName := ⟨RX9, "table", "(I)I"⟩
def dkwX9_table_4 : List UInt8 := [160, 0, 7, 4, 167, 0, 4, 3, 182, 1, 33, 42, 180, 1, 40, 172, 2, 172]
abbrev dktX9_table_4 : List UInt8 := dkwX9_table_4 ++ []
def dkwX9_table_3 : List UInt8 := [172, 42, 182, 1, 153, 42, 180, 0, 209, 100, 172, 42, 182, 1, 156, 42, 42, 182, 1, 153, 27, 16, 7]
abbrev dktX9_table_3 : List UInt8 := dkwX9_table_3 ++ dktX9_table_4
def dkwX9_table_2 : List UInt8 := [42, 180, 0, 209, 172, 42, 180, 0, 215, 172, 42, 182, 1, 147, 172, 42, 182, 1, 150, 172, 42, 182, 1, 153]
abbrev dktX9_table_2 : List UInt8 := dkwX9_table_2 ++ dktX9_table_3
def dkwX9_table_1 : List UInt8 := [170, 0, 0, 0, 0, 109, 0, 0, 0, 0, 0, 0, 0, 7, 0, 0, 0, 46, 0, 0, 0, 51, 0, 0, 0, 56, 0, 0, 0, 61, 0, 0, 0, 66, 0, 0, 0, 71, 0, 0, 0, 81, 0, 0, 0, 81]
abbrev dktX9_table_1 : List UInt8 := dkwX9_table_1 ++ dktX9_table_2
def dkwX9_table_0 : List UInt8 := [42, 180, 0, 209, 154, 0, 5, 2, 172, 27]
abbrev dktX9_table_0 : List UInt8 := dkwX9_table_0 ++ dktX9_table_1
theorem dksX9_table_0 : cX9_table.data.toList.drop 0 = dktX9_table_0 := by decide +kernel
theorem dksX9_table_1 : cX9_table.data.toList.drop 10 = dktX9_table_1 := dk_seg dksX9_table_0 10 rfl rfl
theorem dksX9_table_2 : cX9_table.data.toList.drop 56 = dktX9_table_2 := dk_seg dksX9_table_1 46 rfl rfl
theorem dksX9_table_3 : cX9_table.data.toList.drop 80 = dktX9_table_3 := dk_seg dksX9_table_2 24 rfl rfl
theorem dksX9_table_4 : cX9_table.data.toList.drop 103 = dktX9_table_4 := dk_seg dksX9_table_3 23 rfl rfl
theorem dX9_table_0 : decode cX9_table 0 = .ok (.aload_n 0, 1) := dk_42 (dk_at dksX9_table_0 0 rfl rfl)
theorem dX9_table_1 : decode cX9_table 1 = .ok (.getfield 209, 3) := dk_180 0 209 (dk_at dksX9_table_0 1 rfl rfl)
theorem dX9_table_4 : decode cX9_table 4 = .ok (.ifCond .ne 5, 3) := dk_154 0 5 (dk_at dksX9_table_0 4 rfl rfl)
theorem dX9_table_7 : decode cX9_table 7 = .ok (.iconst (-1), 1) := dk_2 (dk_at dksX9_table_0 7 rfl rfl)
theorem dX9_table_8 : decode cX9_table 8 = .ok (.ireturn, 1) := dk_172 (dk_at dksX9_table_0 8 rfl rfl)
theorem dX9_table_9 : decode cX9_table 9 = .ok (.iload_n 1, 1) := dk_27 (dk_at dksX9_table_0 9 rfl rfl)
theorem dX9_table_10 : decode cX9_table 10 = .ok (.tableswitch 109 0 7 #[46, 51, 56, 61, 66, 71, 81, 81], 46) := by decide +kernel
theorem dX9_table_56 : decode cX9_table 56 = .ok (.aload_n 0, 1) := dk_42 (dk_at dksX9_table_2 0 rfl rfl)
theorem dX9_table_57 : decode cX9_table 57 = .ok (.getfield 209, 3) := dk_180 0 209 (dk_at dksX9_table_2 1 rfl rfl)
theorem dX9_table_60 : decode cX9_table 60 = .ok (.ireturn, 1) := dk_172 (dk_at dksX9_table_2 4 rfl rfl)
theorem dX9_table_61 : decode cX9_table 61 = .ok (.aload_n 0, 1) := dk_42 (dk_at dksX9_table_2 5 rfl rfl)
theorem dX9_table_62 : decode cX9_table 62 = .ok (.getfield 215, 3) := dk_180 0 215 (dk_at dksX9_table_2 6 rfl rfl)
theorem dX9_table_65 : decode cX9_table 65 = .ok (.ireturn, 1) := dk_172 (dk_at dksX9_table_2 9 rfl rfl)
theorem dX9_table_66 : decode cX9_table 66 = .ok (.aload_n 0, 1) := dk_42 (dk_at dksX9_table_2 10 rfl rfl)
theorem dX9_table_67 : decode cX9_table 67 = .ok (.invokevirtual 403, 3) := dk_182 1 147 (dk_at dksX9_table_2 11 rfl rfl)
theorem dX9_table_70 : decode cX9_table 70 = .ok (.ireturn, 1) := dk_172 (dk_at dksX9_table_2 14 rfl rfl)
theorem dX9_table_71 : decode cX9_table 71 = .ok (.aload_n 0, 1) := dk_42 (dk_at dksX9_table_2 15 rfl rfl)
theorem dX9_table_72 : decode cX9_table 72 = .ok (.invokevirtual 406, 3) := dk_182 1 150 (dk_at dksX9_table_2 16 rfl rfl)
theorem dX9_table_75 : decode cX9_table 75 = .ok (.ireturn, 1) := dk_172 (dk_at dksX9_table_2 19 rfl rfl)
theorem dX9_table_76 : decode cX9_table 76 = .ok (.aload_n 0, 1) := dk_42 (dk_at dksX9_table_2 20 rfl rfl)
theorem dX9_table_77 : decode cX9_table 77 = .ok (.invokevirtual 409, 3) := dk_182 1 153 (dk_at dksX9_table_2 21 rfl rfl)
theorem dX9_table_80 : decode cX9_table 80 = .ok (.ireturn, 1) := dk_172 (dk_at dksX9_table_3 0 rfl rfl)
theorem dX9_table_81 : decode cX9_table 81 = .ok (.aload_n 0, 1) := dk_42 (dk_at dksX9_table_3 1 rfl rfl)
theorem dX9_table_82 : decode cX9_table 82 = .ok (.invokevirtual 409, 3) := dk_182 1 153 (dk_at dksX9_table_3 2 rfl rfl)
theorem dX9_table_85 : decode cX9_table 85 = .ok (.aload_n 0, 1) := dk_42 (dk_at dksX9_table_3 5 rfl rfl)
theorem dX9_table_86 : decode cX9_table 86 = .ok (.getfield 209, 3) := dk_180 0 209 (dk_at dksX9_table_3 6 rfl rfl)
theorem dX9_table_89 : decode cX9_table 89 = .ok (.isub, 1) := dk_100 (dk_at dksX9_table_3 9 rfl rfl)
theorem dX9_table_90 : decode cX9_table 90 = .ok (.ireturn, 1) := dk_172 (dk_at dksX9_table_3 10 rfl rfl)
theorem dX9_table_91 : decode cX9_table 91 = .ok (.aload_n 0, 1) := dk_42 (dk_at dksX9_table_3 11 rfl rfl)
theorem dX9_table_92 : decode cX9_table 92 = .ok (.invokevirtual 412, 3) := dk_182 1 156 (dk_at dksX9_table_3 12 rfl rfl)
theorem dX9_table_95 : decode cX9_table 95 = .ok (.aload_n 0, 1) := dk_42 (dk_at dksX9_table_3 15 rfl rfl)
theorem dX9_table_96 : decode cX9_table 96 = .ok (.aload_n 0, 1) := dk_42 (dk_at dksX9_table_3 16 rfl rfl)
theorem dX9_table_97 : decode cX9_table 97 = .ok (.invokevirtual 409, 3) := dk_182 1 153 (dk_at dksX9_table_3 17 rfl rfl)
theorem dX9_table_100 : decode cX9_table 100 = .ok (.iload_n 1, 1) := dk_27 (dk_at dksX9_table_3 20 rfl rfl)
theorem dX9_table_101 : decode cX9_table 101 = .ok (.bipush 7, 2) := dk_16 7 (dk_at dksX9_table_3 21 rfl rfl)
theorem dX9_table_103 : decode cX9_table 103 = .ok (.if_icmp .ne 7, 3) := dk_160 0 7 (dk_at dksX9_table_4 0 rfl rfl)
theorem dX9_table_106 : decode cX9_table 106 = .ok (.iconst 1, 1) := dk_4 (dk_at dksX9_table_4 3 rfl rfl)
theorem dX9_table_107 : decode cX9_table 107 = .ok (.goto 4, 3) := dk_167 0 4 (dk_at dksX9_table_4 4 rfl rfl)
theorem dX9_table_110 : decode cX9_table 110 = .ok (.iconst 0, 1) := dk_3 (dk_at dksX9_table_4 7 rfl rfl)
theorem dX9_table_111 : decode cX9_table 111 = .ok (.invokevirtual 289, 3) := dk_182 1 33 (dk_at dksX9_table_4 8 rfl rfl)
theorem dX9_table_114 : decode cX9_table 114 = .ok (.aload_n 0, 1) := dk_42 (dk_at dksX9_table_4 11 rfl rfl)
theorem dX9_table_115 : decode cX9_table 115 = .ok (.getfield 296, 3) := dk_180 1 40 (dk_at dksX9_table_4 12 rfl rfl)
theorem dX9_table_118 : decode cX9_table 118 = .ok (.ireturn, 1) := dk_172 (dk_at dksX9_table_4 15 rfl rfl)
theorem dX9_table_119 : decode cX9_table 119 = .ok (.iconst (-1), 1) := dk_2 (dk_at dksX9_table_4 16 rfl rfl)
theorem dX9_table_120 : decode cX9_table 120 = .ok (.ireturn, 1) := dk_172 (dk_at dksX9_table_4 17 rfl rfl)
abbrev cX9_copies : ByteArray := prog_13_method_94_code
def yX9_copies : MethodName := ⟨RX9, "copies", "()I"⟩
def dkwX9_copies_2 : List UInt8 := [27, 164, 0, 5, 29, 60, 132, 2, 1, 167, 255, 204, 27, 172]
abbrev dktX9_copies_2 : List UInt8 := dkwX9_copies_2 ++ []
def dkwX9_copies_1 : List UInt8 := [162, 0, 23, 42, 180, 0, 43, 21, 4, 46, 28, 160, 0, 6, 132, 3, 1, 132, 4, 1, 167, 255, 228, 29]
abbrev dktX9_copies_1 : List UInt8 := dkwX9_copies_1 ++ dktX9_copies_2
def dkwX9_copies_0 : List UInt8 := [3, 60, 3, 61, 28, 16, 8, 162, 0, 52, 3, 62, 3, 54, 4, 21, 4, 4, 42, 180, 0, 209, 120]
abbrev dktX9_copies_0 : List UInt8 := dkwX9_copies_0 ++ dktX9_copies_1
theorem dksX9_copies_0 : cX9_copies.data.toList.drop 0 = dktX9_copies_0 := by decide +kernel
theorem dksX9_copies_1 : cX9_copies.data.toList.drop 23 = dktX9_copies_1 := dk_seg dksX9_copies_0 23 rfl rfl
theorem dksX9_copies_2 : cX9_copies.data.toList.drop 47 = dktX9_copies_2 := dk_seg dksX9_copies_1 24 rfl rfl
theorem dX9_copies_0 : decode cX9_copies 0 = .ok (.iconst 0, 1) := dk_3 (dk_at dksX9_copies_0 0 rfl rfl)
theorem dX9_copies_1 : decode cX9_copies 1 = .ok (.istore_n 1, 1) := dk_60 (dk_at dksX9_copies_0 1 rfl rfl)
theorem dX9_copies_2 : decode cX9_copies 2 = .ok (.iconst 0, 1) := dk_3 (dk_at dksX9_copies_0 2 rfl rfl)
theorem dX9_copies_3 : decode cX9_copies 3 = .ok (.istore_n 2, 1) := dk_61 (dk_at dksX9_copies_0 3 rfl rfl)
theorem dX9_copies_4 : decode cX9_copies 4 = .ok (.iload_n 2, 1) := dk_28 (dk_at dksX9_copies_0 4 rfl rfl)
theorem dX9_copies_5 : decode cX9_copies 5 = .ok (.bipush 8, 2) := dk_16 8 (dk_at dksX9_copies_0 5 rfl rfl)
theorem dX9_copies_7 : decode cX9_copies 7 = .ok (.if_icmp .ge 52, 3) := dk_162 0 52 (dk_at dksX9_copies_0 7 rfl rfl)
theorem dX9_copies_10 : decode cX9_copies 10 = .ok (.iconst 0, 1) := dk_3 (dk_at dksX9_copies_0 10 rfl rfl)
theorem dX9_copies_11 : decode cX9_copies 11 = .ok (.istore_n 3, 1) := dk_62 (dk_at dksX9_copies_0 11 rfl rfl)
theorem dX9_copies_12 : decode cX9_copies 12 = .ok (.iconst 0, 1) := dk_3 (dk_at dksX9_copies_0 12 rfl rfl)
theorem dX9_copies_13 : decode cX9_copies 13 = .ok (.istore 4, 2) := dk_54 4 (dk_at dksX9_copies_0 13 rfl rfl)
theorem dX9_copies_15 : decode cX9_copies 15 = .ok (.iload 4, 2) := dk_21 4 (dk_at dksX9_copies_0 15 rfl rfl)
theorem dX9_copies_17 : decode cX9_copies 17 = .ok (.iconst 1, 1) := dk_4 (dk_at dksX9_copies_0 17 rfl rfl)
theorem dX9_copies_18 : decode cX9_copies 18 = .ok (.aload_n 0, 1) := dk_42 (dk_at dksX9_copies_0 18 rfl rfl)
theorem dX9_copies_19 : decode cX9_copies 19 = .ok (.getfield 209, 3) := dk_180 0 209 (dk_at dksX9_copies_0 19 rfl rfl)
theorem dX9_copies_22 : decode cX9_copies 22 = .ok (.ishl, 1) := dk_120 (dk_at dksX9_copies_0 22 rfl rfl)
theorem dX9_copies_23 : decode cX9_copies 23 = .ok (.if_icmp .ge 23, 3) := dk_162 0 23 (dk_at dksX9_copies_1 0 rfl rfl)
theorem dX9_copies_26 : decode cX9_copies 26 = .ok (.aload_n 0, 1) := dk_42 (dk_at dksX9_copies_1 3 rfl rfl)
theorem dX9_copies_27 : decode cX9_copies 27 = .ok (.getfield 43, 3) := dk_180 0 43 (dk_at dksX9_copies_1 4 rfl rfl)
theorem dX9_copies_30 : decode cX9_copies 30 = .ok (.iload 4, 2) := dk_21 4 (dk_at dksX9_copies_1 7 rfl rfl)
theorem dX9_copies_32 : decode cX9_copies 32 = .ok (.iaload, 1) := dk_46 (dk_at dksX9_copies_1 9 rfl rfl)
theorem dX9_copies_33 : decode cX9_copies 33 = .ok (.iload_n 2, 1) := dk_28 (dk_at dksX9_copies_1 10 rfl rfl)
theorem dX9_copies_34 : decode cX9_copies 34 = .ok (.if_icmp .ne 6, 3) := dk_160 0 6 (dk_at dksX9_copies_1 11 rfl rfl)
theorem dX9_copies_37 : decode cX9_copies 37 = .ok (.iinc 3 1, 3) := dk_132 3 1 (dk_at dksX9_copies_1 14 rfl rfl)
theorem dX9_copies_40 : decode cX9_copies 40 = .ok (.iinc 4 1, 3) := dk_132 4 1 (dk_at dksX9_copies_1 17 rfl rfl)
theorem dX9_copies_43 : decode cX9_copies 43 = .ok (.goto (-28), 3) := dk_167 255 228 (dk_at dksX9_copies_1 20 rfl rfl)
theorem dX9_copies_46 : decode cX9_copies 46 = .ok (.iload_n 3, 1) := dk_29 (dk_at dksX9_copies_1 23 rfl rfl)
theorem dX9_copies_47 : decode cX9_copies 47 = .ok (.iload_n 1, 1) := dk_27 (dk_at dksX9_copies_2 0 rfl rfl)
theorem dX9_copies_48 : decode cX9_copies 48 = .ok (.if_icmp .le 5, 3) := dk_164 0 5 (dk_at dksX9_copies_2 1 rfl rfl)
theorem dX9_copies_51 : decode cX9_copies 51 = .ok (.iload_n 3, 1) := dk_29 (dk_at dksX9_copies_2 4 rfl rfl)
theorem dX9_copies_52 : decode cX9_copies 52 = .ok (.istore_n 1, 1) := dk_60 (dk_at dksX9_copies_2 5 rfl rfl)
theorem dX9_copies_53 : decode cX9_copies 53 = .ok (.iinc 2 1, 3) := dk_132 2 1 (dk_at dksX9_copies_2 6 rfl rfl)
theorem dX9_copies_56 : decode cX9_copies 56 = .ok (.goto (-52), 3) := dk_167 255 204 (dk_at dksX9_copies_2 9 rfl rfl)
theorem dX9_copies_59 : decode cX9_copies 59 = .ok (.iload_n 1, 1) := dk_27 (dk_at dksX9_copies_2 12 rfl rfl)
theorem dX9_copies_60 : decode cX9_copies 60 = .ok (.ireturn, 1) := dk_172 (dk_at dksX9_copies_2 13 rfl rfl)
abbrev cX9_garbage : ByteArray := prog_13_method_95_code
def yX9_garbage : MethodName := ⟨RX9, "garbage", "()I"⟩
def dkwX9_garbage_0 : List UInt8 := [3, 60, 4, 27, 120, 42, 182, 1, 147, 162, 0, 9, 132, 1, 1, 167, 255, 243, 27, 172]
abbrev dktX9_garbage_0 : List UInt8 := dkwX9_garbage_0 ++ []
theorem dksX9_garbage_0 : cX9_garbage.data.toList.drop 0 = dktX9_garbage_0 := by decide +kernel
theorem dX9_garbage_0 : decode cX9_garbage 0 = .ok (.iconst 0, 1) := dk_3 (dk_at dksX9_garbage_0 0 rfl rfl)
theorem dX9_garbage_1 : decode cX9_garbage 1 = .ok (.istore_n 1, 1) := dk_60 (dk_at dksX9_garbage_0 1 rfl rfl)
theorem dX9_garbage_2 : decode cX9_garbage 2 = .ok (.iconst 1, 1) := dk_4 (dk_at dksX9_garbage_0 2 rfl rfl)
theorem dX9_garbage_3 : decode cX9_garbage 3 = .ok (.iload_n 1, 1) := dk_27 (dk_at dksX9_garbage_0 3 rfl rfl)
theorem dX9_garbage_4 : decode cX9_garbage 4 = .ok (.ishl, 1) := dk_120 (dk_at dksX9_garbage_0 4 rfl rfl)
theorem dX9_garbage_5 : decode cX9_garbage 5 = .ok (.aload_n 0, 1) := dk_42 (dk_at dksX9_garbage_0 5 rfl rfl)
theorem dX9_garbage_6 : decode cX9_garbage 6 = .ok (.invokevirtual 403, 3) := dk_182 1 147 (dk_at dksX9_garbage_0 6 rfl rfl)
theorem dX9_garbage_9 : decode cX9_garbage 9 = .ok (.if_icmp .ge 9, 3) := dk_162 0 9 (dk_at dksX9_garbage_0 9 rfl rfl)
theorem dX9_garbage_12 : decode cX9_garbage 12 = .ok (.iinc 1 1, 3) := dk_132 1 1 (dk_at dksX9_garbage_0 12 rfl rfl)
theorem dX9_garbage_15 : decode cX9_garbage 15 = .ok (.goto (-13), 3) := dk_167 255 243 (dk_at dksX9_garbage_0 15 rfl rfl)
theorem dX9_garbage_18 : decode cX9_garbage 18 = .ok (.iload_n 1, 1) := dk_27 (dk_at dksX9_garbage_0 18 rfl rfl)
theorem dX9_garbage_19 : decode cX9_garbage 19 = .ok (.ireturn, 1) := dk_172 (dk_at dksX9_garbage_0 19 rfl rfl)
abbrev cX9_lines : ByteArray := prog_13_method_96_code
def yX9_lines : MethodName := ⟨RX9, "lines", "()I"⟩
def dkwX9_lines_1 : List UInt8 := [167, 0, 4, 27, 172]
abbrev dktX9_lines_1 : List UInt8 := dkwX9_lines_1 ++ []
def dkwX9_lines_0 : List UInt8 := [42, 180, 0, 215, 42, 182, 1, 150, 96, 60, 42, 180, 0, 209, 27, 164, 0, 10, 42, 180, 0, 209]
abbrev dktX9_lines_0 : List UInt8 := dkwX9_lines_0 ++ dktX9_lines_1
theorem dksX9_lines_0 : cX9_lines.data.toList.drop 0 = dktX9_lines_0 := by decide +kernel
theorem dksX9_lines_1 : cX9_lines.data.toList.drop 22 = dktX9_lines_1 := dk_seg dksX9_lines_0 22 rfl rfl
theorem dX9_lines_0 : decode cX9_lines 0 = .ok (.aload_n 0, 1) := dk_42 (dk_at dksX9_lines_0 0 rfl rfl)
theorem dX9_lines_1 : decode cX9_lines 1 = .ok (.getfield 215, 3) := dk_180 0 215 (dk_at dksX9_lines_0 1 rfl rfl)
theorem dX9_lines_4 : decode cX9_lines 4 = .ok (.aload_n 0, 1) := dk_42 (dk_at dksX9_lines_0 4 rfl rfl)
theorem dX9_lines_5 : decode cX9_lines 5 = .ok (.invokevirtual 406, 3) := dk_182 1 150 (dk_at dksX9_lines_0 5 rfl rfl)
theorem dX9_lines_8 : decode cX9_lines 8 = .ok (.iadd, 1) := dk_96 (dk_at dksX9_lines_0 8 rfl rfl)
theorem dX9_lines_9 : decode cX9_lines 9 = .ok (.istore_n 1, 1) := dk_60 (dk_at dksX9_lines_0 9 rfl rfl)
theorem dX9_lines_10 : decode cX9_lines 10 = .ok (.aload_n 0, 1) := dk_42 (dk_at dksX9_lines_0 10 rfl rfl)
theorem dX9_lines_11 : decode cX9_lines 11 = .ok (.getfield 209, 3) := dk_180 0 209 (dk_at dksX9_lines_0 11 rfl rfl)
theorem dX9_lines_14 : decode cX9_lines 14 = .ok (.iload_n 1, 1) := dk_27 (dk_at dksX9_lines_0 14 rfl rfl)
theorem dX9_lines_15 : decode cX9_lines 15 = .ok (.if_icmp .le 10, 3) := dk_164 0 10 (dk_at dksX9_lines_0 15 rfl rfl)
theorem dX9_lines_18 : decode cX9_lines 18 = .ok (.aload_n 0, 1) := dk_42 (dk_at dksX9_lines_0 18 rfl rfl)
theorem dX9_lines_19 : decode cX9_lines 19 = .ok (.getfield 209, 3) := dk_180 0 209 (dk_at dksX9_lines_0 19 rfl rfl)
theorem dX9_lines_22 : decode cX9_lines 22 = .ok (.goto 4, 3) := dk_167 0 4 (dk_at dksX9_lines_1 0 rfl rfl)
theorem dX9_lines_25 : decode cX9_lines 25 = .ok (.iload_n 1, 1) := dk_27 (dk_at dksX9_lines_1 3 rfl rfl)
theorem dX9_lines_26 : decode cX9_lines 26 = .ok (.ireturn, 1) := dk_172 (dk_at dksX9_lines_1 4 rfl rfl)
abbrev cX9_laysTold : ByteArray := prog_13_method_97_code
def yX9_laysTold : MethodName := ⟨RX9, "laysTold", "()V"⟩
def dkwX9_laysTold_6 : List UInt8 := [167, 255, 244, 42, 180, 0, 68, 29, 28, 79, 132, 2, 1, 132, 3, 1, 167, 255, 223, 177]
abbrev dktX9_laysTold_6 : List UInt8 := dkwX9_laysTold_6 ++ []
def dkwX9_laysTold_5 : List UInt8 := [180, 0, 209, 120, 62, 29, 27, 162, 0, 34, 42, 180, 0, 120, 28, 51, 153, 0, 9, 132, 2, 1]
abbrev dktX9_laysTold_5 : List UInt8 := dkwX9_laysTold_5 ++ dktX9_laysTold_6
def dkwX9_laysTold_4 : List UInt8 := [79, 42, 180, 0, 120, 42, 180, 0, 68, 28, 46, 4, 84, 132, 2, 1, 167, 255, 176, 3, 61, 4, 42]
abbrev dktX9_laysTold_4 : List UInt8 := dkwX9_laysTold_4 ++ dktX9_laysTold_5
def dkwX9_laysTold_3 : List UInt8 := [132, 4, 1, 167, 255, 228, 42, 180, 0, 68, 28, 42, 180, 0, 43, 28, 46, 29, 42, 180, 0, 215, 120, 96]
abbrev dktX9_laysTold_3 : List UInt8 := dkwX9_laysTold_3 ++ dktX9_laysTold_4
def dkwX9_laysTold_2 : List UInt8 := [162, 0, 28, 42, 180, 0, 43, 21, 4, 46, 42, 180, 0, 43, 28, 46, 160, 0, 6, 132, 3, 1]
abbrev dktX9_laysTold_2 : List UInt8 := dkwX9_laysTold_2 ++ dktX9_laysTold_3
def dkwX9_laysTold_1 : List UInt8 := [167, 255, 241, 3, 61, 28, 4, 42, 180, 0, 209, 120, 162, 0, 76, 3, 62, 3, 54, 4, 21, 4, 28]
abbrev dktX9_laysTold_1 : List UInt8 := dkwX9_laysTold_1 ++ dktX9_laysTold_2
def dkwX9_laysTold_0 : List UInt8 := [4, 42, 182, 1, 153, 120, 60, 3, 61, 28, 27, 162, 0, 16, 42, 180, 0, 120, 28, 3, 84, 132, 2, 1]
abbrev dktX9_laysTold_0 : List UInt8 := dkwX9_laysTold_0 ++ dktX9_laysTold_1
theorem dksX9_laysTold_0 : cX9_laysTold.data.toList.drop 0 = dktX9_laysTold_0 := by decide +kernel
theorem dksX9_laysTold_1 : cX9_laysTold.data.toList.drop 24 = dktX9_laysTold_1 := dk_seg dksX9_laysTold_0 24 rfl rfl
theorem dksX9_laysTold_2 : cX9_laysTold.data.toList.drop 47 = dktX9_laysTold_2 := dk_seg dksX9_laysTold_1 23 rfl rfl
theorem dksX9_laysTold_3 : cX9_laysTold.data.toList.drop 69 = dktX9_laysTold_3 := dk_seg dksX9_laysTold_2 22 rfl rfl
theorem dksX9_laysTold_4 : cX9_laysTold.data.toList.drop 93 = dktX9_laysTold_4 := dk_seg dksX9_laysTold_3 24 rfl rfl
theorem dksX9_laysTold_5 : cX9_laysTold.data.toList.drop 116 = dktX9_laysTold_5 := dk_seg dksX9_laysTold_4 23 rfl rfl
theorem dksX9_laysTold_6 : cX9_laysTold.data.toList.drop 138 = dktX9_laysTold_6 := dk_seg dksX9_laysTold_5 22 rfl rfl
theorem dX9_laysTold_0 : decode cX9_laysTold 0 = .ok (.iconst 1, 1) := dk_4 (dk_at dksX9_laysTold_0 0 rfl rfl)
theorem dX9_laysTold_1 : decode cX9_laysTold 1 = .ok (.aload_n 0, 1) := dk_42 (dk_at dksX9_laysTold_0 1 rfl rfl)
theorem dX9_laysTold_2 : decode cX9_laysTold 2 = .ok (.invokevirtual 409, 3) := dk_182 1 153 (dk_at dksX9_laysTold_0 2 rfl rfl)
theorem dX9_laysTold_5 : decode cX9_laysTold 5 = .ok (.ishl, 1) := dk_120 (dk_at dksX9_laysTold_0 5 rfl rfl)
theorem dX9_laysTold_6 : decode cX9_laysTold 6 = .ok (.istore_n 1, 1) := dk_60 (dk_at dksX9_laysTold_0 6 rfl rfl)
theorem dX9_laysTold_7 : decode cX9_laysTold 7 = .ok (.iconst 0, 1) := dk_3 (dk_at dksX9_laysTold_0 7 rfl rfl)
theorem dX9_laysTold_8 : decode cX9_laysTold 8 = .ok (.istore_n 2, 1) := dk_61 (dk_at dksX9_laysTold_0 8 rfl rfl)
theorem dX9_laysTold_9 : decode cX9_laysTold 9 = .ok (.iload_n 2, 1) := dk_28 (dk_at dksX9_laysTold_0 9 rfl rfl)
theorem dX9_laysTold_10 : decode cX9_laysTold 10 = .ok (.iload_n 1, 1) := dk_27 (dk_at dksX9_laysTold_0 10 rfl rfl)
theorem dX9_laysTold_11 : decode cX9_laysTold 11 = .ok (.if_icmp .ge 16, 3) := dk_162 0 16 (dk_at dksX9_laysTold_0 11 rfl rfl)
theorem dX9_laysTold_14 : decode cX9_laysTold 14 = .ok (.aload_n 0, 1) := dk_42 (dk_at dksX9_laysTold_0 14 rfl rfl)
theorem dX9_laysTold_15 : decode cX9_laysTold 15 = .ok (.getfield 120, 3) := dk_180 0 120 (dk_at dksX9_laysTold_0 15 rfl rfl)
theorem dX9_laysTold_18 : decode cX9_laysTold 18 = .ok (.iload_n 2, 1) := dk_28 (dk_at dksX9_laysTold_0 18 rfl rfl)
theorem dX9_laysTold_19 : decode cX9_laysTold 19 = .ok (.iconst 0, 1) := dk_3 (dk_at dksX9_laysTold_0 19 rfl rfl)
theorem dX9_laysTold_20 : decode cX9_laysTold 20 = .ok (.bastore, 1) := dk_84 (dk_at dksX9_laysTold_0 20 rfl rfl)
theorem dX9_laysTold_21 : decode cX9_laysTold 21 = .ok (.iinc 2 1, 3) := dk_132 2 1 (dk_at dksX9_laysTold_0 21 rfl rfl)
theorem dX9_laysTold_24 : decode cX9_laysTold 24 = .ok (.goto (-15), 3) := dk_167 255 241 (dk_at dksX9_laysTold_1 0 rfl rfl)
theorem dX9_laysTold_27 : decode cX9_laysTold 27 = .ok (.iconst 0, 1) := dk_3 (dk_at dksX9_laysTold_1 3 rfl rfl)
theorem dX9_laysTold_28 : decode cX9_laysTold 28 = .ok (.istore_n 2, 1) := dk_61 (dk_at dksX9_laysTold_1 4 rfl rfl)
theorem dX9_laysTold_29 : decode cX9_laysTold 29 = .ok (.iload_n 2, 1) := dk_28 (dk_at dksX9_laysTold_1 5 rfl rfl)
theorem dX9_laysTold_30 : decode cX9_laysTold 30 = .ok (.iconst 1, 1) := dk_4 (dk_at dksX9_laysTold_1 6 rfl rfl)
theorem dX9_laysTold_31 : decode cX9_laysTold 31 = .ok (.aload_n 0, 1) := dk_42 (dk_at dksX9_laysTold_1 7 rfl rfl)
theorem dX9_laysTold_32 : decode cX9_laysTold 32 = .ok (.getfield 209, 3) := dk_180 0 209 (dk_at dksX9_laysTold_1 8 rfl rfl)
theorem dX9_laysTold_35 : decode cX9_laysTold 35 = .ok (.ishl, 1) := dk_120 (dk_at dksX9_laysTold_1 11 rfl rfl)
theorem dX9_laysTold_36 : decode cX9_laysTold 36 = .ok (.if_icmp .ge 76, 3) := dk_162 0 76 (dk_at dksX9_laysTold_1 12 rfl rfl)
theorem dX9_laysTold_39 : decode cX9_laysTold 39 = .ok (.iconst 0, 1) := dk_3 (dk_at dksX9_laysTold_1 15 rfl rfl)
theorem dX9_laysTold_40 : decode cX9_laysTold 40 = .ok (.istore_n 3, 1) := dk_62 (dk_at dksX9_laysTold_1 16 rfl rfl)
theorem dX9_laysTold_41 : decode cX9_laysTold 41 = .ok (.iconst 0, 1) := dk_3 (dk_at dksX9_laysTold_1 17 rfl rfl)
theorem dX9_laysTold_42 : decode cX9_laysTold 42 = .ok (.istore 4, 2) := dk_54 4 (dk_at dksX9_laysTold_1 18 rfl rfl)
theorem dX9_laysTold_44 : decode cX9_laysTold 44 = .ok (.iload 4, 2) := dk_21 4 (dk_at dksX9_laysTold_1 20 rfl rfl)
theorem dX9_laysTold_46 : decode cX9_laysTold 46 = .ok (.iload_n 2, 1) := dk_28 (dk_at dksX9_laysTold_1 22 rfl rfl)
theorem dX9_laysTold_47 : decode cX9_laysTold 47 = .ok (.if_icmp .ge 28, 3) := dk_162 0 28 (dk_at dksX9_laysTold_2 0 rfl rfl)
theorem dX9_laysTold_50 : decode cX9_laysTold 50 = .ok (.aload_n 0, 1) := dk_42 (dk_at dksX9_laysTold_2 3 rfl rfl)
theorem dX9_laysTold_51 : decode cX9_laysTold 51 = .ok (.getfield 43, 3) := dk_180 0 43 (dk_at dksX9_laysTold_2 4 rfl rfl)
theorem dX9_laysTold_54 : decode cX9_laysTold 54 = .ok (.iload 4, 2) := dk_21 4 (dk_at dksX9_laysTold_2 7 rfl rfl)
theorem dX9_laysTold_56 : decode cX9_laysTold 56 = .ok (.iaload, 1) := dk_46 (dk_at dksX9_laysTold_2 9 rfl rfl)
theorem dX9_laysTold_57 : decode cX9_laysTold 57 = .ok (.aload_n 0, 1) := dk_42 (dk_at dksX9_laysTold_2 10 rfl rfl)
theorem dX9_laysTold_58 : decode cX9_laysTold 58 = .ok (.getfield 43, 3) := dk_180 0 43 (dk_at dksX9_laysTold_2 11 rfl rfl)
theorem dX9_laysTold_61 : decode cX9_laysTold 61 = .ok (.iload_n 2, 1) := dk_28 (dk_at dksX9_laysTold_2 14 rfl rfl)
theorem dX9_laysTold_62 : decode cX9_laysTold 62 = .ok (.iaload, 1) := dk_46 (dk_at dksX9_laysTold_2 15 rfl rfl)
theorem dX9_laysTold_63 : decode cX9_laysTold 63 = .ok (.if_icmp .ne 6, 3) := dk_160 0 6 (dk_at dksX9_laysTold_2 16 rfl rfl)
theorem dX9_laysTold_66 : decode cX9_laysTold 66 = .ok (.iinc 3 1, 3) := dk_132 3 1 (dk_at dksX9_laysTold_2 19 rfl rfl)
theorem dX9_laysTold_69 : decode cX9_laysTold 69 = .ok (.iinc 4 1, 3) := dk_132 4 1 (dk_at dksX9_laysTold_3 0 rfl rfl)
theorem dX9_laysTold_72 : decode cX9_laysTold 72 = .ok (.goto (-28), 3) := dk_167 255 228 (dk_at dksX9_laysTold_3 3 rfl rfl)
theorem dX9_laysTold_75 : decode cX9_laysTold 75 = .ok (.aload_n 0, 1) := dk_42 (dk_at dksX9_laysTold_3 6 rfl rfl)
theorem dX9_laysTold_76 : decode cX9_laysTold 76 = .ok (.getfield 68, 3) := dk_180 0 68 (dk_at dksX9_laysTold_3 7 rfl rfl)
theorem dX9_laysTold_79 : decode cX9_laysTold 79 = .ok (.iload_n 2, 1) := dk_28 (dk_at dksX9_laysTold_3 10 rfl rfl)
theorem dX9_laysTold_80 : decode cX9_laysTold 80 = .ok (.aload_n 0, 1) := dk_42 (dk_at dksX9_laysTold_3 11 rfl rfl)
theorem dX9_laysTold_81 : decode cX9_laysTold 81 = .ok (.getfield 43, 3) := dk_180 0 43 (dk_at dksX9_laysTold_3 12 rfl rfl)
theorem dX9_laysTold_84 : decode cX9_laysTold 84 = .ok (.iload_n 2, 1) := dk_28 (dk_at dksX9_laysTold_3 15 rfl rfl)
theorem dX9_laysTold_85 : decode cX9_laysTold 85 = .ok (.iaload, 1) := dk_46 (dk_at dksX9_laysTold_3 16 rfl rfl)
theorem dX9_laysTold_86 : decode cX9_laysTold 86 = .ok (.iload_n 3, 1) := dk_29 (dk_at dksX9_laysTold_3 17 rfl rfl)
theorem dX9_laysTold_87 : decode cX9_laysTold 87 = .ok (.aload_n 0, 1) := dk_42 (dk_at dksX9_laysTold_3 18 rfl rfl)
theorem dX9_laysTold_88 : decode cX9_laysTold 88 = .ok (.getfield 215, 3) := dk_180 0 215 (dk_at dksX9_laysTold_3 19 rfl rfl)
theorem dX9_laysTold_91 : decode cX9_laysTold 91 = .ok (.ishl, 1) := dk_120 (dk_at dksX9_laysTold_3 22 rfl rfl)
theorem dX9_laysTold_92 : decode cX9_laysTold 92 = .ok (.iadd, 1) := dk_96 (dk_at dksX9_laysTold_3 23 rfl rfl)
theorem dX9_laysTold_93 : decode cX9_laysTold 93 = .ok (.iastore, 1) := dk_79 (dk_at dksX9_laysTold_4 0 rfl rfl)
theorem dX9_laysTold_94 : decode cX9_laysTold 94 = .ok (.aload_n 0, 1) := dk_42 (dk_at dksX9_laysTold_4 1 rfl rfl)
theorem dX9_laysTold_95 : decode cX9_laysTold 95 = .ok (.getfield 120, 3) := dk_180 0 120 (dk_at dksX9_laysTold_4 2 rfl rfl)
theorem dX9_laysTold_98 : decode cX9_laysTold 98 = .ok (.aload_n 0, 1) := dk_42 (dk_at dksX9_laysTold_4 5 rfl rfl)
theorem dX9_laysTold_99 : decode cX9_laysTold 99 = .ok (.getfield 68, 3) := dk_180 0 68 (dk_at dksX9_laysTold_4 6 rfl rfl)
theorem dX9_laysTold_102 : decode cX9_laysTold 102 = .ok (.iload_n 2, 1) := dk_28 (dk_at dksX9_laysTold_4 9 rfl rfl)
theorem dX9_laysTold_103 : decode cX9_laysTold 103 = .ok (.iaload, 1) := dk_46 (dk_at dksX9_laysTold_4 10 rfl rfl)
theorem dX9_laysTold_104 : decode cX9_laysTold 104 = .ok (.iconst 1, 1) := dk_4 (dk_at dksX9_laysTold_4 11 rfl rfl)
theorem dX9_laysTold_105 : decode cX9_laysTold 105 = .ok (.bastore, 1) := dk_84 (dk_at dksX9_laysTold_4 12 rfl rfl)
theorem dX9_laysTold_106 : decode cX9_laysTold 106 = .ok (.iinc 2 1, 3) := dk_132 2 1 (dk_at dksX9_laysTold_4 13 rfl rfl)
theorem dX9_laysTold_109 : decode cX9_laysTold 109 = .ok (.goto (-80), 3) := dk_167 255 176 (dk_at dksX9_laysTold_4 16 rfl rfl)
theorem dX9_laysTold_112 : decode cX9_laysTold 112 = .ok (.iconst 0, 1) := dk_3 (dk_at dksX9_laysTold_4 19 rfl rfl)
theorem dX9_laysTold_113 : decode cX9_laysTold 113 = .ok (.istore_n 2, 1) := dk_61 (dk_at dksX9_laysTold_4 20 rfl rfl)
theorem dX9_laysTold_114 : decode cX9_laysTold 114 = .ok (.iconst 1, 1) := dk_4 (dk_at dksX9_laysTold_4 21 rfl rfl)
theorem dX9_laysTold_115 : decode cX9_laysTold 115 = .ok (.aload_n 0, 1) := dk_42 (dk_at dksX9_laysTold_4 22 rfl rfl)
theorem dX9_laysTold_116 : decode cX9_laysTold 116 = .ok (.getfield 209, 3) := dk_180 0 209 (dk_at dksX9_laysTold_5 0 rfl rfl)
theorem dX9_laysTold_119 : decode cX9_laysTold 119 = .ok (.ishl, 1) := dk_120 (dk_at dksX9_laysTold_5 3 rfl rfl)
theorem dX9_laysTold_120 : decode cX9_laysTold 120 = .ok (.istore_n 3, 1) := dk_62 (dk_at dksX9_laysTold_5 4 rfl rfl)
theorem dX9_laysTold_121 : decode cX9_laysTold 121 = .ok (.iload_n 3, 1) := dk_29 (dk_at dksX9_laysTold_5 5 rfl rfl)
theorem dX9_laysTold_122 : decode cX9_laysTold 122 = .ok (.iload_n 1, 1) := dk_27 (dk_at dksX9_laysTold_5 6 rfl rfl)
theorem dX9_laysTold_123 : decode cX9_laysTold 123 = .ok (.if_icmp .ge 34, 3) := dk_162 0 34 (dk_at dksX9_laysTold_5 7 rfl rfl)
theorem dX9_laysTold_126 : decode cX9_laysTold 126 = .ok (.aload_n 0, 1) := dk_42 (dk_at dksX9_laysTold_5 10 rfl rfl)
theorem dX9_laysTold_127 : decode cX9_laysTold 127 = .ok (.getfield 120, 3) := dk_180 0 120 (dk_at dksX9_laysTold_5 11 rfl rfl)
theorem dX9_laysTold_130 : decode cX9_laysTold 130 = .ok (.iload_n 2, 1) := dk_28 (dk_at dksX9_laysTold_5 14 rfl rfl)
theorem dX9_laysTold_131 : decode cX9_laysTold 131 = .ok (.baload, 1) := dk_51 (dk_at dksX9_laysTold_5 15 rfl rfl)
theorem dX9_laysTold_132 : decode cX9_laysTold 132 = .ok (.ifCond .eq 9, 3) := dk_153 0 9 (dk_at dksX9_laysTold_5 16 rfl rfl)
theorem dX9_laysTold_135 : decode cX9_laysTold 135 = .ok (.iinc 2 1, 3) := dk_132 2 1 (dk_at dksX9_laysTold_5 19 rfl rfl)
theorem dX9_laysTold_138 : decode cX9_laysTold 138 = .ok (.goto (-12), 3) := dk_167 255 244 (dk_at dksX9_laysTold_6 0 rfl rfl)
theorem dX9_laysTold_141 : decode cX9_laysTold 141 = .ok (.aload_n 0, 1) := dk_42 (dk_at dksX9_laysTold_6 3 rfl rfl)
theorem dX9_laysTold_142 : decode cX9_laysTold 142 = .ok (.getfield 68, 3) := dk_180 0 68 (dk_at dksX9_laysTold_6 4 rfl rfl)
theorem dX9_laysTold_145 : decode cX9_laysTold 145 = .ok (.iload_n 3, 1) := dk_29 (dk_at dksX9_laysTold_6 7 rfl rfl)
theorem dX9_laysTold_146 : decode cX9_laysTold 146 = .ok (.iload_n 2, 1) := dk_28 (dk_at dksX9_laysTold_6 8 rfl rfl)
theorem dX9_laysTold_147 : decode cX9_laysTold 147 = .ok (.iastore, 1) := dk_79 (dk_at dksX9_laysTold_6 9 rfl rfl)
theorem dX9_laysTold_148 : decode cX9_laysTold 148 = .ok (.iinc 2 1, 3) := dk_132 2 1 (dk_at dksX9_laysTold_6 10 rfl rfl)
theorem dX9_laysTold_151 : decode cX9_laysTold 151 = .ok (.iinc 3 1, 3) := dk_132 3 1 (dk_at dksX9_laysTold_6 13 rfl rfl)
theorem dX9_laysTold_154 : decode cX9_laysTold 154 = .ok (.goto (-33), 3) := dk_167 255 223 (dk_at dksX9_laysTold_6 16 rfl rfl)
theorem dX9_laysTold_157 : decode cX9_laysTold 157 = .ok (.return_, 1) := dk_177 (dk_at dksX9_laysTold_6 19 rfl rfl)
abbrev cX9_laid : ByteArray := prog_13_method_99_code
def yX9_laid : MethodName := ⟨RX9, "laid", "(I)I"⟩
def dkwX9_laid_1 : List UInt8 := [172, 42, 182, 1, 156, 42, 180, 0, 68, 27, 46, 172]
abbrev dktX9_laid_1 : List UInt8 := dkwX9_laid_1 ++ []
def dkwX9_laid_0 : List UInt8 := [42, 180, 0, 209, 153, 0, 19, 27, 3, 4, 42, 182, 1, 153, 120, 4, 100, 184, 0, 237, 154, 0, 5, 2]
abbrev dktX9_laid_0 : List UInt8 := dkwX9_laid_0 ++ dktX9_laid_1
theorem dksX9_laid_0 : cX9_laid.data.toList.drop 0 = dktX9_laid_0 := by decide +kernel
theorem dksX9_laid_1 : cX9_laid.data.toList.drop 24 = dktX9_laid_1 := dk_seg dksX9_laid_0 24 rfl rfl
theorem dX9_laid_0 : decode cX9_laid 0 = .ok (.aload_n 0, 1) := dk_42 (dk_at dksX9_laid_0 0 rfl rfl)
theorem dX9_laid_1 : decode cX9_laid 1 = .ok (.getfield 209, 3) := dk_180 0 209 (dk_at dksX9_laid_0 1 rfl rfl)
theorem dX9_laid_4 : decode cX9_laid 4 = .ok (.ifCond .eq 19, 3) := dk_153 0 19 (dk_at dksX9_laid_0 4 rfl rfl)
theorem dX9_laid_7 : decode cX9_laid 7 = .ok (.iload_n 1, 1) := dk_27 (dk_at dksX9_laid_0 7 rfl rfl)
theorem dX9_laid_8 : decode cX9_laid 8 = .ok (.iconst 0, 1) := dk_3 (dk_at dksX9_laid_0 8 rfl rfl)
theorem dX9_laid_9 : decode cX9_laid 9 = .ok (.iconst 1, 1) := dk_4 (dk_at dksX9_laid_0 9 rfl rfl)
theorem dX9_laid_10 : decode cX9_laid 10 = .ok (.aload_n 0, 1) := dk_42 (dk_at dksX9_laid_0 10 rfl rfl)
theorem dX9_laid_11 : decode cX9_laid 11 = .ok (.invokevirtual 409, 3) := dk_182 1 153 (dk_at dksX9_laid_0 11 rfl rfl)
theorem dX9_laid_14 : decode cX9_laid 14 = .ok (.ishl, 1) := dk_120 (dk_at dksX9_laid_0 14 rfl rfl)
theorem dX9_laid_15 : decode cX9_laid 15 = .ok (.iconst 1, 1) := dk_4 (dk_at dksX9_laid_0 15 rfl rfl)
theorem dX9_laid_16 : decode cX9_laid 16 = .ok (.isub, 1) := dk_100 (dk_at dksX9_laid_0 16 rfl rfl)
theorem dX9_laid_17 : decode cX9_laid 17 = .ok (.invokestatic 237, 3) := dk_184 0 237 (dk_at dksX9_laid_0 17 rfl rfl)
theorem dX9_laid_20 : decode cX9_laid 20 = .ok (.ifCond .ne 5, 3) := dk_154 0 5 (dk_at dksX9_laid_0 20 rfl rfl)
theorem dX9_laid_23 : decode cX9_laid 23 = .ok (.iconst (-1), 1) := dk_2 (dk_at dksX9_laid_0 23 rfl rfl)
theorem dX9_laid_24 : decode cX9_laid 24 = .ok (.ireturn, 1) := dk_172 (dk_at dksX9_laid_1 0 rfl rfl)
theorem dX9_laid_25 : decode cX9_laid 25 = .ok (.aload_n 0, 1) := dk_42 (dk_at dksX9_laid_1 1 rfl rfl)
theorem dX9_laid_26 : decode cX9_laid 26 = .ok (.invokevirtual 412, 3) := dk_182 1 156 (dk_at dksX9_laid_1 2 rfl rfl)
theorem dX9_laid_29 : decode cX9_laid 29 = .ok (.aload_n 0, 1) := dk_42 (dk_at dksX9_laid_1 5 rfl rfl)
theorem dX9_laid_30 : decode cX9_laid 30 = .ok (.getfield 68, 3) := dk_180 0 68 (dk_at dksX9_laid_1 6 rfl rfl)
theorem dX9_laid_33 : decode cX9_laid 33 = .ok (.iload_n 1, 1) := dk_27 (dk_at dksX9_laid_1 9 rfl rfl)
theorem dX9_laid_34 : decode cX9_laid 34 = .ok (.iaload, 1) := dk_46 (dk_at dksX9_laid_1 10 rfl rfl)
theorem dX9_laid_35 : decode cX9_laid 35 = .ok (.ireturn, 1) := dk_172 (dk_at dksX9_laid_1 11 rfl rfl)
abbrev cX9_count : ByteArray := prog_13_method_104_code
def yX9_count : MethodName := ⟨RX9, "count", "(I)I"⟩
def dkwX9_count_8 : List UInt8 := [42, 182, 1, 168, 172, 42, 182, 1, 171, 172, 2, 172]
abbrev dktX9_count_8 : List UInt8 := dkwX9_count_8 ++ []
def dkwX9_count_7 : List UInt8 := [162, 0, 17, 28, 42, 29, 182, 1, 69, 96, 61, 132, 3, 1, 167, 255, 237, 28, 172, 42, 182, 1, 165, 172]
abbrev dktX9_count_7 : List UInt8 := dkwX9_count_7 ++ dktX9_count_8
def dkwX9_count_6 : List UInt8 := [180, 0, 64, 5, 51, 153, 0, 7, 4, 167, 0, 4, 3, 96, 172, 3, 62, 29, 42, 182, 0, 244]
abbrev dktX9_count_6 : List UInt8 := dkwX9_count_6 ++ dktX9_count_7
def dkwX9_count_5 : List UInt8 := [153, 0, 7, 4, 167, 0, 4, 3, 42, 180, 0, 64, 4, 51, 153, 0, 7, 4, 167, 0, 4, 3, 96, 42]
abbrev dktX9_count_5 : List UInt8 := dkwX9_count_5 ++ dktX9_count_6
def dkwX9_count_4 : List UInt8 := [132, 3, 1, 167, 255, 234, 28, 172, 42, 180, 0, 127, 172, 42, 180, 0, 218, 172, 42, 180, 0, 64, 3, 51]
abbrev dktX9_count_4 : List UInt8 := dkwX9_count_4 ++ dktX9_count_5
def dkwX9_count_3 : List UInt8 := [172, 3, 62, 29, 42, 182, 0, 244, 162, 0, 20, 28, 42, 180, 0, 52, 29, 184, 1, 62, 128, 61]
abbrev dktX9_count_3 : List UInt8 := dkwX9_count_3 ++ dktX9_count_4
def dkwX9_count_2 : List UInt8 := [42, 180, 0, 203, 172, 42, 182, 0, 244, 172, 42, 182, 1, 159, 172, 42, 182, 1, 72, 172, 42, 182, 1, 162]
abbrev dktX9_count_2 : List UInt8 := dkwX9_count_2 ++ dktX9_count_3
def dkwX9_count_1 : List UInt8 := [170, 0, 0, 0, 0, 0, 0, 234, 0, 0, 0, 0, 0, 0, 0, 16, 0, 0, 0, 84, 0, 0, 0, 89, 0, 0, 0, 94, 0, 0, 0, 99, 0, 0, 0, 104, 0, 0, 0, 109, 0, 0, 0, 138, 0, 0, 0, 143, 0, 0, 0, 148, 0, 0, 0, 234, 0, 0, 0, 234, 0, 0, 0, 234, 0, 0, 0, 234, 0, 0, 0, 193, 0, 0, 0, 219, 0, 0, 0, 224, 0, 0, 0, 229]
abbrev dktX9_count_1 : List UInt8 := dkwX9_count_1 ++ dktX9_count_2
def dkwX9_count_0 : List UInt8 := [27, 16, 9, 16, 12, 184, 0, 237, 153, 0, 13, 42, 180, 0, 40, 27, 16, 9, 100, 46, 172, 3, 61, 27]
abbrev dktX9_count_0 : List UInt8 := dkwX9_count_0 ++ dktX9_count_1
theorem dksX9_count_0 : cX9_count.data.toList.drop 0 = dktX9_count_0 := by decide +kernel
theorem dksX9_count_1 : cX9_count.data.toList.drop 24 = dktX9_count_1 := dk_seg dksX9_count_0 24 rfl rfl
theorem dksX9_count_2 : cX9_count.data.toList.drop 108 = dktX9_count_2 := dk_seg dksX9_count_1 84 rfl rfl
theorem dksX9_count_3 : cX9_count.data.toList.drop 132 = dktX9_count_3 := dk_seg dksX9_count_2 24 rfl rfl
theorem dksX9_count_4 : cX9_count.data.toList.drop 154 = dktX9_count_4 := dk_seg dksX9_count_3 22 rfl rfl
theorem dksX9_count_5 : cX9_count.data.toList.drop 178 = dktX9_count_5 := dk_seg dksX9_count_4 24 rfl rfl
theorem dksX9_count_6 : cX9_count.data.toList.drop 202 = dktX9_count_6 := dk_seg dksX9_count_5 24 rfl rfl
theorem dksX9_count_7 : cX9_count.data.toList.drop 224 = dktX9_count_7 := dk_seg dksX9_count_6 22 rfl rfl
theorem dksX9_count_8 : cX9_count.data.toList.drop 248 = dktX9_count_8 := dk_seg dksX9_count_7 24 rfl rfl
theorem dX9_count_0 : decode cX9_count 0 = .ok (.iload_n 1, 1) := dk_27 (dk_at dksX9_count_0 0 rfl rfl)
theorem dX9_count_1 : decode cX9_count 1 = .ok (.bipush 9, 2) := dk_16 9 (dk_at dksX9_count_0 1 rfl rfl)
theorem dX9_count_3 : decode cX9_count 3 = .ok (.bipush 12, 2) := dk_16 12 (dk_at dksX9_count_0 3 rfl rfl)
theorem dX9_count_5 : decode cX9_count 5 = .ok (.invokestatic 237, 3) := dk_184 0 237 (dk_at dksX9_count_0 5 rfl rfl)
theorem dX9_count_8 : decode cX9_count 8 = .ok (.ifCond .eq 13, 3) := dk_153 0 13 (dk_at dksX9_count_0 8 rfl rfl)
theorem dX9_count_11 : decode cX9_count 11 = .ok (.aload_n 0, 1) := dk_42 (dk_at dksX9_count_0 11 rfl rfl)
theorem dX9_count_12 : decode cX9_count 12 = .ok (.getfield 40, 3) := dk_180 0 40 (dk_at dksX9_count_0 12 rfl rfl)
theorem dX9_count_15 : decode cX9_count 15 = .ok (.iload_n 1, 1) := dk_27 (dk_at dksX9_count_0 15 rfl rfl)
theorem dX9_count_16 : decode cX9_count 16 = .ok (.bipush 9, 2) := dk_16 9 (dk_at dksX9_count_0 16 rfl rfl)
theorem dX9_count_18 : decode cX9_count 18 = .ok (.isub, 1) := dk_100 (dk_at dksX9_count_0 18 rfl rfl)
theorem dX9_count_19 : decode cX9_count 19 = .ok (.iaload, 1) := dk_46 (dk_at dksX9_count_0 19 rfl rfl)
theorem dX9_count_20 : decode cX9_count 20 = .ok (.ireturn, 1) := dk_172 (dk_at dksX9_count_0 20 rfl rfl)
theorem dX9_count_21 : decode cX9_count 21 = .ok (.iconst 0, 1) := dk_3 (dk_at dksX9_count_0 21 rfl rfl)
theorem dX9_count_22 : decode cX9_count 22 = .ok (.istore_n 2, 1) := dk_61 (dk_at dksX9_count_0 22 rfl rfl)
theorem dX9_count_23 : decode cX9_count 23 = .ok (.iload_n 1, 1) := dk_27 (dk_at dksX9_count_0 23 rfl rfl)
theorem dX9_count_24 : decode cX9_count 24 = .ok (.tableswitch 234 0 16 #[84, 89, 94, 99, 104, 109, 138, 143, 148, 234, 234, 234, 234, 193, 219, 224, 229], 84) := by decide +kernel
theorem dX9_count_108 : decode cX9_count 108 = .ok (.aload_n 0, 1) := dk_42 (dk_at dksX9_count_2 0 rfl rfl)
theorem dX9_count_109 : decode cX9_count 109 = .ok (.getfield 203, 3) := dk_180 0 203 (dk_at dksX9_count_2 1 rfl rfl)
theorem dX9_count_112 : decode cX9_count 112 = .ok (.ireturn, 1) := dk_172 (dk_at dksX9_count_2 4 rfl rfl)
theorem dX9_count_113 : decode cX9_count 113 = .ok (.aload_n 0, 1) := dk_42 (dk_at dksX9_count_2 5 rfl rfl)
theorem dX9_count_114 : decode cX9_count 114 = .ok (.invokevirtual 244, 3) := dk_182 0 244 (dk_at dksX9_count_2 6 rfl rfl)
theorem dX9_count_117 : decode cX9_count 117 = .ok (.ireturn, 1) := dk_172 (dk_at dksX9_count_2 9 rfl rfl)
theorem dX9_count_118 : decode cX9_count 118 = .ok (.aload_n 0, 1) := dk_42 (dk_at dksX9_count_2 10 rfl rfl)
theorem dX9_count_119 : decode cX9_count 119 = .ok (.invokevirtual 415, 3) := dk_182 1 159 (dk_at dksX9_count_2 11 rfl rfl)
theorem dX9_count_122 : decode cX9_count 122 = .ok (.ireturn, 1) := dk_172 (dk_at dksX9_count_2 14 rfl rfl)
theorem dX9_count_123 : decode cX9_count 123 = .ok (.aload_n 0, 1) := dk_42 (dk_at dksX9_count_2 15 rfl rfl)
theorem dX9_count_124 : decode cX9_count 124 = .ok (.invokevirtual 328, 3) := dk_182 1 72 (dk_at dksX9_count_2 16 rfl rfl)
theorem dX9_count_127 : decode cX9_count 127 = .ok (.ireturn, 1) := dk_172 (dk_at dksX9_count_2 19 rfl rfl)
theorem dX9_count_128 : decode cX9_count 128 = .ok (.aload_n 0, 1) := dk_42 (dk_at dksX9_count_2 20 rfl rfl)
theorem dX9_count_129 : decode cX9_count 129 = .ok (.invokevirtual 418, 3) := dk_182 1 162 (dk_at dksX9_count_2 21 rfl rfl)
theorem dX9_count_132 : decode cX9_count 132 = .ok (.ireturn, 1) := dk_172 (dk_at dksX9_count_3 0 rfl rfl)
theorem dX9_count_133 : decode cX9_count 133 = .ok (.iconst 0, 1) := dk_3 (dk_at dksX9_count_3 1 rfl rfl)
theorem dX9_count_134 : decode cX9_count 134 = .ok (.istore_n 3, 1) := dk_62 (dk_at dksX9_count_3 2 rfl rfl)
theorem dX9_count_135 : decode cX9_count 135 = .ok (.iload_n 3, 1) := dk_29 (dk_at dksX9_count_3 3 rfl rfl)
theorem dX9_count_136 : decode cX9_count 136 = .ok (.aload_n 0, 1) := dk_42 (dk_at dksX9_count_3 4 rfl rfl)
theorem dX9_count_137 : decode cX9_count 137 = .ok (.invokevirtual 244, 3) := dk_182 0 244 (dk_at dksX9_count_3 5 rfl rfl)
theorem dX9_count_140 : decode cX9_count 140 = .ok (.if_icmp .ge 20, 3) := dk_162 0 20 (dk_at dksX9_count_3 8 rfl rfl)
theorem dX9_count_143 : decode cX9_count 143 = .ok (.iload_n 2, 1) := dk_28 (dk_at dksX9_count_3 11 rfl rfl)
theorem dX9_count_144 : decode cX9_count 144 = .ok (.aload_n 0, 1) := dk_42 (dk_at dksX9_count_3 12 rfl rfl)
theorem dX9_count_145 : decode cX9_count 145 = .ok (.getfield 52, 3) := dk_180 0 52 (dk_at dksX9_count_3 13 rfl rfl)
theorem dX9_count_148 : decode cX9_count 148 = .ok (.iload_n 3, 1) := dk_29 (dk_at dksX9_count_3 16 rfl rfl)
theorem dX9_count_149 : decode cX9_count 149 = .ok (.invokestatic 318, 3) := dk_184 1 62 (dk_at dksX9_count_3 17 rfl rfl)
theorem dX9_count_152 : decode cX9_count 152 = .ok (.ior, 1) := dk_128 (dk_at dksX9_count_3 20 rfl rfl)
theorem dX9_count_153 : decode cX9_count 153 = .ok (.istore_n 2, 1) := dk_61 (dk_at dksX9_count_3 21 rfl rfl)
theorem dX9_count_154 : decode cX9_count 154 = .ok (.iinc 3 1, 3) := dk_132 3 1 (dk_at dksX9_count_4 0 rfl rfl)
theorem dX9_count_157 : decode cX9_count 157 = .ok (.goto (-22), 3) := dk_167 255 234 (dk_at dksX9_count_4 3 rfl rfl)
theorem dX9_count_160 : decode cX9_count 160 = .ok (.iload_n 2, 1) := dk_28 (dk_at dksX9_count_4 6 rfl rfl)
theorem dX9_count_161 : decode cX9_count 161 = .ok (.ireturn, 1) := dk_172 (dk_at dksX9_count_4 7 rfl rfl)
theorem dX9_count_162 : decode cX9_count 162 = .ok (.aload_n 0, 1) := dk_42 (dk_at dksX9_count_4 8 rfl rfl)
theorem dX9_count_163 : decode cX9_count 163 = .ok (.getfield 127, 3) := dk_180 0 127 (dk_at dksX9_count_4 9 rfl rfl)
theorem dX9_count_166 : decode cX9_count 166 = .ok (.ireturn, 1) := dk_172 (dk_at dksX9_count_4 12 rfl rfl)
theorem dX9_count_167 : decode cX9_count 167 = .ok (.aload_n 0, 1) := dk_42 (dk_at dksX9_count_4 13 rfl rfl)
theorem dX9_count_168 : decode cX9_count 168 = .ok (.getfield 218, 3) := dk_180 0 218 (dk_at dksX9_count_4 14 rfl rfl)
theorem dX9_count_171 : decode cX9_count 171 = .ok (.ireturn, 1) := dk_172 (dk_at dksX9_count_4 17 rfl rfl)
theorem dX9_count_172 : decode cX9_count 172 = .ok (.aload_n 0, 1) := dk_42 (dk_at dksX9_count_4 18 rfl rfl)
theorem dX9_count_173 : decode cX9_count 173 = .ok (.getfield 64, 3) := dk_180 0 64 (dk_at dksX9_count_4 19 rfl rfl)
theorem dX9_count_176 : decode cX9_count 176 = .ok (.iconst 0, 1) := dk_3 (dk_at dksX9_count_4 22 rfl rfl)
theorem dX9_count_177 : decode cX9_count 177 = .ok (.baload, 1) := dk_51 (dk_at dksX9_count_4 23 rfl rfl)
theorem dX9_count_178 : decode cX9_count 178 = .ok (.ifCond .eq 7, 3) := dk_153 0 7 (dk_at dksX9_count_5 0 rfl rfl)
theorem dX9_count_181 : decode cX9_count 181 = .ok (.iconst 1, 1) := dk_4 (dk_at dksX9_count_5 3 rfl rfl)
theorem dX9_count_182 : decode cX9_count 182 = .ok (.goto 4, 3) := dk_167 0 4 (dk_at dksX9_count_5 4 rfl rfl)
theorem dX9_count_185 : decode cX9_count 185 = .ok (.iconst 0, 1) := dk_3 (dk_at dksX9_count_5 7 rfl rfl)
theorem dX9_count_186 : decode cX9_count 186 = .ok (.aload_n 0, 1) := dk_42 (dk_at dksX9_count_5 8 rfl rfl)
theorem dX9_count_187 : decode cX9_count 187 = .ok (.getfield 64, 3) := dk_180 0 64 (dk_at dksX9_count_5 9 rfl rfl)
theorem dX9_count_190 : decode cX9_count 190 = .ok (.iconst 1, 1) := dk_4 (dk_at dksX9_count_5 12 rfl rfl)
theorem dX9_count_191 : decode cX9_count 191 = .ok (.baload, 1) := dk_51 (dk_at dksX9_count_5 13 rfl rfl)
theorem dX9_count_192 : decode cX9_count 192 = .ok (.ifCond .eq 7, 3) := dk_153 0 7 (dk_at dksX9_count_5 14 rfl rfl)
theorem dX9_count_195 : decode cX9_count 195 = .ok (.iconst 1, 1) := dk_4 (dk_at dksX9_count_5 17 rfl rfl)
theorem dX9_count_196 : decode cX9_count 196 = .ok (.goto 4, 3) := dk_167 0 4 (dk_at dksX9_count_5 18 rfl rfl)
theorem dX9_count_199 : decode cX9_count 199 = .ok (.iconst 0, 1) := dk_3 (dk_at dksX9_count_5 21 rfl rfl)
theorem dX9_count_200 : decode cX9_count 200 = .ok (.iadd, 1) := dk_96 (dk_at dksX9_count_5 22 rfl rfl)
theorem dX9_count_201 : decode cX9_count 201 = .ok (.aload_n 0, 1) := dk_42 (dk_at dksX9_count_5 23 rfl rfl)
theorem dX9_count_202 : decode cX9_count 202 = .ok (.getfield 64, 3) := dk_180 0 64 (dk_at dksX9_count_6 0 rfl rfl)
theorem dX9_count_205 : decode cX9_count 205 = .ok (.iconst 2, 1) := dk_5 (dk_at dksX9_count_6 3 rfl rfl)
theorem dX9_count_206 : decode cX9_count 206 = .ok (.baload, 1) := dk_51 (dk_at dksX9_count_6 4 rfl rfl)
theorem dX9_count_207 : decode cX9_count 207 = .ok (.ifCond .eq 7, 3) := dk_153 0 7 (dk_at dksX9_count_6 5 rfl rfl)
theorem dX9_count_210 : decode cX9_count 210 = .ok (.iconst 1, 1) := dk_4 (dk_at dksX9_count_6 8 rfl rfl)
theorem dX9_count_211 : decode cX9_count 211 = .ok (.goto 4, 3) := dk_167 0 4 (dk_at dksX9_count_6 9 rfl rfl)
theorem dX9_count_214 : decode cX9_count 214 = .ok (.iconst 0, 1) := dk_3 (dk_at dksX9_count_6 12 rfl rfl)
theorem dX9_count_215 : decode cX9_count 215 = .ok (.iadd, 1) := dk_96 (dk_at dksX9_count_6 13 rfl rfl)
theorem dX9_count_216 : decode cX9_count 216 = .ok (.ireturn, 1) := dk_172 (dk_at dksX9_count_6 14 rfl rfl)
theorem dX9_count_217 : decode cX9_count 217 = .ok (.iconst 0, 1) := dk_3 (dk_at dksX9_count_6 15 rfl rfl)
theorem dX9_count_218 : decode cX9_count 218 = .ok (.istore_n 3, 1) := dk_62 (dk_at dksX9_count_6 16 rfl rfl)
theorem dX9_count_219 : decode cX9_count 219 = .ok (.iload_n 3, 1) := dk_29 (dk_at dksX9_count_6 17 rfl rfl)
theorem dX9_count_220 : decode cX9_count 220 = .ok (.aload_n 0, 1) := dk_42 (dk_at dksX9_count_6 18 rfl rfl)
theorem dX9_count_221 : decode cX9_count 221 = .ok (.invokevirtual 244, 3) := dk_182 0 244 (dk_at dksX9_count_6 19 rfl rfl)
theorem dX9_count_224 : decode cX9_count 224 = .ok (.if_icmp .ge 17, 3) := dk_162 0 17 (dk_at dksX9_count_7 0 rfl rfl)
theorem dX9_count_227 : decode cX9_count 227 = .ok (.iload_n 2, 1) := dk_28 (dk_at dksX9_count_7 3 rfl rfl)
theorem dX9_count_228 : decode cX9_count 228 = .ok (.aload_n 0, 1) := dk_42 (dk_at dksX9_count_7 4 rfl rfl)
theorem dX9_count_229 : decode cX9_count 229 = .ok (.iload_n 3, 1) := dk_29 (dk_at dksX9_count_7 5 rfl rfl)
theorem dX9_count_230 : decode cX9_count 230 = .ok (.invokevirtual 325, 3) := dk_182 1 69 (dk_at dksX9_count_7 6 rfl rfl)
theorem dX9_count_233 : decode cX9_count 233 = .ok (.iadd, 1) := dk_96 (dk_at dksX9_count_7 9 rfl rfl)
theorem dX9_count_234 : decode cX9_count 234 = .ok (.istore_n 2, 1) := dk_61 (dk_at dksX9_count_7 10 rfl rfl)
theorem dX9_count_235 : decode cX9_count 235 = .ok (.iinc 3 1, 3) := dk_132 3 1 (dk_at dksX9_count_7 11 rfl rfl)
theorem dX9_count_238 : decode cX9_count 238 = .ok (.goto (-19), 3) := dk_167 255 237 (dk_at dksX9_count_7 14 rfl rfl)
theorem dX9_count_241 : decode cX9_count 241 = .ok (.iload_n 2, 1) := dk_28 (dk_at dksX9_count_7 17 rfl rfl)
theorem dX9_count_242 : decode cX9_count 242 = .ok (.ireturn, 1) := dk_172 (dk_at dksX9_count_7 18 rfl rfl)
theorem dX9_count_243 : decode cX9_count 243 = .ok (.aload_n 0, 1) := dk_42 (dk_at dksX9_count_7 19 rfl rfl)
theorem dX9_count_244 : decode cX9_count 244 = .ok (.invokevirtual 421, 3) := dk_182 1 165 (dk_at dksX9_count_7 20 rfl rfl)
theorem dX9_count_247 : decode cX9_count 247 = .ok (.ireturn, 1) := dk_172 (dk_at dksX9_count_7 23 rfl rfl)
theorem dX9_count_248 : decode cX9_count 248 = .ok (.aload_n 0, 1) := dk_42 (dk_at dksX9_count_8 0 rfl rfl)
theorem dX9_count_249 : decode cX9_count 249 = .ok (.invokevirtual 424, 3) := dk_182 1 168 (dk_at dksX9_count_8 1 rfl rfl)
theorem dX9_count_252 : decode cX9_count 252 = .ok (.ireturn, 1) := dk_172 (dk_at dksX9_count_8 4 rfl rfl)
theorem dX9_count_253 : decode cX9_count 253 = .ok (.aload_n 0, 1) := dk_42 (dk_at dksX9_count_8 5 rfl rfl)
theorem dX9_count_254 : decode cX9_count 254 = .ok (.invokevirtual 427, 3) := dk_182 1 171 (dk_at dksX9_count_8 6 rfl rfl)
theorem dX9_count_257 : decode cX9_count 257 = .ok (.ireturn, 1) := dk_172 (dk_at dksX9_count_8 9 rfl rfl)
theorem dX9_count_258 : decode cX9_count 258 = .ok (.iconst (-1), 1) := dk_2 (dk_at dksX9_count_8 10 rfl rfl)
theorem dX9_count_259 : decode cX9_count 259 = .ok (.ireturn, 1) := dk_172 (dk_at dksX9_count_8 11 rfl rfl)
abbrev cX9_cost : ByteArray := prog_13_method_100_code
def yX9_cost : MethodName := ⟨RX9, "cost", "()I"⟩
def dkwX9_cost_1 : List UInt8 := [60, 132, 2, 1, 167, 255, 232, 27, 172]
abbrev dktX9_cost_1 : List UInt8 := dkwX9_cost_1 ++ []
def dkwX9_cost_0 : List UInt8 := [3, 60, 3, 61, 28, 42, 182, 0, 244, 162, 0, 22, 27, 42, 180, 0, 40, 42, 28, 182, 1, 69, 46, 96]
abbrev dktX9_cost_0 : List UInt8 := dkwX9_cost_0 ++ dktX9_cost_1
theorem dksX9_cost_0 : cX9_cost.data.toList.drop 0 = dktX9_cost_0 := by decide +kernel
theorem dksX9_cost_1 : cX9_cost.data.toList.drop 24 = dktX9_cost_1 := dk_seg dksX9_cost_0 24 rfl rfl
theorem dX9_cost_0 : decode cX9_cost 0 = .ok (.iconst 0, 1) := dk_3 (dk_at dksX9_cost_0 0 rfl rfl)
theorem dX9_cost_1 : decode cX9_cost 1 = .ok (.istore_n 1, 1) := dk_60 (dk_at dksX9_cost_0 1 rfl rfl)
theorem dX9_cost_2 : decode cX9_cost 2 = .ok (.iconst 0, 1) := dk_3 (dk_at dksX9_cost_0 2 rfl rfl)
theorem dX9_cost_3 : decode cX9_cost 3 = .ok (.istore_n 2, 1) := dk_61 (dk_at dksX9_cost_0 3 rfl rfl)
theorem dX9_cost_4 : decode cX9_cost 4 = .ok (.iload_n 2, 1) := dk_28 (dk_at dksX9_cost_0 4 rfl rfl)
theorem dX9_cost_5 : decode cX9_cost 5 = .ok (.aload_n 0, 1) := dk_42 (dk_at dksX9_cost_0 5 rfl rfl)
theorem dX9_cost_6 : decode cX9_cost 6 = .ok (.invokevirtual 244, 3) := dk_182 0 244 (dk_at dksX9_cost_0 6 rfl rfl)
theorem dX9_cost_9 : decode cX9_cost 9 = .ok (.if_icmp .ge 22, 3) := dk_162 0 22 (dk_at dksX9_cost_0 9 rfl rfl)
theorem dX9_cost_12 : decode cX9_cost 12 = .ok (.iload_n 1, 1) := dk_27 (dk_at dksX9_cost_0 12 rfl rfl)
theorem dX9_cost_13 : decode cX9_cost 13 = .ok (.aload_n 0, 1) := dk_42 (dk_at dksX9_cost_0 13 rfl rfl)
theorem dX9_cost_14 : decode cX9_cost 14 = .ok (.getfield 40, 3) := dk_180 0 40 (dk_at dksX9_cost_0 14 rfl rfl)
theorem dX9_cost_17 : decode cX9_cost 17 = .ok (.aload_n 0, 1) := dk_42 (dk_at dksX9_cost_0 17 rfl rfl)
theorem dX9_cost_18 : decode cX9_cost 18 = .ok (.iload_n 2, 1) := dk_28 (dk_at dksX9_cost_0 18 rfl rfl)
theorem dX9_cost_19 : decode cX9_cost 19 = .ok (.invokevirtual 325, 3) := dk_182 1 69 (dk_at dksX9_cost_0 19 rfl rfl)
theorem dX9_cost_22 : decode cX9_cost 22 = .ok (.iaload, 1) := dk_46 (dk_at dksX9_cost_0 22 rfl rfl)
theorem dX9_cost_23 : decode cX9_cost 23 = .ok (.iadd, 1) := dk_96 (dk_at dksX9_cost_0 23 rfl rfl)
theorem dX9_cost_24 : decode cX9_cost 24 = .ok (.istore_n 1, 1) := dk_60 (dk_at dksX9_cost_1 0 rfl rfl)
theorem dX9_cost_25 : decode cX9_cost 25 = .ok (.iinc 2 1, 3) := dk_132 2 1 (dk_at dksX9_cost_1 1 rfl rfl)
theorem dX9_cost_28 : decode cX9_cost 28 = .ok (.goto (-24), 3) := dk_167 255 232 (dk_at dksX9_cost_1 4 rfl rfl)
theorem dX9_cost_31 : decode cX9_cost 31 = .ok (.iload_n 1, 1) := dk_27 (dk_at dksX9_cost_1 7 rfl rfl)
theorem dX9_cost_32 : decode cX9_cost 32 = .ok (.ireturn, 1) := dk_172 (dk_at dksX9_cost_1 8 rfl rfl)
abbrev cX9_agreeing : ByteArray := prog_13_method_101_code
def yX9_agreeing : MethodName := ⟨RX9, "agreeing", "()I"⟩
def dkwX9_agreeing_2 : List UInt8 := [167, 255, 228, 29, 153, 0, 9, 27, 4, 28, 120, 128, 60, 132, 2, 1, 167, 255, 199, 27, 172]
abbrev dktX9_agreeing_2 : List UInt8 := dkwX9_agreeing_2 ++ []
def dkwX9_agreeing_1 : List UInt8 := [162, 0, 25, 42, 42, 180, 0, 52, 28, 21, 4, 182, 1, 58, 154, 0, 5, 3, 62, 132, 4, 1]
abbrev dktX9_agreeing_1 : List UInt8 := dkwX9_agreeing_1 ++ dktX9_agreeing_2
def dkwX9_agreeing_0 : List UInt8 := [3, 60, 3, 61, 28, 42, 182, 0, 244, 162, 0, 55, 4, 62, 3, 54, 4, 21, 4, 42, 182, 0, 244]
abbrev dktX9_agreeing_0 : List UInt8 := dkwX9_agreeing_0 ++ dktX9_agreeing_1
theorem dksX9_agreeing_0 : cX9_agreeing.data.toList.drop 0 = dktX9_agreeing_0 := by decide +kernel
theorem dksX9_agreeing_1 : cX9_agreeing.data.toList.drop 23 = dktX9_agreeing_1 := dk_seg dksX9_agreeing_0 23 rfl rfl
theorem dksX9_agreeing_2 : cX9_agreeing.data.toList.drop 45 = dktX9_agreeing_2 := dk_seg dksX9_agreeing_1 22 rfl rfl
theorem dX9_agreeing_0 : decode cX9_agreeing 0 = .ok (.iconst 0, 1) := dk_3 (dk_at dksX9_agreeing_0 0 rfl rfl)
theorem dX9_agreeing_1 : decode cX9_agreeing 1 = .ok (.istore_n 1, 1) := dk_60 (dk_at dksX9_agreeing_0 1 rfl rfl)
theorem dX9_agreeing_2 : decode cX9_agreeing 2 = .ok (.iconst 0, 1) := dk_3 (dk_at dksX9_agreeing_0 2 rfl rfl)
theorem dX9_agreeing_3 : decode cX9_agreeing 3 = .ok (.istore_n 2, 1) := dk_61 (dk_at dksX9_agreeing_0 3 rfl rfl)
theorem dX9_agreeing_4 : decode cX9_agreeing 4 = .ok (.iload_n 2, 1) := dk_28 (dk_at dksX9_agreeing_0 4 rfl rfl)
theorem dX9_agreeing_5 : decode cX9_agreeing 5 = .ok (.aload_n 0, 1) := dk_42 (dk_at dksX9_agreeing_0 5 rfl rfl)
theorem dX9_agreeing_6 : decode cX9_agreeing 6 = .ok (.invokevirtual 244, 3) := dk_182 0 244 (dk_at dksX9_agreeing_0 6 rfl rfl)
theorem dX9_agreeing_9 : decode cX9_agreeing 9 = .ok (.if_icmp .ge 55, 3) := dk_162 0 55 (dk_at dksX9_agreeing_0 9 rfl rfl)
theorem dX9_agreeing_12 : decode cX9_agreeing 12 = .ok (.iconst 1, 1) := dk_4 (dk_at dksX9_agreeing_0 12 rfl rfl)
theorem dX9_agreeing_13 : decode cX9_agreeing 13 = .ok (.istore_n 3, 1) := dk_62 (dk_at dksX9_agreeing_0 13 rfl rfl)
theorem dX9_agreeing_14 : decode cX9_agreeing 14 = .ok (.iconst 0, 1) := dk_3 (dk_at dksX9_agreeing_0 14 rfl rfl)
theorem dX9_agreeing_15 : decode cX9_agreeing 15 = .ok (.istore 4, 2) := dk_54 4 (dk_at dksX9_agreeing_0 15 rfl rfl)
theorem dX9_agreeing_17 : decode cX9_agreeing 17 = .ok (.iload 4, 2) := dk_21 4 (dk_at dksX9_agreeing_0 17 rfl rfl)
theorem dX9_agreeing_19 : decode cX9_agreeing 19 = .ok (.aload_n 0, 1) := dk_42 (dk_at dksX9_agreeing_0 19 rfl rfl)
theorem dX9_agreeing_20 : decode cX9_agreeing 20 = .ok (.invokevirtual 244, 3) := dk_182 0 244 (dk_at dksX9_agreeing_0 20 rfl rfl)
theorem dX9_agreeing_23 : decode cX9_agreeing 23 = .ok (.if_icmp .ge 25, 3) := dk_162 0 25 (dk_at dksX9_agreeing_1 0 rfl rfl)
theorem dX9_agreeing_26 : decode cX9_agreeing 26 = .ok (.aload_n 0, 1) := dk_42 (dk_at dksX9_agreeing_1 3 rfl rfl)
theorem dX9_agreeing_27 : decode cX9_agreeing 27 = .ok (.aload_n 0, 1) := dk_42 (dk_at dksX9_agreeing_1 4 rfl rfl)
theorem dX9_agreeing_28 : decode cX9_agreeing 28 = .ok (.getfield 52, 3) := dk_180 0 52 (dk_at dksX9_agreeing_1 5 rfl rfl)
theorem dX9_agreeing_31 : decode cX9_agreeing 31 = .ok (.iload_n 2, 1) := dk_28 (dk_at dksX9_agreeing_1 8 rfl rfl)
theorem dX9_agreeing_32 : decode cX9_agreeing 32 = .ok (.iload 4, 2) := dk_21 4 (dk_at dksX9_agreeing_1 9 rfl rfl)
theorem dX9_agreeing_34 : decode cX9_agreeing 34 = .ok (.invokevirtual 314, 3) := dk_182 1 58 (dk_at dksX9_agreeing_1 11 rfl rfl)
theorem dX9_agreeing_37 : decode cX9_agreeing 37 = .ok (.ifCond .ne 5, 3) := dk_154 0 5 (dk_at dksX9_agreeing_1 14 rfl rfl)
theorem dX9_agreeing_40 : decode cX9_agreeing 40 = .ok (.iconst 0, 1) := dk_3 (dk_at dksX9_agreeing_1 17 rfl rfl)
theorem dX9_agreeing_41 : decode cX9_agreeing 41 = .ok (.istore_n 3, 1) := dk_62 (dk_at dksX9_agreeing_1 18 rfl rfl)
theorem dX9_agreeing_42 : decode cX9_agreeing 42 = .ok (.iinc 4 1, 3) := dk_132 4 1 (dk_at dksX9_agreeing_1 19 rfl rfl)
theorem dX9_agreeing_45 : decode cX9_agreeing 45 = .ok (.goto (-28), 3) := dk_167 255 228 (dk_at dksX9_agreeing_2 0 rfl rfl)
theorem dX9_agreeing_48 : decode cX9_agreeing 48 = .ok (.iload_n 3, 1) := dk_29 (dk_at dksX9_agreeing_2 3 rfl rfl)
theorem dX9_agreeing_49 : decode cX9_agreeing 49 = .ok (.ifCond .eq 9, 3) := dk_153 0 9 (dk_at dksX9_agreeing_2 4 rfl rfl)
theorem dX9_agreeing_52 : decode cX9_agreeing 52 = .ok (.iload_n 1, 1) := dk_27 (dk_at dksX9_agreeing_2 7 rfl rfl)
theorem dX9_agreeing_53 : decode cX9_agreeing 53 = .ok (.iconst 1, 1) := dk_4 (dk_at dksX9_agreeing_2 8 rfl rfl)
theorem dX9_agreeing_54 : decode cX9_agreeing 54 = .ok (.iload_n 2, 1) := dk_28 (dk_at dksX9_agreeing_2 9 rfl rfl)
theorem dX9_agreeing_55 : decode cX9_agreeing 55 = .ok (.ishl, 1) := dk_120 (dk_at dksX9_agreeing_2 10 rfl rfl)
theorem dX9_agreeing_56 : decode cX9_agreeing 56 = .ok (.ior, 1) := dk_128 (dk_at dksX9_agreeing_2 11 rfl rfl)
theorem dX9_agreeing_57 : decode cX9_agreeing 57 = .ok (.istore_n 1, 1) := dk_60 (dk_at dksX9_agreeing_2 12 rfl rfl)
theorem dX9_agreeing_58 : decode cX9_agreeing 58 = .ok (.iinc 2 1, 3) := dk_132 2 1 (dk_at dksX9_agreeing_2 13 rfl rfl)
theorem dX9_agreeing_61 : decode cX9_agreeing 61 = .ok (.goto (-57), 3) := dk_167 255 199 (dk_at dksX9_agreeing_2 16 rfl rfl)
theorem dX9_agreeing_64 : decode cX9_agreeing 64 = .ok (.iload_n 1, 1) := dk_27 (dk_at dksX9_agreeing_2 19 rfl rfl)
theorem dX9_agreeing_65 : decode cX9_agreeing 65 = .ok (.ireturn, 1) := dk_172 (dk_at dksX9_agreeing_2 20 rfl rfl)
abbrev cX9_seeing : ByteArray := prog_13_method_102_code
def yX9_seeing : MethodName := ⟨RX9, "seeing", "()I"⟩
def dkwX9_seeing_1 : List UInt8 := [128, 60, 132, 2, 1, 167, 255, 231, 27, 172]
abbrev dktX9_seeing_1 : List UInt8 := dkwX9_seeing_1 ++ []
def dkwX9_seeing_0 : List UInt8 := [3, 60, 3, 61, 28, 42, 182, 0, 248, 162, 0, 23, 42, 28, 182, 1, 132, 153, 0, 9, 27, 4, 28, 120]
abbrev dktX9_seeing_0 : List UInt8 := dkwX9_seeing_0 ++ dktX9_seeing_1
theorem dksX9_seeing_0 : cX9_seeing.data.toList.drop 0 = dktX9_seeing_0 := by decide +kernel
theorem dksX9_seeing_1 : cX9_seeing.data.toList.drop 24 = dktX9_seeing_1 := dk_seg dksX9_seeing_0 24 rfl rfl
theorem dX9_seeing_0 : decode cX9_seeing 0 = .ok (.iconst 0, 1) := dk_3 (dk_at dksX9_seeing_0 0 rfl rfl)
theorem dX9_seeing_1 : decode cX9_seeing 1 = .ok (.istore_n 1, 1) := dk_60 (dk_at dksX9_seeing_0 1 rfl rfl)
theorem dX9_seeing_2 : decode cX9_seeing 2 = .ok (.iconst 0, 1) := dk_3 (dk_at dksX9_seeing_0 2 rfl rfl)
theorem dX9_seeing_3 : decode cX9_seeing 3 = .ok (.istore_n 2, 1) := dk_61 (dk_at dksX9_seeing_0 3 rfl rfl)
theorem dX9_seeing_4 : decode cX9_seeing 4 = .ok (.iload_n 2, 1) := dk_28 (dk_at dksX9_seeing_0 4 rfl rfl)
theorem dX9_seeing_5 : decode cX9_seeing 5 = .ok (.aload_n 0, 1) := dk_42 (dk_at dksX9_seeing_0 5 rfl rfl)
theorem dX9_seeing_6 : decode cX9_seeing 6 = .ok (.invokevirtual 248, 3) := dk_182 0 248 (dk_at dksX9_seeing_0 6 rfl rfl)
theorem dX9_seeing_9 : decode cX9_seeing 9 = .ok (.if_icmp .ge 23, 3) := dk_162 0 23 (dk_at dksX9_seeing_0 9 rfl rfl)
theorem dX9_seeing_12 : decode cX9_seeing 12 = .ok (.aload_n 0, 1) := dk_42 (dk_at dksX9_seeing_0 12 rfl rfl)
theorem dX9_seeing_13 : decode cX9_seeing 13 = .ok (.iload_n 2, 1) := dk_28 (dk_at dksX9_seeing_0 13 rfl rfl)
theorem dX9_seeing_14 : decode cX9_seeing 14 = .ok (.invokevirtual 388, 3) := dk_182 1 132 (dk_at dksX9_seeing_0 14 rfl rfl)
theorem dX9_seeing_17 : decode cX9_seeing 17 = .ok (.ifCond .eq 9, 3) := dk_153 0 9 (dk_at dksX9_seeing_0 17 rfl rfl)
theorem dX9_seeing_20 : decode cX9_seeing 20 = .ok (.iload_n 1, 1) := dk_27 (dk_at dksX9_seeing_0 20 rfl rfl)
theorem dX9_seeing_21 : decode cX9_seeing 21 = .ok (.iconst 1, 1) := dk_4 (dk_at dksX9_seeing_0 21 rfl rfl)
theorem dX9_seeing_22 : decode cX9_seeing 22 = .ok (.iload_n 2, 1) := dk_28 (dk_at dksX9_seeing_0 22 rfl rfl)
theorem dX9_seeing_23 : decode cX9_seeing 23 = .ok (.ishl, 1) := dk_120 (dk_at dksX9_seeing_0 23 rfl rfl)
theorem dX9_seeing_24 : decode cX9_seeing 24 = .ok (.ior, 1) := dk_128 (dk_at dksX9_seeing_1 0 rfl rfl)
theorem dX9_seeing_25 : decode cX9_seeing 25 = .ok (.istore_n 1, 1) := dk_60 (dk_at dksX9_seeing_1 1 rfl rfl)
theorem dX9_seeing_26 : decode cX9_seeing 26 = .ok (.iinc 2 1, 3) := dk_132 2 1 (dk_at dksX9_seeing_1 2 rfl rfl)
theorem dX9_seeing_29 : decode cX9_seeing 29 = .ok (.goto (-25), 3) := dk_167 255 231 (dk_at dksX9_seeing_1 5 rfl rfl)
theorem dX9_seeing_32 : decode cX9_seeing 32 = .ok (.iload_n 1, 1) := dk_27 (dk_at dksX9_seeing_1 8 rfl rfl)
theorem dX9_seeing_33 : decode cX9_seeing 33 = .ok (.ireturn, 1) := dk_172 (dk_at dksX9_seeing_1 9 rfl rfl)
abbrev cX9_degree : ByteArray := prog_13_method_91_code
def yX9_degree : MethodName := ⟨RX9, "degree", "()I"⟩
def dkwX9_degree_2 : List UInt8 := [21, 4, 184, 1, 66, 60, 132, 4, 1, 167, 255, 220, 132, 2, 1, 167, 255, 197, 27, 172]
abbrev dktX9_degree_2 : List UInt8 := dkwX9_degree_2 ++ []
def dkwX9_degree_1 : List UInt8 := [182, 0, 248, 162, 0, 33, 29, 21, 4, 184, 1, 5, 153, 0, 18, 21, 4, 184, 1, 66, 27, 164, 0, 9]
abbrev dktX9_degree_1 : List UInt8 := dkwX9_degree_1 ++ dktX9_degree_2
def dkwX9_degree_0 : List UInt8 := [3, 60, 3, 61, 28, 42, 180, 0, 203, 162, 0, 57, 42, 28, 182, 1, 141, 62, 3, 54, 4, 21, 4, 42]
abbrev dktX9_degree_0 : List UInt8 := dkwX9_degree_0 ++ dktX9_degree_1
theorem dksX9_degree_0 : cX9_degree.data.toList.drop 0 = dktX9_degree_0 := by decide +kernel
theorem dksX9_degree_1 : cX9_degree.data.toList.drop 24 = dktX9_degree_1 := dk_seg dksX9_degree_0 24 rfl rfl
theorem dksX9_degree_2 : cX9_degree.data.toList.drop 48 = dktX9_degree_2 := dk_seg dksX9_degree_1 24 rfl rfl
theorem dX9_degree_0 : decode cX9_degree 0 = .ok (.iconst 0, 1) := dk_3 (dk_at dksX9_degree_0 0 rfl rfl)
theorem dX9_degree_1 : decode cX9_degree 1 = .ok (.istore_n 1, 1) := dk_60 (dk_at dksX9_degree_0 1 rfl rfl)
theorem dX9_degree_2 : decode cX9_degree 2 = .ok (.iconst 0, 1) := dk_3 (dk_at dksX9_degree_0 2 rfl rfl)
theorem dX9_degree_3 : decode cX9_degree 3 = .ok (.istore_n 2, 1) := dk_61 (dk_at dksX9_degree_0 3 rfl rfl)
theorem dX9_degree_4 : decode cX9_degree 4 = .ok (.iload_n 2, 1) := dk_28 (dk_at dksX9_degree_0 4 rfl rfl)
theorem dX9_degree_5 : decode cX9_degree 5 = .ok (.aload_n 0, 1) := dk_42 (dk_at dksX9_degree_0 5 rfl rfl)
theorem dX9_degree_6 : decode cX9_degree 6 = .ok (.getfield 203, 3) := dk_180 0 203 (dk_at dksX9_degree_0 6 rfl rfl)
theorem dX9_degree_9 : decode cX9_degree 9 = .ok (.if_icmp .ge 57, 3) := dk_162 0 57 (dk_at dksX9_degree_0 9 rfl rfl)
theorem dX9_degree_12 : decode cX9_degree 12 = .ok (.aload_n 0, 1) := dk_42 (dk_at dksX9_degree_0 12 rfl rfl)
theorem dX9_degree_13 : decode cX9_degree 13 = .ok (.iload_n 2, 1) := dk_28 (dk_at dksX9_degree_0 13 rfl rfl)
theorem dX9_degree_14 : decode cX9_degree 14 = .ok (.invokevirtual 397, 3) := dk_182 1 141 (dk_at dksX9_degree_0 14 rfl rfl)
theorem dX9_degree_17 : decode cX9_degree 17 = .ok (.istore_n 3, 1) := dk_62 (dk_at dksX9_degree_0 17 rfl rfl)
theorem dX9_degree_18 : decode cX9_degree 18 = .ok (.iconst 0, 1) := dk_3 (dk_at dksX9_degree_0 18 rfl rfl)
theorem dX9_degree_19 : decode cX9_degree 19 = .ok (.istore 4, 2) := dk_54 4 (dk_at dksX9_degree_0 19 rfl rfl)
theorem dX9_degree_21 : decode cX9_degree 21 = .ok (.iload 4, 2) := dk_21 4 (dk_at dksX9_degree_0 21 rfl rfl)
theorem dX9_degree_23 : decode cX9_degree 23 = .ok (.aload_n 0, 1) := dk_42 (dk_at dksX9_degree_0 23 rfl rfl)
theorem dX9_degree_24 : decode cX9_degree 24 = .ok (.invokevirtual 248, 3) := dk_182 0 248 (dk_at dksX9_degree_1 0 rfl rfl)
theorem dX9_degree_27 : decode cX9_degree 27 = .ok (.if_icmp .ge 33, 3) := dk_162 0 33 (dk_at dksX9_degree_1 3 rfl rfl)
theorem dX9_degree_30 : decode cX9_degree 30 = .ok (.iload_n 3, 1) := dk_29 (dk_at dksX9_degree_1 6 rfl rfl)
theorem dX9_degree_31 : decode cX9_degree 31 = .ok (.iload 4, 2) := dk_21 4 (dk_at dksX9_degree_1 7 rfl rfl)
theorem dX9_degree_33 : decode cX9_degree 33 = .ok (.invokestatic 261, 3) := dk_184 1 5 (dk_at dksX9_degree_1 9 rfl rfl)
theorem dX9_degree_36 : decode cX9_degree 36 = .ok (.ifCond .eq 18, 3) := dk_153 0 18 (dk_at dksX9_degree_1 12 rfl rfl)
theorem dX9_degree_39 : decode cX9_degree 39 = .ok (.iload 4, 2) := dk_21 4 (dk_at dksX9_degree_1 15 rfl rfl)
theorem dX9_degree_41 : decode cX9_degree 41 = .ok (.invokestatic 322, 3) := dk_184 1 66 (dk_at dksX9_degree_1 17 rfl rfl)
theorem dX9_degree_44 : decode cX9_degree 44 = .ok (.iload_n 1, 1) := dk_27 (dk_at dksX9_degree_1 20 rfl rfl)
theorem dX9_degree_45 : decode cX9_degree 45 = .ok (.if_icmp .le 9, 3) := dk_164 0 9 (dk_at dksX9_degree_1 21 rfl rfl)
theorem dX9_degree_48 : decode cX9_degree 48 = .ok (.iload 4, 2) := dk_21 4 (dk_at dksX9_degree_2 0 rfl rfl)
theorem dX9_degree_50 : decode cX9_degree 50 = .ok (.invokestatic 322, 3) := dk_184 1 66 (dk_at dksX9_degree_2 2 rfl rfl)
theorem dX9_degree_53 : decode cX9_degree 53 = .ok (.istore_n 1, 1) := dk_60 (dk_at dksX9_degree_2 5 rfl rfl)
theorem dX9_degree_54 : decode cX9_degree 54 = .ok (.iinc 4 1, 3) := dk_132 4 1 (dk_at dksX9_degree_2 6 rfl rfl)
theorem dX9_degree_57 : decode cX9_degree 57 = .ok (.goto (-36), 3) := dk_167 255 220 (dk_at dksX9_degree_2 9 rfl rfl)
theorem dX9_degree_60 : decode cX9_degree 60 = .ok (.iinc 2 1, 3) := dk_132 2 1 (dk_at dksX9_degree_2 12 rfl rfl)
theorem dX9_degree_63 : decode cX9_degree 63 = .ok (.goto (-59), 3) := dk_167 255 197 (dk_at dksX9_degree_2 15 rfl rfl)
theorem dX9_degree_66 : decode cX9_degree 66 = .ok (.iload_n 1, 1) := dk_27 (dk_at dksX9_degree_2 18 rfl rfl)
theorem dX9_degree_67 : decode cX9_degree 67 = .ok (.ireturn, 1) := dk_172 (dk_at dksX9_degree_2 19 rfl rfl)
abbrev cX9_sorts : ByteArray := prog_13_method_103_code
def yX9_sorts : MethodName := ⟨RX9, "sorts", "()I"⟩
def dkwX9_sorts_4 : List UInt8 := [29, 153, 0, 6, 132, 1, 1, 132, 2, 1, 167, 255, 155, 27, 172]
abbrev dktX9_sorts_4 : List UInt8 := dkwX9_sorts_4 ++ []
def dkwX9_sorts_3 : List UInt8 := [21, 4, 96, 46, 42, 180, 0, 52, 16, 33, 28, 96, 46, 160, 0, 5, 3, 62, 132, 4, 1, 167, 255, 181]
abbrev dktX9_sorts_3 : List UInt8 := dkwX9_sorts_3 ++ dktX9_sorts_4
def dkwX9_sorts_2 : List UInt8 := [16, 17, 21, 4, 96, 46, 42, 180, 0, 52, 16, 17, 28, 96, 46, 160, 0, 27, 42, 180, 0, 52, 16, 33]
abbrev dktX9_sorts_2 : List UInt8 := dkwX9_sorts_2 ++ dktX9_sorts_3
def dkwX9_sorts_1 : List UInt8 := [180, 0, 52, 4, 21, 4, 96, 46, 42, 180, 0, 52, 4, 28, 96, 46, 160, 0, 49, 42, 180, 0, 52]
abbrev dktX9_sorts_1 : List UInt8 := dkwX9_sorts_1 ++ dktX9_sorts_2
def dkwX9_sorts_0 : List UInt8 := [3, 60, 3, 61, 28, 42, 182, 0, 244, 162, 0, 99, 4, 62, 3, 54, 4, 21, 4, 28, 162, 0, 75, 42]
abbrev dktX9_sorts_0 : List UInt8 := dkwX9_sorts_0 ++ dktX9_sorts_1
theorem dksX9_sorts_0 : cX9_sorts.data.toList.drop 0 = dktX9_sorts_0 := by decide +kernel
theorem dksX9_sorts_1 : cX9_sorts.data.toList.drop 24 = dktX9_sorts_1 := dk_seg dksX9_sorts_0 24 rfl rfl
theorem dksX9_sorts_2 : cX9_sorts.data.toList.drop 47 = dktX9_sorts_2 := dk_seg dksX9_sorts_1 23 rfl rfl
theorem dksX9_sorts_3 : cX9_sorts.data.toList.drop 71 = dktX9_sorts_3 := dk_seg dksX9_sorts_2 24 rfl rfl
theorem dksX9_sorts_4 : cX9_sorts.data.toList.drop 95 = dktX9_sorts_4 := dk_seg dksX9_sorts_3 24 rfl rfl
theorem dX9_sorts_0 : decode cX9_sorts 0 = .ok (.iconst 0, 1) := dk_3 (dk_at dksX9_sorts_0 0 rfl rfl)
theorem dX9_sorts_1 : decode cX9_sorts 1 = .ok (.istore_n 1, 1) := dk_60 (dk_at dksX9_sorts_0 1 rfl rfl)
theorem dX9_sorts_2 : decode cX9_sorts 2 = .ok (.iconst 0, 1) := dk_3 (dk_at dksX9_sorts_0 2 rfl rfl)
theorem dX9_sorts_3 : decode cX9_sorts 3 = .ok (.istore_n 2, 1) := dk_61 (dk_at dksX9_sorts_0 3 rfl rfl)
theorem dX9_sorts_4 : decode cX9_sorts 4 = .ok (.iload_n 2, 1) := dk_28 (dk_at dksX9_sorts_0 4 rfl rfl)
theorem dX9_sorts_5 : decode cX9_sorts 5 = .ok (.aload_n 0, 1) := dk_42 (dk_at dksX9_sorts_0 5 rfl rfl)
theorem dX9_sorts_6 : decode cX9_sorts 6 = .ok (.invokevirtual 244, 3) := dk_182 0 244 (dk_at dksX9_sorts_0 6 rfl rfl)
theorem dX9_sorts_9 : decode cX9_sorts 9 = .ok (.if_icmp .ge 99, 3) := dk_162 0 99 (dk_at dksX9_sorts_0 9 rfl rfl)
theorem dX9_sorts_12 : decode cX9_sorts 12 = .ok (.iconst 1, 1) := dk_4 (dk_at dksX9_sorts_0 12 rfl rfl)
theorem dX9_sorts_13 : decode cX9_sorts 13 = .ok (.istore_n 3, 1) := dk_62 (dk_at dksX9_sorts_0 13 rfl rfl)
theorem dX9_sorts_14 : decode cX9_sorts 14 = .ok (.iconst 0, 1) := dk_3 (dk_at dksX9_sorts_0 14 rfl rfl)
theorem dX9_sorts_15 : decode cX9_sorts 15 = .ok (.istore 4, 2) := dk_54 4 (dk_at dksX9_sorts_0 15 rfl rfl)
theorem dX9_sorts_17 : decode cX9_sorts 17 = .ok (.iload 4, 2) := dk_21 4 (dk_at dksX9_sorts_0 17 rfl rfl)
theorem dX9_sorts_19 : decode cX9_sorts 19 = .ok (.iload_n 2, 1) := dk_28 (dk_at dksX9_sorts_0 19 rfl rfl)
theorem dX9_sorts_20 : decode cX9_sorts 20 = .ok (.if_icmp .ge 75, 3) := dk_162 0 75 (dk_at dksX9_sorts_0 20 rfl rfl)
theorem dX9_sorts_23 : decode cX9_sorts 23 = .ok (.aload_n 0, 1) := dk_42 (dk_at dksX9_sorts_0 23 rfl rfl)
theorem dX9_sorts_24 : decode cX9_sorts 24 = .ok (.getfield 52, 3) := dk_180 0 52 (dk_at dksX9_sorts_1 0 rfl rfl)
theorem dX9_sorts_27 : decode cX9_sorts 27 = .ok (.iconst 1, 1) := dk_4 (dk_at dksX9_sorts_1 3 rfl rfl)
theorem dX9_sorts_28 : decode cX9_sorts 28 = .ok (.iload 4, 2) := dk_21 4 (dk_at dksX9_sorts_1 4 rfl rfl)
theorem dX9_sorts_30 : decode cX9_sorts 30 = .ok (.iadd, 1) := dk_96 (dk_at dksX9_sorts_1 6 rfl rfl)
theorem dX9_sorts_31 : decode cX9_sorts 31 = .ok (.iaload, 1) := dk_46 (dk_at dksX9_sorts_1 7 rfl rfl)
theorem dX9_sorts_32 : decode cX9_sorts 32 = .ok (.aload_n 0, 1) := dk_42 (dk_at dksX9_sorts_1 8 rfl rfl)
theorem dX9_sorts_33 : decode cX9_sorts 33 = .ok (.getfield 52, 3) := dk_180 0 52 (dk_at dksX9_sorts_1 9 rfl rfl)
theorem dX9_sorts_36 : decode cX9_sorts 36 = .ok (.iconst 1, 1) := dk_4 (dk_at dksX9_sorts_1 12 rfl rfl)
theorem dX9_sorts_37 : decode cX9_sorts 37 = .ok (.iload_n 2, 1) := dk_28 (dk_at dksX9_sorts_1 13 rfl rfl)
theorem dX9_sorts_38 : decode cX9_sorts 38 = .ok (.iadd, 1) := dk_96 (dk_at dksX9_sorts_1 14 rfl rfl)
theorem dX9_sorts_39 : decode cX9_sorts 39 = .ok (.iaload, 1) := dk_46 (dk_at dksX9_sorts_1 15 rfl rfl)
theorem dX9_sorts_40 : decode cX9_sorts 40 = .ok (.if_icmp .ne 49, 3) := dk_160 0 49 (dk_at dksX9_sorts_1 16 rfl rfl)
theorem dX9_sorts_43 : decode cX9_sorts 43 = .ok (.aload_n 0, 1) := dk_42 (dk_at dksX9_sorts_1 19 rfl rfl)
theorem dX9_sorts_44 : decode cX9_sorts 44 = .ok (.getfield 52, 3) := dk_180 0 52 (dk_at dksX9_sorts_1 20 rfl rfl)
theorem dX9_sorts_47 : decode cX9_sorts 47 = .ok (.bipush 17, 2) := dk_16 17 (dk_at dksX9_sorts_2 0 rfl rfl)
theorem dX9_sorts_49 : decode cX9_sorts 49 = .ok (.iload 4, 2) := dk_21 4 (dk_at dksX9_sorts_2 2 rfl rfl)
theorem dX9_sorts_51 : decode cX9_sorts 51 = .ok (.iadd, 1) := dk_96 (dk_at dksX9_sorts_2 4 rfl rfl)
theorem dX9_sorts_52 : decode cX9_sorts 52 = .ok (.iaload, 1) := dk_46 (dk_at dksX9_sorts_2 5 rfl rfl)
theorem dX9_sorts_53 : decode cX9_sorts 53 = .ok (.aload_n 0, 1) := dk_42 (dk_at dksX9_sorts_2 6 rfl rfl)
theorem dX9_sorts_54 : decode cX9_sorts 54 = .ok (.getfield 52, 3) := dk_180 0 52 (dk_at dksX9_sorts_2 7 rfl rfl)
theorem dX9_sorts_57 : decode cX9_sorts 57 = .ok (.bipush 17, 2) := dk_16 17 (dk_at dksX9_sorts_2 10 rfl rfl)
theorem dX9_sorts_59 : decode cX9_sorts 59 = .ok (.iload_n 2, 1) := dk_28 (dk_at dksX9_sorts_2 12 rfl rfl)
theorem dX9_sorts_60 : decode cX9_sorts 60 = .ok (.iadd, 1) := dk_96 (dk_at dksX9_sorts_2 13 rfl rfl)
theorem dX9_sorts_61 : decode cX9_sorts 61 = .ok (.iaload, 1) := dk_46 (dk_at dksX9_sorts_2 14 rfl rfl)
theorem dX9_sorts_62 : decode cX9_sorts 62 = .ok (.if_icmp .ne 27, 3) := dk_160 0 27 (dk_at dksX9_sorts_2 15 rfl rfl)
theorem dX9_sorts_65 : decode cX9_sorts 65 = .ok (.aload_n 0, 1) := dk_42 (dk_at dksX9_sorts_2 18 rfl rfl)
theorem dX9_sorts_66 : decode cX9_sorts 66 = .ok (.getfield 52, 3) := dk_180 0 52 (dk_at dksX9_sorts_2 19 rfl rfl)
theorem dX9_sorts_69 : decode cX9_sorts 69 = .ok (.bipush 33, 2) := dk_16 33 (dk_at dksX9_sorts_2 22 rfl rfl)
theorem dX9_sorts_71 : decode cX9_sorts 71 = .ok (.iload 4, 2) := dk_21 4 (dk_at dksX9_sorts_3 0 rfl rfl)
theorem dX9_sorts_73 : decode cX9_sorts 73 = .ok (.iadd, 1) := dk_96 (dk_at dksX9_sorts_3 2 rfl rfl)
theorem dX9_sorts_74 : decode cX9_sorts 74 = .ok (.iaload, 1) := dk_46 (dk_at dksX9_sorts_3 3 rfl rfl)
theorem dX9_sorts_75 : decode cX9_sorts 75 = .ok (.aload_n 0, 1) := dk_42 (dk_at dksX9_sorts_3 4 rfl rfl)
theorem dX9_sorts_76 : decode cX9_sorts 76 = .ok (.getfield 52, 3) := dk_180 0 52 (dk_at dksX9_sorts_3 5 rfl rfl)
theorem dX9_sorts_79 : decode cX9_sorts 79 = .ok (.bipush 33, 2) := dk_16 33 (dk_at dksX9_sorts_3 8 rfl rfl)
theorem dX9_sorts_81 : decode cX9_sorts 81 = .ok (.iload_n 2, 1) := dk_28 (dk_at dksX9_sorts_3 10 rfl rfl)
theorem dX9_sorts_82 : decode cX9_sorts 82 = .ok (.iadd, 1) := dk_96 (dk_at dksX9_sorts_3 11 rfl rfl)
theorem dX9_sorts_83 : decode cX9_sorts 83 = .ok (.iaload, 1) := dk_46 (dk_at dksX9_sorts_3 12 rfl rfl)
theorem dX9_sorts_84 : decode cX9_sorts 84 = .ok (.if_icmp .ne 5, 3) := dk_160 0 5 (dk_at dksX9_sorts_3 13 rfl rfl)
theorem dX9_sorts_87 : decode cX9_sorts 87 = .ok (.iconst 0, 1) := dk_3 (dk_at dksX9_sorts_3 16 rfl rfl)
theorem dX9_sorts_88 : decode cX9_sorts 88 = .ok (.istore_n 3, 1) := dk_62 (dk_at dksX9_sorts_3 17 rfl rfl)
theorem dX9_sorts_89 : decode cX9_sorts 89 = .ok (.iinc 4 1, 3) := dk_132 4 1 (dk_at dksX9_sorts_3 18 rfl rfl)
theorem dX9_sorts_92 : decode cX9_sorts 92 = .ok (.goto (-75), 3) := dk_167 255 181 (dk_at dksX9_sorts_3 21 rfl rfl)
theorem dX9_sorts_95 : decode cX9_sorts 95 = .ok (.iload_n 3, 1) := dk_29 (dk_at dksX9_sorts_4 0 rfl rfl)
theorem dX9_sorts_96 : decode cX9_sorts 96 = .ok (.ifCond .eq 6, 3) := dk_153 0 6 (dk_at dksX9_sorts_4 1 rfl rfl)
theorem dX9_sorts_99 : decode cX9_sorts 99 = .ok (.iinc 1 1, 3) := dk_132 1 1 (dk_at dksX9_sorts_4 4 rfl rfl)
theorem dX9_sorts_102 : decode cX9_sorts 102 = .ok (.iinc 2 1, 3) := dk_132 2 1 (dk_at dksX9_sorts_4 7 rfl rfl)
theorem dX9_sorts_105 : decode cX9_sorts 105 = .ok (.goto (-101), 3) := dk_167 255 155 (dk_at dksX9_sorts_4 10 rfl rfl)
theorem dX9_sorts_108 : decode cX9_sorts 108 = .ok (.iload_n 1, 1) := dk_27 (dk_at dksX9_sorts_4 13 rfl rfl)
theorem dX9_sorts_109 : decode cX9_sorts 109 = .ok (.ireturn, 1) := dk_172 (dk_at dksX9_sorts_4 14 rfl rfl)
theorem q156 : (Jvm.Cond.initialized "BackLogicModel") ∈ lw_all := lw_g (lw_at lw_m1 27 rfl) rfl
theorem q297 : (Jvm.Cond.selects "BackLogicModel" ({ cls := "java/lang/Object", name := "getClass", desc := "()Ljava/lang/Class;" } : Jvm.MethodName) ({ cls := "java/lang/Object", name := "getClass", desc := "()Ljava/lang/Class;" } : Jvm.MethodName)) ∈ lw_all := lw_g (lw_at lw_m1 168 rfl) rfl
theorem q2093 : (Jvm.Cond.instantiable "BackLogicModel" (56 : Nat)) ∈ lw_all := lw_g (lw_at lw_m9 44 rfl) rfl
theorem q2095 : (Jvm.Cond.instanceMethod ({ cls := "BackLogicModel", name := "<init>", desc := "()V" } : Jvm.MethodName)) ∈ lw_all := lw_g (lw_at lw_m9 46 rfl) rfl
theorem q2096 : (Jvm.Cond.code ({ cls := "BackLogicModel", name := "<init>", desc := "()V" } : Jvm.MethodName) prog_13_method_2_code (1 : Nat) (Option.none : Option Jvm.ClassFile.FieldType)) ∈ lw_all := lw_g (lw_at lw_m9 47 rfl) rfl
theorem q2097 : (Jvm.Cond.methodLink "BackLogicModel" (7 : Nat) ({ cls := "java/lang/Object", name := "<init>", desc := "()V" } : Jvm.MethodName)) ∈ lw_all := lw_g (lw_at lw_m9 48 rfl) rfl
theorem q2098 : (Jvm.Cond.constant "BackLogicModel" (101 : Nat) (40320 : Int32)) ∈ lw_all := lw_g (lw_at lw_m9 49 rfl) rfl
theorem q2099 : (Jvm.Cond.methodLink "BackLogicModel" (123 : Nat) ({ cls := "BackLogicModel", name := "letters", desc := "(IIIIIII)J" } : Jvm.MethodName)) ∈ lw_all := lw_g (lw_at lw_m9 50 rfl) rfl
theorem q2100 : (Jvm.Cond.static ({ cls := "BackLogicModel", name := "letters", desc := "(IIIIIII)J" } : Jvm.MethodName)) ∈ lw_all := lw_g (lw_at lw_m9 51 rfl) rfl
theorem q2101 : (Jvm.Cond.code ({ cls := "BackLogicModel", name := "letters", desc := "(IIIIIII)J" } : Jvm.MethodName) prog_13_method_10_code (7 : Nat) (Option.some Jvm.ClassFile.FieldType.long)) ∈ lw_all := lw_g (lw_at lw_m9 52 rfl) rfl
theorem q2102 : (Jvm.Cond.methodLink "BackLogicModel" (139 : Nat) ({ cls := "BackLogicModel", name := "appends", desc := "(JI)J" } : Jvm.MethodName)) ∈ lw_all := lw_g (lw_at lw_m9 53 rfl) rfl
theorem q2103 : (Jvm.Cond.static ({ cls := "BackLogicModel", name := "appends", desc := "(JI)J" } : Jvm.MethodName)) ∈ lw_all := lw_g (lw_at lw_m9 54 rfl) rfl
theorem q2104 : (Jvm.Cond.code ({ cls := "BackLogicModel", name := "appends", desc := "(JI)J" } : Jvm.MethodName) prog_13_method_9_code (3 : Nat) (Option.some Jvm.ClassFile.FieldType.long)) ∈ lw_all := lw_g (lw_at lw_m9 55 rfl) rfl
theorem q2105 : (Jvm.Cond.constantLong "BackLogicModel" (137 : Nat) (27 : Int64)) ∈ lw_all := lw_g (lw_at lw_m9 56 rfl) rfl
theorem q2106 : (Jvm.Cond.fieldLink "BackLogicModel" (13 : Nat) "BackLogicModel" "tape" "[B") ∈ lw_all := lw_g (lw_at lw_m9 57 rfl) rfl
theorem q2107 : (Jvm.Cond.fieldLink "BackLogicModel" (127 : Nat) "BackLogicModel" "taped" "I") ∈ lw_all := lw_g (lw_at lw_m9 58 rfl) rfl
theorem q2108 : (Jvm.Cond.fieldLink "BackLogicModel" (17 : Nat) "BackLogicModel" "text" "[B") ∈ lw_all := lw_g (lw_at lw_m9 59 rfl) rfl
theorem q2109 : (Jvm.Cond.fieldLink "BackLogicModel" (134 : Nat) "BackLogicModel" "size" "I") ∈ lw_all := lw_g (lw_at lw_m9 60 rfl) rfl
theorem q2110 : (Jvm.Cond.fieldLink "BackLogicModel" (20 : Nat) "BackLogicModel" "tKind" "[I") ∈ lw_all := lw_g (lw_at lw_m9 61 rfl) rfl
theorem q2111 : (Jvm.Cond.fieldLink "BackLogicModel" (24 : Nat) "BackLogicModel" "tPlace" "[I") ∈ lw_all := lw_g (lw_at lw_m9 62 rfl) rfl
theorem q2112 : (Jvm.Cond.fieldLink "BackLogicModel" (27 : Nat) "BackLogicModel" "tValue" "[I") ∈ lw_all := lw_g (lw_at lw_m9 63 rfl) rfl
theorem q2113 : (Jvm.Cond.fieldLink "BackLogicModel" (30 : Nat) "BackLogicModel" "tName" "[J") ∈ lw_all := lw_g (lw_at lw_m9 64 rfl) rfl
theorem q2114 : (Jvm.Cond.fieldLink "BackLogicModel" (34 : Nat) "BackLogicModel" "keys" "[J") ∈ lw_all := lw_g (lw_at lw_m9 65 rfl) rfl
theorem q2115 : (Jvm.Cond.fieldLink "BackLogicModel" (143 : Nat) "BackLogicModel" "tokens" "I") ∈ lw_all := lw_g (lw_at lw_m9 66 rfl) rfl
theorem q2116 : (Jvm.Cond.fieldLink "BackLogicModel" (168 : Nat) "BackLogicModel" "t" "I") ∈ lw_all := lw_g (lw_at lw_m9 67 rfl) rfl
theorem q2117 : (Jvm.Cond.fieldLink "BackLogicModel" (165 : Nat) "BackLogicModel" "fault" "I") ∈ lw_all := lw_g (lw_at lw_m9 68 rfl) rfl
theorem q2118 : (Jvm.Cond.fieldLink "BackLogicModel" (171 : Nat) "BackLogicModel" "faultPlace" "I") ∈ lw_all := lw_g (lw_at lw_m9 69 rfl) rfl
theorem q2119 : (Jvm.Cond.fieldLink "BackLogicModel" (174 : Nat) "BackLogicModel" "worst" "I") ∈ lw_all := lw_g (lw_at lw_m9 70 rfl) rfl
theorem q2120 : (Jvm.Cond.fieldLink "BackLogicModel" (177 : Nat) "BackLogicModel" "worstPlace" "I") ∈ lw_all := lw_g (lw_at lw_m9 71 rfl) rfl
theorem q2121 : (Jvm.Cond.fieldLink "BackLogicModel" (37 : Nat) "BackLogicModel" "place" "I") ∈ lw_all := lw_g (lw_at lw_m9 72 rfl) rfl
theorem q2122 : (Jvm.Cond.fieldLink "BackLogicModel" (203 : Nat) "BackLogicModel" "wires" "I") ∈ lw_all := lw_g (lw_at lw_m9 73 rfl) rfl
theorem q2123 : (Jvm.Cond.fieldLink "BackLogicModel" (40 : Nat) "BackLogicModel" "price" "[I") ∈ lw_all := lw_g (lw_at lw_m9 74 rfl) rfl
theorem q2124 : (Jvm.Cond.fieldLink "BackLogicModel" (209 : Nat) "BackLogicModel" "inputs" "I") ∈ lw_all := lw_g (lw_at lw_m9 75 rfl) rfl
theorem q2125 : (Jvm.Cond.fieldLink "BackLogicModel" (215 : Nat) "BackLogicModel" "outputs" "I") ∈ lw_all := lw_g (lw_at lw_m9 76 rfl) rfl
theorem q2126 : (Jvm.Cond.fieldLink "BackLogicModel" (43 : Nat) "BackLogicModel" "valueOf" "[I") ∈ lw_all := lw_g (lw_at lw_m9 77 rfl) rfl
theorem q2127 : (Jvm.Cond.fieldLink "BackLogicModel" (192 : Nat) "BackLogicModel" "newWires" "I") ∈ lw_all := lw_g (lw_at lw_m9 78 rfl) rfl
theorem q2128 : (Jvm.Cond.fieldLink "BackLogicModel" (195 : Nat) "BackLogicModel" "newGates" "I") ∈ lw_all := lw_g (lw_at lw_m9 79 rfl) rfl
theorem q2129 : (Jvm.Cond.fieldLink "BackLogicModel" (46 : Nat) "BackLogicModel" "newPrice" "[I") ∈ lw_all := lw_g (lw_at lw_m9 80 rfl) rfl
theorem q2130 : (Jvm.Cond.fieldLink "BackLogicModel" (206 : Nat) "BackLogicModel" "newInputs" "I") ∈ lw_all := lw_g (lw_at lw_m9 81 rfl) rfl
theorem q2131 : (Jvm.Cond.fieldLink "BackLogicModel" (212 : Nat) "BackLogicModel" "newOutputs" "I") ∈ lw_all := lw_g (lw_at lw_m9 82 rfl) rfl
theorem q2132 : (Jvm.Cond.fieldLink "BackLogicModel" (49 : Nat) "BackLogicModel" "newValue" "[I") ∈ lw_all := lw_g (lw_at lw_m9 83 rfl) rfl
theorem q2133 : (Jvm.Cond.fieldLink "BackLogicModel" (52 : Nat) "BackLogicModel" "now" "[I") ∈ lw_all := lw_g (lw_at lw_m9 84 rfl) rfl
theorem q2134 : (Jvm.Cond.fieldLink "BackLogicModel" (55 : Nat) "BackLogicModel" "fresh" "[I") ∈ lw_all := lw_g (lw_at lw_m9 85 rfl) rfl
theorem q2135 : (Jvm.Cond.fieldLink "BackLogicModel" (58 : Nat) "BackLogicModel" "earlier" "[I") ∈ lw_all := lw_g (lw_at lw_m9 86 rfl) rfl
theorem q2136 : (Jvm.Cond.fieldLink "BackLogicModel" (251 : Nat) "BackLogicModel" "earliest" "I") ∈ lw_all := lw_g (lw_at lw_m9 87 rfl) rfl
theorem q2137 : (Jvm.Cond.fieldLink "BackLogicModel" (218 : Nat) "BackLogicModel" "undos" "I") ∈ lw_all := lw_g (lw_at lw_m9 88 rfl) rfl
theorem q2138 : (Jvm.Cond.fieldLink "BackLogicModel" (61 : Nat) "BackLogicModel" "held" "[I") ∈ lw_all := lw_g (lw_at lw_m9 89 rfl) rfl
theorem q2139 : (Jvm.Cond.fieldLink "BackLogicModel" (64 : Nat) "BackLogicModel" "isHeld" "[Z") ∈ lw_all := lw_g (lw_at lw_m9 90 rfl) rfl
theorem q2140 : (Jvm.Cond.fieldLink "BackLogicModel" (68 : Nat) "BackLogicModel" "orderOf" "[I") ∈ lw_all := lw_g (lw_at lw_m9 91 rfl) rfl
theorem q2141 : (Jvm.Cond.fieldLink "BackLogicModel" (71 : Nat) "BackLogicModel" "levelOf" "[I") ∈ lw_all := lw_g (lw_at lw_m9 92 rfl) rfl
theorem q2142 : (Jvm.Cond.fieldLink "BackLogicModel" (74 : Nat) "BackLogicModel" "laid" "[I") ∈ lw_all := lw_g (lw_at lw_m9 93 rfl) rfl
theorem q2143 : (Jvm.Cond.fieldLink "BackLogicModel" (296 : Nat) "BackLogicModel" "foundMany" "I") ∈ lw_all := lw_g (lw_at lw_m9 94 rfl) rfl
theorem q2144 : (Jvm.Cond.fieldLink "BackLogicModel" (77 : Nat) "BackLogicModel" "foundTarget" "[I") ∈ lw_all := lw_g (lw_at lw_m9 95 rfl) rfl
theorem q2145 : (Jvm.Cond.fieldLink "BackLogicModel" (80 : Nat) "BackLogicModel" "foundOn" "[I") ∈ lw_all := lw_g (lw_at lw_m9 96 rfl) rfl
theorem q2146 : (Jvm.Cond.fieldLink "BackLogicModel" (347 : Nat) "BackLogicModel" "aheadMany" "I") ∈ lw_all := lw_g (lw_at lw_m9 97 rfl) rfl
theorem q2147 : (Jvm.Cond.fieldLink "BackLogicModel" (350 : Nat) "BackLogicModel" "behindMany" "I") ∈ lw_all := lw_g (lw_at lw_m9 98 rfl) rfl
theorem q2148 : (Jvm.Cond.fieldLink "BackLogicModel" (83 : Nat) "BackLogicModel" "aheadTarget" "[I") ∈ lw_all := lw_g (lw_at lw_m9 99 rfl) rfl
theorem q2149 : (Jvm.Cond.fieldLink "BackLogicModel" (86 : Nat) "BackLogicModel" "aheadOn" "[I") ∈ lw_all := lw_g (lw_at lw_m9 100 rfl) rfl
theorem q2150 : (Jvm.Cond.fieldLink "BackLogicModel" (89 : Nat) "BackLogicModel" "behindTarget" "[I") ∈ lw_all := lw_g (lw_at lw_m9 101 rfl) rfl
theorem q2151 : (Jvm.Cond.fieldLink "BackLogicModel" (92 : Nat) "BackLogicModel" "behindOn" "[I") ∈ lw_all := lw_g (lw_at lw_m9 102 rfl) rfl
theorem q2152 : (Jvm.Cond.fieldLink "BackLogicModel" (95 : Nat) "BackLogicModel" "moved" "[I") ∈ lw_all := lw_g (lw_at lw_m9 103 rfl) rfl
theorem q2153 : (Jvm.Cond.fieldLink "BackLogicModel" (98 : Nat) "BackLogicModel" "tableWires" "I") ∈ lw_all := lw_g (lw_at lw_m9 104 rfl) rfl
theorem q2154 : (Jvm.Cond.fieldLink "BackLogicModel" (102 : Nat) "BackLogicModel" "fewest" "[I") ∈ lw_all := lw_g (lw_at lw_m9 105 rfl) rfl
theorem q2155 : (Jvm.Cond.fieldLink "BackLogicModel" (105 : Nat) "BackLogicModel" "waiting" "[I") ∈ lw_all := lw_g (lw_at lw_m9 106 rfl) rfl
theorem q2156 : (Jvm.Cond.fieldLink "BackLogicModel" (108 : Nat) "BackLogicModel" "line" "[I") ∈ lw_all := lw_g (lw_at lw_m9 107 rfl) rfl
theorem q2157 : (Jvm.Cond.fieldLink "BackLogicModel" (111 : Nat) "BackLogicModel" "tried" "[I") ∈ lw_all := lw_g (lw_at lw_m9 108 rfl) rfl
theorem q2158 : (Jvm.Cond.fieldLink "BackLogicModel" (114 : Nat) "BackLogicModel" "place1" "[I") ∈ lw_all := lw_g (lw_at lw_m9 109 rfl) rfl
theorem q2159 : (Jvm.Cond.fieldLink "BackLogicModel" (117 : Nat) "BackLogicModel" "sees" "[I") ∈ lw_all := lw_g (lw_at lw_m9 110 rfl) rfl
theorem q2160 : (Jvm.Cond.fieldLink "BackLogicModel" (120 : Nat) "BackLogicModel" "isMade" "[Z") ∈ lw_all := lw_g (lw_at lw_m9 111 rfl) rfl
theorem q2161 : (Jvm.Cond.lays "BackLogicModel" "BackLogicModel" "thrown" "I") ∈ lw_all := lw_g (lw_at lw_m9 112 rfl) rfl
theorem q2162 : (Jvm.Cond.soleField "BackLogicModel" "thrown") ∈ lw_all := lw_g (lw_at lw_m9 113 rfl) rfl
theorem q2163 : (Jvm.Cond.laysFinal "BackLogicModel" "BackLogicModel" "tape" "[B") ∈ lw_all := lw_g (lw_at lw_m9 114 rfl) rfl
theorem q2164 : (Jvm.Cond.soleField "BackLogicModel" "tape") ∈ lw_all := lw_g (lw_at lw_m9 115 rfl) rfl
theorem q2165 : (Jvm.Cond.lays "BackLogicModel" "BackLogicModel" "taped" "I") ∈ lw_all := lw_g (lw_at lw_m9 116 rfl) rfl
theorem q2166 : (Jvm.Cond.soleField "BackLogicModel" "taped") ∈ lw_all := lw_g (lw_at lw_m9 117 rfl) rfl
theorem q2167 : (Jvm.Cond.laysFinal "BackLogicModel" "BackLogicModel" "text" "[B") ∈ lw_all := lw_g (lw_at lw_m9 118 rfl) rfl
theorem q2168 : (Jvm.Cond.soleField "BackLogicModel" "text") ∈ lw_all := lw_g (lw_at lw_m9 119 rfl) rfl
theorem q2169 : (Jvm.Cond.lays "BackLogicModel" "BackLogicModel" "size" "I") ∈ lw_all := lw_g (lw_at lw_m9 120 rfl) rfl
theorem q2170 : (Jvm.Cond.soleField "BackLogicModel" "size") ∈ lw_all := lw_g (lw_at lw_m9 121 rfl) rfl
theorem q2171 : (Jvm.Cond.laysFinal "BackLogicModel" "BackLogicModel" "tKind" "[I") ∈ lw_all := lw_g (lw_at lw_m9 122 rfl) rfl
theorem q2172 : (Jvm.Cond.soleField "BackLogicModel" "tKind") ∈ lw_all := lw_g (lw_at lw_m9 123 rfl) rfl
theorem q2173 : (Jvm.Cond.laysFinal "BackLogicModel" "BackLogicModel" "tPlace" "[I") ∈ lw_all := lw_g (lw_at lw_m9 124 rfl) rfl
theorem q2174 : (Jvm.Cond.soleField "BackLogicModel" "tPlace") ∈ lw_all := lw_g (lw_at lw_m9 125 rfl) rfl
theorem q2175 : (Jvm.Cond.laysFinal "BackLogicModel" "BackLogicModel" "tValue" "[I") ∈ lw_all := lw_g (lw_at lw_m9 126 rfl) rfl
theorem q2176 : (Jvm.Cond.soleField "BackLogicModel" "tValue") ∈ lw_all := lw_g (lw_at lw_m9 127 rfl) rfl
theorem q2177 : (Jvm.Cond.laysFinal "BackLogicModel" "BackLogicModel" "tName" "[J") ∈ lw_all := lw_g (lw_at lw_m9 128 rfl) rfl
theorem q2178 : (Jvm.Cond.soleField "BackLogicModel" "tName") ∈ lw_all := lw_g (lw_at lw_m9 129 rfl) rfl
theorem q2179 : (Jvm.Cond.laysFinal "BackLogicModel" "BackLogicModel" "keys" "[J") ∈ lw_all := lw_g (lw_at lw_m9 130 rfl) rfl
theorem q2180 : (Jvm.Cond.soleField "BackLogicModel" "keys") ∈ lw_all := lw_g (lw_at lw_m9 131 rfl) rfl
theorem q2181 : (Jvm.Cond.lays "BackLogicModel" "BackLogicModel" "tokens" "I") ∈ lw_all := lw_g (lw_at lw_m9 132 rfl) rfl
theorem q2182 : (Jvm.Cond.soleField "BackLogicModel" "tokens") ∈ lw_all := lw_g (lw_at lw_m9 133 rfl) rfl
theorem q2183 : (Jvm.Cond.lays "BackLogicModel" "BackLogicModel" "t" "I") ∈ lw_all := lw_g (lw_at lw_m9 134 rfl) rfl
theorem q2184 : (Jvm.Cond.soleField "BackLogicModel" "t") ∈ lw_all := lw_g (lw_at lw_m9 135 rfl) rfl
theorem q2185 : (Jvm.Cond.lays "BackLogicModel" "BackLogicModel" "fault" "I") ∈ lw_all := lw_g (lw_at lw_m9 136 rfl) rfl
theorem q2186 : (Jvm.Cond.soleField "BackLogicModel" "fault") ∈ lw_all := lw_g (lw_at lw_m9 137 rfl) rfl
theorem q2187 : (Jvm.Cond.lays "BackLogicModel" "BackLogicModel" "faultPlace" "I") ∈ lw_all := lw_g (lw_at lw_m9 138 rfl) rfl
theorem q2188 : (Jvm.Cond.soleField "BackLogicModel" "faultPlace") ∈ lw_all := lw_g (lw_at lw_m9 139 rfl) rfl
theorem q2189 : (Jvm.Cond.lays "BackLogicModel" "BackLogicModel" "worst" "I") ∈ lw_all := lw_g (lw_at lw_m9 140 rfl) rfl
theorem q2190 : (Jvm.Cond.soleField "BackLogicModel" "worst") ∈ lw_all := lw_g (lw_at lw_m9 141 rfl) rfl
theorem q2191 : (Jvm.Cond.lays "BackLogicModel" "BackLogicModel" "worstPlace" "I") ∈ lw_all := lw_g (lw_at lw_m9 142 rfl) rfl
theorem q2192 : (Jvm.Cond.soleField "BackLogicModel" "worstPlace") ∈ lw_all := lw_g (lw_at lw_m9 143 rfl) rfl
theorem q2193 : (Jvm.Cond.lays "BackLogicModel" "BackLogicModel" "place" "I") ∈ lw_all := lw_g (lw_at lw_m9 144 rfl) rfl
theorem q2194 : (Jvm.Cond.soleField "BackLogicModel" "place") ∈ lw_all := lw_g (lw_at lw_m9 145 rfl) rfl
theorem q2195 : (Jvm.Cond.lays "BackLogicModel" "BackLogicModel" "wires" "I") ∈ lw_all := lw_g (lw_at lw_m9 146 rfl) rfl
theorem q2196 : (Jvm.Cond.soleField "BackLogicModel" "wires") ∈ lw_all := lw_g (lw_at lw_m9 147 rfl) rfl
theorem q2197 : (Jvm.Cond.laysFinal "BackLogicModel" "BackLogicModel" "price" "[I") ∈ lw_all := lw_g (lw_at lw_m9 148 rfl) rfl
theorem q2198 : (Jvm.Cond.soleField "BackLogicModel" "price") ∈ lw_all := lw_g (lw_at lw_m9 149 rfl) rfl
theorem q2199 : (Jvm.Cond.lays "BackLogicModel" "BackLogicModel" "inputs" "I") ∈ lw_all := lw_g (lw_at lw_m9 150 rfl) rfl
theorem q2200 : (Jvm.Cond.soleField "BackLogicModel" "inputs") ∈ lw_all := lw_g (lw_at lw_m9 151 rfl) rfl
theorem q2201 : (Jvm.Cond.lays "BackLogicModel" "BackLogicModel" "outputs" "I") ∈ lw_all := lw_g (lw_at lw_m9 152 rfl) rfl
theorem q2202 : (Jvm.Cond.soleField "BackLogicModel" "outputs") ∈ lw_all := lw_g (lw_at lw_m9 153 rfl) rfl
theorem q2203 : (Jvm.Cond.laysFinal "BackLogicModel" "BackLogicModel" "valueOf" "[I") ∈ lw_all := lw_g (lw_at lw_m9 154 rfl) rfl
theorem q2204 : (Jvm.Cond.soleField "BackLogicModel" "valueOf") ∈ lw_all := lw_g (lw_at lw_m9 155 rfl) rfl
theorem q2205 : (Jvm.Cond.lays "BackLogicModel" "BackLogicModel" "newWires" "I") ∈ lw_all := lw_g (lw_at lw_m9 156 rfl) rfl
theorem q2206 : (Jvm.Cond.soleField "BackLogicModel" "newWires") ∈ lw_all := lw_g (lw_at lw_m9 157 rfl) rfl
theorem q2207 : (Jvm.Cond.lays "BackLogicModel" "BackLogicModel" "newGates" "I") ∈ lw_all := lw_g (lw_at lw_m9 158 rfl) rfl
theorem q2208 : (Jvm.Cond.soleField "BackLogicModel" "newGates") ∈ lw_all := lw_g (lw_at lw_m9 159 rfl) rfl
theorem q2209 : (Jvm.Cond.laysFinal "BackLogicModel" "BackLogicModel" "newPrice" "[I") ∈ lw_all := lw_g (lw_at lw_m9 160 rfl) rfl
theorem q2210 : (Jvm.Cond.soleField "BackLogicModel" "newPrice") ∈ lw_all := lw_g (lw_at lw_m9 161 rfl) rfl
theorem q2211 : (Jvm.Cond.lays "BackLogicModel" "BackLogicModel" "newInputs" "I") ∈ lw_all := lw_g (lw_at lw_m9 162 rfl) rfl
theorem q2212 : (Jvm.Cond.soleField "BackLogicModel" "newInputs") ∈ lw_all := lw_g (lw_at lw_m9 163 rfl) rfl
theorem q2213 : (Jvm.Cond.lays "BackLogicModel" "BackLogicModel" "newOutputs" "I") ∈ lw_all := lw_g (lw_at lw_m9 164 rfl) rfl
theorem q2214 : (Jvm.Cond.soleField "BackLogicModel" "newOutputs") ∈ lw_all := lw_g (lw_at lw_m9 165 rfl) rfl
theorem q2215 : (Jvm.Cond.laysFinal "BackLogicModel" "BackLogicModel" "newValue" "[I") ∈ lw_all := lw_g (lw_at lw_m9 166 rfl) rfl
theorem q2216 : (Jvm.Cond.soleField "BackLogicModel" "newValue") ∈ lw_all := lw_g (lw_at lw_m9 167 rfl) rfl
theorem q2217 : (Jvm.Cond.laysFinal "BackLogicModel" "BackLogicModel" "now" "[I") ∈ lw_all := lw_g (lw_at lw_m9 168 rfl) rfl
theorem q2218 : (Jvm.Cond.soleField "BackLogicModel" "now") ∈ lw_all := lw_g (lw_at lw_m9 169 rfl) rfl
theorem q2219 : (Jvm.Cond.laysFinal "BackLogicModel" "BackLogicModel" "fresh" "[I") ∈ lw_all := lw_g (lw_at lw_m9 170 rfl) rfl
theorem q2220 : (Jvm.Cond.soleField "BackLogicModel" "fresh") ∈ lw_all := lw_g (lw_at lw_m9 171 rfl) rfl
theorem q2221 : (Jvm.Cond.laysFinal "BackLogicModel" "BackLogicModel" "earlier" "[I") ∈ lw_all := lw_g (lw_at lw_m9 172 rfl) rfl
theorem q2222 : (Jvm.Cond.soleField "BackLogicModel" "earlier") ∈ lw_all := lw_g (lw_at lw_m9 173 rfl) rfl
theorem q2223 : (Jvm.Cond.lays "BackLogicModel" "BackLogicModel" "earliest" "I") ∈ lw_all := lw_g (lw_at lw_m9 174 rfl) rfl
theorem q2224 : (Jvm.Cond.soleField "BackLogicModel" "earliest") ∈ lw_all := lw_g (lw_at lw_m9 175 rfl) rfl
theorem q2225 : (Jvm.Cond.lays "BackLogicModel" "BackLogicModel" "undos" "I") ∈ lw_all := lw_g (lw_at lw_m9 176 rfl) rfl
theorem q2226 : (Jvm.Cond.soleField "BackLogicModel" "undos") ∈ lw_all := lw_g (lw_at lw_m9 177 rfl) rfl
theorem q2227 : (Jvm.Cond.laysFinal "BackLogicModel" "BackLogicModel" "held" "[I") ∈ lw_all := lw_g (lw_at lw_m9 178 rfl) rfl
theorem q2228 : (Jvm.Cond.soleField "BackLogicModel" "held") ∈ lw_all := lw_g (lw_at lw_m9 179 rfl) rfl
theorem q2229 : (Jvm.Cond.laysFinal "BackLogicModel" "BackLogicModel" "isHeld" "[Z") ∈ lw_all := lw_g (lw_at lw_m9 180 rfl) rfl
theorem q2230 : (Jvm.Cond.soleField "BackLogicModel" "isHeld") ∈ lw_all := lw_g (lw_at lw_m9 181 rfl) rfl
theorem q2231 : (Jvm.Cond.laysFinal "BackLogicModel" "BackLogicModel" "orderOf" "[I") ∈ lw_all := lw_g (lw_at lw_m9 182 rfl) rfl
theorem q2232 : (Jvm.Cond.soleField "BackLogicModel" "orderOf") ∈ lw_all := lw_g (lw_at lw_m9 183 rfl) rfl
theorem q2233 : (Jvm.Cond.laysFinal "BackLogicModel" "BackLogicModel" "levelOf" "[I") ∈ lw_all := lw_g (lw_at lw_m9 184 rfl) rfl
theorem q2234 : (Jvm.Cond.soleField "BackLogicModel" "levelOf") ∈ lw_all := lw_g (lw_at lw_m9 185 rfl) rfl
theorem q2235 : (Jvm.Cond.laysFinal "BackLogicModel" "BackLogicModel" "laid" "[I") ∈ lw_all := lw_g (lw_at lw_m9 186 rfl) rfl
theorem q2236 : (Jvm.Cond.soleField "BackLogicModel" "laid") ∈ lw_all := lw_g (lw_at lw_m9 187 rfl) rfl
theorem q2237 : (Jvm.Cond.lays "BackLogicModel" "BackLogicModel" "foundMany" "I") ∈ lw_all := lw_g (lw_at lw_m9 188 rfl) rfl
theorem q2238 : (Jvm.Cond.soleField "BackLogicModel" "foundMany") ∈ lw_all := lw_g (lw_at lw_m9 189 rfl) rfl
theorem q2239 : (Jvm.Cond.laysFinal "BackLogicModel" "BackLogicModel" "foundTarget" "[I") ∈ lw_all := lw_g (lw_at lw_m9 190 rfl) rfl
theorem q2240 : (Jvm.Cond.soleField "BackLogicModel" "foundTarget") ∈ lw_all := lw_g (lw_at lw_m9 191 rfl) rfl
theorem q2241 : (Jvm.Cond.laysFinal "BackLogicModel" "BackLogicModel" "foundOn" "[I") ∈ lw_all := lw_g (lw_at lw_m9 192 rfl) rfl
theorem q2242 : (Jvm.Cond.soleField "BackLogicModel" "foundOn") ∈ lw_all := lw_g (lw_at lw_m9 193 rfl) rfl
theorem q2243 : (Jvm.Cond.lays "BackLogicModel" "BackLogicModel" "aheadMany" "I") ∈ lw_all := lw_g (lw_at lw_m9 194 rfl) rfl
theorem q2244 : (Jvm.Cond.soleField "BackLogicModel" "aheadMany") ∈ lw_all := lw_g (lw_at lw_m9 195 rfl) rfl
theorem q2245 : (Jvm.Cond.lays "BackLogicModel" "BackLogicModel" "behindMany" "I") ∈ lw_all := lw_g (lw_at lw_m9 196 rfl) rfl
theorem q2246 : (Jvm.Cond.soleField "BackLogicModel" "behindMany") ∈ lw_all := lw_g (lw_at lw_m9 197 rfl) rfl
theorem q2247 : (Jvm.Cond.laysFinal "BackLogicModel" "BackLogicModel" "aheadTarget" "[I") ∈ lw_all := lw_g (lw_at lw_m9 198 rfl) rfl
theorem q2248 : (Jvm.Cond.soleField "BackLogicModel" "aheadTarget") ∈ lw_all := lw_g (lw_at lw_m9 199 rfl) rfl
theorem q2249 : (Jvm.Cond.laysFinal "BackLogicModel" "BackLogicModel" "aheadOn" "[I") ∈ lw_all := lw_g (lw_at lw_m9 200 rfl) rfl
theorem q2250 : (Jvm.Cond.soleField "BackLogicModel" "aheadOn") ∈ lw_all := lw_g (lw_at lw_m9 201 rfl) rfl
theorem q2251 : (Jvm.Cond.laysFinal "BackLogicModel" "BackLogicModel" "behindTarget" "[I") ∈ lw_all := lw_g (lw_at lw_m9 202 rfl) rfl
theorem q2252 : (Jvm.Cond.soleField "BackLogicModel" "behindTarget") ∈ lw_all := lw_g (lw_at lw_m9 203 rfl) rfl
theorem q2253 : (Jvm.Cond.laysFinal "BackLogicModel" "BackLogicModel" "behindOn" "[I") ∈ lw_all := lw_g (lw_at lw_m9 204 rfl) rfl
theorem q2254 : (Jvm.Cond.soleField "BackLogicModel" "behindOn") ∈ lw_all := lw_g (lw_at lw_m9 205 rfl) rfl
theorem q2255 : (Jvm.Cond.laysFinal "BackLogicModel" "BackLogicModel" "moved" "[I") ∈ lw_all := lw_g (lw_at lw_m9 206 rfl) rfl
theorem q2256 : (Jvm.Cond.soleField "BackLogicModel" "moved") ∈ lw_all := lw_g (lw_at lw_m9 207 rfl) rfl
theorem q2257 : (Jvm.Cond.lays "BackLogicModel" "BackLogicModel" "tableWires" "I") ∈ lw_all := lw_g (lw_at lw_m9 208 rfl) rfl
theorem q2258 : (Jvm.Cond.soleField "BackLogicModel" "tableWires") ∈ lw_all := lw_g (lw_at lw_m9 209 rfl) rfl
theorem q2259 : (Jvm.Cond.laysFinal "BackLogicModel" "BackLogicModel" "fewest" "[I") ∈ lw_all := lw_g (lw_at lw_m9 210 rfl) rfl
theorem q2260 : (Jvm.Cond.soleField "BackLogicModel" "fewest") ∈ lw_all := lw_g (lw_at lw_m9 211 rfl) rfl
theorem q2261 : (Jvm.Cond.laysFinal "BackLogicModel" "BackLogicModel" "waiting" "[I") ∈ lw_all := lw_g (lw_at lw_m9 212 rfl) rfl
theorem q2262 : (Jvm.Cond.soleField "BackLogicModel" "waiting") ∈ lw_all := lw_g (lw_at lw_m9 213 rfl) rfl
theorem q2263 : (Jvm.Cond.laysFinal "BackLogicModel" "BackLogicModel" "line" "[I") ∈ lw_all := lw_g (lw_at lw_m9 214 rfl) rfl
theorem q2264 : (Jvm.Cond.soleField "BackLogicModel" "line") ∈ lw_all := lw_g (lw_at lw_m9 215 rfl) rfl
theorem q2265 : (Jvm.Cond.laysFinal "BackLogicModel" "BackLogicModel" "tried" "[I") ∈ lw_all := lw_g (lw_at lw_m9 216 rfl) rfl
theorem q2266 : (Jvm.Cond.soleField "BackLogicModel" "tried") ∈ lw_all := lw_g (lw_at lw_m9 217 rfl) rfl
theorem q2267 : (Jvm.Cond.laysFinal "BackLogicModel" "BackLogicModel" "place1" "[I") ∈ lw_all := lw_g (lw_at lw_m9 218 rfl) rfl
theorem q2268 : (Jvm.Cond.soleField "BackLogicModel" "place1") ∈ lw_all := lw_g (lw_at lw_m9 219 rfl) rfl
theorem q2269 : (Jvm.Cond.laysFinal "BackLogicModel" "BackLogicModel" "sees" "[I") ∈ lw_all := lw_g (lw_at lw_m9 220 rfl) rfl
theorem q2270 : (Jvm.Cond.soleField "BackLogicModel" "sees") ∈ lw_all := lw_g (lw_at lw_m9 221 rfl) rfl
theorem q2271 : (Jvm.Cond.laysFinal "BackLogicModel" "BackLogicModel" "isMade" "[Z") ∈ lw_all := lw_g (lw_at lw_m9 222 rfl) rfl
theorem q2272 : (Jvm.Cond.soleField "BackLogicModel" "isMade") ∈ lw_all := lw_g (lw_at lw_m9 223 rfl) rfl
theorem q2273 : (Jvm.Cond.superclass "BackLogicModel" "java/lang/Object") ∈ lw_all := lw_g (lw_at lw_m9 224 rfl) rfl
theorem q2276 : (Jvm.Cond.instanceMethod ({ cls := "BackLogicModel", name := "feed", desc := "(IIIII)I" } : Jvm.MethodName)) ∈ lw_all := lw_g (lw_at lw_m9 227 rfl) rfl
theorem q2277 : (Jvm.Cond.selects "BackLogicModel" ({ cls := "BackLogicModel", name := "feed", desc := "(IIIII)I" } : Jvm.MethodName) ({ cls := "BackLogicModel", name := "feed", desc := "(IIIII)I" } : Jvm.MethodName)) ∈ lw_all := lw_g (lw_at lw_m9 228 rfl) rfl
theorem q2278 : (Jvm.Cond.code ({ cls := "BackLogicModel", name := "feed", desc := "(IIIII)I" } : Jvm.MethodName) prog_13_method_3_code (6 : Nat) (Option.some Jvm.ClassFile.FieldType.int)) ∈ lw_all := lw_g (lw_at lw_m9 229 rfl) rfl
theorem q2279 : (Jvm.Cond.methodLink "BackLogicModel" (130 : Nat) ({ cls := "BackLogicModel", name := "lays", desc := "(I)V" } : Jvm.MethodName)) ∈ lw_all := lw_g (lw_at lw_m9 230 rfl) rfl
theorem q2280 : (Jvm.Cond.privateMethod ({ cls := "BackLogicModel", name := "lays", desc := "(I)V" } : Jvm.MethodName)) ∈ lw_tbl := lw_at lw_m9 231 rfl
theorem q2281 : (Jvm.Cond.instanceMethod ({ cls := "BackLogicModel", name := "lays", desc := "(I)V" } : Jvm.MethodName)) ∈ lw_all := lw_g (lw_at lw_m9 232 rfl) rfl
theorem q2282 : (Jvm.Cond.code ({ cls := "BackLogicModel", name := "lays", desc := "(I)V" } : Jvm.MethodName) prog_13_method_4_code (3 : Nat) (Option.none : Option Jvm.ClassFile.FieldType)) ∈ lw_all := lw_g (lw_at lw_m9 233 rfl) rfl
theorem q2284 : (Jvm.Cond.instanceMethod ({ cls := "BackLogicModel", name := "back", desc := "(I)I" } : Jvm.MethodName)) ∈ lw_all := lw_g (lw_at lw_m9 235 rfl) rfl
theorem q2285 : (Jvm.Cond.selects "BackLogicModel" ({ cls := "BackLogicModel", name := "back", desc := "(I)I" } : Jvm.MethodName) ({ cls := "BackLogicModel", name := "back", desc := "(I)I" } : Jvm.MethodName)) ∈ lw_all := lw_g (lw_at lw_m9 236 rfl) rfl
theorem q2286 : (Jvm.Cond.code ({ cls := "BackLogicModel", name := "back", desc := "(I)I" } : Jvm.MethodName) prog_13_method_5_code (2 : Nat) (Option.some Jvm.ClassFile.FieldType.int)) ∈ lw_all := lw_g (lw_at lw_m9 237 rfl) rfl
theorem q2288 : (Jvm.Cond.instanceMethod ({ cls := "BackLogicModel", name := "read", desc := "()I" } : Jvm.MethodName)) ∈ lw_all := lw_g (lw_at lw_m9 239 rfl) rfl
theorem q2289 : (Jvm.Cond.selects "BackLogicModel" ({ cls := "BackLogicModel", name := "read", desc := "()I" } : Jvm.MethodName) ({ cls := "BackLogicModel", name := "read", desc := "()I" } : Jvm.MethodName)) ∈ lw_all := lw_g (lw_at lw_m10 0 rfl) rfl
theorem q2290 : (Jvm.Cond.code ({ cls := "BackLogicModel", name := "read", desc := "()I" } : Jvm.MethodName) prog_13_method_19_code (2 : Nat) (Option.some Jvm.ClassFile.FieldType.int)) ∈ lw_all := lw_g (lw_at lw_m10 1 rfl) rfl
theorem q2291 : (Jvm.Cond.methodLink "BackLogicModel" (189 : Nat) ({ cls := "BackLogicModel", name := "cutsText", desc := "()V" } : Jvm.MethodName)) ∈ lw_all := lw_g (lw_at lw_m10 2 rfl) rfl
theorem q2292 : (Jvm.Cond.privateMethod ({ cls := "BackLogicModel", name := "cutsText", desc := "()V" } : Jvm.MethodName)) ∈ lw_tbl := lw_at lw_m10 3 rfl
theorem q2293 : (Jvm.Cond.instanceMethod ({ cls := "BackLogicModel", name := "cutsText", desc := "()V" } : Jvm.MethodName)) ∈ lw_all := lw_g (lw_at lw_m10 4 rfl) rfl
theorem q2294 : (Jvm.Cond.code ({ cls := "BackLogicModel", name := "cutsText", desc := "()V" } : Jvm.MethodName) prog_13_method_12_code (8 : Nat) (Option.none : Option Jvm.ClassFile.FieldType)) ∈ lw_all := lw_g (lw_at lw_m10 5 rfl) rfl
theorem q2295 : (Jvm.Cond.methodLink "BackLogicModel" (146 : Nat) ({ cls := "BackLogicModel", name := "byteAt", desc := "(I)I" } : Jvm.MethodName)) ∈ lw_all := lw_g (lw_at lw_m10 6 rfl) rfl
theorem q2296 : (Jvm.Cond.privateMethod ({ cls := "BackLogicModel", name := "byteAt", desc := "(I)I" } : Jvm.MethodName)) ∈ lw_tbl := lw_at lw_m10 7 rfl
theorem q2297 : (Jvm.Cond.instanceMethod ({ cls := "BackLogicModel", name := "byteAt", desc := "(I)I" } : Jvm.MethodName)) ∈ lw_all := lw_g (lw_at lw_m10 8 rfl) rfl
theorem q2298 : (Jvm.Cond.code ({ cls := "BackLogicModel", name := "byteAt", desc := "(I)I" } : Jvm.MethodName) prog_13_method_6_code (2 : Nat) (Option.some Jvm.ClassFile.FieldType.int)) ∈ lw_all := lw_g (lw_at lw_m10 9 rfl) rfl
theorem q2299 : (Jvm.Cond.methodLink "BackLogicModel" (150 : Nat) ({ cls := "BackLogicModel", name := "token", desc := "(IIIJ)V" } : Jvm.MethodName)) ∈ lw_all := lw_g (lw_at lw_m10 10 rfl) rfl
theorem q2300 : (Jvm.Cond.privateMethod ({ cls := "BackLogicModel", name := "token", desc := "(IIIJ)V" } : Jvm.MethodName)) ∈ lw_tbl := lw_at lw_m10 11 rfl
theorem q2301 : (Jvm.Cond.instanceMethod ({ cls := "BackLogicModel", name := "token", desc := "(IIIJ)V" } : Jvm.MethodName)) ∈ lw_all := lw_g (lw_at lw_m10 12 rfl) rfl
theorem q2302 : (Jvm.Cond.code ({ cls := "BackLogicModel", name := "token", desc := "(IIIJ)V" } : Jvm.MethodName) prog_13_method_11_code (6 : Nat) (Option.none : Option Jvm.ClassFile.FieldType)) ∈ lw_all := lw_g (lw_at lw_m10 13 rfl) rfl
theorem q2303 : (Jvm.Cond.methodLink "BackLogicModel" (154 : Nat) ({ cls := "BackLogicModel", name := "isLetter", desc := "(I)Z" } : Jvm.MethodName)) ∈ lw_all := lw_g (lw_at lw_m10 14 rfl) rfl
theorem q2304 : (Jvm.Cond.static ({ cls := "BackLogicModel", name := "isLetter", desc := "(I)Z" } : Jvm.MethodName)) ∈ lw_all := lw_g (lw_at lw_m10 15 rfl) rfl
theorem q2305 : (Jvm.Cond.code ({ cls := "BackLogicModel", name := "isLetter", desc := "(I)Z" } : Jvm.MethodName) prog_13_method_8_code (1 : Nat) (Option.some Jvm.ClassFile.FieldType.boolean)) ∈ lw_all := lw_g (lw_at lw_m10 16 rfl) rfl
theorem q2306 : (Jvm.Cond.methodLink "BackLogicModel" (158 : Nat) ({ cls := "BackLogicModel", name := "isDigit", desc := "(I)Z" } : Jvm.MethodName)) ∈ lw_all := lw_g (lw_at lw_m10 17 rfl) rfl
theorem q2307 : (Jvm.Cond.static ({ cls := "BackLogicModel", name := "isDigit", desc := "(I)Z" } : Jvm.MethodName)) ∈ lw_all := lw_g (lw_at lw_m10 18 rfl) rfl
theorem q2308 : (Jvm.Cond.code ({ cls := "BackLogicModel", name := "isDigit", desc := "(I)Z" } : Jvm.MethodName) prog_13_method_7_code (1 : Nat) (Option.some Jvm.ClassFile.FieldType.boolean)) ∈ lw_all := lw_g (lw_at lw_m10 19 rfl) rfl
theorem q2309 : (Jvm.Cond.methodLink "BackLogicModel" (161 : Nat) ({ cls := "BackLogicModel", name := "sign", desc := "(II)I" } : Jvm.MethodName)) ∈ lw_all := lw_g (lw_at lw_m10 20 rfl) rfl
theorem q2310 : (Jvm.Cond.privateMethod ({ cls := "BackLogicModel", name := "sign", desc := "(II)I" } : Jvm.MethodName)) ∈ lw_tbl := lw_at lw_m10 21 rfl
theorem q2311 : (Jvm.Cond.instanceMethod ({ cls := "BackLogicModel", name := "sign", desc := "(II)I" } : Jvm.MethodName)) ∈ lw_all := lw_g (lw_at lw_m10 22 rfl) rfl
theorem q2312 : (Jvm.Cond.code ({ cls := "BackLogicModel", name := "sign", desc := "(II)I" } : Jvm.MethodName) prog_13_method_13_code (3 : Nat) (Option.some Jvm.ClassFile.FieldType.int)) ∈ lw_all := lw_g (lw_at lw_m10 23 rfl) rfl
theorem q2313 : (Jvm.Cond.methodLink "BackLogicModel" (183 : Nat) ({ cls := "BackLogicModel", name := "is", desc := "(I)Z" } : Jvm.MethodName)) ∈ lw_all := lw_g (lw_at lw_m10 24 rfl) rfl
theorem q2314 : (Jvm.Cond.privateMethod ({ cls := "BackLogicModel", name := "is", desc := "(I)Z" } : Jvm.MethodName)) ∈ lw_tbl := lw_at lw_m10 25 rfl
theorem q2315 : (Jvm.Cond.instanceMethod ({ cls := "BackLogicModel", name := "is", desc := "(I)Z" } : Jvm.MethodName)) ∈ lw_all := lw_g (lw_at lw_m10 26 rfl) rfl
theorem q2316 : (Jvm.Cond.code ({ cls := "BackLogicModel", name := "is", desc := "(I)Z" } : Jvm.MethodName) prog_13_method_14_code (2 : Nat) (Option.some Jvm.ClassFile.FieldType.boolean)) ∈ lw_all := lw_g (lw_at lw_m10 27 rfl) rfl
theorem q2317 : (Jvm.Cond.methodLink "BackLogicModel" (198 : Nat) ({ cls := "BackLogicModel", name := "line", desc := "()V" } : Jvm.MethodName)) ∈ lw_all := lw_g (lw_at lw_m10 28 rfl) rfl
theorem q2318 : (Jvm.Cond.privateMethod ({ cls := "BackLogicModel", name := "line", desc := "()V" } : Jvm.MethodName)) ∈ lw_tbl := lw_at lw_m10 29 rfl
theorem q2319 : (Jvm.Cond.instanceMethod ({ cls := "BackLogicModel", name := "line", desc := "()V" } : Jvm.MethodName)) ∈ lw_all := lw_g (lw_at lw_m10 30 rfl) rfl
theorem q2320 : (Jvm.Cond.code ({ cls := "BackLogicModel", name := "line", desc := "()V" } : Jvm.MethodName) prog_13_method_21_code (3 : Nat) (Option.none : Option Jvm.ClassFile.FieldType)) ∈ lw_all := lw_g (lw_at lw_m10 31 rfl) rfl
theorem q2321 : (Jvm.Cond.methodLink "BackLogicModel" (180 : Nat) ({ cls := "BackLogicModel", name := "fail", desc := "(I)V" } : Jvm.MethodName)) ∈ lw_all := lw_g (lw_at lw_m10 32 rfl) rfl
theorem q2322 : (Jvm.Cond.privateMethod ({ cls := "BackLogicModel", name := "fail", desc := "(I)V" } : Jvm.MethodName)) ∈ lw_tbl := lw_at lw_m10 33 rfl
theorem q2323 : (Jvm.Cond.instanceMethod ({ cls := "BackLogicModel", name := "fail", desc := "(I)V" } : Jvm.MethodName)) ∈ lw_all := lw_g (lw_at lw_m10 34 rfl) rfl
theorem q2324 : (Jvm.Cond.code ({ cls := "BackLogicModel", name := "fail", desc := "(I)V" } : Jvm.MethodName) prog_13_method_15_code (2 : Nat) (Option.none : Option Jvm.ClassFile.FieldType)) ∈ lw_all := lw_g (lw_at lw_m10 35 rfl) rfl
theorem q2325 : (Jvm.Cond.methodLink "BackLogicModel" (186 : Nat) ({ cls := "BackLogicModel", name := "passes", desc := "()V" } : Jvm.MethodName)) ∈ lw_all := lw_g (lw_at lw_m10 36 rfl) rfl
theorem q2326 : (Jvm.Cond.privateMethod ({ cls := "BackLogicModel", name := "passes", desc := "()V" } : Jvm.MethodName)) ∈ lw_tbl := lw_at lw_m10 37 rfl
theorem q2327 : (Jvm.Cond.instanceMethod ({ cls := "BackLogicModel", name := "passes", desc := "()V" } : Jvm.MethodName)) ∈ lw_all := lw_g (lw_at lw_m10 38 rfl) rfl
theorem q2328 : (Jvm.Cond.code ({ cls := "BackLogicModel", name := "passes", desc := "()V" } : Jvm.MethodName) prog_13_method_17_code (1 : Nat) (Option.none : Option Jvm.ClassFile.FieldType)) ∈ lw_all := lw_g (lw_at lw_m10 39 rfl) rfl
theorem q2329 : (Jvm.Cond.methodLink "BackLogicModel" (221 : Nat) ({ cls := "BackLogicModel", name := "must", desc := "(I)V" } : Jvm.MethodName)) ∈ lw_all := lw_g (lw_at lw_m10 40 rfl) rfl
theorem q2330 : (Jvm.Cond.privateMethod ({ cls := "BackLogicModel", name := "must", desc := "(I)V" } : Jvm.MethodName)) ∈ lw_tbl := lw_at lw_m10 41 rfl
theorem q2331 : (Jvm.Cond.instanceMethod ({ cls := "BackLogicModel", name := "must", desc := "(I)V" } : Jvm.MethodName)) ∈ lw_all := lw_g (lw_at lw_m10 42 rfl) rfl
theorem q2332 : (Jvm.Cond.code ({ cls := "BackLogicModel", name := "must", desc := "(I)V" } : Jvm.MethodName) prog_13_method_18_code (2 : Nat) (Option.none : Option Jvm.ClassFile.FieldType)) ∈ lw_all := lw_g (lw_at lw_m10 43 rfl) rfl
theorem q2333 : (Jvm.Cond.methodLink "BackLogicModel" (224 : Nat) ({ cls := "BackLogicModel", name := "controls", desc := "()V" } : Jvm.MethodName)) ∈ lw_all := lw_g (lw_at lw_m10 44 rfl) rfl
theorem q2334 : (Jvm.Cond.privateMethod ({ cls := "BackLogicModel", name := "controls", desc := "()V" } : Jvm.MethodName)) ∈ lw_tbl := lw_at lw_m10 45 rfl
theorem q2335 : (Jvm.Cond.instanceMethod ({ cls := "BackLogicModel", name := "controls", desc := "()V" } : Jvm.MethodName)) ∈ lw_all := lw_g (lw_at lw_m10 46 rfl) rfl
theorem q2336 : (Jvm.Cond.code ({ cls := "BackLogicModel", name := "controls", desc := "()V" } : Jvm.MethodName) prog_13_method_22_code (2 : Nat) (Option.none : Option Jvm.ClassFile.FieldType)) ∈ lw_all := lw_g (lw_at lw_m10 47 rfl) rfl
theorem q2337 : (Jvm.Cond.methodLink "BackLogicModel" (200 : Nat) ({ cls := "BackLogicModel", name := "means", desc := "()V" } : Jvm.MethodName)) ∈ lw_all := lw_g (lw_at lw_m10 48 rfl) rfl
theorem q2338 : (Jvm.Cond.privateMethod ({ cls := "BackLogicModel", name := "means", desc := "()V" } : Jvm.MethodName)) ∈ lw_tbl := lw_at lw_m10 49 rfl
theorem q2339 : (Jvm.Cond.instanceMethod ({ cls := "BackLogicModel", name := "means", desc := "()V" } : Jvm.MethodName)) ∈ lw_all := lw_g (lw_at lw_m10 50 rfl) rfl
theorem q2340 : (Jvm.Cond.code ({ cls := "BackLogicModel", name := "means", desc := "()V" } : Jvm.MethodName) prog_13_method_24_code (3 : Nat) (Option.none : Option Jvm.ClassFile.FieldType)) ∈ lw_all := lw_g (lw_at lw_m10 51 rfl) rfl
theorem q2341 : (Jvm.Cond.methodLink "BackLogicModel" (227 : Nat) ({ cls := "BackLogicModel", name := "named", desc := "(II)I" } : Jvm.MethodName)) ∈ lw_all := lw_g (lw_at lw_m10 52 rfl) rfl
theorem q2342 : (Jvm.Cond.privateMethod ({ cls := "BackLogicModel", name := "named", desc := "(II)I" } : Jvm.MethodName)) ∈ lw_tbl := lw_at lw_m10 53 rfl
theorem q2343 : (Jvm.Cond.instanceMethod ({ cls := "BackLogicModel", name := "named", desc := "(II)I" } : Jvm.MethodName)) ∈ lw_all := lw_g (lw_at lw_m10 54 rfl) rfl
theorem q2344 : (Jvm.Cond.code ({ cls := "BackLogicModel", name := "named", desc := "(II)I" } : Jvm.MethodName) prog_13_method_23_code (5 : Nat) (Option.some Jvm.ClassFile.FieldType.int)) ∈ lw_all := lw_g (lw_at lw_m10 55 rfl) rfl
theorem q2345 : (Jvm.Cond.methodLink "BackLogicModel" (230 : Nat) ({ cls := "BackLogicModel", name := "wrong", desc := "(II)V" } : Jvm.MethodName)) ∈ lw_all := lw_g (lw_at lw_m10 56 rfl) rfl
theorem q2346 : (Jvm.Cond.privateMethod ({ cls := "BackLogicModel", name := "wrong", desc := "(II)V" } : Jvm.MethodName)) ∈ lw_tbl := lw_at lw_m10 57 rfl
theorem q2347 : (Jvm.Cond.instanceMethod ({ cls := "BackLogicModel", name := "wrong", desc := "(II)V" } : Jvm.MethodName)) ∈ lw_all := lw_g (lw_at lw_m10 58 rfl) rfl
theorem q2348 : (Jvm.Cond.code ({ cls := "BackLogicModel", name := "wrong", desc := "(II)V" } : Jvm.MethodName) prog_13_method_16_code (4 : Nat) (Option.none : Option Jvm.ClassFile.FieldType)) ∈ lw_all := lw_g (lw_at lw_m10 59 rfl) rfl
theorem q2349 : (Jvm.Cond.methodLink "BackLogicModel" (234 : Nat) ({ cls := "BackLogicModel", name := "meansGate", desc := "(I)V" } : Jvm.MethodName)) ∈ lw_all := lw_g (lw_at lw_m10 60 rfl) rfl
theorem q2350 : (Jvm.Cond.privateMethod ({ cls := "BackLogicModel", name := "meansGate", desc := "(I)V" } : Jvm.MethodName)) ∈ lw_tbl := lw_at lw_m10 61 rfl
theorem q2351 : (Jvm.Cond.instanceMethod ({ cls := "BackLogicModel", name := "meansGate", desc := "(I)V" } : Jvm.MethodName)) ∈ lw_all := lw_g (lw_at lw_m10 62 rfl) rfl
theorem q2352 : (Jvm.Cond.code ({ cls := "BackLogicModel", name := "meansGate", desc := "(I)V" } : Jvm.MethodName) prog_13_method_25_code (6 : Nat) (Option.none : Option Jvm.ClassFile.FieldType)) ∈ lw_all := lw_g (lw_at lw_m10 63 rfl) rfl
theorem q2353 : (Jvm.Cond.methodLink "BackLogicModel" (237 : Nat) ({ cls := "BackLogicModel", name := "in", desc := "(III)Z" } : Jvm.MethodName)) ∈ lw_all := lw_g (lw_at lw_m10 64 rfl) rfl
theorem q2354 : (Jvm.Cond.static ({ cls := "BackLogicModel", name := "in", desc := "(III)Z" } : Jvm.MethodName)) ∈ lw_all := lw_g (lw_at lw_m10 65 rfl) rfl
theorem q2355 : (Jvm.Cond.code ({ cls := "BackLogicModel", name := "in", desc := "(III)Z" } : Jvm.MethodName) prog_13_method_27_code (3 : Nat) (Option.some Jvm.ClassFile.FieldType.boolean)) ∈ lw_all := lw_g (lw_at lw_m10 66 rfl) rfl
theorem q2356 : (Jvm.Cond.methodLink "BackLogicModel" (241 : Nat) ({ cls := "BackLogicModel", name := "meansTable", desc := "(I)V" } : Jvm.MethodName)) ∈ lw_all := lw_g (lw_at lw_m10 67 rfl) rfl
theorem q2357 : (Jvm.Cond.privateMethod ({ cls := "BackLogicModel", name := "meansTable", desc := "(I)V" } : Jvm.MethodName)) ∈ lw_tbl := lw_at lw_m10 68 rfl
theorem q2358 : (Jvm.Cond.instanceMethod ({ cls := "BackLogicModel", name := "meansTable", desc := "(I)V" } : Jvm.MethodName)) ∈ lw_all := lw_g (lw_at lw_m10 69 rfl) rfl
theorem q2359 : (Jvm.Cond.code ({ cls := "BackLogicModel", name := "meansTable", desc := "(I)V" } : Jvm.MethodName) prog_13_method_26_code (6 : Nat) (Option.none : Option Jvm.ClassFile.FieldType)) ∈ lw_all := lw_g (lw_at lw_m10 70 rfl) rfl
theorem q2361 : (Jvm.Cond.instanceMethod ({ cls := "BackLogicModel", name := "place", desc := "()I" } : Jvm.MethodName)) ∈ lw_all := lw_g (lw_at lw_m10 72 rfl) rfl
theorem q2362 : (Jvm.Cond.selects "BackLogicModel" ({ cls := "BackLogicModel", name := "place", desc := "()I" } : Jvm.MethodName) ({ cls := "BackLogicModel", name := "place", desc := "()I" } : Jvm.MethodName)) ∈ lw_all := lw_g (lw_at lw_m10 73 rfl) rfl
theorem q2363 : (Jvm.Cond.code ({ cls := "BackLogicModel", name := "place", desc := "()I" } : Jvm.MethodName) prog_13_method_20_code (1 : Nat) (Option.some Jvm.ClassFile.FieldType.int)) ∈ lw_all := lw_g (lw_at lw_m10 74 rfl) rfl
theorem q2365 : (Jvm.Cond.instanceMethod ({ cls := "BackLogicModel", name := "put", desc := "(IIII)Z" } : Jvm.MethodName)) ∈ lw_all := lw_g (lw_at lw_m10 76 rfl) rfl
theorem q2366 : (Jvm.Cond.selects "BackLogicModel" ({ cls := "BackLogicModel", name := "put", desc := "(IIII)Z" } : Jvm.MethodName) ({ cls := "BackLogicModel", name := "put", desc := "(IIII)Z" } : Jvm.MethodName)) ∈ lw_all := lw_g (lw_at lw_m10 77 rfl) rfl
theorem q2367 : (Jvm.Cond.code ({ cls := "BackLogicModel", name := "put", desc := "(IIII)Z" } : Jvm.MethodName) prog_13_method_38_code (6 : Nat) (Option.some Jvm.ClassFile.FieldType.boolean)) ∈ lw_all := lw_g (lw_at lw_m10 78 rfl) rfl
theorem q2368 : (Jvm.Cond.methodLink "BackLogicModel" (244 : Nat) ({ cls := "BackLogicModel", name := "gates", desc := "()I" } : Jvm.MethodName)) ∈ lw_all := lw_g (lw_at lw_m10 79 rfl) rfl
theorem q2369 : (Jvm.Cond.privateMethod ({ cls := "BackLogicModel", name := "gates", desc := "()I" } : Jvm.MethodName)) ∈ lw_tbl := lw_at lw_m10 80 rfl
theorem q2370 : (Jvm.Cond.instanceMethod ({ cls := "BackLogicModel", name := "gates", desc := "()I" } : Jvm.MethodName)) ∈ lw_all := lw_g (lw_at lw_m10 81 rfl) rfl
theorem q2371 : (Jvm.Cond.code ({ cls := "BackLogicModel", name := "gates", desc := "()I" } : Jvm.MethodName) prog_13_method_31_code (1 : Nat) (Option.some Jvm.ClassFile.FieldType.int)) ∈ lw_all := lw_g (lw_at lw_m10 82 rfl) rfl
theorem q2372 : (Jvm.Cond.methodLink "BackLogicModel" (258 : Nat) ({ cls := "BackLogicModel", name := "isRow", desc := "(I)Z" } : Jvm.MethodName)) ∈ lw_all := lw_g (lw_at lw_m10 83 rfl) rfl
theorem q2373 : (Jvm.Cond.privateMethod ({ cls := "BackLogicModel", name := "isRow", desc := "(I)Z" } : Jvm.MethodName)) ∈ lw_tbl := lw_at lw_m10 84 rfl
theorem q2374 : (Jvm.Cond.instanceMethod ({ cls := "BackLogicModel", name := "isRow", desc := "(I)Z" } : Jvm.MethodName)) ∈ lw_all := lw_g (lw_at lw_m10 85 rfl) rfl
theorem q2375 : (Jvm.Cond.code ({ cls := "BackLogicModel", name := "isRow", desc := "(I)Z" } : Jvm.MethodName) prog_13_method_33_code (2 : Nat) (Option.some Jvm.ClassFile.FieldType.boolean)) ∈ lw_all := lw_g (lw_at lw_m10 86 rfl) rfl
theorem q2376 : (Jvm.Cond.methodLink "BackLogicModel" (248 : Nat) ({ cls := "BackLogicModel", name := "rows", desc := "()I" } : Jvm.MethodName)) ∈ lw_all := lw_g (lw_at lw_m10 87 rfl) rfl
theorem q2377 : (Jvm.Cond.privateMethod ({ cls := "BackLogicModel", name := "rows", desc := "()I" } : Jvm.MethodName)) ∈ lw_tbl := lw_at lw_m10 88 rfl
theorem q2378 : (Jvm.Cond.instanceMethod ({ cls := "BackLogicModel", name := "rows", desc := "()I" } : Jvm.MethodName)) ∈ lw_all := lw_g (lw_at lw_m10 89 rfl) rfl
theorem q2379 : (Jvm.Cond.code ({ cls := "BackLogicModel", name := "rows", desc := "()I" } : Jvm.MethodName) prog_13_method_30_code (1 : Nat) (Option.some Jvm.ClassFile.FieldType.int)) ∈ lw_all := lw_g (lw_at lw_m10 90 rfl) rfl
theorem q2380 : (Jvm.Cond.methodLink "BackLogicModel" (261 : Nat) ({ cls := "BackLogicModel", name := "has", desc := "(II)Z" } : Jvm.MethodName)) ∈ lw_all := lw_g (lw_at lw_m10 91 rfl) rfl
theorem q2381 : (Jvm.Cond.static ({ cls := "BackLogicModel", name := "has", desc := "(II)Z" } : Jvm.MethodName)) ∈ lw_all := lw_g (lw_at lw_m10 92 rfl) rfl
theorem q2382 : (Jvm.Cond.code ({ cls := "BackLogicModel", name := "has", desc := "(II)Z" } : Jvm.MethodName) prog_13_method_28_code (2 : Nat) (Option.some Jvm.ClassFile.FieldType.boolean)) ∈ lw_all := lw_g (lw_at lw_m10 93 rfl) rfl
theorem q2383 : (Jvm.Cond.methodLink "BackLogicModel" (265 : Nat) ({ cls := "BackLogicModel", name := "marks", desc := "()V" } : Jvm.MethodName)) ∈ lw_all := lw_g (lw_at lw_m10 94 rfl) rfl
theorem q2384 : (Jvm.Cond.privateMethod ({ cls := "BackLogicModel", name := "marks", desc := "()V" } : Jvm.MethodName)) ∈ lw_tbl := lw_at lw_m10 95 rfl
theorem q2385 : (Jvm.Cond.instanceMethod ({ cls := "BackLogicModel", name := "marks", desc := "()V" } : Jvm.MethodName)) ∈ lw_all := lw_g (lw_at lw_m10 96 rfl) rfl
theorem q2386 : (Jvm.Cond.code ({ cls := "BackLogicModel", name := "marks", desc := "()V" } : Jvm.MethodName) prog_13_method_34_code (3 : Nat) (Option.none : Option Jvm.ClassFile.FieldType)) ∈ lw_all := lw_g (lw_at lw_m10 97 rfl) rfl
theorem q2387 : (Jvm.Cond.methodLink "BackLogicModel" (254 : Nat) ({ cls := "BackLogicModel", name := "copiesGate", desc := "([II[II)V" } : Jvm.MethodName)) ∈ lw_all := lw_g (lw_at lw_m10 98 rfl) rfl
theorem q2388 : (Jvm.Cond.static ({ cls := "BackLogicModel", name := "copiesGate", desc := "([II[II)V" } : Jvm.MethodName)) ∈ lw_all := lw_g (lw_at lw_m10 99 rfl) rfl
theorem q2389 : (Jvm.Cond.code ({ cls := "BackLogicModel", name := "copiesGate", desc := "([II[II)V" } : Jvm.MethodName) prog_13_method_35_code (4 : Nat) (Option.none : Option Jvm.ClassFile.FieldType)) ∈ lw_all := lw_g (lw_at lw_m10 100 rfl) rfl
theorem q2390 : (Jvm.Cond.methodLink "BackLogicModel" (268 : Nat) ({ cls := "BackLogicModel", name := "sets", desc := "([IIIII)V" } : Jvm.MethodName)) ∈ lw_all := lw_g (lw_at lw_m10 101 rfl) rfl
theorem q2391 : (Jvm.Cond.static ({ cls := "BackLogicModel", name := "sets", desc := "([IIIII)V" } : Jvm.MethodName)) ∈ lw_all := lw_g (lw_at lw_m10 102 rfl) rfl
theorem q2392 : (Jvm.Cond.code ({ cls := "BackLogicModel", name := "sets", desc := "([IIIII)V" } : Jvm.MethodName) prog_13_method_36_code (5 : Nat) (Option.none : Option Jvm.ClassFile.FieldType)) ∈ lw_all := lw_g (lw_at lw_m10 103 rfl) rfl
theorem q2394 : (Jvm.Cond.instanceMethod ({ cls := "BackLogicModel", name := "take", desc := "(I)Z" } : Jvm.MethodName)) ∈ lw_all := lw_g (lw_at lw_m10 105 rfl) rfl
theorem q2395 : (Jvm.Cond.selects "BackLogicModel" ({ cls := "BackLogicModel", name := "take", desc := "(I)Z" } : Jvm.MethodName) ({ cls := "BackLogicModel", name := "take", desc := "(I)Z" } : Jvm.MethodName)) ∈ lw_all := lw_g (lw_at lw_m10 106 rfl) rfl
theorem q2396 : (Jvm.Cond.code ({ cls := "BackLogicModel", name := "take", desc := "(I)Z" } : Jvm.MethodName) prog_13_method_39_code (2 : Nat) (Option.some Jvm.ClassFile.FieldType.boolean)) ∈ lw_all := lw_g (lw_at lw_m10 107 rfl) rfl
theorem q2397 : (Jvm.Cond.methodLink "BackLogicModel" (272 : Nat) ({ cls := "BackLogicModel", name := "isGate", desc := "(I)Z" } : Jvm.MethodName)) ∈ lw_all := lw_g (lw_at lw_m10 108 rfl) rfl
theorem q2398 : (Jvm.Cond.privateMethod ({ cls := "BackLogicModel", name := "isGate", desc := "(I)Z" } : Jvm.MethodName)) ∈ lw_tbl := lw_at lw_m10 109 rfl
theorem q2399 : (Jvm.Cond.instanceMethod ({ cls := "BackLogicModel", name := "isGate", desc := "(I)Z" } : Jvm.MethodName)) ∈ lw_all := lw_g (lw_at lw_m10 110 rfl) rfl
theorem q2400 : (Jvm.Cond.code ({ cls := "BackLogicModel", name := "isGate", desc := "(I)Z" } : Jvm.MethodName) prog_13_method_32_code (2 : Nat) (Option.some Jvm.ClassFile.FieldType.boolean)) ∈ lw_all := lw_g (lw_at lw_m10 111 rfl) rfl
theorem q2401 : (Jvm.Cond.methodLink "BackLogicModel" (275 : Nat) ({ cls := "BackLogicModel", name := "takesOff", desc := "([II)V" } : Jvm.MethodName)) ∈ lw_all := lw_g (lw_at lw_m10 112 rfl) rfl
theorem q2402 : (Jvm.Cond.static ({ cls := "BackLogicModel", name := "takesOff", desc := "([II)V" } : Jvm.MethodName)) ∈ lw_all := lw_g (lw_at lw_m10 113 rfl) rfl
theorem q2403 : (Jvm.Cond.code ({ cls := "BackLogicModel", name := "takesOff", desc := "([II)V" } : Jvm.MethodName) prog_13_method_37_code (3 : Nat) (Option.none : Option Jvm.ClassFile.FieldType)) ∈ lw_all := lw_g (lw_at lw_m10 114 rfl) rfl
theorem q2405 : (Jvm.Cond.instanceMethod ({ cls := "BackLogicModel", name := "swap", desc := "(I)Z" } : Jvm.MethodName)) ∈ lw_all := lw_g (lw_at lw_m10 116 rfl) rfl
theorem q2406 : (Jvm.Cond.selects "BackLogicModel" ({ cls := "BackLogicModel", name := "swap", desc := "(I)Z" } : Jvm.MethodName) ({ cls := "BackLogicModel", name := "swap", desc := "(I)Z" } : Jvm.MethodName)) ∈ lw_all := lw_g (lw_at lw_m10 117 rfl) rfl
theorem q2407 : (Jvm.Cond.code ({ cls := "BackLogicModel", name := "swap", desc := "(I)Z" } : Jvm.MethodName) prog_13_method_40_code (2 : Nat) (Option.some Jvm.ClassFile.FieldType.boolean)) ∈ lw_all := lw_g (lw_at lw_m10 118 rfl) rfl
theorem q2409 : (Jvm.Cond.instanceMethod ({ cls := "BackLogicModel", name := "become", desc := "(I)I" } : Jvm.MethodName)) ∈ lw_all := lw_g (lw_at lw_m10 120 rfl) rfl
theorem q2410 : (Jvm.Cond.selects "BackLogicModel" ({ cls := "BackLogicModel", name := "become", desc := "(I)I" } : Jvm.MethodName) ({ cls := "BackLogicModel", name := "become", desc := "(I)I" } : Jvm.MethodName)) ∈ lw_all := lw_g (lw_at lw_m10 121 rfl) rfl
theorem q2411 : (Jvm.Cond.code ({ cls := "BackLogicModel", name := "become", desc := "(I)I" } : Jvm.MethodName) prog_13_method_41_code (3 : Nat) (Option.some Jvm.ClassFile.FieldType.int)) ∈ lw_all := lw_g (lw_at lw_m10 122 rfl) rfl
theorem q2412 : (Jvm.Cond.methodLink "BackLogicModel" (279 : Nat) ({ cls := "BackLogicModel", name := "laysBecome", desc := "(I)V" } : Jvm.MethodName)) ∈ lw_all := lw_g (lw_at lw_m10 123 rfl) rfl
theorem q2413 : (Jvm.Cond.privateMethod ({ cls := "BackLogicModel", name := "laysBecome", desc := "(I)V" } : Jvm.MethodName)) ∈ lw_tbl := lw_at lw_m10 124 rfl
theorem q2414 : (Jvm.Cond.instanceMethod ({ cls := "BackLogicModel", name := "laysBecome", desc := "(I)V" } : Jvm.MethodName)) ∈ lw_all := lw_g (lw_at lw_m10 125 rfl) rfl
theorem q2415 : (Jvm.Cond.code ({ cls := "BackLogicModel", name := "laysBecome", desc := "(I)V" } : Jvm.MethodName) prog_13_method_42_code (3 : Nat) (Option.none : Option Jvm.ClassFile.FieldType)) ∈ lw_all := lw_g (lw_at lw_m10 126 rfl) rfl
theorem q2416 : (Jvm.Cond.methodLink "BackLogicModel" (282 : Nat) ({ cls := "BackLogicModel", name := "laysShrunk", desc := "()V" } : Jvm.MethodName)) ∈ lw_all := lw_g (lw_at lw_m10 127 rfl) rfl
theorem q2417 : (Jvm.Cond.privateMethod ({ cls := "BackLogicModel", name := "laysShrunk", desc := "()V" } : Jvm.MethodName)) ∈ lw_tbl := lw_at lw_m10 128 rfl
theorem q2418 : (Jvm.Cond.instanceMethod ({ cls := "BackLogicModel", name := "laysShrunk", desc := "()V" } : Jvm.MethodName)) ∈ lw_all := lw_g (lw_at lw_m10 129 rfl) rfl
theorem q2419 : (Jvm.Cond.code ({ cls := "BackLogicModel", name := "laysShrunk", desc := "()V" } : Jvm.MethodName) prog_13_method_61_code (2 : Nat) (Option.none : Option Jvm.ClassFile.FieldType)) ∈ lw_all := lw_g (lw_at lw_m10 130 rfl) rfl
theorem q2420 : (Jvm.Cond.methodLink "BackLogicModel" (334 : Nat) ({ cls := "BackLogicModel", name := "shrinks", desc := "(I)Z" } : Jvm.MethodName)) ∈ lw_all := lw_g (lw_at lw_m10 131 rfl) rfl
theorem q2421 : (Jvm.Cond.privateMethod ({ cls := "BackLogicModel", name := "shrinks", desc := "(I)Z" } : Jvm.MethodName)) ∈ lw_tbl := lw_at lw_m10 132 rfl
theorem q2422 : (Jvm.Cond.instanceMethod ({ cls := "BackLogicModel", name := "shrinks", desc := "(I)Z" } : Jvm.MethodName)) ∈ lw_all := lw_g (lw_at lw_m10 133 rfl) rfl
theorem q2423 : (Jvm.Cond.code ({ cls := "BackLogicModel", name := "shrinks", desc := "(I)Z" } : Jvm.MethodName) prog_13_method_63_code (4 : Nat) (Option.some Jvm.ClassFile.FieldType.boolean)) ∈ lw_all := lw_g (lw_at lw_m10 134 rfl) rfl
theorem q2424 : (Jvm.Cond.methodLink "BackLogicModel" (337 : Nat) ({ cls := "BackLogicModel", name := "fits", desc := "(III)Z" } : Jvm.MethodName)) ∈ lw_all := lw_g (lw_at lw_m10 135 rfl) rfl
theorem q2425 : (Jvm.Cond.privateMethod ({ cls := "BackLogicModel", name := "fits", desc := "(III)Z" } : Jvm.MethodName)) ∈ lw_tbl := lw_at lw_m10 136 rfl
theorem q2426 : (Jvm.Cond.instanceMethod ({ cls := "BackLogicModel", name := "fits", desc := "(III)Z" } : Jvm.MethodName)) ∈ lw_all := lw_g (lw_at lw_m10 137 rfl) rfl
theorem q2427 : (Jvm.Cond.code ({ cls := "BackLogicModel", name := "fits", desc := "(III)Z" } : Jvm.MethodName) prog_13_method_64_code (6 : Nat) (Option.some Jvm.ClassFile.FieldType.boolean)) ∈ lw_all := lw_g (lw_at lw_m10 138 rfl) rfl
theorem q2428 : (Jvm.Cond.methodLink "BackLogicModel" (322 : Nat) ({ cls := "BackLogicModel", name := "bitsOf", desc := "(I)I" } : Jvm.MethodName)) ∈ lw_all := lw_g (lw_at lw_m10 139 rfl) rfl
theorem q2429 : (Jvm.Cond.static ({ cls := "BackLogicModel", name := "bitsOf", desc := "(I)I" } : Jvm.MethodName)) ∈ lw_all := lw_g (lw_at lw_m10 140 rfl) rfl
theorem q2430 : (Jvm.Cond.code ({ cls := "BackLogicModel", name := "bitsOf", desc := "(I)I" } : Jvm.MethodName) prog_13_method_29_code (3 : Nat) (Option.some Jvm.ClassFile.FieldType.int)) ∈ lw_all := lw_g (lw_at lw_m10 141 rfl) rfl
theorem q2431 : (Jvm.Cond.methodLink "BackLogicModel" (340 : Nat) ({ cls := "BackLogicModel", name := "canMeet", desc := "(II)Z" } : Jvm.MethodName)) ∈ lw_all := lw_g (lw_at lw_m10 142 rfl) rfl
theorem q2432 : (Jvm.Cond.privateMethod ({ cls := "BackLogicModel", name := "canMeet", desc := "(II)Z" } : Jvm.MethodName)) ∈ lw_tbl := lw_at lw_m10 143 rfl
theorem q2433 : (Jvm.Cond.instanceMethod ({ cls := "BackLogicModel", name := "canMeet", desc := "(II)Z" } : Jvm.MethodName)) ∈ lw_all := lw_g (lw_at lw_m10 144 rfl) rfl
theorem q2434 : (Jvm.Cond.code ({ cls := "BackLogicModel", name := "canMeet", desc := "(II)Z" } : Jvm.MethodName) prog_13_method_62_code (4 : Nat) (Option.some Jvm.ClassFile.FieldType.boolean)) ∈ lw_all := lw_g (lw_at lw_m10 145 rfl) rfl
theorem q2435 : (Jvm.Cond.methodLink "BackLogicModel" (314 : Nat) ({ cls := "BackLogicModel", name := "doAgree", desc := "([III)Z" } : Jvm.MethodName)) ∈ lw_all := lw_g (lw_at lw_m10 146 rfl) rfl
theorem q2436 : (Jvm.Cond.privateMethod ({ cls := "BackLogicModel", name := "doAgree", desc := "([III)Z" } : Jvm.MethodName)) ∈ lw_tbl := lw_at lw_m10 147 rfl
theorem q2437 : (Jvm.Cond.instanceMethod ({ cls := "BackLogicModel", name := "doAgree", desc := "([III)Z" } : Jvm.MethodName)) ∈ lw_all := lw_g (lw_at lw_m10 148 rfl) rfl
theorem q2438 : (Jvm.Cond.code ({ cls := "BackLogicModel", name := "doAgree", desc := "([III)Z" } : Jvm.MethodName) prog_13_method_54_code (5 : Nat) (Option.some Jvm.ClassFile.FieldType.boolean)) ∈ lw_all := lw_g (lw_at lw_m10 149 rfl) rfl
theorem q2439 : (Jvm.Cond.methodLink "BackLogicModel" (303 : Nat) ({ cls := "BackLogicModel", name := "by", desc := "([III)I" } : Jvm.MethodName)) ∈ lw_all := lw_g (lw_at lw_m10 150 rfl) rfl
theorem q2440 : (Jvm.Cond.static ({ cls := "BackLogicModel", name := "by", desc := "([III)I" } : Jvm.MethodName)) ∈ lw_all := lw_g (lw_at lw_m10 151 rfl) rfl
theorem q2441 : (Jvm.Cond.code ({ cls := "BackLogicModel", name := "by", desc := "([III)I" } : Jvm.MethodName) prog_13_method_47_code (3 : Nat) (Option.some Jvm.ClassFile.FieldType.int)) ∈ lw_all := lw_g (lw_at lw_m10 152 rfl) rfl
theorem q2442 : (Jvm.Cond.methodLink "BackLogicModel" (299 : Nat) ({ cls := "BackLogicModel", name := "turned", desc := "(IIII)I" } : Jvm.MethodName)) ∈ lw_all := lw_g (lw_at lw_m10 153 rfl) rfl
theorem q2443 : (Jvm.Cond.static ({ cls := "BackLogicModel", name := "turned", desc := "(IIII)I" } : Jvm.MethodName)) ∈ lw_all := lw_g (lw_at lw_m10 154 rfl) rfl
theorem q2444 : (Jvm.Cond.code ({ cls := "BackLogicModel", name := "turned", desc := "(IIII)I" } : Jvm.MethodName) prog_13_method_46_code (4 : Nat) (Option.some Jvm.ClassFile.FieldType.int)) ∈ lw_all := lw_g (lw_at lw_m10 155 rfl) rfl
theorem q2445 : (Jvm.Cond.methodLink "BackLogicModel" (343 : Nat) ({ cls := "BackLogicModel", name := "does", desc := "(III)V" } : Jvm.MethodName)) ∈ lw_all := lw_g (lw_at lw_m10 156 rfl) rfl
theorem q2446 : (Jvm.Cond.privateMethod ({ cls := "BackLogicModel", name := "does", desc := "(III)V" } : Jvm.MethodName)) ∈ lw_tbl := lw_at lw_m10 157 rfl
theorem q2447 : (Jvm.Cond.instanceMethod ({ cls := "BackLogicModel", name := "does", desc := "(III)V" } : Jvm.MethodName)) ∈ lw_all := lw_g (lw_at lw_m10 158 rfl) rfl
theorem q2448 : (Jvm.Cond.code ({ cls := "BackLogicModel", name := "does", desc := "(III)V" } : Jvm.MethodName) prog_13_method_65_code (7 : Nat) (Option.none : Option Jvm.ClassFile.FieldType)) ∈ lw_all := lw_g (lw_at lw_m10 159 rfl) rfl
theorem q2449 : (Jvm.Cond.methodLink "BackLogicModel" (285 : Nat) ({ cls := "BackLogicModel", name := "laysOrder", desc := "([I)V" } : Jvm.MethodName)) ∈ lw_all := lw_g (lw_at lw_m10 160 rfl) rfl
theorem q2450 : (Jvm.Cond.privateMethod ({ cls := "BackLogicModel", name := "laysOrder", desc := "([I)V" } : Jvm.MethodName)) ∈ lw_tbl := lw_at lw_m10 161 rfl
theorem q2451 : (Jvm.Cond.instanceMethod ({ cls := "BackLogicModel", name := "laysOrder", desc := "([I)V" } : Jvm.MethodName)) ∈ lw_all := lw_g (lw_at lw_m10 162 rfl) rfl
theorem q2452 : (Jvm.Cond.code ({ cls := "BackLogicModel", name := "laysOrder", desc := "([I)V" } : Jvm.MethodName) prog_13_method_51_code (4 : Nat) (Option.none : Option Jvm.ClassFile.FieldType)) ∈ lw_all := lw_g (lw_at lw_m10 163 rfl) rfl
theorem q2453 : (Jvm.Cond.methodLink "BackLogicModel" (289 : Nat) ({ cls := "BackLogicModel", name := "laysFound", desc := "(IZ)V" } : Jvm.MethodName)) ∈ lw_all := lw_g (lw_at lw_m10 164 rfl) rfl
theorem q2454 : (Jvm.Cond.privateMethod ({ cls := "BackLogicModel", name := "laysFound", desc := "(IZ)V" } : Jvm.MethodName)) ∈ lw_tbl := lw_at lw_m10 165 rfl
theorem q2455 : (Jvm.Cond.instanceMethod ({ cls := "BackLogicModel", name := "laysFound", desc := "(IZ)V" } : Jvm.MethodName)) ∈ lw_all := lw_g (lw_at lw_m10 166 rfl) rfl
theorem q2456 : (Jvm.Cond.code ({ cls := "BackLogicModel", name := "laysFound", desc := "(IZ)V" } : Jvm.MethodName) prog_13_method_68_code (10 : Nat) (Option.none : Option Jvm.ClassFile.FieldType)) ∈ lw_all := lw_g (lw_at lw_m10 167 rfl) rfl
theorem q2457 : (Jvm.Cond.methodLink "BackLogicModel" (353 : Nat) ({ cls := "BackLogicModel", name := "notesGate", desc := "(ZIIII)I" } : Jvm.MethodName)) ∈ lw_all := lw_g (lw_at lw_m10 168 rfl) rfl
theorem q2458 : (Jvm.Cond.privateMethod ({ cls := "BackLogicModel", name := "notesGate", desc := "(ZIIII)I" } : Jvm.MethodName)) ∈ lw_tbl := lw_at lw_m10 169 rfl
theorem q2459 : (Jvm.Cond.instanceMethod ({ cls := "BackLogicModel", name := "notesGate", desc := "(ZIIII)I" } : Jvm.MethodName)) ∈ lw_all := lw_g (lw_at lw_m10 170 rfl) rfl
theorem q2460 : (Jvm.Cond.code ({ cls := "BackLogicModel", name := "notesGate", desc := "(ZIIII)I" } : Jvm.MethodName) prog_13_method_67_code (7 : Nat) (Option.some Jvm.ClassFile.FieldType.int)) ∈ lw_all := lw_g (lw_at lw_m10 171 rfl) rfl
theorem q2461 : (Jvm.Cond.methodLink "BackLogicModel" (357 : Nat) ({ cls := "BackLogicModel", name := "foundGate", desc := "(II)V" } : Jvm.MethodName)) ∈ lw_all := lw_g (lw_at lw_m10 172 rfl) rfl
theorem q2462 : (Jvm.Cond.privateMethod ({ cls := "BackLogicModel", name := "foundGate", desc := "(II)V" } : Jvm.MethodName)) ∈ lw_tbl := lw_at lw_m10 173 rfl
theorem q2463 : (Jvm.Cond.instanceMethod ({ cls := "BackLogicModel", name := "foundGate", desc := "(II)V" } : Jvm.MethodName)) ∈ lw_all := lw_g (lw_at lw_m10 174 rfl) rfl
theorem q2464 : (Jvm.Cond.code ({ cls := "BackLogicModel", name := "foundGate", desc := "(II)V" } : Jvm.MethodName) prog_13_method_69_code (3 : Nat) (Option.none : Option Jvm.ClassFile.FieldType)) ∈ lw_all := lw_g (lw_at lw_m10 175 rfl) rfl
theorem q2465 : (Jvm.Cond.methodLink "BackLogicModel" (293 : Nat) ({ cls := "BackLogicModel", name := "laysFirst", desc := "()V" } : Jvm.MethodName)) ∈ lw_all := lw_g (lw_at lw_m10 176 rfl) rfl
theorem q2466 : (Jvm.Cond.privateMethod ({ cls := "BackLogicModel", name := "laysFirst", desc := "()V" } : Jvm.MethodName)) ∈ lw_tbl := lw_at lw_m10 177 rfl
theorem q2467 : (Jvm.Cond.instanceMethod ({ cls := "BackLogicModel", name := "laysFirst", desc := "()V" } : Jvm.MethodName)) ∈ lw_all := lw_g (lw_at lw_m10 178 rfl) rfl
theorem q2468 : (Jvm.Cond.code ({ cls := "BackLogicModel", name := "laysFirst", desc := "()V" } : Jvm.MethodName) prog_13_method_76_code (7 : Nat) (Option.none : Option Jvm.ClassFile.FieldType)) ∈ lw_all := lw_g (lw_at lw_m10 179 rfl) rfl
theorem q2469 : (Jvm.Cond.methodLink "BackLogicModel" (369 : Nat) ({ cls := "BackLogicModel", name := "laysTable", desc := "()V" } : Jvm.MethodName)) ∈ lw_all := lw_g (lw_at lw_m10 180 rfl) rfl
theorem q2470 : (Jvm.Cond.privateMethod ({ cls := "BackLogicModel", name := "laysTable", desc := "()V" } : Jvm.MethodName)) ∈ lw_tbl := lw_at lw_m10 181 rfl
theorem q2471 : (Jvm.Cond.instanceMethod ({ cls := "BackLogicModel", name := "laysTable", desc := "()V" } : Jvm.MethodName)) ∈ lw_all := lw_g (lw_at lw_m10 182 rfl) rfl
theorem q2472 : (Jvm.Cond.code ({ cls := "BackLogicModel", name := "laysTable", desc := "()V" } : Jvm.MethodName) prog_13_method_74_code (6 : Nat) (Option.none : Option Jvm.ClassFile.FieldType)) ∈ lw_all := lw_g (lw_at lw_m10 183 rfl) rfl
theorem q2473 : (Jvm.Cond.methodLink "BackLogicModel" (363 : Nat) ({ cls := "BackLogicModel", name := "placeOf", desc := "(I)I" } : Jvm.MethodName)) ∈ lw_all := lw_g (lw_at lw_m10 184 rfl) rfl
theorem q2474 : (Jvm.Cond.privateMethod ({ cls := "BackLogicModel", name := "placeOf", desc := "(I)I" } : Jvm.MethodName)) ∈ lw_tbl := lw_at lw_m10 185 rfl
theorem q2475 : (Jvm.Cond.instanceMethod ({ cls := "BackLogicModel", name := "placeOf", desc := "(I)I" } : Jvm.MethodName)) ∈ lw_all := lw_g (lw_at lw_m10 186 rfl) rfl
theorem q2476 : (Jvm.Cond.code ({ cls := "BackLogicModel", name := "placeOf", desc := "(I)I" } : Jvm.MethodName) prog_13_method_72_code (6 : Nat) (Option.some Jvm.ClassFile.FieldType.int)) ∈ lw_all := lw_g (lw_at lw_m10 187 rfl) rfl
theorem q2477 : (Jvm.Cond.methodLink "BackLogicModel" (366 : Nat) ({ cls := "BackLogicModel", name := "laysPlace", desc := "(II)V" } : Jvm.MethodName)) ∈ lw_all := lw_g (lw_at lw_m10 188 rfl) rfl
theorem q2478 : (Jvm.Cond.privateMethod ({ cls := "BackLogicModel", name := "laysPlace", desc := "(II)V" } : Jvm.MethodName)) ∈ lw_tbl := lw_at lw_m10 189 rfl
theorem q2479 : (Jvm.Cond.instanceMethod ({ cls := "BackLogicModel", name := "laysPlace", desc := "(II)V" } : Jvm.MethodName)) ∈ lw_all := lw_g (lw_at lw_m10 190 rfl) rfl
theorem q2480 : (Jvm.Cond.code ({ cls := "BackLogicModel", name := "laysPlace", desc := "(II)V" } : Jvm.MethodName) prog_13_method_73_code (6 : Nat) (Option.none : Option Jvm.ClassFile.FieldType)) ∈ lw_all := lw_g (lw_at lw_m10 191 rfl) rfl
theorem q2481 : (Jvm.Cond.methodLink "BackLogicModel" (372 : Nat) ({ cls := "BackLogicModel", name := "fewestFor", desc := "()I" } : Jvm.MethodName)) ∈ lw_all := lw_g (lw_at lw_m10 192 rfl) rfl
theorem q2482 : (Jvm.Cond.privateMethod ({ cls := "BackLogicModel", name := "fewestFor", desc := "()I" } : Jvm.MethodName)) ∈ lw_tbl := lw_at lw_m10 193 rfl
theorem q2483 : (Jvm.Cond.instanceMethod ({ cls := "BackLogicModel", name := "fewestFor", desc := "()I" } : Jvm.MethodName)) ∈ lw_all := lw_g (lw_at lw_m10 194 rfl) rfl
theorem q2484 : (Jvm.Cond.code ({ cls := "BackLogicModel", name := "fewestFor", desc := "()I" } : Jvm.MethodName) prog_13_method_75_code (2 : Nat) (Option.some Jvm.ClassFile.FieldType.int)) ∈ lw_all := lw_g (lw_at lw_m10 195 rfl) rfl
theorem q2486 : (Jvm.Cond.instanceMethod ({ cls := "BackLogicModel", name := "undo", desc := "()Z" } : Jvm.MethodName)) ∈ lw_all := lw_g (lw_at lw_m10 197 rfl) rfl
theorem q2487 : (Jvm.Cond.selects "BackLogicModel" ({ cls := "BackLogicModel", name := "undo", desc := "()Z" } : Jvm.MethodName) ({ cls := "BackLogicModel", name := "undo", desc := "()Z" } : Jvm.MethodName)) ∈ lw_all := lw_g (lw_at lw_m10 198 rfl) rfl
theorem q2488 : (Jvm.Cond.code ({ cls := "BackLogicModel", name := "undo", desc := "()Z" } : Jvm.MethodName) prog_13_method_43_code (3 : Nat) (Option.some Jvm.ClassFile.FieldType.boolean)) ∈ lw_all := lw_g (lw_at lw_m10 199 rfl) rfl
theorem q2490 : (Jvm.Cond.instanceMethod ({ cls := "BackLogicModel", name := "hold", desc := "(I)Z" } : Jvm.MethodName)) ∈ lw_all := lw_g (lw_at lw_m10 201 rfl) rfl
theorem q2491 : (Jvm.Cond.selects "BackLogicModel" ({ cls := "BackLogicModel", name := "hold", desc := "(I)Z" } : Jvm.MethodName) ({ cls := "BackLogicModel", name := "hold", desc := "(I)Z" } : Jvm.MethodName)) ∈ lw_all := lw_g (lw_at lw_m10 202 rfl) rfl
theorem q2492 : (Jvm.Cond.code ({ cls := "BackLogicModel", name := "hold", desc := "(I)Z" } : Jvm.MethodName) prog_13_method_44_code (3 : Nat) (Option.some Jvm.ClassFile.FieldType.boolean)) ∈ lw_all := lw_g (lw_at lw_m10 203 rfl) rfl
theorem q2494 : (Jvm.Cond.instanceMethod ({ cls := "BackLogicModel", name := "restore", desc := "(I)Z" } : Jvm.MethodName)) ∈ lw_all := lw_g (lw_at lw_m10 205 rfl) rfl
theorem q2495 : (Jvm.Cond.selects "BackLogicModel" ({ cls := "BackLogicModel", name := "restore", desc := "(I)Z" } : Jvm.MethodName) ({ cls := "BackLogicModel", name := "restore", desc := "(I)Z" } : Jvm.MethodName)) ∈ lw_all := lw_g (lw_at lw_m10 206 rfl) rfl
theorem q2496 : (Jvm.Cond.code ({ cls := "BackLogicModel", name := "restore", desc := "(I)Z" } : Jvm.MethodName) prog_13_method_45_code (3 : Nat) (Option.some Jvm.ClassFile.FieldType.boolean)) ∈ lw_all := lw_g (lw_at lw_m10 207 rfl) rfl
theorem q2498 : (Jvm.Cond.instanceMethod ({ cls := "BackLogicModel", name := "made", desc := "(II)I" } : Jvm.MethodName)) ∈ lw_all := lw_g (lw_at lw_m10 209 rfl) rfl
theorem q2499 : (Jvm.Cond.selects "BackLogicModel" ({ cls := "BackLogicModel", name := "made", desc := "(II)I" } : Jvm.MethodName) ({ cls := "BackLogicModel", name := "made", desc := "(II)I" } : Jvm.MethodName)) ∈ lw_all := lw_g (lw_at lw_m10 210 rfl) rfl
theorem q2500 : (Jvm.Cond.code ({ cls := "BackLogicModel", name := "made", desc := "(II)I" } : Jvm.MethodName) prog_13_method_49_code (3 : Nat) (Option.some Jvm.ClassFile.FieldType.int)) ∈ lw_all := lw_g (lw_at lw_m10 211 rfl) rfl
theorem q2501 : (Jvm.Cond.methodLink "BackLogicModel" (307 : Nat) ({ cls := "BackLogicModel", name := "madeBy", desc := "(III)I" } : Jvm.MethodName)) ∈ lw_all := lw_g (lw_at lw_m10 212 rfl) rfl
theorem q2502 : (Jvm.Cond.privateMethod ({ cls := "BackLogicModel", name := "madeBy", desc := "(III)I" } : Jvm.MethodName)) ∈ lw_tbl := lw_at lw_m10 213 rfl
theorem q2503 : (Jvm.Cond.instanceMethod ({ cls := "BackLogicModel", name := "madeBy", desc := "(III)I" } : Jvm.MethodName)) ∈ lw_all := lw_g (lw_at lw_m10 214 rfl) rfl
theorem q2504 : (Jvm.Cond.code ({ cls := "BackLogicModel", name := "madeBy", desc := "(III)I" } : Jvm.MethodName) prog_13_method_48_code (6 : Nat) (Option.some Jvm.ClassFile.FieldType.int)) ∈ lw_all := lw_g (lw_at lw_m10 215 rfl) rfl
theorem q2506 : (Jvm.Cond.instanceMethod ({ cls := "BackLogicModel", name := "undone", desc := "(I)I" } : Jvm.MethodName)) ∈ lw_all := lw_g (lw_at lw_m10 217 rfl) rfl
theorem q2507 : (Jvm.Cond.selects "BackLogicModel" ({ cls := "BackLogicModel", name := "undone", desc := "(I)I" } : Jvm.MethodName) ({ cls := "BackLogicModel", name := "undone", desc := "(I)I" } : Jvm.MethodName)) ∈ lw_all := lw_g (lw_at lw_m10 218 rfl) rfl
theorem q2508 : (Jvm.Cond.code ({ cls := "BackLogicModel", name := "undone", desc := "(I)I" } : Jvm.MethodName) prog_13_method_50_code (4 : Nat) (Option.some Jvm.ClassFile.FieldType.int)) ∈ lw_all := lw_g (lw_at lw_m10 219 rfl) rfl
theorem q2510 : (Jvm.Cond.instanceMethod ({ cls := "BackLogicModel", name := "order", desc := "(I)I" } : Jvm.MethodName)) ∈ lw_all := lw_g (lw_at lw_m10 221 rfl) rfl
theorem q2511 : (Jvm.Cond.selects "BackLogicModel" ({ cls := "BackLogicModel", name := "order", desc := "(I)I" } : Jvm.MethodName) ({ cls := "BackLogicModel", name := "order", desc := "(I)I" } : Jvm.MethodName)) ∈ lw_all := lw_g (lw_at lw_m10 222 rfl) rfl
theorem q2512 : (Jvm.Cond.code ({ cls := "BackLogicModel", name := "order", desc := "(I)I" } : Jvm.MethodName) prog_13_method_53_code (10 : Nat) (Option.some Jvm.ClassFile.FieldType.int)) ∈ lw_all := lw_g (lw_at lw_m10 223 rfl) rfl
theorem q2513 : (Jvm.Cond.methodLink "BackLogicModel" (311 : Nat) ({ cls := "BackLogicModel", name := "common", desc := "(II)I" } : Jvm.MethodName)) ∈ lw_all := lw_g (lw_at lw_m10 224 rfl) rfl
theorem q2514 : (Jvm.Cond.static ({ cls := "BackLogicModel", name := "common", desc := "(II)I" } : Jvm.MethodName)) ∈ lw_all := lw_g (lw_at lw_m10 225 rfl) rfl
theorem q2515 : (Jvm.Cond.code ({ cls := "BackLogicModel", name := "common", desc := "(II)I" } : Jvm.MethodName) prog_13_method_52_code (5 : Nat) (Option.some Jvm.ClassFile.FieldType.int)) ∈ lw_all := lw_g (lw_at lw_m10 226 rfl) rfl
theorem q2517 : (Jvm.Cond.instanceMethod ({ cls := "BackLogicModel", name := "agree", desc := "(II)I" } : Jvm.MethodName)) ∈ lw_all := lw_g (lw_at lw_m10 228 rfl) rfl
theorem q2518 : (Jvm.Cond.selects "BackLogicModel" ({ cls := "BackLogicModel", name := "agree", desc := "(II)I" } : Jvm.MethodName) ({ cls := "BackLogicModel", name := "agree", desc := "(II)I" } : Jvm.MethodName)) ∈ lw_all := lw_g (lw_at lw_m10 229 rfl) rfl
theorem q2519 : (Jvm.Cond.code ({ cls := "BackLogicModel", name := "agree", desc := "(II)I" } : Jvm.MethodName) prog_13_method_55_code (3 : Nat) (Option.some Jvm.ClassFile.FieldType.int)) ∈ lw_all := lw_g (lw_at lw_m10 230 rfl) rfl
theorem q2521 : (Jvm.Cond.instanceMethod ({ cls := "BackLogicModel", name := "gate", desc := "(II)I" } : Jvm.MethodName)) ∈ lw_all := lw_g (lw_at lw_m10 232 rfl) rfl
theorem q2522 : (Jvm.Cond.selects "BackLogicModel" ({ cls := "BackLogicModel", name := "gate", desc := "(II)I" } : Jvm.MethodName) ({ cls := "BackLogicModel", name := "gate", desc := "(II)I" } : Jvm.MethodName)) ∈ lw_all := lw_g (lw_at lw_m10 233 rfl) rfl
theorem q2523 : (Jvm.Cond.code ({ cls := "BackLogicModel", name := "gate", desc := "(II)I" } : Jvm.MethodName) prog_13_method_60_code (3 : Nat) (Option.some Jvm.ClassFile.FieldType.int)) ∈ lw_all := lw_g (lw_at lw_m10 234 rfl) rfl
theorem q2524 : (Jvm.Cond.methodLink "BackLogicModel" (325 : Nat) ({ cls := "BackLogicModel", name := "controlsOf", desc := "(I)I" } : Jvm.MethodName)) ∈ lw_all := lw_g (lw_at lw_m10 235 rfl) rfl
theorem q2525 : (Jvm.Cond.privateMethod ({ cls := "BackLogicModel", name := "controlsOf", desc := "(I)I" } : Jvm.MethodName)) ∈ lw_tbl := lw_at lw_m10 236 rfl
theorem q2526 : (Jvm.Cond.instanceMethod ({ cls := "BackLogicModel", name := "controlsOf", desc := "(I)I" } : Jvm.MethodName)) ∈ lw_all := lw_g (lw_at lw_m10 237 rfl) rfl
theorem q2527 : (Jvm.Cond.code ({ cls := "BackLogicModel", name := "controlsOf", desc := "(I)I" } : Jvm.MethodName) prog_13_method_59_code (2 : Nat) (Option.some Jvm.ClassFile.FieldType.int)) ∈ lw_all := lw_g (lw_at lw_m10 238 rfl) rfl
theorem q2528 : (Jvm.Cond.methodLink "BackLogicModel" (328 : Nat) ({ cls := "BackLogicModel", name := "laysLevels", desc := "()I" } : Jvm.MethodName)) ∈ lw_all := lw_g (lw_at lw_m10 239 rfl) rfl
theorem q2529 : (Jvm.Cond.privateMethod ({ cls := "BackLogicModel", name := "laysLevels", desc := "()I" } : Jvm.MethodName)) ∈ lw_tbl := lw_at lw_m11 0 rfl
theorem q2530 : (Jvm.Cond.instanceMethod ({ cls := "BackLogicModel", name := "laysLevels", desc := "()I" } : Jvm.MethodName)) ∈ lw_all := lw_g (lw_at lw_m11 1 rfl) rfl
theorem q2531 : (Jvm.Cond.code ({ cls := "BackLogicModel", name := "laysLevels", desc := "()I" } : Jvm.MethodName) prog_13_method_58_code (4 : Nat) (Option.some Jvm.ClassFile.FieldType.int)) ∈ lw_all := lw_g (lw_at lw_m11 2 rfl) rfl
theorem q2532 : (Jvm.Cond.methodLink "BackLogicModel" (318 : Nat) ({ cls := "BackLogicModel", name := "wiresOf", desc := "([II)I" } : Jvm.MethodName)) ∈ lw_all := lw_g (lw_at lw_m11 3 rfl) rfl
theorem q2533 : (Jvm.Cond.static ({ cls := "BackLogicModel", name := "wiresOf", desc := "([II)I" } : Jvm.MethodName)) ∈ lw_all := lw_g (lw_at lw_m11 4 rfl) rfl
theorem q2534 : (Jvm.Cond.code ({ cls := "BackLogicModel", name := "wiresOf", desc := "([II)I" } : Jvm.MethodName) prog_13_method_57_code (2 : Nat) (Option.some Jvm.ClassFile.FieldType.int)) ∈ lw_all := lw_g (lw_at lw_m11 5 rfl) rfl
theorem q2535 : (Jvm.Cond.methodLink "BackLogicModel" (331 : Nat) ({ cls := "BackLogicModel", name := "freeOf", desc := "(II)I" } : Jvm.MethodName)) ∈ lw_all := lw_g (lw_at lw_m11 6 rfl) rfl
theorem q2536 : (Jvm.Cond.privateMethod ({ cls := "BackLogicModel", name := "freeOf", desc := "(II)I" } : Jvm.MethodName)) ∈ lw_tbl := lw_at lw_m11 7 rfl
theorem q2537 : (Jvm.Cond.instanceMethod ({ cls := "BackLogicModel", name := "freeOf", desc := "(II)I" } : Jvm.MethodName)) ∈ lw_all := lw_g (lw_at lw_m11 8 rfl) rfl
theorem q2538 : (Jvm.Cond.code ({ cls := "BackLogicModel", name := "freeOf", desc := "(II)I" } : Jvm.MethodName) prog_13_method_56_code (5 : Nat) (Option.some Jvm.ClassFile.FieldType.int)) ∈ lw_all := lw_g (lw_at lw_m11 9 rfl) rfl
theorem q2540 : (Jvm.Cond.instanceMethod ({ cls := "BackLogicModel", name := "shrunk", desc := "(II)I" } : Jvm.MethodName)) ∈ lw_all := lw_g (lw_at lw_m11 11 rfl) rfl
theorem q2541 : (Jvm.Cond.selects "BackLogicModel" ({ cls := "BackLogicModel", name := "shrunk", desc := "(II)I" } : Jvm.MethodName) ({ cls := "BackLogicModel", name := "shrunk", desc := "(II)I" } : Jvm.MethodName)) ∈ lw_all := lw_g (lw_at lw_m11 12 rfl) rfl
theorem q2542 : (Jvm.Cond.code ({ cls := "BackLogicModel", name := "shrunk", desc := "(II)I" } : Jvm.MethodName) prog_13_method_66_code (3 : Nat) (Option.some Jvm.ClassFile.FieldType.int)) ∈ lw_all := lw_g (lw_at lw_m11 13 rfl) rfl
theorem q2544 : (Jvm.Cond.instanceMethod ({ cls := "BackLogicModel", name := "found", desc := "(ZII)I" } : Jvm.MethodName)) ∈ lw_all := lw_g (lw_at lw_m11 15 rfl) rfl
theorem q2545 : (Jvm.Cond.selects "BackLogicModel" ({ cls := "BackLogicModel", name := "found", desc := "(ZII)I" } : Jvm.MethodName) ({ cls := "BackLogicModel", name := "found", desc := "(ZII)I" } : Jvm.MethodName)) ∈ lw_all := lw_g (lw_at lw_m11 16 rfl) rfl
theorem q2546 : (Jvm.Cond.code ({ cls := "BackLogicModel", name := "found", desc := "(ZII)I" } : Jvm.MethodName) prog_13_method_71_code (4 : Nat) (Option.some Jvm.ClassFile.FieldType.int)) ∈ lw_all := lw_g (lw_at lw_m11 17 rfl) rfl
theorem q2547 : (Jvm.Cond.methodLink "BackLogicModel" (360 : Nat) ({ cls := "BackLogicModel", name := "foundOf", desc := "(II)I" } : Jvm.MethodName)) ∈ lw_all := lw_g (lw_at lw_m11 18 rfl) rfl
theorem q2548 : (Jvm.Cond.privateMethod ({ cls := "BackLogicModel", name := "foundOf", desc := "(II)I" } : Jvm.MethodName)) ∈ lw_tbl := lw_at lw_m11 19 rfl
theorem q2549 : (Jvm.Cond.instanceMethod ({ cls := "BackLogicModel", name := "foundOf", desc := "(II)I" } : Jvm.MethodName)) ∈ lw_all := lw_g (lw_at lw_m11 20 rfl) rfl
theorem q2550 : (Jvm.Cond.code ({ cls := "BackLogicModel", name := "foundOf", desc := "(II)I" } : Jvm.MethodName) prog_13_method_70_code (3 : Nat) (Option.some Jvm.ClassFile.FieldType.int)) ∈ lw_all := lw_g (lw_at lw_m11 21 rfl) rfl
theorem q2552 : (Jvm.Cond.instanceMethod ({ cls := "BackLogicModel", name := "least", desc := "(II)I" } : Jvm.MethodName)) ∈ lw_all := lw_g (lw_at lw_m11 23 rfl) rfl
theorem q2553 : (Jvm.Cond.selects "BackLogicModel" ({ cls := "BackLogicModel", name := "least", desc := "(II)I" } : Jvm.MethodName) ({ cls := "BackLogicModel", name := "least", desc := "(II)I" } : Jvm.MethodName)) ∈ lw_all := lw_g (lw_at lw_m11 24 rfl) rfl
theorem q2554 : (Jvm.Cond.code ({ cls := "BackLogicModel", name := "least", desc := "(II)I" } : Jvm.MethodName) prog_13_method_77_code (3 : Nat) (Option.some Jvm.ClassFile.FieldType.int)) ∈ lw_all := lw_g (lw_at lw_m11 25 rfl) rfl
theorem q2556 : (Jvm.Cond.instanceMethod ({ cls := "BackLogicModel", name := "off", desc := "(I)I" } : Jvm.MethodName)) ∈ lw_all := lw_g (lw_at lw_m11 27 rfl) rfl
theorem q2557 : (Jvm.Cond.selects "BackLogicModel" ({ cls := "BackLogicModel", name := "off", desc := "(I)I" } : Jvm.MethodName) ({ cls := "BackLogicModel", name := "off", desc := "(I)I" } : Jvm.MethodName)) ∈ lw_all := lw_g (lw_at lw_m11 28 rfl) rfl
theorem q2558 : (Jvm.Cond.code ({ cls := "BackLogicModel", name := "off", desc := "(I)I" } : Jvm.MethodName) prog_13_method_79_code (3 : Nat) (Option.some Jvm.ClassFile.FieldType.int)) ∈ lw_all := lw_g (lw_at lw_m11 29 rfl) rfl
theorem q2559 : (Jvm.Cond.methodLink "BackLogicModel" (375 : Nat) ({ cls := "BackLogicModel", name := "laysSlot", desc := "(I)V" } : Jvm.MethodName)) ∈ lw_all := lw_g (lw_at lw_m11 30 rfl) rfl
theorem q2560 : (Jvm.Cond.privateMethod ({ cls := "BackLogicModel", name := "laysSlot", desc := "(I)V" } : Jvm.MethodName)) ∈ lw_tbl := lw_at lw_m11 31 rfl
theorem q2561 : (Jvm.Cond.instanceMethod ({ cls := "BackLogicModel", name := "laysSlot", desc := "(I)V" } : Jvm.MethodName)) ∈ lw_all := lw_g (lw_at lw_m11 32 rfl) rfl
theorem q2562 : (Jvm.Cond.code ({ cls := "BackLogicModel", name := "laysSlot", desc := "(I)V" } : Jvm.MethodName) prog_13_method_78_code (3 : Nat) (Option.none : Option Jvm.ClassFile.FieldType)) ∈ lw_all := lw_g (lw_at lw_m11 33 rfl) rfl
theorem q2564 : (Jvm.Cond.instanceMethod ({ cls := "BackLogicModel", name := "like", desc := "(I)I" } : Jvm.MethodName)) ∈ lw_all := lw_g (lw_at lw_m11 35 rfl) rfl
theorem q2565 : (Jvm.Cond.selects "BackLogicModel" ({ cls := "BackLogicModel", name := "like", desc := "(I)I" } : Jvm.MethodName) ({ cls := "BackLogicModel", name := "like", desc := "(I)I" } : Jvm.MethodName)) ∈ lw_all := lw_g (lw_at lw_m11 36 rfl) rfl
theorem q2566 : (Jvm.Cond.code ({ cls := "BackLogicModel", name := "like", desc := "(I)I" } : Jvm.MethodName) prog_13_method_82_code (10 : Nat) (Option.some Jvm.ClassFile.FieldType.int)) ∈ lw_all := lw_g (lw_at lw_m11 37 rfl) rfl
theorem q2567 : (Jvm.Cond.methodLink "BackLogicModel" (381 : Nat) ({ cls := "BackLogicModel", name := "isRenamed", desc := "()Z" } : Jvm.MethodName)) ∈ lw_all := lw_g (lw_at lw_m11 38 rfl) rfl
theorem q2568 : (Jvm.Cond.privateMethod ({ cls := "BackLogicModel", name := "isRenamed", desc := "()Z" } : Jvm.MethodName)) ∈ lw_tbl := lw_at lw_m11 39 rfl
theorem q2569 : (Jvm.Cond.instanceMethod ({ cls := "BackLogicModel", name := "isRenamed", desc := "()Z" } : Jvm.MethodName)) ∈ lw_all := lw_g (lw_at lw_m11 40 rfl) rfl
theorem q2570 : (Jvm.Cond.code ({ cls := "BackLogicModel", name := "isRenamed", desc := "()Z" } : Jvm.MethodName) prog_13_method_81_code (2 : Nat) (Option.some Jvm.ClassFile.FieldType.boolean)) ∈ lw_all := lw_g (lw_at lw_m11 41 rfl) rfl
theorem q2571 : (Jvm.Cond.methodLink "BackLogicModel" (378 : Nat) ({ cls := "BackLogicModel", name := "renamed", desc := "(I)I" } : Jvm.MethodName)) ∈ lw_all := lw_g (lw_at lw_m11 42 rfl) rfl
theorem q2572 : (Jvm.Cond.privateMethod ({ cls := "BackLogicModel", name := "renamed", desc := "(I)I" } : Jvm.MethodName)) ∈ lw_tbl := lw_at lw_m11 43 rfl
theorem q2573 : (Jvm.Cond.instanceMethod ({ cls := "BackLogicModel", name := "renamed", desc := "(I)I" } : Jvm.MethodName)) ∈ lw_all := lw_g (lw_at lw_m11 44 rfl) rfl
theorem q2574 : (Jvm.Cond.code ({ cls := "BackLogicModel", name := "renamed", desc := "(I)I" } : Jvm.MethodName) prog_13_method_80_code (4 : Nat) (Option.some Jvm.ClassFile.FieldType.int)) ∈ lw_all := lw_g (lw_at lw_m11 45 rfl) rfl
theorem q2576 : (Jvm.Cond.instanceMethod ({ cls := "BackLogicModel", name := "stuck", desc := "(IIZ)I" } : Jvm.MethodName)) ∈ lw_all := lw_g (lw_at lw_m11 47 rfl) rfl
theorem q2577 : (Jvm.Cond.selects "BackLogicModel" ({ cls := "BackLogicModel", name := "stuck", desc := "(IIZ)I" } : Jvm.MethodName) ({ cls := "BackLogicModel", name := "stuck", desc := "(IIZ)I" } : Jvm.MethodName)) ∈ lw_all := lw_g (lw_at lw_m11 48 rfl) rfl
theorem q2578 : (Jvm.Cond.code ({ cls := "BackLogicModel", name := "stuck", desc := "(IIZ)I" } : Jvm.MethodName) prog_13_method_84_code (4 : Nat) (Option.some Jvm.ClassFile.FieldType.int)) ∈ lw_all := lw_g (lw_at lw_m11 49 rfl) rfl
theorem q2579 : (Jvm.Cond.methodLink "BackLogicModel" (385 : Nat) ({ cls := "BackLogicModel", name := "stuckBy", desc := "(III)I" } : Jvm.MethodName)) ∈ lw_all := lw_g (lw_at lw_m11 50 rfl) rfl
theorem q2580 : (Jvm.Cond.privateMethod ({ cls := "BackLogicModel", name := "stuckBy", desc := "(III)I" } : Jvm.MethodName)) ∈ lw_tbl := lw_at lw_m11 51 rfl
theorem q2581 : (Jvm.Cond.instanceMethod ({ cls := "BackLogicModel", name := "stuckBy", desc := "(III)I" } : Jvm.MethodName)) ∈ lw_all := lw_g (lw_at lw_m11 52 rfl) rfl
theorem q2582 : (Jvm.Cond.code ({ cls := "BackLogicModel", name := "stuckBy", desc := "(III)I" } : Jvm.MethodName) prog_13_method_83_code (6 : Nat) (Option.some Jvm.ClassFile.FieldType.int)) ∈ lw_all := lw_g (lw_at lw_m11 53 rfl) rfl
theorem q2584 : (Jvm.Cond.instanceMethod ({ cls := "BackLogicModel", name := "test", desc := "(I)I" } : Jvm.MethodName)) ∈ lw_all := lw_g (lw_at lw_m11 55 rfl) rfl
theorem q2585 : (Jvm.Cond.selects "BackLogicModel" ({ cls := "BackLogicModel", name := "test", desc := "(I)I" } : Jvm.MethodName) ({ cls := "BackLogicModel", name := "test", desc := "(I)I" } : Jvm.MethodName)) ∈ lw_all := lw_g (lw_at lw_m11 56 rfl) rfl
theorem q2586 : (Jvm.Cond.code ({ cls := "BackLogicModel", name := "test", desc := "(I)I" } : Jvm.MethodName) prog_13_method_88_code (5 : Nat) (Option.some Jvm.ClassFile.FieldType.int)) ∈ lw_all := lw_g (lw_at lw_m11 57 rfl) rfl
theorem q2587 : (Jvm.Cond.methodLink "BackLogicModel" (394 : Nat) ({ cls := "BackLogicModel", name := "testRows", desc := "()I" } : Jvm.MethodName)) ∈ lw_all := lw_g (lw_at lw_m11 58 rfl) rfl
theorem q2588 : (Jvm.Cond.privateMethod ({ cls := "BackLogicModel", name := "testRows", desc := "()I" } : Jvm.MethodName)) ∈ lw_tbl := lw_at lw_m11 59 rfl
theorem q2589 : (Jvm.Cond.instanceMethod ({ cls := "BackLogicModel", name := "testRows", desc := "()I" } : Jvm.MethodName)) ∈ lw_all := lw_g (lw_at lw_m11 60 rfl) rfl
theorem q2590 : (Jvm.Cond.code ({ cls := "BackLogicModel", name := "testRows", desc := "()I" } : Jvm.MethodName) prog_13_method_86_code (6 : Nat) (Option.some Jvm.ClassFile.FieldType.int)) ∈ lw_all := lw_g (lw_at lw_m11 61 rfl) rfl
theorem q2591 : (Jvm.Cond.methodLink "BackLogicModel" (388 : Nat) ({ cls := "BackLogicModel", name := "seenBy", desc := "(I)I" } : Jvm.MethodName)) ∈ lw_all := lw_g (lw_at lw_m11 62 rfl) rfl
theorem q2592 : (Jvm.Cond.privateMethod ({ cls := "BackLogicModel", name := "seenBy", desc := "(I)I" } : Jvm.MethodName)) ∈ lw_tbl := lw_at lw_m11 63 rfl
theorem q2593 : (Jvm.Cond.instanceMethod ({ cls := "BackLogicModel", name := "seenBy", desc := "(I)I" } : Jvm.MethodName)) ∈ lw_all := lw_g (lw_at lw_m11 64 rfl) rfl
theorem q2594 : (Jvm.Cond.code ({ cls := "BackLogicModel", name := "seenBy", desc := "(I)I" } : Jvm.MethodName) prog_13_method_85_code (4 : Nat) (Option.some Jvm.ClassFile.FieldType.int)) ∈ lw_all := lw_g (lw_at lw_m11 65 rfl) rfl
theorem q2595 : (Jvm.Cond.methodLink "BackLogicModel" (391 : Nat) ({ cls := "BackLogicModel", name := "isFirst", desc := "(II)Z" } : Jvm.MethodName)) ∈ lw_all := lw_g (lw_at lw_m11 66 rfl) rfl
theorem q2596 : (Jvm.Cond.static ({ cls := "BackLogicModel", name := "isFirst", desc := "(II)Z" } : Jvm.MethodName)) ∈ lw_all := lw_g (lw_at lw_m11 67 rfl) rfl
theorem q2597 : (Jvm.Cond.code ({ cls := "BackLogicModel", name := "isFirst", desc := "(II)Z" } : Jvm.MethodName) prog_13_method_87_code (3 : Nat) (Option.some Jvm.ClassFile.FieldType.boolean)) ∈ lw_all := lw_g (lw_at lw_m11 68 rfl) rfl
theorem q2599 : (Jvm.Cond.instanceMethod ({ cls := "BackLogicModel", name := "terms", desc := "(I)I" } : Jvm.MethodName)) ∈ lw_all := lw_g (lw_at lw_m11 70 rfl) rfl
theorem q2600 : (Jvm.Cond.selects "BackLogicModel" ({ cls := "BackLogicModel", name := "terms", desc := "(I)I" } : Jvm.MethodName) ({ cls := "BackLogicModel", name := "terms", desc := "(I)I" } : Jvm.MethodName)) ∈ lw_all := lw_g (lw_at lw_m11 71 rfl) rfl
theorem q2601 : (Jvm.Cond.code ({ cls := "BackLogicModel", name := "terms", desc := "(I)I" } : Jvm.MethodName) prog_13_method_90_code (2 : Nat) (Option.some Jvm.ClassFile.FieldType.int)) ∈ lw_all := lw_g (lw_at lw_m11 72 rfl) rfl
theorem q2602 : (Jvm.Cond.methodLink "BackLogicModel" (397 : Nat) ({ cls := "BackLogicModel", name := "termsOf", desc := "(I)I" } : Jvm.MethodName)) ∈ lw_all := lw_g (lw_at lw_m11 73 rfl) rfl
theorem q2603 : (Jvm.Cond.privateMethod ({ cls := "BackLogicModel", name := "termsOf", desc := "(I)I" } : Jvm.MethodName)) ∈ lw_tbl := lw_at lw_m11 74 rfl
theorem q2604 : (Jvm.Cond.instanceMethod ({ cls := "BackLogicModel", name := "termsOf", desc := "(I)I" } : Jvm.MethodName)) ∈ lw_all := lw_g (lw_at lw_m11 75 rfl) rfl
theorem q2605 : (Jvm.Cond.code ({ cls := "BackLogicModel", name := "termsOf", desc := "(I)I" } : Jvm.MethodName) prog_13_method_89_code (6 : Nat) (Option.some Jvm.ClassFile.FieldType.int)) ∈ lw_all := lw_g (lw_at lw_m11 76 rfl) rfl
theorem q2607 : (Jvm.Cond.instanceMethod ({ cls := "BackLogicModel", name := "idle", desc := "(I)I" } : Jvm.MethodName)) ∈ lw_all := lw_g (lw_at lw_m11 78 rfl) rfl
theorem q2608 : (Jvm.Cond.selects "BackLogicModel" ({ cls := "BackLogicModel", name := "idle", desc := "(I)I" } : Jvm.MethodName) ({ cls := "BackLogicModel", name := "idle", desc := "(I)I" } : Jvm.MethodName)) ∈ lw_all := lw_g (lw_at lw_m11 79 rfl) rfl
theorem q2609 : (Jvm.Cond.code ({ cls := "BackLogicModel", name := "idle", desc := "(I)I" } : Jvm.MethodName) prog_13_method_93_code (4 : Nat) (Option.some Jvm.ClassFile.FieldType.int)) ∈ lw_all := lw_g (lw_at lw_m11 80 rfl) rfl
theorem q2610 : (Jvm.Cond.methodLink "BackLogicModel" (400 : Nat) ({ cls := "BackLogicModel", name := "isIdle", desc := "(II)Z" } : Jvm.MethodName)) ∈ lw_all := lw_g (lw_at lw_m11 81 rfl) rfl
theorem q2611 : (Jvm.Cond.privateMethod ({ cls := "BackLogicModel", name := "isIdle", desc := "(II)Z" } : Jvm.MethodName)) ∈ lw_tbl := lw_at lw_m11 82 rfl
theorem q2612 : (Jvm.Cond.instanceMethod ({ cls := "BackLogicModel", name := "isIdle", desc := "(II)Z" } : Jvm.MethodName)) ∈ lw_all := lw_g (lw_at lw_m11 83 rfl) rfl
theorem q2613 : (Jvm.Cond.code ({ cls := "BackLogicModel", name := "isIdle", desc := "(II)Z" } : Jvm.MethodName) prog_13_method_92_code (4 : Nat) (Option.some Jvm.ClassFile.FieldType.boolean)) ∈ lw_all := lw_g (lw_at lw_m11 84 rfl) rfl
theorem q2615 : (Jvm.Cond.instanceMethod ({ cls := "BackLogicModel", name := "table", desc := "(I)I" } : Jvm.MethodName)) ∈ lw_all := lw_g (lw_at lw_m11 86 rfl) rfl
theorem q2616 : (Jvm.Cond.selects "BackLogicModel" ({ cls := "BackLogicModel", name := "table", desc := "(I)I" } : Jvm.MethodName) ({ cls := "BackLogicModel", name := "table", desc := "(I)I" } : Jvm.MethodName)) ∈ lw_all := lw_g (lw_at lw_m11 87 rfl) rfl
theorem q2617 : (Jvm.Cond.code ({ cls := "BackLogicModel", name := "table", desc := "(I)I" } : Jvm.MethodName) prog_13_method_98_code (2 : Nat) (Option.some Jvm.ClassFile.FieldType.int)) ∈ lw_all := lw_g (lw_at lw_m11 88 rfl) rfl
theorem q2618 : (Jvm.Cond.methodLink "BackLogicModel" (403 : Nat) ({ cls := "BackLogicModel", name := "copies", desc := "()I" } : Jvm.MethodName)) ∈ lw_all := lw_g (lw_at lw_m11 89 rfl) rfl
theorem q2619 : (Jvm.Cond.privateMethod ({ cls := "BackLogicModel", name := "copies", desc := "()I" } : Jvm.MethodName)) ∈ lw_tbl := lw_at lw_m11 90 rfl
theorem q2620 : (Jvm.Cond.instanceMethod ({ cls := "BackLogicModel", name := "copies", desc := "()I" } : Jvm.MethodName)) ∈ lw_all := lw_g (lw_at lw_m11 91 rfl) rfl
theorem q2621 : (Jvm.Cond.code ({ cls := "BackLogicModel", name := "copies", desc := "()I" } : Jvm.MethodName) prog_13_method_94_code (5 : Nat) (Option.some Jvm.ClassFile.FieldType.int)) ∈ lw_all := lw_g (lw_at lw_m11 92 rfl) rfl
theorem q2622 : (Jvm.Cond.methodLink "BackLogicModel" (406 : Nat) ({ cls := "BackLogicModel", name := "garbage", desc := "()I" } : Jvm.MethodName)) ∈ lw_all := lw_g (lw_at lw_m11 93 rfl) rfl
theorem q2623 : (Jvm.Cond.privateMethod ({ cls := "BackLogicModel", name := "garbage", desc := "()I" } : Jvm.MethodName)) ∈ lw_tbl := lw_at lw_m11 94 rfl
theorem q2624 : (Jvm.Cond.instanceMethod ({ cls := "BackLogicModel", name := "garbage", desc := "()I" } : Jvm.MethodName)) ∈ lw_all := lw_g (lw_at lw_m11 95 rfl) rfl
theorem q2625 : (Jvm.Cond.code ({ cls := "BackLogicModel", name := "garbage", desc := "()I" } : Jvm.MethodName) prog_13_method_95_code (2 : Nat) (Option.some Jvm.ClassFile.FieldType.int)) ∈ lw_all := lw_g (lw_at lw_m11 96 rfl) rfl
theorem q2626 : (Jvm.Cond.methodLink "BackLogicModel" (409 : Nat) ({ cls := "BackLogicModel", name := "lines", desc := "()I" } : Jvm.MethodName)) ∈ lw_all := lw_g (lw_at lw_m11 97 rfl) rfl
theorem q2627 : (Jvm.Cond.privateMethod ({ cls := "BackLogicModel", name := "lines", desc := "()I" } : Jvm.MethodName)) ∈ lw_tbl := lw_at lw_m11 98 rfl
theorem q2628 : (Jvm.Cond.instanceMethod ({ cls := "BackLogicModel", name := "lines", desc := "()I" } : Jvm.MethodName)) ∈ lw_all := lw_g (lw_at lw_m11 99 rfl) rfl
theorem q2629 : (Jvm.Cond.code ({ cls := "BackLogicModel", name := "lines", desc := "()I" } : Jvm.MethodName) prog_13_method_96_code (2 : Nat) (Option.some Jvm.ClassFile.FieldType.int)) ∈ lw_all := lw_g (lw_at lw_m11 100 rfl) rfl
theorem q2630 : (Jvm.Cond.methodLink "BackLogicModel" (412 : Nat) ({ cls := "BackLogicModel", name := "laysTold", desc := "()V" } : Jvm.MethodName)) ∈ lw_all := lw_g (lw_at lw_m11 101 rfl) rfl
theorem q2631 : (Jvm.Cond.privateMethod ({ cls := "BackLogicModel", name := "laysTold", desc := "()V" } : Jvm.MethodName)) ∈ lw_tbl := lw_at lw_m11 102 rfl
theorem q2632 : (Jvm.Cond.instanceMethod ({ cls := "BackLogicModel", name := "laysTold", desc := "()V" } : Jvm.MethodName)) ∈ lw_all := lw_g (lw_at lw_m11 103 rfl) rfl
theorem q2633 : (Jvm.Cond.code ({ cls := "BackLogicModel", name := "laysTold", desc := "()V" } : Jvm.MethodName) prog_13_method_97_code (5 : Nat) (Option.none : Option Jvm.ClassFile.FieldType)) ∈ lw_all := lw_g (lw_at lw_m11 104 rfl) rfl
theorem q2635 : (Jvm.Cond.instanceMethod ({ cls := "BackLogicModel", name := "laid", desc := "(I)I" } : Jvm.MethodName)) ∈ lw_all := lw_g (lw_at lw_m11 106 rfl) rfl
theorem q2636 : (Jvm.Cond.selects "BackLogicModel" ({ cls := "BackLogicModel", name := "laid", desc := "(I)I" } : Jvm.MethodName) ({ cls := "BackLogicModel", name := "laid", desc := "(I)I" } : Jvm.MethodName)) ∈ lw_all := lw_g (lw_at lw_m11 107 rfl) rfl
theorem q2637 : (Jvm.Cond.code ({ cls := "BackLogicModel", name := "laid", desc := "(I)I" } : Jvm.MethodName) prog_13_method_99_code (2 : Nat) (Option.some Jvm.ClassFile.FieldType.int)) ∈ lw_all := lw_g (lw_at lw_m11 108 rfl) rfl
theorem q2639 : (Jvm.Cond.instanceMethod ({ cls := "BackLogicModel", name := "count", desc := "(I)I" } : Jvm.MethodName)) ∈ lw_all := lw_g (lw_at lw_m11 110 rfl) rfl
theorem q2640 : (Jvm.Cond.selects "BackLogicModel" ({ cls := "BackLogicModel", name := "count", desc := "(I)I" } : Jvm.MethodName) ({ cls := "BackLogicModel", name := "count", desc := "(I)I" } : Jvm.MethodName)) ∈ lw_all := lw_g (lw_at lw_m11 111 rfl) rfl
theorem q2641 : (Jvm.Cond.code ({ cls := "BackLogicModel", name := "count", desc := "(I)I" } : Jvm.MethodName) prog_13_method_104_code (4 : Nat) (Option.some Jvm.ClassFile.FieldType.int)) ∈ lw_all := lw_g (lw_at lw_m11 112 rfl) rfl
theorem q2642 : (Jvm.Cond.methodLink "BackLogicModel" (415 : Nat) ({ cls := "BackLogicModel", name := "cost", desc := "()I" } : Jvm.MethodName)) ∈ lw_all := lw_g (lw_at lw_m11 113 rfl) rfl
theorem q2643 : (Jvm.Cond.privateMethod ({ cls := "BackLogicModel", name := "cost", desc := "()I" } : Jvm.MethodName)) ∈ lw_tbl := lw_at lw_m11 114 rfl
theorem q2644 : (Jvm.Cond.instanceMethod ({ cls := "BackLogicModel", name := "cost", desc := "()I" } : Jvm.MethodName)) ∈ lw_all := lw_g (lw_at lw_m11 115 rfl) rfl
theorem q2645 : (Jvm.Cond.code ({ cls := "BackLogicModel", name := "cost", desc := "()I" } : Jvm.MethodName) prog_13_method_100_code (3 : Nat) (Option.some Jvm.ClassFile.FieldType.int)) ∈ lw_all := lw_g (lw_at lw_m11 116 rfl) rfl
theorem q2646 : (Jvm.Cond.methodLink "BackLogicModel" (418 : Nat) ({ cls := "BackLogicModel", name := "agreeing", desc := "()I" } : Jvm.MethodName)) ∈ lw_all := lw_g (lw_at lw_m11 117 rfl) rfl
theorem q2647 : (Jvm.Cond.privateMethod ({ cls := "BackLogicModel", name := "agreeing", desc := "()I" } : Jvm.MethodName)) ∈ lw_tbl := lw_at lw_m11 118 rfl
theorem q2648 : (Jvm.Cond.instanceMethod ({ cls := "BackLogicModel", name := "agreeing", desc := "()I" } : Jvm.MethodName)) ∈ lw_all := lw_g (lw_at lw_m11 119 rfl) rfl
theorem q2649 : (Jvm.Cond.code ({ cls := "BackLogicModel", name := "agreeing", desc := "()I" } : Jvm.MethodName) prog_13_method_101_code (5 : Nat) (Option.some Jvm.ClassFile.FieldType.int)) ∈ lw_all := lw_g (lw_at lw_m11 120 rfl) rfl
theorem q2650 : (Jvm.Cond.methodLink "BackLogicModel" (421 : Nat) ({ cls := "BackLogicModel", name := "seeing", desc := "()I" } : Jvm.MethodName)) ∈ lw_all := lw_g (lw_at lw_m11 121 rfl) rfl
theorem q2651 : (Jvm.Cond.privateMethod ({ cls := "BackLogicModel", name := "seeing", desc := "()I" } : Jvm.MethodName)) ∈ lw_tbl := lw_at lw_m11 122 rfl
theorem q2652 : (Jvm.Cond.instanceMethod ({ cls := "BackLogicModel", name := "seeing", desc := "()I" } : Jvm.MethodName)) ∈ lw_all := lw_g (lw_at lw_m11 123 rfl) rfl
theorem q2653 : (Jvm.Cond.code ({ cls := "BackLogicModel", name := "seeing", desc := "()I" } : Jvm.MethodName) prog_13_method_102_code (3 : Nat) (Option.some Jvm.ClassFile.FieldType.int)) ∈ lw_all := lw_g (lw_at lw_m11 124 rfl) rfl
theorem q2654 : (Jvm.Cond.methodLink "BackLogicModel" (424 : Nat) ({ cls := "BackLogicModel", name := "degree", desc := "()I" } : Jvm.MethodName)) ∈ lw_all := lw_g (lw_at lw_m11 125 rfl) rfl
theorem q2655 : (Jvm.Cond.privateMethod ({ cls := "BackLogicModel", name := "degree", desc := "()I" } : Jvm.MethodName)) ∈ lw_tbl := lw_at lw_m11 126 rfl
theorem q2656 : (Jvm.Cond.instanceMethod ({ cls := "BackLogicModel", name := "degree", desc := "()I" } : Jvm.MethodName)) ∈ lw_all := lw_g (lw_at lw_m11 127 rfl) rfl
theorem q2657 : (Jvm.Cond.code ({ cls := "BackLogicModel", name := "degree", desc := "()I" } : Jvm.MethodName) prog_13_method_91_code (5 : Nat) (Option.some Jvm.ClassFile.FieldType.int)) ∈ lw_all := lw_g (lw_at lw_m11 128 rfl) rfl
theorem q2658 : (Jvm.Cond.methodLink "BackLogicModel" (427 : Nat) ({ cls := "BackLogicModel", name := "sorts", desc := "()I" } : Jvm.MethodName)) ∈ lw_all := lw_g (lw_at lw_m11 129 rfl) rfl
theorem q2659 : (Jvm.Cond.privateMethod ({ cls := "BackLogicModel", name := "sorts", desc := "()I" } : Jvm.MethodName)) ∈ lw_tbl := lw_at lw_m11 130 rfl
theorem q2660 : (Jvm.Cond.instanceMethod ({ cls := "BackLogicModel", name := "sorts", desc := "()I" } : Jvm.MethodName)) ∈ lw_all := lw_g (lw_at lw_m11 131 rfl) rfl
theorem q2661 : (Jvm.Cond.code ({ cls := "BackLogicModel", name := "sorts", desc := "()I" } : Jvm.MethodName) prog_13_method_103_code (5 : Nat) (Option.some Jvm.ClassFile.FieldType.int)) ∈ lw_all := lw_g (lw_at lw_m11 132 rfl) rfl
theorem q2696 : (Jvm.Cond.castable "BackLogicModel" "java/lang/Object") ∈ lw_tbl := lw_at lw_m11 167 rfl
theorem in_X9 : ∀ w ∈ wsX90, w ∈ lw_all := lw_in wsX90 [2161, 2163, 2165, 2167, 2169, 2171, 2173, 2175, 2177, 2179, 2181, 2183, 2185, 2187, 2189, 2191, 2193, 2195, 2197, 2199, 2201, 2203, 2205, 2207, 2209, 2211, 2213, 2215, 2217, 2219, 2221, 2223, 2225, 2227, 2229, 2231, 2233, 2235, 2237, 2239, 2241, 2243, 2245, 2247, 2249, 2251, 2253, 2255, 2257, 2259, 2261, 2263, 2265, 2267, 2269, 2271] (by decide +kernel) (by decide +kernel)
