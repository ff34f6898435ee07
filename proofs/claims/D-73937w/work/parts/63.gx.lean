set_option maxRecDepth 100000
/-! ===== class links; what else holds of the machine ===== -/
theorem cl_J0_44 : Cond.classLink RJ0 44 "java/lang/StringBuilder" ∈ lw_all := q1243
theorem cl_J13_22 : Cond.classLink RJ13 22 "java/util/LinkedList$Node" ∈ lw_all := q1039
theorem cl_J13_150 : Cond.classLink RJ13 150 "java/util/LinkedList$ListItr" ∈ lw_all := q1133
theorem cl_J14_7 : Cond.classLink RJ14 7 "java/lang/Object" ∈ lw_all := q1000
theorem cl_J14_262 : Cond.classLink RJ14 262 "java/util/ArrayList$ListItr" ∈ lw_all := q1095
theorem cl_J16_47 : Cond.classLink RJ16 47 "java/lang/Object" ∈ lw_all := q647
theorem cl_J23_110 : Cond.classLink RJ23 110 "[Ljava/lang/Object;" ∈ lw_all := q991
theorem cl_J23_2 : Cond.classLink RJ23 2 "java/lang/Object" ∈ lw_all := q992
theorem cl_J23_311 : Cond.classLink RJ23 311 "[B" ∈ lw_all := q1303
theorem cl_J23_320 : Cond.classLink RJ23 320 "[J" ∈ lw_all := q1755
theorem cl_J3_103 : Cond.classLink RJ3 103 "java/lang/Object" ∈ lw_all := q276
theorem cl_J33_1 : Cond.classLink RJ33 1 "java/lang/Integer" ∈ lw_all := q1770
theorem cl_J4_55 : Cond.classLink RJ4 55 "[Ljava/lang/Object;" ∈ lw_all := q313
theorem cl_J4_10 : Cond.classLink RJ4 10 "java/util/ImmutableCollections$List12" ∈ lw_all := q319
theorem cl_J4_12 : Cond.classLink RJ4 12 "java/util/ImmutableCollections$ListN" ∈ lw_all := q347
theorem cl_X0_13 : Cond.classLink RX0 13 "BackLogic$Fault" ∈ lw_all := q188
theorem cl_X0_22 : Cond.classLink RX0 22 "BackLogic$Tokens" ∈ lw_all := q263
theorem cl_X0_29 : Cond.classLink RX0 29 "BackLogic$Parser" ∈ lw_all := q391
theorem cl_X0_38 : Cond.classLink RX0 38 "BackLogic$Cascade" ∈ lw_all := q523
theorem cl_X0_48 : Cond.classLink RX0 48 "BackLogic$Table" ∈ lw_all := q525
theorem cl_X0_55 : Cond.classLink RX0 55 "BackLogic$Finder" ∈ lw_all := q527
theorem cl_X0_62 : Cond.classLink RX0 62 "BackLogic$Shortest" ∈ lw_all := q554
theorem cl_X0_69 : Cond.classLink RX0 69 "BackLogic$Tests" ∈ lw_all := q619
theorem cl_X0_76 : Cond.classLink RX0 76 "java/util/ArrayDeque" ∈ lw_all := q641
theorem cl_X0_193 : Cond.classLink RX0 193 "BackLogic$Gate" ∈ lw_all := q1527
theorem cl_X11_8 : Cond.classLink RX11 8 "BackLogic$Gate" ∈ lw_all := q1610
theorem cl_X2_65 : Cond.classLink RX2 65 "java/lang/String" ∈ lw_all := q824
theorem cl_X3_9 : Cond.classLink RX3 9 "BackLogic$Cascade" ∈ lw_all := q397
theorem cl_X3_18 : Cond.classLink RX3 18 "BackLogic$Table" ∈ lw_all := q442
theorem cl_X3_32 : Cond.classLink RX3 32 "java/util/ArrayList" ∈ lw_all := q464
theorem cl_X3_121 : Cond.classLink RX3 121 "BackLogic$Line" ∈ lw_all := q939
theorem cl_X3_176 : Cond.classLink RX3 176 "BackLogic$Gate" ∈ lw_all := q1014
theorem cl_X4_7 : Cond.classLink RX4 7 "java/util/LinkedList" ∈ lw_all := q403
theorem cl_X4_38 : Cond.classLink RX4 38 "BackLogic$Gate" ∈ lw_all := q1439
theorem cl_X4_11 : Cond.classLink RX4 11 "BackLogic$Cascade" ∈ lw_all := q1508
theorem cl_X5_47 : Cond.classLink RX5 47 "java/util/BitSet" ∈ lw_all := q1999
theorem cl_X6_18 : Cond.classLink RX6 18 "java/util/LinkedList" ∈ lw_all := q533
theorem cl_X6_36 : Cond.classLink RX6 36 "BackLogic$Gate" ∈ lw_all := q1665
theorem cl_X7_42 : Cond.classLink RX7 42 "java/util/BitSet" ∈ lw_all := q563
theorem cl_X7_19 : Cond.classLink RX7 19 "java/util/ArrayList" ∈ lw_all := q589
theorem cl_X7_62 : Cond.classLink RX7 62 "BackLogic$Gate" ∈ lw_all := q1723
theorem cl_X7_93 : Cond.classLink RX7 93 "[I" ∈ lw_all := q1784
theorem cl_X7_123 : Cond.classLink RX7 123 "java/util/LinkedList" ∈ lw_all := q1803
theorem cl_X7_84 : Cond.classLink RX7 84 "java/lang/Integer" ∈ lw_all := q1813
theorem cl_law_7 : Cond.classLink R_law 7 "BackLogic" ∈ lw_all := q180
theorem cl_law_10 : Cond.classLink R_law 10 "BackLogicModel" ∈ lw_all := q2092
def xHasNext : MethodName := { cls := "java/util/Iterator", name := "hasNext", desc := "()Z" }
def xNext : MethodName := { cls := "java/util/Iterator", name := "next", desc := "()Ljava/lang/Object;" }
def xLsize : MethodName := { cls := "java/util/List", name := "size", desc := "()I" }
def xLget : MethodName := { cls := "java/util/List", name := "get", desc := "(I)Ljava/lang/Object;" }
/-- the statics that are read: class, name, type, value (ids below 300: there before) -/
def stT : List (String × String × String × Value) := [("java/util/ArrayList", "DEFAULTCAPACITY_EMPTY_ELEMENTDATA", "[Ljava/lang/Object;", .ref 2), ("java/lang/Integer$IntegerCache", "cache", "[Ljava/lang/Integer;", .ref 4), ("java/lang/Integer$IntegerCache", "high", "I", zI 127), ("java/lang/String", "COMPACT_STRINGS", "Z", zI 1), ("java/util/ImmutableCollections", "$assertionsDisabled", "Z", zI 1), ("java/util/BitSet", "$assertionsDisabled", "Z", zI 1)]
/-- statics that hold a reference or null -/
def sfT : List (String × String × String × Nat) := [("java/lang/Throwable", "UNASSIGNED_STACK", "[Ljava/lang/StackTraceElement;", 0), ("java/lang/Throwable", "SUPPRESSED_SENTINEL", "Ljava/util/List;", 1), ("jdk/internal/util/Preconditions", "SIOOBE_FORMATTER", "Ljava/util/function/BiFunction;", 3)]
/-- the strings: class, pool entry, text, id -/
def strT : List (String × Nat × String × Nat) := [("BackLogic$Fault", 1, "", 5), ("BackLogic$Tokens", 9, "wire", 6), ("BackLogic$Tokens", 11, "gate", 7), ("BackLogic$Tokens", 13, "price", 8), ("BackLogic$Tokens", 15, "table", 9)]
/-- what was there before: the cached Integers (ids 20 ..), their array (4), the words (6 .. 9) and their bytes (11 .. 14), the empty array (2) -/
def bytT : List (List Int32) := [[119, 105, 114, 101], [103, 97, 116, 101], [112, 114, 105, 99, 101], [116, 97, 98, 108, 101]]
def PZ (G : GT) (S : State) : Prop := vb_C (fun k => g_p G (20 + k)) (fun a => g_b G ≤ a) S (g_H G) ∧ va_T (.object "java/lang/Integer") (g_p G 4) 256 (fun j => .ref (g_p G (20 + j))) (fun a => g_b G ≤ a) S (g_H G) ∧ vk_S 4 [4, 4, 5, 5] bytT (fun i => g_p G (6 + i)) (fun i => g_p G (11 + i)) (fun a => g_b G ≤ a) S (g_H G) ∧ va_T (.object "java/lang/Object") (g_p G 2) 0 (fun _ => .null) (fun a => g_b G ≤ a) S (g_H G) ∧ ∀ q ∈ sfT, va_Z q.1 q.2.1 q.2.2.1 .null (fun a => g_b G ≤ a) S (g_H G) ∨ va_Z q.1 q.2.1 q.2.2.1 (.ref (g_p G q.2.2.2)) (fun a => g_b G ≤ a) S (g_H G)
def PX (G : GT) (S : State) : Prop := (va_Fw RJ28 xHasNext yJ28_hasNext S ∧ va_Fw RJ28 xNext yJ28_next S ∧ va_Fw RJ10 xLsize yJ10_size S ∧ va_Fw RJ10 xLget yJ10_get S) ∧ (∀ C D, Cond.castable C D ∈ lw_tbl → va_Nw (.castable C D) S) ∧ (∀ q ∈ stT, va_Z q.1 q.2.1 q.2.2.1 (cv G q.2.2.2) (fun a => g_b G ≤ a) S (g_H G)) ∧ (∀ q ∈ strT, vk_R q.1 q.2.1 q.2.2.1 (g_p G q.2.2.2) S) ∧ va_Mi "[Ljava/lang/Object;" (g_p G 15) S ∧ PZ G S
def GX (G : GT) : Prop := ∀ S, g_X G S → PX G S
theorem Gd.px {K : KT} {own : String} {cc : ByteArray} {nL d U : Nat} (hK : Gd K own cc nL d U) (h : GX (kG K)) : PX (kG K) (ks K) := h _ hK.2.2.2.2.2.1.2.2.2.2.2.2.1

