set_option maxRecDepth 100000
/-! ===== the words (Strings that were there before), their list ===== -/
/-- the letters of the words -/
def wlet (i j : Nat) : Nat := (([[119, 105, 114, 101], [103, 97, 116, 101], [112, 114, 105, 99, 101], [116, 97, 98, 108, 101]] : List (List Nat)).getD i []).getD j 0
def wlen (i : Nat) : Nat := ([4, 4, 5, 5] : List Nat).getD i 0
theorem wl_b : ∀ i, i < 4 → wlen i ≤ 5 ∧ 4 ≤ wlen i ∧ ∀ j, j < wlen i → isL (wlet i j) := by decide
theorem wl_byt : ∀ i, i < 4 → ∀ j, j < wlen i → (bytT.getD i []).getD j 0 = Int32.ofInt ((wlet i j : Nat) : Int) := by decide +kernel
theorem wl_key : ∀ i, i < 4 → keyN i = nmF (wlet i) 0 (wlen i) := by decide
theorem i2c_n {x : Nat} (h : x < 256) : ((Int32.ofInt (x : Int)).toUInt32 % 65536).toInt32 = Int32.ofInt (x : Int) := by
  revert x
  decide +kernel
section RS
variable {K : KT} {own : String} {cc : ByteArray} {nL d U pc : Nat} {L : List (Option Value)} {st rest : List Value} {n : Nat} {f : Hp} {u : Nat}
theorem r_i2cN {x : Nat} (hK : Gd K own cc nL d U) (hd : decode cc pc = .ok (.i2c, 1)) (hx : x < 256) (k : Wx K (pc + 1) L (zI (x : Int) :: st) n f u) : Wx K pc L (zI (x : Int) :: st) n f u := fun H locs ls hH hS hl => lv_i2c hK.1 hK.2.1 hd (i2c_n hx) (k H locs ls hH hS hl)
theorem str_px {i : Nat} (hK : Gd K own cc nL d U) (hX : GX (kG K)) (hi : i < 4) : va_O "java/lang/String" (g_p (kG K) (6 + i)) (fun a => g_b (kG K) ≤ a) (ks K) (g_H (kG K)) ∧ va_OF "java/lang/String" "coder" "B" (cv (kG K) (zI 0)) (g_p (kG K) (6 + i)) (fun a => g_b (kG K) ≤ a) (ks K) (g_H (kG K)) ∧ va_OF "java/lang/String" "value" "[B" (cv (kG K) (.ref (11 + i))) (g_p (kG K) (6 + i)) (fun a => g_b (kG K) ≤ a) (ks K) (g_H (kG K)) ∧ va_T .byte (g_p (kG K) (11 + i)) (wlen i) (fun j => .int ((bytT.getD i []).getD j 0)) (fun a => g_b (kG K) ≤ a) (ks K) (g_H (kG K)) := by
  obtain ⟨h1, h2, h3, h4⟩ := (hK.px hX).2.2.2.2.2.2.2.1.1 i hi
  refine ⟨h1, ?_, ?_, ?_⟩
  · show va_OF _ _ _ (.int (Int32.ofInt 0)) _ _ _ _
    rw [i_0]; exact h2
  · show va_OF _ _ _ (.ref (ad (kG K) (11 + i))) _ _ _ _
    rw [ad_pre (by omega)]; exact h3
  · exact h4
end RS
set_option maxHeartbeats 4000000 in
theorem ct_strCoder {G : GT} {Rel : Nat → Hp → Hp → Prop} (hR : RelOK Rel) (hX : GX G) {n : Nat} {f : Hp} {i : Nat} (hi : i < 4) : Ct G Rel yJ18_coder cJ18_coder 1 (some .byte) (1) (0) [.ref (6 + i)] n (f) (Pu (zI ((0 : Nat) : Int)) n f) := by
  refine ct_intro [some (.ref (6 + i))] hR rfl (Nat.le_of_ble_eq_true rfl) ?_
  intro K hG hRel hK hRt hnm
  have hXK : GX (kG K) := by rw [hG]; exact hX
  obtain ⟨s1, s2, s3, s4⟩ := str_px hK hXK hi
  refine r_gets hK hXK (C := "java/lang/String") (nm := "COMPACT_STRINGS") (ds := "Z") (v := zI 1) (by simp [stT]) q833 dJ18_coder_0 ?_
  refine r_if_eq 13 hK dJ18_coder_3 (by decide) (fun h3 => ?_) (fun h3 => ?_)
  · exact absurd h3 (by decide) --!
  · refine r_aload_0 hK dJ18_coder_6 ?_
    refine p_get (k := 6 + i) (v := zI 0) hK s2 q1407 dJ18_coder_7 ?_
    refine r_goto 14 hK dJ18_coder_10 ?_
    exact r_zret hK hRt dJ18_coder_14 rfl ⟨rfl, rfl, rfl⟩
set_option maxHeartbeats 4000000 in
theorem ct_strLen {G : GT} {Rel : Nat → Hp → Hp → Prop} (hR : RelOK Rel) (hX : GX G) {n : Nat} {f : Hp} {i : Nat} (hi : i < 4) : Ct G Rel yJ18_length cJ18_length 1 (some .int) (2) (0) [.ref (6 + i)] n (f) (Pu (zI ((wlen i : Nat) : Int)) n f) := by
  refine ct_intro [some (.ref (6 + i))] hR rfl (Nat.le_of_ble_eq_true rfl) ?_
  intro K hG hRel hK hRt hnm
  have hXK : GX (kG K) := by rw [hG]; exact hX
  obtain ⟨s1, s2, s3, s4⟩ := str_px hK hXK hi
  have hw := (wl_b i hi).1
  refine r_aload_0 hK dJ18_length_0 ?_
  refine p_get (k := 6 + i) (v := .ref (11 + i)) hK s3 q1406 dJ18_length_1 ?_
  refine p_alen (k := 11 + i) hK s4 dJ18_length_4 ?_
  refine r_aload_0 hK dJ18_length_5 ?_
  refine r_callVH0 hK (ct_strCoder hK.rel hXK hi) lk_J18_335 (p_rcv s1) dJ18_length_6 (fun r m1 g1 hp => ?_)
  obtain ⟨rfl, rfl, rfl⟩ := hp
  refine r_ishr hK dJ18_length_9 (by decide) (by omega) ?_
  exact r_iret hK hRt dJ18_length_10 ⟨by rw [Nat.shiftRight_zero], rfl, rfl⟩
set_option maxHeartbeats 4000000 in
theorem ct_strLatin {G : GT} {Rel : Nat → Hp → Hp → Prop} (hR : RelOK Rel) (hX : GX G) {n : Nat} {f : Hp} {i : Nat} (hi : i < 4) : Ct G Rel yJ18_isLatin1 cJ18_isLatin1 1 (some .boolean) (1) (0) [.ref (6 + i)] n (f) (Pu (zI ((1 : Nat) : Int)) n f) := by
  refine ct_intro [some (.ref (6 + i))] hR rfl (Nat.le_of_ble_eq_true rfl) ?_
  intro K hG hRel hK hRt hnm
  have hXK : GX (kG K) := by rw [hG]; exact hX
  obtain ⟨s1, s2, s3, s4⟩ := str_px hK hXK hi
  refine r_gets hK hXK (C := "java/lang/String") (nm := "COMPACT_STRINGS") (ds := "Z") (v := zI 1) (by simp [stT]) q833 dJ18_isLatin1_0 ?_
  refine r_if_eq 17 hK dJ18_isLatin1_3 (by decide) (fun h3 => ?_) (fun h3 => ?_)
  · exact absurd h3 (by decide) --!
  · refine r_aload_0 hK dJ18_isLatin1_6 ?_
    refine p_get (k := 6 + i) (v := zI 0) hK s2 q1407 dJ18_isLatin1_7 ?_
    refine r_if_ne 17 hK dJ18_isLatin1_10 (by decide) (fun h10 => ?_) (fun h10 => ?_)
    · exact absurd rfl h10 --!
    · refine r_iconstN (c := 1) hK dJ18_isLatin1_13 ?_
      refine r_goto 18 hK dJ18_isLatin1_14 ?_
      exact r_zret hK hRt dJ18_isLatin1_18 rfl ⟨rfl, rfl, rfl⟩
set_option maxHeartbeats 4000000 in
theorem ct_chkIdx3r {G : GT} {Rel : Nat → Hp → Hp → Prop} (hR : RelOK Rel) {n : Nat} {g : Hp} {i N : Nat} (hi : i < N) (hN : N < 2147483648) : Ct G Rel yJ17_checkIndex cJ17_checkIndex 3 (some .int) (1) (0) [zI (i : Int), zI (N : Int), .ref 3] n (g) (Pu (zI (i : Int)) n g) := by
  refine ct_intro [some (zI (i : Int)), some (zI (N : Int)), some (.ref 3)] hR rfl (Nat.le_of_ble_eq_true rfl) ?_
  intro K hG hRel hK hRt hnm
  refine r_iload_0 hK dJ17_checkIndex_0 ?_
  refine r_if_lt 9 hK dJ17_checkIndex_1 (by omega) (fun h1 => ?_) (fun h1 => ?_)
  · omega --!
  · refine r_iload_0 hK dJ17_checkIndex_4 ?_
    refine r_iload_1 hK dJ17_checkIndex_5 ?_
    refine r_icmp_lt 16 hK dJ17_checkIndex_6 (by omega) (by omega) (fun h6 => ?_) (fun h6 => ?_)
    · refine r_iload_0 hK dJ17_checkIndex_16 ?_
      exact r_iret hK hRt dJ17_checkIndex_17 ⟨rfl, rfl, rfl⟩
    · omega --!
set_option maxHeartbeats 4000000 in
theorem ct_chkIdx3n {G : GT} {Rel : Nat → Hp → Hp → Prop} (hR : RelOK Rel) {n : Nat} {g : Hp} {i N : Nat} (hi : i < N) (hN : N < 2147483648) : Ct G Rel yJ17_checkIndex cJ17_checkIndex 3 (some .int) (1) (0) [zI (i : Int), zI (N : Int), .null] n (g) (Pu (zI (i : Int)) n g) := by
  refine ct_intro [some (zI (i : Int)), some (zI (N : Int)), some (.null)] hR rfl (Nat.le_of_ble_eq_true rfl) ?_
  intro K hG hRel hK hRt hnm
  refine r_iload_0 hK dJ17_checkIndex_0 ?_
  refine r_if_lt 9 hK dJ17_checkIndex_1 (by omega) (fun h1 => ?_) (fun h1 => ?_)
  · omega --!
  · refine r_iload_0 hK dJ17_checkIndex_4 ?_
    refine r_iload_1 hK dJ17_checkIndex_5 ?_
    refine r_icmp_lt 16 hK dJ17_checkIndex_6 (by omega) (by omega) (fun h6 => ?_) (fun h6 => ?_)
    · refine r_iload_0 hK dJ17_checkIndex_16 ?_
      exact r_iret hK hRt dJ17_checkIndex_17 ⟨rfl, rfl, rfl⟩
    · omega --!
set_option maxHeartbeats 4000000 in
theorem ct_strChk {G : GT} {Rel : Nat → Hp → Hp → Prop} (hR : RelOK Rel) (hX : GX G) {n : Nat} {f : Hp} {i N : Nat} (hi : i < N) (hN : N < 1000) : Ct G Rel yJ18_checkIndex cJ18_checkIndex 2 none (2) (0) [zI (i : Int), zI (N : Int)] n (f) (Pv n f) := by
  refine ct_intro [some (zI (i : Int)), some (zI (N : Int))] hR rfl (Nat.le_of_ble_eq_true rfl) ?_
  intro K hG hRel hK hRt hnm
  have hXK : GX (kG K) := by rw [hG]; exact hX
  refine r_iload_0 hK dJ18_checkIndex_0 ?_
  refine r_iload_1 hK dJ18_checkIndex_1 ?_
  refine r_getsQ hK hXK (C := "jdk/internal/util/Preconditions") (nm := "SIOOBE_FORMATTER") (ds := "Ljava/util/function/BiFunction;") (k := 3) (by simp [sfT]) q849 dJ18_checkIndex_2 ?_ ?_
  · refine r_pS3 hK (ct_chkIdx3n hK.rel hi (by omega)) lk_J18_1059 dJ18_checkIndex_5 ?_
    refine r_pop hK dJ18_checkIndex_8 ?_
    exact r_vret hK hRt dJ18_checkIndex_9 ⟨rfl, rfl, rfl⟩
  · refine r_pS3 hK (ct_chkIdx3r hK.rel hi (by omega)) lk_J18_1059 dJ18_checkIndex_5 ?_
    refine r_pop hK dJ18_checkIndex_8 ?_
    exact r_vret hK hRt dJ18_checkIndex_9 ⟨rfl, rfl, rfl⟩
set_option maxHeartbeats 4000000 in
theorem ct_latAt {G : GT} {Rel : Nat → Hp → Hp → Prop} (hR : RelOK Rel) (hX : GX G) {n : Nat} {f : Hp} {i j : Nat} (hi : i < 4) (hj : j < wlen i) : Ct G Rel yJ19_charAt cJ19_charAt 2 (some .char) (3) (0) [.ref (11 + i), zI (j : Int)] n (f) (Pu (zI ((wlet i j : Nat) : Int)) n f) := by
  refine ct_intro [some (.ref (11 + i)), some (zI (j : Int))] hR rfl (Nat.le_of_ble_eq_true rfl) ?_
  intro K hG hRel hK hRt hnm
  have hXK : GX (kG K) := by rw [hG]; exact hX
  obtain ⟨s1, s2, s3, s4⟩ := str_px hK hXK hi
  have hw := (wl_b i hi).1
  have hl := (wl_b i hi).2.2 j hj
  have e255 : wlet i j &&& 255 = wlet i j := by
    rw [show (255 : Nat) = 2 ^ 8 - 1 from rfl, Nat.and_two_pow_sub_one_eq_mod, Nat.mod_eq_of_lt (by omega)]
  refine r_iload_1 hK dJ19_charAt_0 ?_
  refine r_aload_0 hK dJ19_charAt_1 ?_
  refine p_alen (k := 11 + i) hK s4 dJ19_charAt_2 ?_
  refine r_vS2 hK (ct_strChk hK.rel hXK hj (by omega)) lk_J19_9 dJ19_charAt_3 ?_
  refine r_aload_0 hK dJ19_charAt_6 ?_
  refine r_iload_1 hK dJ19_charAt_7 ?_
  refine p_bald (k := 11 + i) (v := zI ((wlet i j : Nat) : Int)) hK s4 hj (by show Value.int _ = Value.int _; rw [wl_byt i hi j hj]) dJ19_charAt_8 ?_ (hN := by omega)
  refine r_sipushN (c := 255) hK dJ19_charAt_9 ?_
  first | refine r_iand hK dJ19_charAt_12 ?_ | refine r_andnot hK dJ19_charAt_12 (by omega) ?_
  rw [e255]
  refine r_i2cN hK dJ19_charAt_13 (by omega) ?_
  refine r_zret hK hRt dJ19_charAt_14 ?_ ⟨rfl, rfl, rfl⟩
  have : ∀ x : Nat, x < 256 → narrow .char (zI (x : Int)) = zI (x : Int) := by decide +kernel
  exact this _ (by omega)
set_option maxHeartbeats 4000000 in
theorem ct_strAt {G : GT} {Rel : Nat → Hp → Hp → Prop} (hR : RelOK Rel) (hX : GX G) {n : Nat} {f : Hp} {i j : Nat} (hi : i < 4) (hj : j < wlen i) : Ct G Rel yJ18_charAt cJ18_charAt 2 (some .char) (4) (0) [.ref (6 + i), zI (j : Int)] n (f) (Pu (zI ((wlet i j : Nat) : Int)) n f) := by
  refine ct_intro [some (.ref (6 + i)), some (zI (j : Int))] hR rfl (Nat.le_of_ble_eq_true rfl) ?_
  intro K hG hRel hK hRt hnm
  have hXK : GX (kG K) := by rw [hG]; exact hX
  obtain ⟨s1, s2, s3, s4⟩ := str_px hK hXK hi
  have hl := (wl_b i hi).2.2 j hj
  refine r_aload_0 hK dJ18_charAt_0 ?_
  refine r_callVH0 hK (ct_strLatin hK.rel hXK hi) lk_J18_492 (p_rcv s1) dJ18_charAt_1 (fun r m1 g1 hp => ?_)
  obtain ⟨rfl, rfl, rfl⟩ := hp
  refine r_if_eq 16 hK dJ18_charAt_4 (by decide) (fun h4 => ?_) (fun h4 => ?_)
  · exact absurd h4 (by decide) --!
  · refine r_aload_0 hK dJ18_charAt_7 ?_
    refine p_get (k := 6 + i) (v := .ref (11 + i)) hK s3 q1406 dJ18_charAt_8 ?_
    refine r_iload_1 hK dJ18_charAt_11 ?_
    refine r_pS2 hK (ct_latAt hK.rel hXK hi hj) lk_J18_495 dJ18_charAt_12 ?_
    refine r_zret hK hRt dJ18_charAt_15 ?_ ⟨rfl, rfl, rfl⟩
    have : ∀ x : Nat, x < 256 → narrow .char (zI (x : Int)) = zI (x : Int) := by decide +kernel
    exact this _ (by omega)
set_option maxHeartbeats 4000000 in
theorem ct_lnSize {G : GT} {Rel : Nat → Hp → Hp → Prop} (hR : RelOK Rel) {n : Nat} {f : Hp} {id arr N : Nat} {h : Nat → Value} {b : Value} (h1 : f id = some (.inl (18, [.ref arr, b]))) (h2 : f arr = some (.inr (5, N, h))) : Ct G Rel yJ10_size cJ10_size 1 (some .int) (1) (0) [.ref id] n (f) (Pu (zI (N : Int)) n f) := by
  refine ct_intro [some (.ref id)] hR rfl (Nat.le_of_ble_eq_true rfl) ?_
  intro K hG hRel hK hRt hnm
  refine r_aload_0 hK dJ10_size_0 ?_
  refine r_get hK fl_J10_7 dJ10_size_1 (h1) rfl ?_
  refine r_alen hK dJ10_size_4 h2 ?_
  exact r_iret hK hRt dJ10_size_5 ⟨rfl, rfl, rfl⟩
set_option maxHeartbeats 4000000 in
theorem ct_lnGet {G : GT} {Rel : Nat → Hp → Hp → Prop} (hR : RelOK Rel) {n : Nat} {f : Hp} {id arr N i v : Nat} {h : Nat → Value} {b : Value} (h1 : f id = some (.inl (18, [.ref arr, b]))) (h2 : f arr = some (.inr (5, N, h))) (hi : i < N) (hN : N < 1000) (hv : h i = .ref v) : Ct G Rel yJ10_get cJ10_get 2 (some (.object "java/lang/Object")) (1) (0) [.ref id, zI (i : Int)] n (f) (Pu (.ref v) n f) := by
  refine ct_intro [some (.ref id), some (zI (i : Int))] hR rfl (Nat.le_of_ble_eq_true rfl) ?_
  intro K hG hRel hK hRt hnm
  refine r_aload_0 hK dJ10_get_0 ?_
  refine r_get hK fl_J10_7 dJ10_get_1 (h1) rfl ?_
  refine r_iload_1 hK dJ10_get_4 ?_
  refine r_aald hK dJ10_get_5 h2 hi ?_ (by omega)
  rw [hv]
  exact r_aret hK hRt dJ10_get_6 ⟨rfl, rfl, rfl⟩
