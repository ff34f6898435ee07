set_option maxRecDepth 100000
/-! ===== longs as sets of bits; trailing zeros ===== -/
theorem lbv (x : Nat) : (Int64.ofInt (x : Int)).toBitVec = BitVec.ofNat 64 x := by
  show BitVec.ofInt 64 (x : Int) = _
  exact BitVec.ofInt_natCast ..
theorem l_or (x y : Nat) : Int64.ofInt (x : Int) ||| Int64.ofInt (y : Int) = Int64.ofInt ((x ||| y : Nat) : Int) := by
  apply Int64.toBitVec_inj.mp
  rw [Int64.toBitVec_or, lbv, lbv, lbv]
  apply BitVec.eq_of_getLsbD_eq
  intro i hi
  simp [BitVec.getLsbD_ofNat, hi]
theorem l_and (x y : Nat) : Int64.ofInt (x : Int) &&& Int64.ofInt (y : Int) = Int64.ofInt ((x &&& y : Nat) : Int) := by
  apply Int64.toBitVec_inj.mp
  rw [Int64.toBitVec_and, lbv, lbv, lbv]
  apply BitVec.eq_of_getLsbD_eq
  intro i hi
  simp [BitVec.getLsbD_ofNat, hi]
theorem l_m1 : Int64.ofInt (-1) = Int64.ofInt ((18446744073709551615 : Nat) : Int) := by decide +kernel
theorem l_not (y : Nat) : Int64.ofInt (y : Int) ^^^ Int64.ofInt (-1) = Int64.ofInt ((y ^^^ 18446744073709551615 : Nat) : Int) := by
  rw [l_m1]
  apply Int64.toBitVec_inj.mp
  rw [Int64.toBitVec_xor, lbv, lbv, lbv]
  apply BitVec.eq_of_getLsbD_eq
  intro i hi
  simp [BitVec.getLsbD_ofNat, hi]
theorem l_sh1_ : ∀ k : Nat, k < 64 → Int64.ofInt 1 <<< (Int64.ofNat k) = Int64.ofInt ((2 ^ k : Nat) : Int) := by decide +kernel
theorem l_63 (i : Nat) (hi : i < 2147483648) : (Int32.ofInt (i : Int)).toInt64 &&& 63 = Int64.ofNat (i % 64) := by
  rw [zn, nI_l hi]
  apply Int64.toBitVec_inj.mp
  rw [Int64.toBitVec_and]
  apply BitVec.eq_of_toNat_eq
  show (BitVec.ofNat 64 i &&& 63#64).toNat = (BitVec.ofNat 64 (i % 64)).toNat
  simp only [BitVec.toNat_and, BitVec.toNat_ofNat]
  rw [Nat.mod_eq_of_lt (show i < 2 ^ 64 by omega), show 63 % 2 ^ 64 = 2 ^ 6 - 1 from rfl, Nat.and_two_pow_sub_one_eq_mod, Nat.mod_eq_of_lt (show i % 2 ^ 6 < 2 ^ 64 by omega)]
theorem l_sh1 (i : Nat) (hi : i < 2147483648) : Int64.ofInt 1 <<< ((Int32.ofInt (i : Int)).toInt64 &&& 63) = Int64.ofInt ((2 ^ (i % 64) : Nat) : Int) := by
  rw [l_63 i hi]; exact l_sh1_ _ (Nat.mod_lt _ (by decide))
theorem l_us : ∀ e : Nat, e < 65 → 0 < e → ((Int64.ofInt (-1)).toUInt64 >>> ((Int32.ofInt (-(e : Int))).toInt64.toUInt64 &&& Int64.toUInt64 63)).toInt64 = Int64.ofInt ((2 ^ e - 1 : Nat) : Int) := by decide +kernel
theorem l_hi (x : Nat) (hx : x < 2 ^ 64) : ((Int64.ofInt (x : Int)).toUInt64 >>> ((Int32.ofInt ((32 : Nat) : Int)).toInt64.toUInt64 &&& Int64.toUInt64 63)).toInt64 = Int64.ofInt ((x / 2 ^ 32 : Nat) : Int) := by
  have e : ((Int32.ofInt ((32 : Nat) : Int)).toInt64.toUInt64 &&& Int64.toUInt64 63) = 32 := by decide +kernel
  rw [e]
  apply Int64.toBitVec_inj.mp
  rw [lbv]
  show ((Int64.ofInt (x : Int)).toBitVec >>> (32#64 % 64)) = _
  rw [lbv]
  apply BitVec.eq_of_toNat_eq
  rw [show (32#64 % 64 : BitVec 64) = 32#64 by decide, BitVec.ushiftRight_eq', BitVec.toNat_ushiftRight]
  simp only [BitVec.toNat_ofNat]
  rw [Nat.mod_eq_of_lt hx, Nat.shiftRight_eq_div_pow, Nat.mod_eq_of_lt (Nat.lt_of_le_of_lt (Nat.div_le_self _ _) hx)]
theorem l_lo (x : Nat) : (Int64.ofInt (x : Int)).toInt32 = Int32.ofInt ((x % 2 ^ 32 : Nat) : Int) := by
  apply Int32.toBitVec_inj.mp
  show (Int64.ofInt (x : Int)).toBitVec.signExtend 32 = BitVec.ofInt 32 _
  rw [lbv]
  apply BitVec.eq_of_toNat_eq
  rw [BitVec.ofInt_natCast, BitVec.toNat_ofNat, Nat.mod_mod]
  rw [BitVec.signExtend_eq_setWidth_of_le _ (by decide), BitVec.toNat_setWidth, BitVec.toNat_ofNat]
  omega
theorem l_cmp0 (x : Nat) (hx : x < 2 ^ 64) : ∃ c : Int, (c = -1 ∨ c = 0 ∨ c = 1) ∧ Value.int (lg_cmp (Int64.ofInt (x : Int)) (Int64.ofInt 0)) = zI c ∧ (c = 0 ↔ x = 0) := by
  have e0 : (Int64.ofInt (x : Int) = Int64.ofInt 0) ↔ x = 0 := by
    constructor
    · intro h
      have := congrArg Int64.toBitVec h
      rw [lbv] at this
      have := congrArg BitVec.toNat this
      rw [BitVec.toNat_ofNat, Nat.mod_eq_of_lt hx] at this
      exact this
    · intro h; rw [h]; rfl
  unfold lg_cmp
  by_cases c1 : x = 0
  · exact ⟨0, by decide, by rw [c1]; decide +kernel, by simp [c1]⟩
  · have c2 := fun q => c1 (e0.mp q)
    by_cases c3 : Int64.ofInt 0 < Int64.ofInt (x : Int)
    · refine ⟨1, by decide, ?_, by simp [c1]⟩
      rw [if_pos c3]; rfl
    · refine ⟨-1, by decide, ?_, by simp [c1]⟩
      rw [if_neg c3, if_neg c2]; rfl
section RL
variable {K : KT} {own : String} {cc : ByteArray} {nL d U pc : Nat} {L : List (Option Value)} {st : List Value} {n : Nat} {f : Hp} {u : Nat}
theorem r_lor {x y : Nat} (hK : Gd K own cc nL d U) (hd : decode cc pc = .ok (.lor, 1)) (k : Wx K (pc + 1) L (zL ((x ||| y : Nat) : Int) :: st) n f u) : Wx K pc L (zL (y : Int) :: zL (x : Int) :: st) n f u := fun H locs ls hH hS hl => lv_lor hK.1 hK.2.1 hd (by rw [l_or]; exact k H locs ls hH hS hl)
theorem r_land {x y : Nat} (hK : Gd K own cc nL d U) (hd : decode cc pc = .ok (.land, 1)) (k : Wx K (pc + 1) L (zL ((x &&& y : Nat) : Int) :: st) n f u) : Wx K pc L (zL (y : Int) :: zL (x : Int) :: st) n f u := fun H locs ls hH hS hl => lv_land hK.1 hK.2.1 hd (by rw [l_and]; exact k H locs ls hH hS hl)
theorem r_lnot {y : Nat} (hK : Gd K own cc nL d U) (hd : decode cc pc = .ok (.lxor, 1)) (k : Wx K (pc + 1) L (zL ((y ^^^ 18446744073709551615 : Nat) : Int) :: st) n f u) : Wx K pc L (zL (-1) :: zL (y : Int) :: st) n f u := fun H locs ls hH hS hl => lv_lxor hK.1 hK.2.1 hd (by rw [l_not]; exact k H locs ls hH hS hl)
theorem r_lsh1 {i : Nat} (hK : Gd K own cc nL d U) (hd : decode cc pc = .ok (.lshl, 1)) (hi : i < 2147483648) (k : Wx K (pc + 1) L (zL ((2 ^ (i % 64) : Nat) : Int) :: st) n f u) : Wx K pc L (zI (i : Int) :: zL 1 :: st) n f u := fun H locs ls hH hS hl => lv_lshl hK.1 hK.2.1 hd (l_sh1 i hi) (k H locs ls hH hS hl)
theorem r_lshM (hK : Gd K own cc nL d U) (hd : decode cc pc = .ok (.lshl, 1)) (k : Wx K (pc + 1) L (zL ((18446744073709551615 : Nat) : Int) :: st) n f u) : Wx K pc L (zI ((0 : Nat) : Int) :: zL (-1) :: st) n f u := fun H locs ls hH hS hl => lv_lshl hK.1 hK.2.1 hd (by decide +kernel) (k H locs ls hH hS hl)
theorem r_lushM {e : Nat} (hK : Gd K own cc nL d U) (hd : decode cc pc = .ok (.lushr, 1)) (he : 0 < e ∧ e < 65) (k : Wx K (pc + 1) L (zL ((2 ^ e - 1 : Nat) : Int) :: st) n f u) : Wx K pc L (zI (-(e : Int)) :: zL (-1) :: st) n f u := fun H locs ls hH hS hl => lv_lushr hK.1 hK.2.1 hd (l_us e he.2 he.1) (k H locs ls hH hS hl)
theorem r_lushH {x : Nat} (hK : Gd K own cc nL d U) (hd : decode cc pc = .ok (.lushr, 1)) (hx : x < 2 ^ 64) (k : Wx K (pc + 1) L (zL ((x / 2 ^ 32 : Nat) : Int) :: st) n f u) : Wx K pc L (zI ((32 : Nat) : Int) :: zL (x : Int) :: st) n f u := fun H locs ls hH hS hl => lv_lushr hK.1 hK.2.1 hd (l_hi x hx) (k H locs ls hH hS hl)
theorem r_l2i {x : Nat} (hK : Gd K own cc nL d U) (hd : decode cc pc = .ok (.l2i, 1)) (k : Wx K (pc + 1) L (zI ((x % 2 ^ 32 : Nat) : Int) :: st) n f u) : Wx K pc L (zL (x : Int) :: st) n f u := fun H locs ls hH hS hl => lv_l2i hK.1 hK.2.1 hd (l_lo x) (k H locs ls hH hS hl)
end RL
/-- the least bit's trace -/
theorem lowM {x t : Nat} (h1 : x.testBit t = true) (h2 : ∀ i, i < t → x.testBit i = false) : clr (x - 1) x = 2 ^ t - 1 := by
  have e : x = 2 ^ t * (x / 2 ^ t) := by
    have hm : x % 2 ^ t = 0 := by
      apply Nat.eq_of_testBit_eq
      intro i
      rw [Nat.testBit_mod_two_pow, Nat.zero_testBit]
      by_cases c : i < t
      · rw [h2 i c]; simp
      · simp [c]
    have := Nat.div_add_mod x (2 ^ t)
    omega
  have hodd : (x / 2 ^ t) % 2 = 1 := by
    have := h1
    rw [Nat.testBit_eq_decide_div_mod_eq] at this
    exact of_decide_eq_true this
  obtain ⟨m, hm⟩ : ∃ m, x / 2 ^ t = 2 * m + 1 := ⟨x / 2 ^ t / 2, by omega⟩
  have hp : 0 < 2 ^ t := Nat.two_pow_pos t
  have ex : x = 2 ^ t * (2 * m + 1) + 0 := by rw [← hm, Nat.add_zero]; exact e
  have ex1 : x - 1 = 2 ^ t * (2 * m) + (2 ^ t - 1) := by
    rw [ex, Nat.mul_add]; omega
  apply Nat.eq_of_testBit_eq
  intro i
  rw [tb_clr, Nat.testBit_two_pow_sub_one]
  have b1 : (x - 1).testBit i = if i < t then (2 ^ t - 1).testBit i else (2 * m).testBit (i - t) := by
    rw [ex1]; exact Nat.testBit_two_pow_mul_add _ (by omega) _
  have b2 : x.testBit i = if i < t then (0 : Nat).testBit i else (2 * m + 1).testBit (i - t) := by
    conv => lhs; rw [ex]
    exact Nat.testBit_two_pow_mul_add _ (by omega) _
  rw [b1, b2]
  by_cases c : i < t
  · simp [c, Nat.testBit_two_pow_sub_one]
  · rw [if_neg c, if_neg c, decide_eq_false c]
    cases hj : i - t with
    | zero => simp [Nat.testBit_zero]
    | succ j =>
      have a1 : (2 * m).testBit (j + 1) = m.testBit j := by rw [Nat.testBit_succ]; congr 1; omega
      have a2 : (2 * m + 1).testBit (j + 1) = m.testBit j := by rw [Nat.testBit_succ]; congr 1; omega
      rw [a1, a2]; cases m.testBit j <;> rfl
theorem i_lowM {x t : Nat} (h0 : 0 < x) (hx : x < 2 ^ 32) (h1 : x.testBit t = true) (h2 : ∀ i, i < t → x.testBit i = false) : Value.int (Int32.ofInt (-(x : Int) - 1) &&& Int32.ofInt ((x - 1 : Nat) : Int)) = zI ((2 ^ t - 1 : Nat) : Int) := by
  have e : Int32.ofInt ((x - 1 : Nat) : Int) &&& Int32.ofInt (-(x : Int) - 1) = Int32.ofInt ((clr (x - 1) x : Nat) : Int) := by
    rw [Int32.ofInt_sub, Int32.ofInt_neg]
    unfold clr
    rw [zn ((x - 1) ^^^ ((x - 1) &&& x)), ← i_xor, ← i_and, zn, zn]
    generalize nI (x - 1) = t
    generalize nI x = s
    have h2 : Int32.ofInt 1 = 1 := by decide +kernel
    rw [h2]
    apply Int32.toBitVec_inj.mp
    have h4 : (1 : Int32).toBitVec = 1#32 := by decide +kernel
    simp only [Int32.toBitVec_xor, Int32.toBitVec_sub, Int32.toBitVec_neg, Int32.toBitVec_and, h4]
    rw [bv_not, bv_clr]
  rw [lowM h1 h2] at e
  unfold zI
  rw [← e]
  congr 1
  exact Int32.and_comm _ _
theorem pw_k : ∀ k : Nat, k < 17 → 0 < k → ∀ t : Nat, t < 32 → (k < t ↔ 2 ^ k < 2 ^ t - 1) ∧ (k < t → (2 ^ t - 1) >>> k = 2 ^ (t - k) - 1) := by decide +kernel
theorem pw_1 : ∀ t : Nat, t < 32 → 2 ^ t - 1 < 2147483648 ∧ (1 ≤ t → 1 ≤ 2 ^ t - 1) ∧ (t = 1 ∨ t = 2 → (2 ^ t - 1) >>> 1 = t - 1) := by decide +kernel
set_option maxHeartbeats 4000000 in
theorem ct_ntzG {G : GT} {Rel : Nat → Hp → Hp → Prop} (hR : RelOK Rel) {n : Nat} {f : Hp} {x t : Nat} (hx0 : 0 < x) (hx : x < 2 ^ 32) (ht : t < 32) (hb1 : x.testBit t = true) (hb2 : ∀ i, i < t → x.testBit i = false) : Ct G Rel yJ33_numberOfTrailingZeros cJ33_numberOfTrailingZeros 2 (some .int) (1) (0) [zI (x : Int)] n (f) (Pu (zI ((t : Nat) : Int)) n f) := by
  refine ct_intro [some (zI (x : Int)), none] hR rfl (Nat.le_of_ble_eq_true rfl) ?_
  intro K hG hRel hK hRt hnm
  have w74 : ∀ s c, 1 ≤ s → s ≤ 2 → c + s = t + 1 → Wx K 74 [some (zI ((2 ^ s - 1 : Nat) : Int)), some (zI (c : Int))] [] n f 0 := by
    intro s c h1 h2 h3
    have p := pw_1 s (by omega)
    refine r_iload_1 hK dJ33_numberOfTrailingZeros_74 ?_
    refine r_iload_0 hK dJ33_numberOfTrailingZeros_75 ?_
    refine r_iconstN (c := 1) hK dJ33_numberOfTrailingZeros_76 ?_
    refine r_iushr hK dJ33_numberOfTrailingZeros_77 (by omega) (by omega) ?_
    rw [p.2.2 (by omega)]
    first | refine r_iaddN hK dJ33_numberOfTrailingZeros_78 ?_ | refine r_iadd hK dJ33_numberOfTrailingZeros_78 ?_
    exact r_iret hK hRt dJ33_numberOfTrailingZeros_79 ⟨by rw [show c + (s - 1) = t by omega], rfl, rfl⟩
  have w62 : ∀ s c, 1 ≤ s → s ≤ 4 → s < 32 → c + s = t + 1 → Wx K 62 [some (zI ((2 ^ s - 1 : Nat) : Int)), some (zI (c : Int))] [] n f 0 := by
    intro s c h1 h2 hs h3
    have p := pw_1 s (by omega)
    have q := pw_k 2 (by decide) (by decide) s (by omega)
    refine r_iload_0 hK dJ33_numberOfTrailingZeros_62 ?_
    refine r_iconstN (c := 4) hK dJ33_numberOfTrailingZeros_63 ?_
    refine r_icmp_le 74 hK dJ33_numberOfTrailingZeros_64 (by omega) (by omega) (fun h64 => ?_) (fun h64 => ?_)
    · exact w74 s c h1 (by omega) h3 --!
    · refine r_iinc_1 hK dJ33_numberOfTrailingZeros_67 ?_
      rw [show ((c : Int) + 2) = ((c + 2 : Nat) : Int) by omega]
      refine r_iload_0 hK dJ33_numberOfTrailingZeros_70 ?_
      refine r_iconstN (c := 2) hK dJ33_numberOfTrailingZeros_71 ?_
      refine r_iushr hK dJ33_numberOfTrailingZeros_72 (by omega) (by omega) ?_
      refine r_istore_0 hK dJ33_numberOfTrailingZeros_73 ?_
      rw [q.2 (by omega)]
      exact w74 (s - 2) (c + 2) (by omega) (by omega) (by omega)
  have w49 : ∀ s c, 1 ≤ s → s ≤ 8 → s < 32 → c + s = t + 1 → Wx K 49 [some (zI ((2 ^ s - 1 : Nat) : Int)), some (zI (c : Int))] [] n f 0 := by
    intro s c h1 h2 hs h3
    have p := pw_1 s (by omega)
    have q := pw_k 4 (by decide) (by decide) s (by omega)
    refine r_iload_0 hK dJ33_numberOfTrailingZeros_49 ?_
    refine r_bipushN (c := 16) hK dJ33_numberOfTrailingZeros_50 ?_
    refine r_icmp_le 62 hK dJ33_numberOfTrailingZeros_52 (by omega) (by omega) (fun h52 => ?_) (fun h52 => ?_)
    · exact w62 s c h1 (by omega) (by omega) h3 --!
    · refine r_iinc_1 hK dJ33_numberOfTrailingZeros_55 ?_
      rw [show ((c : Int) + 4) = ((c + 4 : Nat) : Int) by omega]
      refine r_iload_0 hK dJ33_numberOfTrailingZeros_58 ?_
      refine r_iconstN (c := 4) hK dJ33_numberOfTrailingZeros_59 ?_
      refine r_iushr hK dJ33_numberOfTrailingZeros_60 (by omega) (by omega) ?_
      refine r_istore_0 hK dJ33_numberOfTrailingZeros_61 ?_
      rw [q.2 (by omega)]
      exact w62 (s - 4) (c + 4) (by omega) (by omega) (by omega) (by omega)
  have w34 : ∀ s c, 1 ≤ s → s ≤ 16 → s < 32 → c + s = t + 1 → Wx K 34 [some (zI ((2 ^ s - 1 : Nat) : Int)), some (zI (c : Int))] [] n f 0 := by
    intro s c h1 h2 hs h3
    have p := pw_1 s (by omega)
    have q := pw_k 8 (by decide) (by decide) s (by omega)
    refine r_iload_0 hK dJ33_numberOfTrailingZeros_34 ?_
    refine r_sipushN (c := 256) hK dJ33_numberOfTrailingZeros_35 ?_
    refine r_icmp_le 49 hK dJ33_numberOfTrailingZeros_38 (by omega) (by omega) (fun h38 => ?_) (fun h38 => ?_)
    · exact w49 s c h1 (by omega) (by omega) h3 --!
    · refine r_iinc_1 hK dJ33_numberOfTrailingZeros_41 ?_
      rw [show ((c : Int) + 8) = ((c + 8 : Nat) : Int) by omega]
      refine r_iload_0 hK dJ33_numberOfTrailingZeros_44 ?_
      refine r_bipushN (c := 8) hK dJ33_numberOfTrailingZeros_45 ?_
      refine r_iushr hK dJ33_numberOfTrailingZeros_47 (by omega) (by omega) ?_
      refine r_istore_0 hK dJ33_numberOfTrailingZeros_48 ?_
      rw [q.2 (by omega)]
      exact w49 (s - 8) (c + 8) (by omega) (by omega) (by omega) (by omega)
  have w19 : ∀ s c, 1 ≤ s → s ≤ 32 → s < 32 → c + s = t + 1 → Wx K 19 [some (zI ((2 ^ s - 1 : Nat) : Int)), some (zI (c : Int))] [] n f 0 := by
    intro s c h1 h2 hs h3
    have p := pw_1 s (by omega)
    have q := pw_k 16 (by decide) (by decide) s (by omega)
    refine r_iload_0 hK dJ33_numberOfTrailingZeros_19 ?_
    refine r_ldcwN (c := 65536) hK q1652 dJ33_numberOfTrailingZeros_20 (by decide +kernel) ?_
    refine r_icmp_le 34 hK dJ33_numberOfTrailingZeros_23 (by omega) (by omega) (fun h23 => ?_) (fun h23 => ?_)
    · exact w34 s c h1 (by omega) (by omega) h3 --!
    · refine r_iinc_1 hK dJ33_numberOfTrailingZeros_26 ?_
      rw [show ((c : Int) + 16) = ((c + 16 : Nat) : Int) by omega]
      refine r_iload_0 hK dJ33_numberOfTrailingZeros_29 ?_
      refine r_bipushN (c := 16) hK dJ33_numberOfTrailingZeros_30 ?_
      refine r_iushr hK dJ33_numberOfTrailingZeros_32 (by omega) (by omega) ?_
      refine r_istore_0 hK dJ33_numberOfTrailingZeros_33 ?_
      rw [q.2 (by omega)]
      exact w34 (s - 16) (c + 16) (by omega) (by omega) (by omega) (by omega)
  have p := pw_1 t ht
  refine r_iload_0 hK dJ33_numberOfTrailingZeros_0 ?_
  refine r_iconst hK dJ33_numberOfTrailingZeros_1 ?_
  first | refine r_ixor hK dJ33_numberOfTrailingZeros_2 ?_ | refine r_not hK dJ33_numberOfTrailingZeros_2 ?_
  refine r_iload_0 hK dJ33_numberOfTrailingZeros_3 ?_
  refine r_iconstN (c := 1) hK dJ33_numberOfTrailingZeros_4 ?_
  first | refine r_isubN hK dJ33_numberOfTrailingZeros_5 (by omega) ?_ | refine r_isub hK dJ33_numberOfTrailingZeros_5 ?_
  refine r_iandR hK dJ33_numberOfTrailingZeros_6 ?_
  refine r_top (i_lowM hx0 hx hb1 hb2) ?_
  refine r_istore_0 hK dJ33_numberOfTrailingZeros_7 ?_
  refine r_iload_0 hK dJ33_numberOfTrailingZeros_8 ?_
  refine r_if_gt 17 hK dJ33_numberOfTrailingZeros_9 (by omega) (fun h9 => ?_) (fun h9 => ?_)
  · refine r_iconstN (c := 1) hK dJ33_numberOfTrailingZeros_17 ?_
    refine r_istore_1 hK dJ33_numberOfTrailingZeros_18 ?_
    exact w19 t 1 (by have : t ≠ 0 := (fun q => by subst q; exact absurd h9 (by decide)); omega) (by omega) ht (by omega)
  · have ht0 : t = 0 := by omega
    subst ht0
    refine r_iload_0 hK dJ33_numberOfTrailingZeros_12 ?_
    refine r_bipushN (c := 32) hK dJ33_numberOfTrailingZeros_13 ?_
    first | refine r_iand hK dJ33_numberOfTrailingZeros_15 ?_ | refine r_andnot hK dJ33_numberOfTrailingZeros_15 (by omega) ?_
    exact r_iret hK hRt dJ33_numberOfTrailingZeros_16 ⟨rfl, rfl, rfl⟩
set_option maxHeartbeats 4000000 in
theorem ct_ntzL {G : GT} {Rel : Nat → Hp → Hp → Prop} (hR : RelOK Rel) {n : Nat} {f : Hp} {x t : Nat} (hx : x < 2 ^ 64) (ht : t < 64) (hb1 : x.testBit t = true) (hb2 : ∀ i, i < t → x.testBit i = false) : Ct G Rel yJ34_numberOfTrailingZeros cJ34_numberOfTrailingZeros 3 (some .int) (2) (0) [zL (x : Int)] n (f) (Pu (zI ((t : Nat) : Int)) n f) := by
  refine ct_intro [some (zL (x : Int)), none, none] hR rfl (Nat.le_of_ble_eq_true rfl) ?_
  intro K hG hRel hK hRt hnm
  have hlo : x % 2 ^ 32 < 2 ^ 32 := Nat.mod_lt _ (by decide)
  have hz : (x % 2 ^ 32 = 0) ↔ 32 ≤ t := by
    constructor
    · intro h
      rcases Nat.lt_or_ge t 32 with q | q
      · have := Nat.testBit_mod_two_pow x 32 t
        rw [h, hb1, Nat.zero_testBit] at this
        simp [q] at this
      · exact q
    · intro h
      apply Nat.eq_of_testBit_eq
      intro i
      rw [Nat.testBit_mod_two_pow, Nat.zero_testBit]
      by_cases c : i < 32
      · rw [hb2 i (by omega)]; simp
      · simp [c]
  obtain ⟨lo, hlod⟩ : ∃ lo, lo = x % 2 ^ 32 := ⟨_, rfl⟩
  have hzz : Value.int (Int32.ofInt (lo : Int)) = zI (lo : Int) := rfl
  rw [← hlod] at hlo hz
  have hne : ∀ z : Int, zI (lo : Int) = zI z → inR z → (z = 0 ↔ lo = 0) := fun z e hzr => by
    have e2 : Int32.ofInt (lo : Int) = Int32.ofInt z := by unfold zI at e; injection e
    constructor
    · intro q
      rw [q] at e2
      have : (Int32.ofInt (lo : Int)).toBitVec.toNat = (Int32.ofInt 0).toBitVec.toNat := by rw [e2]
      rw [zn, pk_tn hlo] at this
      exact this
    · intro q
      rw [q] at e2
      have h0 : (Int32.ofInt z).toInt = 0 := by rw [← e2]; rfl
      rw [i_ti hzr] at h0
      exact h0
  obtain ⟨z, ez, hzr⟩ := zI_n (lo : Int)
  have key := hne z ez hzr
  refine r_lload_0 hK dJ34_numberOfTrailingZeros_0 ?_
  refine r_l2i hK dJ34_numberOfTrailingZeros_1 ?_
  rw [← hlod, ez]
  refine r_istore_2 hK dJ34_numberOfTrailingZeros_2 ?_
  refine r_iload_2 hK dJ34_numberOfTrailingZeros_3 ?_
  refine r_if_ne 21 hK dJ34_numberOfTrailingZeros_4 hzr (fun h4 => ?_) (fun h4 => ?_)
  · have hl : lo ≠ 0 := fun q => h4 (key.mpr q)
    rw [← ez]
    refine r_iload_2 hK dJ34_numberOfTrailingZeros_21 ?_
    refine r_pS1 hK (ct_ntzG hK.rel (t := t) (by omega) hlo (by omega) (by rw [hlod, Nat.testBit_mod_two_pow, hb1]; simp; omega) (fun i hi => by rw [hlod, Nat.testBit_mod_two_pow, hb2 i hi]; simp)) lk_J34_311 dJ34_numberOfTrailingZeros_22 ?_
    exact r_iret hK hRt dJ34_numberOfTrailingZeros_25 ⟨rfl, rfl, rfl⟩
  · have hl : lo = 0 := key.mp h4
    refine r_bipushN (c := 32) hK dJ34_numberOfTrailingZeros_7 ?_
    refine r_lload_0 hK dJ34_numberOfTrailingZeros_9 ?_
    refine r_bipushN (c := 32) hK dJ34_numberOfTrailingZeros_10 ?_
    refine r_lushH hK dJ34_numberOfTrailingZeros_12 hx ?_
    refine r_l2i hK dJ34_numberOfTrailingZeros_13 ?_
    rw [show x / 2 ^ 32 % 2 ^ 32 = x / 2 ^ 32 from Nat.mod_eq_of_lt (by omega)]
    refine r_pS1 hK (ct_ntzG hK.rel (t := t - 32) (by
      have : (x / 2 ^ 32).testBit (t - 32) = true := by rw [Nat.testBit_div_two_pow, show t - 32 + 32 = t by omega]; exact hb1
      rcases Nat.eq_zero_or_pos (x / 2 ^ 32) with q | q
      · rw [q, Nat.zero_testBit] at this; cases this
      · exact q) (by omega) (by omega) (by rw [Nat.testBit_div_two_pow, show t - 32 + 32 = t by omega]; exact hb1) (fun i hi => by rw [Nat.testBit_div_two_pow]; exact hb2 _ (by omega))) lk_J34_311 dJ34_numberOfTrailingZeros_14 ?_
    first | refine r_iaddN hK dJ34_numberOfTrailingZeros_17 ?_ | refine r_iadd hK dJ34_numberOfTrailingZeros_17 ?_
    refine r_goto 25 hK dJ34_numberOfTrailingZeros_18 ?_
    exact r_iret hK hRt dJ34_numberOfTrailingZeros_25 ⟨by rw [show 32 + (t - 32) = t by omega], rfl, rfl⟩
