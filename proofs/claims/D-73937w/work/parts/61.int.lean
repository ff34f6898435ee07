set_option maxRecDepth 100000
/-! ===== Integer, Math: bits, trailing zeros, the greater, the less ===== -/
theorem iu_k : ∀ k : Nat, k < 32 → (((nI k).toUInt32 &&& Int32.toUInt32 31).toBitVec % 32).toNat = k := by decide +kernel
theorem nI_tn {x : Nat} (h : x < 2 ^ 32) : (nI x).toBitVec.toNat = x := by
  show (BitVec.ofNat 32 x).toNat = x
  rw [BitVec.toNat_ofNat]; exact Nat.mod_eq_of_lt h
theorem iushr_n {x k : Nat} (hk : k < 32) (hx : x < 2 ^ 31) : ((nI x).toUInt32 >>> ((nI k).toUInt32 &&& Int32.toUInt32 31)).toInt32 = nI (x >>> k) := by
  apply Int32.toBitVec_inj.mp
  apply BitVec.eq_of_toNat_eq
  have hl : x >>> k ≤ x := Nat.shiftRight_le x k
  rw [pk_ushr _ _ k (iu_k k hk), nI_tn (by omega), nI_tn (by omega), Nat.shiftRight_eq_div_pow]
section RI
variable {K : KT} {own : String} {cc : ByteArray} {nL d U pc : Nat} {L : List (Option Value)} {st : List Value} {n : Nat} {f : Hp} {u : Nat}
theorem r_iushr {x y : Nat} (hK : Gd K own cc nL d U) (hd : decode cc pc = .ok (.iushr, 1)) (hy : y < 32) (hx : x < 2 ^ 31) (k : Wx K (pc + 1) L (zI ((x >>> y : Nat) : Int) :: st) n f u) : Wx K pc L (zI (y : Int) :: zI (x : Int) :: st) n f u := fun H locs ls hH hS hl => lv_iushr (v := Int32.ofInt ((x >>> y : Nat) : Int)) hK.1 hK.2.1 hd (by rw [zn, zn, zn]; exact iushr_n hy hx) (k H locs ls hH hS hl)
theorem r_ldcwN {i c : Nat} {v : Int32} (hK : Gd K own cc nL d U) (q : Cond.constant own i v ∈ lw_all) (hd : decode cc pc = .ok (.ldc_w i, 3)) (hv : v = Int32.ofInt (c : Int)) (k : Wx K (pc + 3) L (zI (c : Int) :: st) n f u) : Wx K pc L st n f u := fun H locs ls hH hS hl => lv_ldcw hK.1 hK.2.1 hK.2.2.2.1 (hK.2.2.2.2.1 _ q) hd (hv ▸ k H locs ls hH hS hl)
end RI
def bc1 (x : Nat) : Nat := x - ((x >>> 1) &&& 1431655765)
def bc2 (x : Nat) : Nat := (bc1 x &&& 858993459) + ((bc1 x >>> 2) &&& 858993459)
def bc3 (x : Nat) : Nat := (bc2 x + (bc2 x >>> 4)) &&& 252645135
def bc4 (x : Nat) : Nat := bc3 x + (bc3 x >>> 8)
def bc5 (x : Nat) : Nat := bc4 x + (bc4 x >>> 16)
theorem bc_all : ((List.range 256).all fun x => decide ((bc5 x &&& 63) = bits x) && decide ((x >>> 1) &&& 1431655765 ≤ x) && decide (bc1 x < 1000) && decide (bc2 x < 1000) && decide (bc3 x < 1000) && decide (bc4 x < 1000)) = true := by decide +kernel
theorem bc_at {x : Nat} (h : x < 256) : (bc5 x &&& 63) = bits x ∧ (x >>> 1) &&& 1431655765 ≤ x ∧ bc1 x < 1000 ∧ bc2 x < 1000 ∧ bc3 x < 1000 ∧ bc4 x < 1000 := by
  have := all_r bc_all h
  simp only [Bool.and_eq_true, decide_eq_true_eq] at this
  obtain ⟨⟨⟨⟨⟨a, b⟩, c⟩, d⟩, e⟩, g⟩ := this
  exact ⟨a, b, c, d, e, g⟩
set_option maxHeartbeats 4000000 in
theorem ct_bitCount {G : GT} {Rel : Nat → Hp → Hp → Prop} (hR : RelOK Rel) {n : Nat} {f : Hp} {x : Nat} (hx : x < 256) : Ct G Rel yJ33_bitCount cJ33_bitCount 1 (some .int) (1) (0) [zI (x : Int)] n (f) (Pu (zI ((bits x : Nat) : Int)) n f) := by
  refine ct_intro [some (zI (x : Int))] hR rfl (Nat.le_of_ble_eq_true rfl) ?_
  intro K hG hRel hK hRt hnm
  obtain ⟨h0, h1, h2, h3, h4, h5⟩ := bc_at hx
  refine r_iload_0 hK dJ33_bitCount_0 ?_
  refine r_iload_0 hK dJ33_bitCount_1 ?_
  refine r_iconstN (c := 1) hK dJ33_bitCount_2 ?_
  refine r_iushr hK dJ33_bitCount_3 (by omega) (by omega) ?_
  refine r_ldcwN (c := 1431655765) hK q1607 dJ33_bitCount_4 (by decide +kernel) ?_
  first | refine r_iand hK dJ33_bitCount_7 ?_ | refine r_andnot hK dJ33_bitCount_7 (by omega) ?_
  refine r_isubN hK dJ33_bitCount_8 h1 ?_
  rw [show x - (x >>> 1 &&& 1431655765) = bc1 x from rfl]
  refine r_istore_0 hK dJ33_bitCount_9 ?_
  refine r_iload_0 hK dJ33_bitCount_10 ?_
  refine r_ldcwN (c := 858993459) hK q1608 dJ33_bitCount_11 (by decide +kernel) ?_
  first | refine r_iand hK dJ33_bitCount_14 ?_ | refine r_andnot hK dJ33_bitCount_14 (by omega) ?_
  refine r_iload_0 hK dJ33_bitCount_15 ?_
  refine r_iconstN (c := 2) hK dJ33_bitCount_16 ?_
  refine r_iushr hK dJ33_bitCount_17 (by omega) (by omega) ?_
  refine r_ldcwN (c := 858993459) hK q1608 dJ33_bitCount_18 (by decide +kernel) ?_
  first | refine r_iand hK dJ33_bitCount_21 ?_ | refine r_andnot hK dJ33_bitCount_21 (by omega) ?_
  first | refine r_iaddN hK dJ33_bitCount_22 ?_ | refine r_iadd hK dJ33_bitCount_22 ?_
  rw [show (bc1 x &&& 858993459) + (bc1 x >>> 2 &&& 858993459) = bc2 x from rfl]
  refine r_istore_0 hK dJ33_bitCount_23 ?_
  refine r_iload_0 hK dJ33_bitCount_24 ?_
  refine r_iload_0 hK dJ33_bitCount_25 ?_
  refine r_iconstN (c := 4) hK dJ33_bitCount_26 ?_
  refine r_iushr hK dJ33_bitCount_27 (by omega) (by omega) ?_
  first | refine r_iaddN hK dJ33_bitCount_28 ?_ | refine r_iadd hK dJ33_bitCount_28 ?_
  refine r_ldcwN (c := 252645135) hK q1609 dJ33_bitCount_29 (by decide +kernel) ?_
  first | refine r_iand hK dJ33_bitCount_32 ?_ | refine r_andnot hK dJ33_bitCount_32 (by omega) ?_
  rw [show (bc2 x + bc2 x >>> 4) &&& 252645135 = bc3 x from rfl]
  refine r_istore_0 hK dJ33_bitCount_33 ?_
  refine r_iload_0 hK dJ33_bitCount_34 ?_
  refine r_iload_0 hK dJ33_bitCount_35 ?_
  refine r_bipushN (c := 8) hK dJ33_bitCount_36 ?_
  refine r_iushr hK dJ33_bitCount_38 (by omega) (by omega) ?_
  first | refine r_iaddN hK dJ33_bitCount_39 ?_ | refine r_iadd hK dJ33_bitCount_39 ?_
  rw [show bc3 x + bc3 x >>> 8 = bc4 x from rfl]
  refine r_istore_0 hK dJ33_bitCount_40 ?_
  refine r_iload_0 hK dJ33_bitCount_41 ?_
  refine r_iload_0 hK dJ33_bitCount_42 ?_
  refine r_bipushN (c := 16) hK dJ33_bitCount_43 ?_
  refine r_iushr hK dJ33_bitCount_45 (by omega) (by omega) ?_
  first | refine r_iaddN hK dJ33_bitCount_46 ?_ | refine r_iadd hK dJ33_bitCount_46 ?_
  rw [show bc4 x + bc4 x >>> 16 = bc5 x from rfl]
  refine r_istore_0 hK dJ33_bitCount_47 ?_
  refine r_iload_0 hK dJ33_bitCount_48 ?_
  refine r_bipushN (c := 63) hK dJ33_bitCount_49 ?_
  first | refine r_iand hK dJ33_bitCount_51 ?_ | refine r_andnot hK dJ33_bitCount_51 (by omega) ?_
  exact r_iret hK hRt dJ33_bitCount_52 ⟨by rw [h0], rfl, rfl⟩
set_option maxHeartbeats 4000000 in
theorem ct_many0 {G : GT} {Rel : Nat → Hp → Hp → Prop} (hR : RelOK Rel) {n : Nat} {f : Hp} {x : Nat} (hx : x < 256) : Ct G Rel yX0_many cX0_many 1 (some .int) (2) (0) [zI (x : Int)] n (f) (Pu (zI ((bits x : Nat) : Int)) n f) := by
  refine ct_intro [some (zI (x : Int))] hR rfl (Nat.le_of_ble_eq_true rfl) ?_
  intro K hG hRel hK hRt hnm
  refine r_iload_0 hK dX0_many_0 ?_
  refine r_pS1 hK (ct_bitCount hK.rel hx) lk_X0_1 dX0_many_1 ?_
  exact r_iret hK hRt dX0_many_4 ⟨rfl, rfl, rfl⟩
theorem nt1 : ∀ w : Nat, w < 7 → Value.int (Int32.ofInt (-((rN w : Nat) : Int) - 1) &&& Int32.ofInt ((rN w - 1 : Nat) : Int)) = zI ((rN w - 1 : Nat) : Int) := by decide +kernel
set_option maxHeartbeats 4000000 in
theorem ct_ntz {G : GT} {Rel : Nat → Hp → Hp → Prop} (hR : RelOK Rel) {n : Nat} {f : Hp} {w : Nat} (hw : w < 7) : Ct G Rel yJ33_numberOfTrailingZeros cJ33_numberOfTrailingZeros 2 (some .int) (1) (0) [zI ((rN w : Nat) : Int)] n (f) (Pu (zI ((w : Nat) : Int)) n f) := by
  refine ct_intro [some (zI ((rN w : Nat) : Int)), none] hR rfl (Nat.le_of_ble_eq_true rfl) ?_
  intro K hG hRel hK hRt hnm
  have hr : 1 ≤ rN w ∧ rN w ≤ 64 := ⟨rN_pos w, rN_le (k := 6) (by omega)⟩
  obtain ⟨x, hx⟩ : ∃ x, x = rN w - 1 := ⟨_, rfl⟩
  have t : ∀ w : Nat, w < 7 → (rN w - 1 ≤ 0 → w = 0) ∧ (0 < rN w - 1 → rN w - 1 ≤ 4 → w = 1 + (rN w - 1) >>> 1) ∧ (4 < rN w - 1 → rN w - 1 ≤ 16 → w = 1 + 2 + ((rN w - 1) >>> 2) >>> 1) ∧ (16 < rN w - 1 → (rN w - 1) >>> 4 ≤ 4 ∧ w = 1 + 4 + ((rN w - 1) >>> 4) >>> 1) := by decide +kernel
  have tw := t w hw
  rw [← hx] at tw
  have x4 : x >>> 4 ≤ x := Nat.shiftRight_le x 4
  have x2 : x >>> 2 ≤ x := Nat.shiftRight_le x 2
  refine r_iload_0 hK dJ33_numberOfTrailingZeros_0 ?_
  refine r_iconst hK dJ33_numberOfTrailingZeros_1 ?_
  first | refine r_ixor hK dJ33_numberOfTrailingZeros_2 ?_ | refine r_not hK dJ33_numberOfTrailingZeros_2 ?_
  refine r_iload_0 hK dJ33_numberOfTrailingZeros_3 ?_
  refine r_iconstN (c := 1) hK dJ33_numberOfTrailingZeros_4 ?_
  first | refine r_isubN hK dJ33_numberOfTrailingZeros_5 (by omega) ?_ | refine r_isub hK dJ33_numberOfTrailingZeros_5 ?_
  refine r_iandR hK dJ33_numberOfTrailingZeros_6 ?_
  refine r_top (nt1 w hw) ?_
  rw [← hx]
  refine r_istore_0 hK dJ33_numberOfTrailingZeros_7 ?_
  refine r_iload_0 hK dJ33_numberOfTrailingZeros_8 ?_
  refine r_if_gt 17 hK dJ33_numberOfTrailingZeros_9 (by omega) (fun h9 => ?_) (fun h9 => ?_)
  · refine r_iconstN (c := 1) hK dJ33_numberOfTrailingZeros_17 ?_
    refine r_istore_1 hK dJ33_numberOfTrailingZeros_18 ?_
    refine r_iload_0 hK dJ33_numberOfTrailingZeros_19 ?_
    refine r_ldcwN (c := 65536) hK q1652 dJ33_numberOfTrailingZeros_20 (by decide +kernel) ?_
    refine r_icmp_le 34 hK dJ33_numberOfTrailingZeros_23 (by omega) (by omega) (fun h23 => ?_) (fun h23 => ?_)
    · refine r_iload_0 hK dJ33_numberOfTrailingZeros_34 ?_
      refine r_sipushN (c := 256) hK dJ33_numberOfTrailingZeros_35 ?_
      refine r_icmp_le 49 hK dJ33_numberOfTrailingZeros_38 (by omega) (by omega) (fun h38 => ?_) (fun h38 => ?_)
      · refine r_iload_0 hK dJ33_numberOfTrailingZeros_49 ?_
        refine r_bipushN (c := 16) hK dJ33_numberOfTrailingZeros_50 ?_
        refine r_icmp_le 62 hK dJ33_numberOfTrailingZeros_52 (by omega) (by omega) (fun h52 => ?_) (fun h52 => ?_)
        · refine r_iload_0 hK dJ33_numberOfTrailingZeros_62 ?_
          refine r_iconstN (c := 4) hK dJ33_numberOfTrailingZeros_63 ?_
          refine r_icmp_le 74 hK dJ33_numberOfTrailingZeros_64 (by omega) (by omega) (fun h64 => ?_) (fun h64 => ?_)
          · refine r_iload_1 hK dJ33_numberOfTrailingZeros_74 ?_
            refine r_iload_0 hK dJ33_numberOfTrailingZeros_75 ?_
            refine r_iconstN (c := 1) hK dJ33_numberOfTrailingZeros_76 ?_
            refine r_iushr hK dJ33_numberOfTrailingZeros_77 (by omega) (by omega) ?_
            first | refine r_iaddN hK dJ33_numberOfTrailingZeros_78 ?_ | refine r_iadd hK dJ33_numberOfTrailingZeros_78 ?_
            exact r_iret hK hRt dJ33_numberOfTrailingZeros_79 ⟨by rw [← tw.2.1 (by omega) (by omega)], rfl, rfl⟩
          · refine r_iinc_1 hK dJ33_numberOfTrailingZeros_67 ?_
            refine r_iload_0 hK dJ33_numberOfTrailingZeros_70 ?_
            refine r_iconstN (c := 2) hK dJ33_numberOfTrailingZeros_71 ?_
            refine r_iushr hK dJ33_numberOfTrailingZeros_72 (by omega) (by omega) ?_
            refine r_istore_0 hK dJ33_numberOfTrailingZeros_73 ?_
            refine r_iload_1 hK dJ33_numberOfTrailingZeros_74 ?_
            refine r_iload_0 hK dJ33_numberOfTrailingZeros_75 ?_
            refine r_iconstN (c := 1) hK dJ33_numberOfTrailingZeros_76 ?_
            refine r_iushr hK dJ33_numberOfTrailingZeros_77 (by omega) (by omega) ?_
            first | refine r_iaddN hK dJ33_numberOfTrailingZeros_78 ?_ | refine r_iadd hK dJ33_numberOfTrailingZeros_78 ?_
            exact r_iret hK hRt dJ33_numberOfTrailingZeros_79 ⟨by rw [← tw.2.2.1 (by omega) (by omega)], rfl, rfl⟩
        · refine r_iinc_1 hK dJ33_numberOfTrailingZeros_55 ?_
          refine r_iload_0 hK dJ33_numberOfTrailingZeros_58 ?_
          refine r_iconstN (c := 4) hK dJ33_numberOfTrailingZeros_59 ?_
          refine r_iushr hK dJ33_numberOfTrailingZeros_60 (by omega) (by omega) ?_
          refine r_istore_0 hK dJ33_numberOfTrailingZeros_61 ?_
          refine r_iload_0 hK dJ33_numberOfTrailingZeros_62 ?_
          refine r_iconstN (c := 4) hK dJ33_numberOfTrailingZeros_63 ?_
          refine r_icmp_le 74 hK dJ33_numberOfTrailingZeros_64 (by omega) (by omega) (fun h64_1 => ?_) (fun h64_1 => ?_)
          · refine r_iload_1 hK dJ33_numberOfTrailingZeros_74 ?_
            refine r_iload_0 hK dJ33_numberOfTrailingZeros_75 ?_
            refine r_iconstN (c := 1) hK dJ33_numberOfTrailingZeros_76 ?_
            refine r_iushr hK dJ33_numberOfTrailingZeros_77 (by omega) (by omega) ?_
            first | refine r_iaddN hK dJ33_numberOfTrailingZeros_78 ?_ | refine r_iadd hK dJ33_numberOfTrailingZeros_78 ?_
            exact r_iret hK hRt dJ33_numberOfTrailingZeros_79 ⟨by rw [← (tw.2.2.2 (by omega)).2], rfl, rfl⟩
          · exact absurd h64_1 (by have := (tw.2.2.2 (by omega)).1; omega)
      · exact absurd h38 (by omega)
    · exact absurd h23 (by omega)
  · refine r_iload_0 hK dJ33_numberOfTrailingZeros_12 ?_
    refine r_bipushN (c := 32) hK dJ33_numberOfTrailingZeros_13 ?_
    first | refine r_iand hK dJ33_numberOfTrailingZeros_15 ?_ | refine r_andnot hK dJ33_numberOfTrailingZeros_15 (by omega) ?_
    exact r_iret hK hRt dJ33_numberOfTrailingZeros_16 ⟨by rw [tw.1 (by omega), show x = 0 by omega]; rfl, rfl, rfl⟩
