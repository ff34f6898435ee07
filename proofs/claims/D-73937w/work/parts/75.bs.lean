set_option maxRecDepth 100000
/-! ===== BitSet: raw ===== -/
def upN (w : Nat → Nat) (i v : Nat) : Nat → Nat := fun j => if j = i then v else w j
theorem updV_L (w : Nat → Nat) (i v : Nat) : updV (fun j => zL ((w j : Nat) : Int)) i (zL (v : Int)) = fun j => zL ((upN w i v j : Nat) : Int) := by
  funext j
  unfold updV upN
  by_cases c : j = i
  · rw [if_pos c, if_pos c]
  · rw [if_neg c, if_neg c]
theorem up_self {g : Hp} {k : Nat} {e : E_} (h : g k = some e) : up g k e = g := by
  funext x
  by_cases c : x = k
  · subst c; rw [up_s]; exact h.symm
  · rw [up_n c]
theorem and_pow {x t : Nat} : (x &&& 2 ^ t = 0) ↔ x.testBit t = false := by
  constructor
  · intro h
    have := Nat.testBit_and x (2 ^ t) t
    rw [h, Nat.zero_testBit, Nat.testBit_two_pow_self, Bool.and_true] at this
    exact this.symm
  · intro h
    apply Nat.eq_of_testBit_eq
    intro i
    rw [Nat.testBit_and, Nat.testBit_two_pow, Nat.zero_testBit]
    by_cases c : t = i
    · subst c; rw [h]; rfl
    · simp [c]
set_option maxHeartbeats 4000000 in
theorem bs_wi {G : GT} {Rel : Nat → Hp → Hp → Prop} (hR : RelOK Rel) {n : Nat} {g : Hp} {i : Nat} (hi : i < 2147483648) : Ct G Rel yJ15_wordIndex cJ15_wordIndex 1 (some .int) (1) (0) [zI (i : Int)] n (g) (Pu (zI ((i / 64 : Nat) : Int)) n g) := by
  refine ct_intro [some (zI (i : Int))] hR rfl (Nat.le_of_ble_eq_true rfl) ?_
  intro K hG hRel hK hRt hnm
  refine r_iload_0 hK dJ15_wordIndex_0 ?_
  refine r_bipushN (c := 6) hK dJ15_wordIndex_1 ?_
  refine r_ishr hK dJ15_wordIndex_3 (by omega) (by omega) ?_
  exact r_iret hK hRt dJ15_wordIndex_4 ⟨by rw [Nat.shiftRight_eq_div_pow], rfl, rfl⟩
set_option maxHeartbeats 4000000 in
theorem bs_inv {G : GT} {Rel : Nat → Hp → Hp → Prop} (hR : RelOK Rel) (hX : GX G) {n : Nat} {g : Hp} {id : Nat} : Ct G Rel yJ15_checkInvariants cJ15_checkInvariants 1 none (1) (0) [.ref id] n (g) (Pv n g) := by
  refine ct_intro [some (.ref id)] hR rfl (Nat.le_of_ble_eq_true rfl) ?_
  intro K hG hRel hK hRt hnm
  have hXK : GX (kG K) := by rw [hG]; exact hX
  refine r_gets hK hXK (v := zI 1) (by simp [stT]) q1760 dJ15_checkInvariants_0 ?_
  refine r_if_ne 37 hK dJ15_checkInvariants_3 (by decide) (fun h3 => ?_) (fun h3 => ?_)
  · refine r_gets hK hXK (v := zI 1) (by simp [stT]) q1760 dJ15_checkInvariants_37 ?_
    refine r_if_ne 70 hK dJ15_checkInvariants_40 (by decide) (fun h40 => ?_) (fun h40 => ?_)
    · refine r_gets hK hXK (v := zI 1) (by simp [stT]) q1760 dJ15_checkInvariants_70 ?_
      refine r_if_ne 110 hK dJ15_checkInvariants_73 (by decide) (fun h73 => ?_) (fun h73 => ?_)
      · exact r_vret hK hRt dJ15_checkInvariants_110 ⟨rfl, rfl, rfl⟩
      · exact absurd h73 (by decide) --!
    · exact absurd h40 (by decide) --!
  · exact absurd h3 (by decide) --!
set_option maxHeartbeats 4000000 in
theorem bs_initW {G : GT} {Rel : Nat → Hp → Hp → Prop} (hR : RelOK Rel) {n : Nat} {g : Hp} {id N m : Nat} {a b c : Value} (h : g id = some (.inl (16, [a, b, c]))) (hid : id < n) (hm : 0 < m) (hN : N = (m - 1) / 64 + 1) (hN1 : N < 10000) (hm1 : m < 1000000) : Ct G Rel yJ15_initWords cJ15_initWords 2 none (2) ((N / 12 + 1)) [.ref id, zI (m : Int)] n (g) (Pv (n + 1) (up (up g n (.inr (3, N, fun _ => zL 0))) id (.inl (16, [.ref n, b, c])))) := by
  refine ct_intro [some (.ref id), some (zI (m : Int))] hR rfl (Nat.le_of_ble_eq_true rfl) ?_
  intro K hG hRel hK hRt hnm
  have hne : id ≠ n := by omega
  refine r_aload_0 hK dJ15_initWords_0 ?_
  refine r_iload_1 hK dJ15_initWords_1 ?_
  refine r_iconstN (c := 1) hK dJ15_initWords_2 ?_
  first | refine r_isubN hK dJ15_initWords_3 (by omega) ?_ | refine r_isub hK dJ15_initWords_3 ?_
  refine r_pS1 hK (bs_wi hK.rel (by omega)) lk_J15_52 dJ15_initWords_4 ?_
  refine r_iconstN (c := 1) hK dJ15_initWords_7 ?_
  first | refine r_iaddN hK dJ15_initWords_8 ?_ | refine r_iadd hK dJ15_initWords_8 ?_
  rw [← hN]
  refine r_newarr (atype := .long) (ty := 3) (N / 12 + 1) hK q588 dJ15_initWords_9 (by omega) ?_ ⟨rfl, rfl, by decide⟩ (by omega) (by omega)
  refine r_put hK fl_J15_11 dJ15_initWords_11 ((by rw [up_n hne]; exact h)) (by simp) ?_
  exact r_vret hK hRt dJ15_initWords_14 ⟨rfl, rfl, rfl⟩ (Nat.le_of_eq (Nat.zero_add _))
set_option maxHeartbeats 4000000 in
theorem bs_init {G : GT} {Rel : Nat → Hp → Hp → Prop} (hR : RelOK Rel) {n : Nat} {g : Hp} {id N m : Nat} {a b c : Value} (h : g id = some (.inl (16, [a, b, c]))) (hid : id < n) (hm : 0 < m) (hN : N = (m - 1) / 64 + 1) (hN1 : N < 10000) (hm1 : m < 1000000) : Ct G Rel yJ15_init cJ15_init 2 none (3) ((N / 12 + 1)) [.ref id, zI (m : Int)] n (g) (fun r n' g' => r = none ∧ n' = n + 1 ∧ BSs g' id N (fun _ => false) [n] ∧ ∀ x, x ≠ id → x < n → g' x = g x) := by
  refine ct_intro [some (.ref id), some (zI (m : Int))] hR rfl (Nat.le_of_ble_eq_true rfl) ?_
  intro K hG hRel hK hRt hnm
  have hne : id ≠ n := by omega
  refine r_aload_0 hK dJ15_init_0 ?_
  refine r_objInit hK oi_J15_21 dJ15_init_1 ?_
  refine r_aload_0 hK dJ15_init_4 ?_
  refine r_iconstN (c := 0) hK dJ15_init_5 ?_
  refine r_put hK fl_J15_7 dJ15_init_6 (h) (by simp) ?_
  refine r_aload_0 hK dJ15_init_9 ?_
  refine r_iconstN (c := 0) hK dJ15_init_10 ?_
  refine r_put hK fl_J15_24 dJ15_init_11 (up_s _ _ _) (by simp) ?_
  refine r_iload_1 hK dJ15_init_14 ?_
  refine r_if_ge 45 hK dJ15_init_15 (by omega) (fun h15 => ?_) (fun h15 => ?_)
  · refine r_aload_0 hK dJ15_init_45 ?_
    refine r_iload_1 hK dJ15_init_46 ?_
    refine r_callV1 hK (bs_initW hK.rel (up_s _ _ _) hid hm hN hN1 hm1) lk_J15_27 (Rcv.ups (ci := 16) hK.rel rfl) dJ15_init_47 (fun r n1 f1 hp => ?_) (hu := by omega)
    obtain ⟨rfl, rfl, rfl⟩ := hp
    refine r_aload_0 hK dJ15_init_50 ?_
    refine r_iconstN (c := 1) hK dJ15_init_51 ?_
    refine r_put hK fl_J15_24 dJ15_init_52 (up_s _ _ _) (by simp) ?_
    refine r_vret hK hRt dJ15_init_55 ⟨rfl, rfl, ⟨n, 0, fun _ => 0, rfl, hne.symm, ?_, ?_, Nat.zero_le _, hN1, fun _ _ => rfl, fun _ => Nat.two_pow_pos 64, fun i _ => by rw [Nat.zero_testBit]⟩, fun x p q => ?_⟩ (Nat.le_of_eq (Nat.zero_add _))
    · rw [up_s]; rfl
    · rw [up_n hne.symm, up_n hne.symm, up_s]; rfl
    · rw [up_n p, up_n p, up_n (by omega), up_n p, up_n p]
  · omega --!
set_option maxHeartbeats 4000000 in
theorem bs_ens {G : GT} {Rel : Nat → Hp → Hp → Prop} (hR : RelOK Rel) {n : Nat} {g : Hp} {id wd N r : Nat} {w : Nat → Value} {b c : Value} (h : g id = some (.inl (16, [.ref wd, b, c]))) (h2 : g wd = some (.inr (3, N, w))) (hr : r ≤ N) (hN : N < 10000) : Ct G Rel yJ15_ensureCapacity cJ15_ensureCapacity 3 none (1) (0) [.ref id, zI (r : Int)] n (g) (Pv n g) := by
  refine ct_intro [some (.ref id), some (zI (r : Int)), none] hR rfl (Nat.le_of_ble_eq_true rfl) ?_
  intro K hG hRel hK hRt hnm
  refine r_aload_0 hK dJ15_ensureCapacity_0 ?_
  refine r_get hK fl_J15_11 dJ15_ensureCapacity_1 (by assumption) rfl ?_
  refine r_alen hK dJ15_ensureCapacity_4 h2 ?_
  refine r_iload_1 hK dJ15_ensureCapacity_5 ?_
  refine r_icmp_ge 38 hK dJ15_ensureCapacity_6 (by omega) (by omega) (fun h6 => ?_) (fun h6 => ?_)
  · exact r_vret hK hRt dJ15_ensureCapacity_38 ⟨rfl, rfl, rfl⟩
  · omega --!
set_option maxHeartbeats 4000000 in
theorem bs_exp {G : GT} {Rel : Nat → Hp → Hp → Prop} (hR : RelOK Rel) {n : Nat} {g : Hp} {id wd N k i : Nat} {w : Nat → Value} {c : Value} (h : g id = some (.inl (16, [.ref wd, zI (k : Int), c]))) (h2 : g wd = some (.inr (3, N, w))) (hi : i < N) (hk : k ≤ N) (hN : N < 10000) : Ct G Rel yJ15_expandTo cJ15_expandTo 3 none (2) (0) [.ref id, zI (i : Int)] n (g) (Pv n (up g id (.inl (16, [.ref wd, zI ((max k (i + 1) : Nat) : Int), c])))) := by
  refine ct_intro [some (.ref id), some (zI (i : Int)), none] hR rfl (Nat.le_of_ble_eq_true rfl) ?_
  intro K hG hRel hK hRt hnm
  refine r_iload_1 hK dJ15_expandTo_0 ?_
  refine r_iconstN (c := 1) hK dJ15_expandTo_1 ?_
  first | refine r_iaddN hK dJ15_expandTo_2 ?_ | refine r_iadd hK dJ15_expandTo_2 ?_
  refine r_istore_2 hK dJ15_expandTo_3 ?_
  refine r_aload_0 hK dJ15_expandTo_4 ?_
  refine r_get hK fl_J15_7 dJ15_expandTo_5 (by assumption) rfl ?_
  refine r_iload_2 hK dJ15_expandTo_8 ?_
  refine r_icmp_ge 22 hK dJ15_expandTo_9 (by omega) (by omega) (fun h9 => ?_) (fun h9 => ?_)
  · refine r_vret hK hRt dJ15_expandTo_22 ⟨rfl, rfl, ?_⟩
    rw [show max k (i + 1) = k by omega]; exact (up_self h).symm
  · refine r_aload_0 hK dJ15_expandTo_12 ?_
    refine r_iload_2 hK dJ15_expandTo_13 ?_
    refine r_vV1 hK (bs_ens hK.rel h h2 (by omega) hN) lk_J15_139 (Rcv.raw hK.rel (by assumption) rfl) dJ15_expandTo_14 ?_
    refine r_aload_0 hK dJ15_expandTo_17 ?_
    refine r_iload_2 hK dJ15_expandTo_18 ?_
    refine r_put hK fl_J15_7 dJ15_expandTo_19 (by assumption) (by simp) ?_
    refine r_vret hK hRt dJ15_expandTo_22 ⟨rfl, rfl, ?_⟩
    rw [show max k (i + 1) = i + 1 by omega]; rfl
set_option maxHeartbeats 4000000 in
theorem bs_set {G : GT} {Rel : Nat → Hp → Hp → Prop} (hR : RelOK Rel) (hX : GX G) {n : Nat} {g : Hp} {id N i : Nat} {b : Nat → Bool} {ow : List Nat} (hB : BSs g id N b ow) (hi : i < 64 * N) : Ct G Rel yJ15_set cJ15_set 3 none (3) (0) [.ref id, zI (i : Int)] n (g) (fun r n' g' => r = none ∧ n' = n ∧ BSs g' id N (fun j => decide (j = i) || b j) ow ∧ ∀ x, x ≠ id → x ∉ ow → g' x = g x) := by
  refine ct_intro [some (.ref id), some (zI (i : Int)), none] hR rfl (Nat.le_of_ble_eq_true rfl) ?_
  intro K hG hRel hK hRt hnm
  have hXK : GX (kG K) := by rw [hG]; exact hX
  obtain ⟨wd, k, w, how, hne, hO, hA, hk, hN, hz, hw, hb⟩ := hB
  have hwi : i / 64 < N := by omega
  refine r_iload_1 hK dJ15_set_0 ?_
  refine r_if_ge 31 hK dJ15_set_1 (by omega) (fun h1 => ?_) (fun h1 => ?_)
  · refine r_iload_1 hK dJ15_set_31 ?_
    refine r_pS1 hK (bs_wi hK.rel (by omega)) lk_J15_52 dJ15_set_32 ?_
    refine r_istore_2 hK dJ15_set_35 ?_
    refine r_aload_0 hK dJ15_set_36 ?_
    refine r_iload_2 hK dJ15_set_37 ?_
    refine r_vV1 hK (bs_exp hK.rel hO hA hwi hk hN) lk_J15_155 (Rcv.raw hK.rel (by assumption) rfl) dJ15_set_38 ?_
    refine r_aload_0 hK dJ15_set_41 ?_
    refine r_get hK fl_J15_11 dJ15_set_42 (up_s _ _ _) rfl ?_
    refine r_iload_2 hK dJ15_set_45 ?_
    refine r_dup2 hK dJ15_set_46 ?_
    refine r_lald hK dJ15_set_47 (by rw [up_n hne]; exact hA) hwi ?_ (hN := by omega)
    refine r_lconst_1 hK dJ15_set_48 ?_
    refine r_iload_1 hK dJ15_set_49 ?_
    refine r_lsh1 hK dJ15_set_50 (by omega) ?_
    refine r_lor hK dJ15_set_51 ?_
    refine r_last hK dJ15_set_52 (by rw [up_n hne]; exact hA) hwi ?_ (hN := by omega)
    rw [updV_L]
    refine r_aload_0 hK dJ15_set_53 ?_
    refine r_vV0 hK (bs_inv hK.rel hXK) lk_J15_56 (Rcv.raw (ci := 16) hK.rel ((up_n hne.symm).trans (up_s _ _ _)) rfl) dJ15_set_54 ?_
    refine r_vret hK hRt dJ15_set_57 ⟨rfl, rfl, ⟨wd, max k (i / 64 + 1), _, how, hne, ?_, up_s _ _ _, by omega, hN, fun j hj => ?_, fun j => ?_, fun j hj => ?_⟩, fun x p q => ?_⟩
    · rw [up_n hne.symm, up_s]
    · unfold upN; rw [if_neg (by omega)]; exact hz j (by omega)
    · unfold upN; split
      · exact Nat.or_lt_two_pow (hw _) (Nat.pow_lt_pow_right (by decide) (Nat.mod_lt _ (by decide)))
      · exact hw j
    · show (decide (j = i) || b j) = _
      unfold upN
      by_cases c : j / 64 = i / 64
      · rw [if_pos c, Nat.testBit_or, Nat.testBit_two_pow, ← c, ← hb j hj, Bool.or_comm]
        congr 1
        apply decide_eq_decide.mpr
        omega
      · rw [if_neg c, ← hb j hj, decide_eq_false (fun q => c (by rw [q])), Bool.false_or]
    · rw [how] at q
      rw [up_n (fun z => q (by rw [z]; simp)), up_n p]
  · omega --!
set_option maxHeartbeats 4000000 in
theorem bs_get {G : GT} {Rel : Nat → Hp → Hp → Prop} (hR : RelOK Rel) (hX : GX G) {n : Nat} {g : Hp} {id N i : Nat} {b : Nat → Bool} {ow : List Nat} (hB : BSs g id N b ow) (hi : i < 64 * N) : Ct G Rel yJ15_get cJ15_get 3 (some .boolean) (2) (0) [.ref id, zI (i : Int)] n (g) (Pu (vB (b i)) n g) := by
  refine ct_intro [some (.ref id), some (zI (i : Int)), none] hR rfl (Nat.le_of_ble_eq_true rfl) ?_
  intro K hG hRel hK hRt hnm
  have hXK : GX (kG K) := by rw [hG]; exact hX
  obtain ⟨wd, k, w, how, hne, hO, hA, hk, hN, hz, hw, hb⟩ := hB
  have hwi : i / 64 < N := by omega
  have hbi := hb i hi
  refine r_iload_1 hK dJ15_get_0 ?_
  refine r_if_ge 31 hK dJ15_get_1 (by omega) (fun h1 => ?_) (fun h1 => ?_)
  · refine r_aload_0 hK dJ15_get_31 ?_
    refine r_vV0 hK (bs_inv hK.rel hXK) lk_J15_56 (Rcv.raw hK.rel (by assumption) rfl) dJ15_get_32 ?_
    refine r_iload_1 hK dJ15_get_35 ?_
    refine r_pS1 hK (bs_wi hK.rel (by omega)) lk_J15_52 dJ15_get_36 ?_
    refine r_istore_2 hK dJ15_get_39 ?_
    refine r_iload_2 hK dJ15_get_40 ?_
    refine r_aload_0 hK dJ15_get_41 ?_
    refine r_get hK fl_J15_7 dJ15_get_42 (by assumption) rfl ?_
    refine r_icmp_ge 67 hK dJ15_get_45 (by omega) (by omega) (fun h45 => ?_) (fun h45 => ?_)
    · have hbf : b i = false := by rw [hbi, hz _ (by omega), Nat.zero_testBit]
      refine r_iconstN (c := 0) hK dJ15_get_67 ?_
      exact r_zret hK hRt dJ15_get_68 rfl ⟨by rw [hbf]; rfl, rfl, rfl⟩
    · refine r_aload_0 hK dJ15_get_48 ?_
      refine r_get hK fl_J15_11 dJ15_get_49 (by assumption) rfl ?_
      refine r_iload_2 hK dJ15_get_52 ?_
      refine r_lald hK dJ15_get_53 hA hwi ?_ (hN := by omega)
      refine r_lconst_1 hK dJ15_get_54 ?_
      refine r_iload_1 hK dJ15_get_55 ?_
      refine r_lsh1 hK dJ15_get_56 (by omega) ?_
      refine r_land hK dJ15_get_57 ?_
      refine r_lconst_0 hK dJ15_get_58 ?_
      refine r_lcmp hK dJ15_get_59 ?_
      obtain ⟨c, hc, hc1, hc2⟩ := l_cmp0 (w (i / 64) &&& 2 ^ (i % 64)) (Nat.lt_of_le_of_lt Nat.and_le_left (hw _))
      refine r_top hc1 ?_
      refine r_if_eq 67 hK dJ15_get_60 (by rcases hc with q | q | q <;> subst q <;> decide) (fun h60 => ?_) (fun h60 => ?_)
      · have hbf : b i = false := by rw [hbi]; exact and_pow.mp (hc2.mp h60)
        refine r_iconstN (c := 0) hK dJ15_get_67 ?_
        exact r_zret hK hRt dJ15_get_68 rfl ⟨by rw [hbf]; rfl, rfl, rfl⟩
      · have hbf : b i = true := by
          cases hq : b i with
          | true => rfl
          | false => exact absurd (hc2.mpr (and_pow.mpr (by rw [← hbi]; exact hq))) h60
        refine r_iconstN (c := 1) hK dJ15_get_63 ?_
        refine r_goto 68 hK dJ15_get_64 ?_
        exact r_zret hK hRt dJ15_get_68 rfl ⟨by rw [hbf]; rfl, rfl, rfl⟩
  · omega --!
set_option maxHeartbeats 4000000 in
theorem bs_clear {G : GT} {Rel : Nat → Hp → Hp → Prop} (hR : RelOK Rel) {n : Nat} {g : Hp} {id N : Nat} {b : Nat → Bool} {ow : List Nat} (hB : BSs g id N b ow) : Ct G Rel yJ15_clear cJ15_clear 1 none (1) (0) [.ref id] n (g) (fun r n' g' => r = none ∧ n' = n ∧ BSs g' id N (fun _ => false) ow ∧ ∀ x, x ≠ id → x ∉ ow → g' x = g x) := by
  refine ct_intro [some (.ref id)] hR rfl (Nat.le_of_ble_eq_true rfl) ?_
  intro K hG hRel hK hRt hnm
  obtain ⟨wd, k0, w0, how, hne, hO, hA, hk, hN, hz, hw, hb⟩ := hB
  have lp : ∀ (k : Nat) (w : Nat → Nat) (g' : Hp), k ≤ N → g' id = some (.inl (16, [.ref wd, zI (k : Int), zI ((1 : Nat) : Int)])) → g' wd = some (.inr (3, N, fun j => zL ((w j : Nat) : Int))) → (∀ j, k ≤ j → w j = 0) → (∀ x, x ≠ id → x ∉ ow → g' x = g x) → Wx K 0 [some (.ref id)] [] n g' 0 := by
    intro k
    induction k with
    | zero =>
      intro w g' hk k1 k2 k3 k4
      refine r_aload_0 hK dJ15_clear_0 ?_
      refine r_get hK fl_J15_7 dJ15_clear_1 (by assumption) rfl ?_
      refine r_if_le 27 hK dJ15_clear_4 (by omega) (fun h4 => ?_) (fun h4 => ?_)
      · exact r_vret hK hRt dJ15_clear_27 ⟨rfl, rfl, ⟨wd, 0, w, how, hne, k1, k2, hk, hN, k3, fun j => by rw [k3 j (Nat.zero_le _)]; decide, fun j _ => by rw [k3 _ (Nat.zero_le _), Nat.zero_testBit]⟩, k4⟩
      · omega --!
    | succ k ih =>
      intro w g' hk k1 k2 k3 k4
      refine r_aload_0 hK dJ15_clear_0 ?_
      refine r_get hK fl_J15_7 dJ15_clear_1 (by assumption) rfl ?_
      refine r_if_le 27 hK dJ15_clear_4 (by omega) (fun h4 => ?_) (fun h4 => ?_)
      · omega --!
      · refine r_aload_0 hK dJ15_clear_7 ?_
        refine r_get hK fl_J15_11 dJ15_clear_8 (by assumption) rfl ?_
        refine r_aload_0 hK dJ15_clear_11 ?_
        refine r_dup hK dJ15_clear_12 ?_
        refine r_get hK fl_J15_7 dJ15_clear_13 (by assumption) rfl ?_
        refine r_iconstN (c := 1) hK dJ15_clear_16 ?_
        first | refine r_isubN hK dJ15_clear_17 (by omega) ?_ | refine r_isub hK dJ15_clear_17 ?_
        rw [show k + 1 - 1 = k from rfl]
        refine r_dup_x1 hK dJ15_clear_18 ?_
        refine r_put hK fl_J15_7 dJ15_clear_19 (by assumption) (by simp) ?_
        refine r_lconst_0 hK dJ15_clear_22 ?_
        refine r_last (z := ((0 : Nat) : Int)) hK dJ15_clear_23 (by rw [up_n hne]; exact k2) (by omega) ?_ (hN := by omega)
        refine r_goto 0 hK dJ15_clear_24 ?_
        rw [updV_L]
        refine ih (upN w k 0) _ (by omega) (by rw [up_n hne.symm, up_s]; rfl) (up_s _ _ _) (fun j hj => ?_) (fun x p q => ?_)
        · unfold upN; split
          · rfl
          · exact k3 j (by omega)
        · rw [up_n (fun z => q (by rw [how, z]; simp)), up_n p]; exact k4 x p q
  exact lp k0 w0 g hk hO hA hz (fun _ _ _ => rfl)
set_option maxHeartbeats 4000000 in
theorem bs_rec {G : GT} {Rel : Nat → Hp → Hp → Prop} (hR : RelOK Rel) {n : Nat} {g : Hp} {id wd N k : Nat} {w : Nat → Nat} {c : Value} (hO : g id = some (.inl (16, [.ref wd, zI (k : Int), c]))) (hA : g wd = some (.inr (3, N, fun j => zL ((w j : Nat) : Int)))) (hk : k ≤ N) (hN : N < 10000) (hw : ∀ j, w j < 2 ^ 64) (hz : ∀ j, k ≤ j → w j = 0) : Ct G Rel yJ15_recalculateWordsInUse cJ15_recalculateWordsInUse 2 none (1) (0) [.ref id] n (g) (fun r n' g' => r = none ∧ n' = n ∧ ∃ k', k' ≤ N ∧ (∀ j, k' ≤ j → w j = 0) ∧ g' = up g id (.inl (16, [.ref wd, zI (k' : Int), c]))) := by
  refine ct_intro [some (.ref id), none] hR rfl (Nat.le_of_ble_eq_true rfl) ?_
  intro K hG hRel hK hRt hnm
  have fin : ∀ (z : Int) (k' : Nat), z + 1 = (k' : Int) → k' ≤ N → (∀ j, k' ≤ j → w j = 0) → Wx K 31 [some (.ref id), some (zI z)] [] n g 0 := by
    intro z k' hz' hk' hj
    refine r_aload_0 hK dJ15_recalculateWordsInUse_31 ?_
    refine r_iload_1 hK dJ15_recalculateWordsInUse_32 ?_
    refine r_iconstN (c := 1) hK dJ15_recalculateWordsInUse_33 ?_
    refine r_iadd hK dJ15_recalculateWordsInUse_34 ?_
    rw [show z + ((1 : Nat) : Int) = (k' : Int) from hz']
    refine r_put hK fl_J15_7 dJ15_recalculateWordsInUse_35 (by assumption) (by simp) ?_
    exact r_vret hK hRt dJ15_recalculateWordsInUse_38 ⟨rfl, rfl, k', hk', hj, rfl⟩
  have lp : ∀ (k : Nat), k ≤ N → (∀ j, k ≤ j → w j = 0) → Wx K 7 [some (.ref id), some (zI ((k : Int) - 1))] [] n g 0 := by
    intro k
    induction k with
    | zero =>
      intro hk' hj
      refine r_iload_1 hK dJ15_recalculateWordsInUse_7 ?_
      refine r_if_lt 31 hK dJ15_recalculateWordsInUse_8 (by decide) (fun h8 => ?_) (fun h8 => ?_)
      · exact fin _ 0 (by omega) (Nat.zero_le _) hj --!
      · exact absurd h8 (by decide) --!
    | succ k ih =>
      intro hk' hj
      rw [show ((k + 1 : Nat) : Int) - 1 = (k : Int) by omega]
      refine r_iload_1 hK dJ15_recalculateWordsInUse_7 ?_
      refine r_if_lt 31 hK dJ15_recalculateWordsInUse_8 (by omega) (fun h8 => ?_) (fun h8 => ?_)
      · omega --!
      · refine r_aload_0 hK dJ15_recalculateWordsInUse_11 ?_
        refine r_get hK fl_J15_11 dJ15_recalculateWordsInUse_12 (by assumption) rfl ?_
        refine r_iload_1 hK dJ15_recalculateWordsInUse_15 ?_
        refine r_lald hK dJ15_recalculateWordsInUse_16 hA (by omega) ?_ (hN := by omega)
        refine r_lconst_0 hK dJ15_recalculateWordsInUse_17 ?_
        refine r_lcmp hK dJ15_recalculateWordsInUse_18 ?_
        obtain ⟨c', hc, hc1, hc2⟩ := l_cmp0 (w k) (hw _)
        refine r_top hc1 ?_
        refine r_if_eq 25 hK dJ15_recalculateWordsInUse_19 (by rcases hc with q | q | q <;> subst q <;> decide) (fun h19 => ?_) (fun h19 => ?_)
        · refine r_iinc_1 hK dJ15_recalculateWordsInUse_25 ?_
          refine r_goto 7 hK dJ15_recalculateWordsInUse_28 ?_
          refine ih (by omega) (fun j hj2 => ?_)
          rcases Nat.lt_or_ge k j with q | q
          · exact hj j (by omega)
          · rw [show j = k by omega]; exact hc2.mp h19
        · refine r_goto 31 hK dJ15_recalculateWordsInUse_22 ?_
          exact fin _ (k + 1) (by omega) hk' hj
  refine r_aload_0 hK dJ15_recalculateWordsInUse_0 ?_
  refine r_get hK fl_J15_7 dJ15_recalculateWordsInUse_1 (by assumption) rfl ?_
  refine r_iconstN (c := 1) hK dJ15_recalculateWordsInUse_4 ?_
  refine r_isub hK dJ15_recalculateWordsInUse_5 ?_
  refine r_istore_1 hK dJ15_recalculateWordsInUse_6 ?_
  exact lp k hk hz
set_option maxHeartbeats 4000000 in
theorem bs_clear2 {G : GT} {Rel : Nat → Hp → Hp → Prop} (hR : RelOK Rel) (hX : GX G) {n : Nat} {g : Hp} {id N i : Nat} {b : Nat → Bool} {ow : List Nat} (hB : BSs g id N b ow) (hi : i < 64 * N) : Ct G Rel yJ15_clear_2 cJ15_clear_2 3 none (2) (0) [.ref id, zI (i : Int)] n (g) (fun r n' g' => r = none ∧ n' = n ∧ BSs g' id N (fun j => !decide (j = i) && b j) ow ∧ ∀ x, x ≠ id → x ∉ ow → g' x = g x) := by
  refine ct_intro [some (.ref id), some (zI (i : Int)), none] hR rfl (Nat.le_of_ble_eq_true rfl) ?_
  intro K hG hRel hK hRt hnm
  have hXK : GX (kG K) := by rw [hG]; exact hX
  obtain ⟨wd, k, w, how, hne, hO, hA, hk, hN, hz, hw, hb⟩ := hB
  have hwi : i / 64 < N := by omega
  have tb : ∀ j, (2 ^ (i % 64) ^^^ 18446744073709551615).testBit (j % 64) = !decide (j % 64 = i % 64) := fun j => by
    rw [Nat.testBit_xor, Nat.testBit_two_pow, show 18446744073709551615 = 2 ^ 64 - 1 from rfl, Nat.testBit_two_pow_sub_one, decide_eq_true (Nat.mod_lt j (by decide : 0 < 64))]
    by_cases c : i % 64 = j % 64
    · simp [c]
    · simp [c, Ne.symm c]
  refine r_iload_1 hK dJ15_clear_2_0 ?_
  refine r_if_ge 31 hK dJ15_clear_2_1 (by omega) (fun h1 => ?_) (fun h1 => ?_)
  · refine r_iload_1 hK dJ15_clear_2_31 ?_
    refine r_pS1 hK (bs_wi hK.rel (by omega)) lk_J15_52 dJ15_clear_2_32 ?_
    refine r_istore_2 hK dJ15_clear_2_35 ?_
    refine r_iload_2 hK dJ15_clear_2_36 ?_
    refine r_aload_0 hK dJ15_clear_2_37 ?_
    refine r_get hK fl_J15_7 dJ15_clear_2_38 (by assumption) rfl ?_
    refine r_icmp_lt 45 hK dJ15_clear_2_41 (by omega) (by omega) (fun h41 => ?_) (fun h41 => ?_)
    · refine r_aload_0 hK dJ15_clear_2_45 ?_
      refine r_get hK fl_J15_11 dJ15_clear_2_46 (by assumption) rfl ?_
      refine r_iload_2 hK dJ15_clear_2_49 ?_
      refine r_dup2 hK dJ15_clear_2_50 ?_
      refine r_lald hK dJ15_clear_2_51 hA hwi ?_ (hN := by omega)
      refine r_lconst_1 hK dJ15_clear_2_52 ?_
      refine r_iload_1 hK dJ15_clear_2_53 ?_
      refine r_lsh1 hK dJ15_clear_2_54 (by omega) ?_
      refine r_ldc2 (c := -1) hK q2009 dJ15_clear_2_55 (by decide +kernel) ?_
      refine r_lnot hK dJ15_clear_2_58 ?_
      refine r_land hK dJ15_clear_2_59 ?_
      refine r_last hK dJ15_clear_2_60 hA hwi ?_ (hN := by omega)
      rw [updV_L]
      refine r_aload_0 hK dJ15_clear_2_61 ?_
      refine r_callV0 hK (bs_rec hK.rel (by rw [up_n hne.symm]; exact hO) (up_s _ _ _) hk hN (fun j => ?_) (fun j hj => ?_)) lk_J15_158 (Rcv.raw (ci := 16) hK.rel ((up_n hne.symm).trans hO) rfl) dJ15_clear_2_62 (fun r n1 f1 hp => ?_)
      · unfold upN; split
        · exact Nat.lt_of_le_of_lt Nat.and_le_left (hw _)
        · exact hw j
      · unfold upN; rw [if_neg (by omega)]; exact hz j hj
      obtain ⟨rfl, rfl, k', hk', hj', rfl⟩ := hp
      refine r_aload_0 hK dJ15_clear_2_65 ?_
      refine r_vV0 hK (bs_inv hK.rel hXK) lk_J15_56 (Rcv.ups (ci := 16) hK.rel rfl) dJ15_clear_2_66 ?_
      refine r_vret hK hRt dJ15_clear_2_69 ⟨rfl, rfl, ⟨wd, k', upN w (i / 64) (w (i / 64) &&& (2 ^ (i % 64) ^^^ 18446744073709551615)), how, hne, up_s _ _ _, by rw [up_n hne, up_s], hk', hN, hj', fun j => ?_, fun j hj => ?_⟩, fun x p q => ?_⟩
      · unfold upN; split
        · exact Nat.lt_of_le_of_lt Nat.and_le_left (hw _)
        · exact hw j
      · show (!decide (j = i) && b j) = _
        unfold upN
        by_cases c : j / 64 = i / 64
        · rw [if_pos c, Nat.testBit_and, tb, ← c, ← hb j hj, Bool.and_comm]
          congr 2
          apply decide_eq_decide.mpr
          omega
        · rw [if_neg c, ← hb j hj, decide_eq_false (fun q => c (by rw [q]))]; rfl
      · rw [how] at q
        rw [up_n p, up_n (fun z => q (by rw [z]; simp))]
    · refine r_vret hK hRt dJ15_clear_2_44 ⟨rfl, rfl, ⟨wd, k, w, how, hne, hO, hA, hk, hN, hz, hw, fun j hj => ?_⟩, fun _ _ _ => rfl⟩
      rw [← hb j hj]
      by_cases c : j = i
      · subst c
        have hf : b j = false := by rw [hb j hj, hz _ (by omega), Nat.zero_testBit]
        simp [hf]
      · simp [c]
  · omega --!
set_option maxHeartbeats 4000000 in
theorem bs_next {G : GT} {Rel : Nat → Hp → Hp → Prop} (hR : RelOK Rel) (hX : GX G) {n : Nat} {g : Hp} {id t : Nat} {b : Nat → Bool} {ow : List Nat} (hB : BSs g id 1 b ow) (ht : t < 64) (hb1 : b t = true) (hb2 : ∀ i, i < t → b i = false) : Ct G Rel yJ15_nextSetBit cJ15_nextSetBit 5 (some .int) (3) (0) [.ref id, zI ((0 : Nat) : Int)] n (g) (Pu (zI (t : Int)) n g) := by
  refine ct_intro [some (.ref id), some (zI ((0 : Nat) : Int)), none, none, none] hR rfl (Nat.le_of_ble_eq_true rfl) ?_
  intro K hG hRel hK hRt hnm
  have hXK : GX (kG K) := by rw [hG]; exact hX
  obtain ⟨wd, k, w, how, hne, hO, hA, hk, hN, hz, hw, hb⟩ := hB
  have q1 : (w 0).testBit t = true := by have := hb t (by omega); rw [hb1, show t / 64 = 0 by omega, show t % 64 = t by omega] at this; exact this.symm
  have q2 : ∀ i, i < t → (w 0).testBit i = false := fun i hi => by have := hb i (by omega); rw [hb2 i hi, show i / 64 = 0 by omega, show i % 64 = i by omega] at this; exact this.symm
  have hk1 : k = 1 := by
    rcases Nat.eq_zero_or_pos k with q | q
    · rw [hz 0 (by omega), Nat.zero_testBit] at q1; cases q1
    · omega
  have hw0 := hw 0
  have e : w 0 &&& 18446744073709551615 = w 0 := by
    rw [show 18446744073709551615 = 2 ^ 64 - 1 from rfl, Nat.and_two_pow_sub_one_eq_mod]; exact Nat.mod_eq_of_lt hw0
  refine r_iload_1 hK dJ15_nextSetBit_0 ?_
  refine r_if_ge 31 hK dJ15_nextSetBit_1 (by omega) (fun h1 => ?_) (fun h1 => ?_)
  · refine r_aload_0 hK dJ15_nextSetBit_31 ?_
    refine r_vV0 hK (bs_inv hK.rel hXK) lk_J15_56 (Rcv.raw hK.rel (by assumption) rfl) dJ15_nextSetBit_32 ?_
    refine r_iload_1 hK dJ15_nextSetBit_35 ?_
    refine r_pS1 hK (bs_wi hK.rel (by decide)) lk_J15_52 dJ15_nextSetBit_36 ?_
    rw [show 0 / 64 = 0 from rfl]
    refine r_istore_2 hK dJ15_nextSetBit_39 ?_
    refine r_iload_2 hK dJ15_nextSetBit_40 ?_
    refine r_aload_0 hK dJ15_nextSetBit_41 ?_
    refine r_get hK fl_J15_7 dJ15_nextSetBit_42 (by assumption) rfl ?_
    refine r_icmp_lt 50 hK dJ15_nextSetBit_45 (by omega) (by omega) (fun h45 => ?_) (fun h45 => ?_)
    · refine r_aload_0 hK dJ15_nextSetBit_50 ?_
      refine r_get hK fl_J15_11 dJ15_nextSetBit_51 (by assumption) rfl ?_
      refine r_iload_2 hK dJ15_nextSetBit_54 ?_
      refine r_lald hK dJ15_nextSetBit_55 hA (by decide) ?_
      refine r_ldc2 (c := -1) hK q2009 dJ15_nextSetBit_56 (by decide +kernel) ?_
      refine r_iload_1 hK dJ15_nextSetBit_59 ?_
      refine r_lshM hK dJ15_nextSetBit_60 ?_
      refine r_land hK dJ15_nextSetBit_61 ?_
      rw [e]
      refine r_lstore_3 hK dJ15_nextSetBit_62 ?_
      refine r_lload_3 hK dJ15_nextSetBit_63 ?_
      refine r_lconst_0 hK dJ15_nextSetBit_64 ?_
      refine r_lcmp hK dJ15_nextSetBit_65 ?_
      obtain ⟨c, hc, hc1, hc2⟩ := l_cmp0 (w 0) hw0
      refine r_top hc1 ?_
      refine r_if_eq 79 hK dJ15_nextSetBit_66 (by rcases hc with q | q | q <;> subst q <;> decide) (fun h66 => ?_) (fun h66 => ?_)
      · exact absurd (hc2.mp h66) (fun q => by rw [q, Nat.zero_testBit] at q1; cases q1) --!
      · refine r_iload_2 hK dJ15_nextSetBit_69 ?_
        refine r_bipushN (c := 64) hK dJ15_nextSetBit_70 ?_
        first | refine r_imulN hK dJ15_nextSetBit_72 ?_ | refine r_imul hK dJ15_nextSetBit_72 ?_
        refine r_lload_3 hK dJ15_nextSetBit_73 ?_
        refine r_pS1 hK (ct_ntzL hK.rel hw0 ht q1 q2) lk_J15_182 dJ15_nextSetBit_74 ?_
        first | refine r_iaddN hK dJ15_nextSetBit_77 ?_ | refine r_iadd hK dJ15_nextSetBit_77 ?_
        exact r_iret hK hRt dJ15_nextSetBit_78 ⟨by rw [show 0 * 64 + t = t by omega], rfl, rfl⟩
    · omega --!
  · omega --!
set_option maxHeartbeats 4000000 in
theorem bs_rng {G : GT} {Rel : Nat → Hp → Hp → Prop} (hR : RelOK Rel) {n : Nat} {g : Hp} {a b : Nat} (h : a ≤ b) (hb : b < 1000000) : Ct G Rel yJ15_checkRange cJ15_checkRange 2 none (1) (0) [zI (a : Int), zI (b : Int)] n (g) (Pv n g) := by
  refine ct_intro [some (zI (a : Int)), some (zI (b : Int))] hR rfl (Nat.le_of_ble_eq_true rfl) ?_
  intro K hG hRel hK hRt hnm
  refine r_iload_0 hK dJ15_checkRange_0 ?_
  refine r_if_ge 31 hK dJ15_checkRange_1 (by omega) (fun h1 => ?_) (fun h1 => ?_)
  · refine r_iload_1 hK dJ15_checkRange_31 ?_
    refine r_if_ge 62 hK dJ15_checkRange_32 (by omega) (fun h32 => ?_) (fun h32 => ?_)
    · refine r_iload_0 hK dJ15_checkRange_62 ?_
      refine r_iload_1 hK dJ15_checkRange_63 ?_
      refine r_icmp_le 103 hK dJ15_checkRange_64 (by omega) (by omega) (fun h64 => ?_) (fun h64 => ?_)
      · exact r_vret hK hRt dJ15_checkRange_103 ⟨rfl, rfl, rfl⟩
      · omega --!
    · omega --!
  · omega --!
set_option maxHeartbeats 4000000 in
theorem bs_set2 {G : GT} {Rel : Nat → Hp → Hp → Prop} (hR : RelOK Rel) (hX : GX G) {n : Nat} {g : Hp} {id e : Nat} {b : Nat → Bool} {ow : List Nat} (hB : BSs g id 1 b ow) (he : 0 < e ∧ e < 65) : Ct G Rel yJ15_set_2 cJ15_set_2 10 none (3) (0) [.ref id, zI ((0 : Nat) : Int), zI (e : Int)] n (g) (fun r n' g' => r = none ∧ n' = n ∧ BSs g' id 1 (fun j => decide (j < e) || b j) ow ∧ ∀ x, x ≠ id → x ∉ ow → g' x = g x) := by
  refine ct_intro [some (.ref id), some (zI ((0 : Nat) : Int)), some (zI (e : Int)), none, none, none, none, none, none, none] hR rfl (Nat.le_of_ble_eq_true rfl) ?_
  intro K hG hRel hK hRt hnm
  have hXK : GX (kG K) := by rw [hG]; exact hX
  obtain ⟨wd, k, w, how, hne, hO, hA, hk, hN, hz, hw, hb⟩ := hB
  have hlt : 2 ^ e - 1 < 2 ^ 64 := by have : 2 ^ e ≤ 2 ^ 64 := Nat.pow_le_pow_right (by decide) (by omega); omega
  have e1 : 18446744073709551615 &&& (2 ^ e - 1) = 2 ^ e - 1 := by
    rw [Nat.and_comm, show 18446744073709551615 = 2 ^ 64 - 1 from rfl, Nat.and_two_pow_sub_one_eq_mod]; exact Nat.mod_eq_of_lt hlt
  refine r_iload_1 hK dJ15_set_2_0 ?_
  refine r_iload_2 hK dJ15_set_2_1 ?_
  refine r_vS2 hK (bs_rng hK.rel (Nat.zero_le _) (by omega)) lk_J15_161 dJ15_set_2_2 ?_
  refine r_iload_1 hK dJ15_set_2_5 ?_
  refine r_iload_2 hK dJ15_set_2_6 ?_
  refine r_icmp_ne 11 hK dJ15_set_2_7 (by omega) (by omega) (fun h7 => ?_) (fun h7 => ?_)
  · refine r_iload_1 hK dJ15_set_2_11 ?_
    refine r_pS1 hK (bs_wi hK.rel (by decide)) lk_J15_52 dJ15_set_2_12 ?_
    rw [show 0 / 64 = 0 from rfl]
    refine r_istore_3 hK dJ15_set_2_15 ?_
    refine r_iload_2 hK dJ15_set_2_16 ?_
    refine r_iconstN (c := 1) hK dJ15_set_2_17 ?_
    first | refine r_isubN hK dJ15_set_2_18 (by omega) ?_ | refine r_isub hK dJ15_set_2_18 ?_
    refine r_pS1 hK (bs_wi hK.rel (by omega)) lk_J15_52 dJ15_set_2_19 ?_
    rw [show (e - 1) / 64 = 0 by omega]
    refine r_istore_4 hK dJ15_set_2_22 ?_
    refine r_aload_0 hK dJ15_set_2_24 ?_
    refine r_iload_4 hK dJ15_set_2_25 ?_
    refine r_vV1 hK (bs_exp hK.rel hO hA (by decide) hk hN) lk_J15_155 (Rcv.raw hK.rel (by assumption) rfl) dJ15_set_2_27 ?_
    refine r_ldc2 (c := -1) hK q2009 dJ15_set_2_30 (by decide +kernel) ?_
    refine r_iload_1 hK dJ15_set_2_33 ?_
    refine r_lshM hK dJ15_set_2_34 ?_
    refine r_lstore_5 hK dJ15_set_2_35 ?_
    refine r_ldc2 (c := -1) hK q2009 dJ15_set_2_37 (by decide +kernel) ?_
    refine r_iload_2 hK dJ15_set_2_40 ?_
    refine r_ineg hK dJ15_set_2_41 ?_
    refine r_lushM hK dJ15_set_2_42 he ?_
    refine r_lstore_7 hK dJ15_set_2_43 ?_
    refine r_iload_3 hK dJ15_set_2_45 ?_
    refine r_iload_4 hK dJ15_set_2_46 ?_
    refine r_icmp_ne 68 hK dJ15_set_2_48 (by omega) (by omega) (fun h48 => ?_) (fun h48 => ?_)
    · omega --!
    · refine r_aload_0 hK dJ15_set_2_51 ?_
      refine r_get hK fl_J15_11 dJ15_set_2_52 (up_s _ _ _) rfl ?_
      refine r_iload_3 hK dJ15_set_2_55 ?_
      refine r_dup2 hK dJ15_set_2_56 ?_
      refine r_lald hK dJ15_set_2_57 (by rw [up_n hne]; exact hA) (by decide) ?_
      refine r_lload_5 hK dJ15_set_2_58 ?_
      refine r_lload_7 hK dJ15_set_2_60 ?_
      refine r_land hK dJ15_set_2_62 ?_
      rw [e1]
      refine r_lor hK dJ15_set_2_63 ?_
      refine r_last hK dJ15_set_2_64 (by rw [up_n hne]; exact hA) (by decide) ?_
      rw [updV_L]
      refine r_goto 119 hK dJ15_set_2_65 ?_
      refine r_aload_0 hK dJ15_set_2_119 ?_
      refine r_vV0 hK (bs_inv hK.rel hXK) lk_J15_56 (Rcv.raw (ci := 16) hK.rel ((up_n hne.symm).trans (up_s _ _ _)) rfl) dJ15_set_2_120 ?_
      refine r_vret hK hRt dJ15_set_2_123 ⟨rfl, rfl, ⟨wd, max k 1, upN w 0 (w 0 ||| (2 ^ e - 1)), how, hne, ?_, up_s _ _ _, by omega, hN, fun j hj => ?_, fun j => ?_, fun j hj => ?_⟩, fun x p q => ?_⟩
      · rw [up_n hne.symm, up_s]
      · unfold upN; rw [if_neg (by omega)]; exact hz j (by omega)
      · unfold upN; split
        · exact Nat.or_lt_two_pow (hw _) hlt
        · exact hw j
      · show (decide (j < e) || b j) = _
        unfold upN
        rw [if_pos (by omega), Nat.testBit_or, Nat.testBit_two_pow_sub_one, hb j hj, show j / 64 = 0 by omega, show j % 64 = j by omega, Bool.or_comm]
      · rw [how] at q
        rw [up_n (fun z => q (by rw [z]; simp)), up_n p]
  · omega --!
