set_option maxRecDepth 100000
/-! ===== Integers; class Shortest: numbers, within ===== -/
/-- an Integer: a cached one, or one of the program's own -/
def IntA (f : Hp) (id v : Nat) : Prop := (v < 128 ∧ id = 148 + v) ∨ (392 ≤ id ∧ f id = some (.inl (20, [zI (v : Int)])))
theorem new20 {G : GT} : ∃ r, cls[20]? = some r ∧ r.2.2 ≤ 12 * 1 ∧ 1 ≤ 1 ∧ ∀ j, j < r.2.2 → defaultValue (tyC 20 j) = cv G (vp_V [zI 0] j) := ⟨_, rfl, by decide, by decide, fun j hj => by
  have h3 : j = 0 := by have : j < 1 := hj; omega
  subst h3; rfl⟩
theorem rch_I {K : KT} {own : String} {cc : ByteArray} {nL d U n id N : Nat} {f : Hp} {h : Nat → Value} (hK : Gd K own cc nL d U) (hf : f id = some (.inr (0, N, h))) : RcH K "[I" n f id := fun H hH => ⟨_, hH.at hK.2.2.2.2.2.2.2.2.1 hf rfl, rfl, (hK.2.2.2.2.2.1.2.1 0 (by decide)).2⟩
theorem int_cv (G : GT) (v : Nat) (h : v < 128) : Value.int (vb_c (128 + v)) = cv G (zI (v : Int)) := by
  show Value.int _ = Value.int _
  congr 1
  revert v
  decide +kernel
set_option maxHeartbeats 4000000 in
theorem ct_numInit {G : GT} {Rel : Nat → Hp → Hp → Prop} (hR : RelOK Rel) {n : Nat} {f : Hp} {k : Nat} : Ct G Rel yJ32_init cJ32_init 1 none (1) (0) [.ref k] n (f) (Pv n f) := by
  refine ct_intro [some (.ref k)] hR rfl (Nat.le_of_ble_eq_true rfl) ?_
  intro K hG hRel hK hRt hnm
  refine r_aload_0 hK dJ32_init_0 ?_
  refine r_objInit hK oi_J32_1 dJ32_init_1 ?_
  exact r_vret hK hRt dJ32_init_4 ⟨rfl, rfl, rfl⟩
set_option maxHeartbeats 4000000 in
theorem ct_intInit {G : GT} {Rel : Nat → Hp → Hp → Prop} (hR : RelOK Rel) {n : Nat} {f : Hp} {k : Nat} {z : Int} {a : Value} (h : f k = some (.inl (20, [a]))) : Ct G Rel yJ33_init cJ33_init 2 none (2) (0) [.ref k, zI z] n (f) (Pv n (up f k (.inl (20, [zI z])))) := by
  refine ct_intro [some (.ref k), some (zI z)] hR rfl (Nat.le_of_ble_eq_true rfl) ?_
  intro K hG hRel hK hRt hnm
  refine r_aload_0 hK dJ33_init_0 ?_
  refine r_callI0 hK (ct_numInit hK.rel) lk_J33_202 dJ33_init_1 (fun r n1 f1 hp => ?_)
  obtain ⟨rfl, rfl, rfl⟩ := hp
  refine r_aload_0 hK dJ33_init_4 ?_
  refine r_iload_1 hK dJ33_init_5 ?_
  refine r_put hK fl_J33_205 dJ33_init_6 h (by simp) ?_ (hfin := ⟨_, rfl, Or.inr ⟨hnm, rfl⟩⟩)
  exact r_vret hK hRt dJ33_init_9 ⟨rfl, rfl, rfl⟩
set_option maxHeartbeats 4000000 in
theorem ct_valueOf {G : GT} {Rel : Nat → Hp → Hp → Prop} (hR : RelOK Rel) (hX : GX G) {n : Nat} {f : Hp} {v : Nat} (hv : v < 100000) (hn : 392 ≤ n) : Ct G Rel yJ33_valueOf cJ33_valueOf 1 (some (.object "java/lang/Integer")) (3) (1) [zI (v : Int)] n (f) (fun r n' f' => ∃ id, r = some (.ref id) ∧ IntA f' id v ∧ ((v < 128 ∧ n' = n ∧ f' = f) ∨ (n' = n + 1 ∧ id = n ∧ f' = up f n (.inl (20, [zI (v : Int)]))))) := by
  refine ct_intro [some (zI (v : Int))] hR rfl (Nat.le_of_ble_eq_true rfl) ?_
  intro K hG hRel hK hRt hnm
  have hXK : GX (kG K) := by rw [hG]; exact hX
  refine r_iload_0 hK dJ33_valueOf_0 ?_
  refine r_bipush hK dJ33_valueOf_1 ?_
  refine r_icmp_lt 23 hK dJ33_valueOf_3 (by omega) (by omega) (fun h3 => ?_) (fun h3 => ?_)
  · omega --!
  · refine r_iload_0 hK dJ33_valueOf_6 ?_
    refine r_gets hK hXK (C := "java/lang/Integer$IntegerCache") (nm := "high") (ds := "I") (v := zI 127) (by simp [stT]) q1766 dJ33_valueOf_7 ?_
    refine r_icmp_gt 23 hK dJ33_valueOf_10 (by omega) (by decide) (fun h10 => ?_) (fun h10 => ?_)
    · refine r_new (fs := [zI 0]) 1 hK nw_J33_1 dJ33_valueOf_23 (by decide) ?_ (hw := new20)
      refine r_dup hK dJ33_valueOf_26 ?_
      refine r_iload_0 hK dJ33_valueOf_27 ?_
      refine r_callI1 hK (ct_intInit hK.rel (up_s _ _ _)) lk_J33_199 dJ33_valueOf_28 (fun r n1 f1 hp => ?_)
      obtain ⟨rfl, rfl, rfl⟩ := hp
      rw [up_up]
      exact r_aret hK hRt dJ33_valueOf_31 ⟨n, rfl, Or.inr ⟨hn, up_s _ _ _⟩, Or.inr ⟨rfl, rfl, rfl⟩⟩
    · refine r_gets hK hXK (C := "java/lang/Integer$IntegerCache") (nm := "cache") (ds := "[Ljava/lang/Integer;") (v := .ref 4) (by simp [stT]) q1768 dJ33_valueOf_13 ?_
      refine r_iload_0 hK dJ33_valueOf_16 ?_
      refine r_sipushN (c := 128) hK dJ33_valueOf_17 ?_
      first | refine r_iaddN hK dJ33_valueOf_20 ?_ | refine r_iadd hK dJ33_valueOf_20 ?_
      refine p_aald (k := 4) (v := .ref (148 + v)) hK (hK.px hXK).2.2.2.2.2.2.1 (by omega) (by show Value.ref _ = Value.ref (ad _ _); rw [ad_pre (by omega)]; congr 2; omega) dJ33_valueOf_21 ?_
      exact r_aret hK hRt dJ33_valueOf_22 ⟨148 + v, rfl, Or.inl ⟨by omega, rfl⟩, Or.inl ⟨by omega, rfl, rfl⟩⟩
set_option maxHeartbeats 4000000 in
theorem ct_intValue {G : GT} {Rel : Nat → Hp → Hp → Prop} (hR : RelOK Rel) (hX : GX G) {n : Nat} {f : Hp} {id v : Nat} (h : IntA f id v) : Ct G Rel yJ33_intValue cJ33_intValue 1 (some .int) (1) (0) [.ref id] n (f) (Pu (zI (v : Int)) n f) := by
  refine ct_intro [some (.ref id)] hR rfl (Nat.le_of_ble_eq_true rfl) ?_
  intro K hG hRel hK hRt hnm
  have hXK : GX (kG K) := by rw [hG]; exact hX
  rcases h with ⟨h1, h2⟩ | ⟨h1, h2⟩
  · subst h2
    have hE : va_OF "java/lang/Integer" "value" "I" (Value.int (vb_c (128 + v))) (g_p (kG K) (20 + (128 + v))) (fun a => g_b (kG K) ≤ a) (ks K) (g_H (kG K)) := (hK.px hXK).2.2.2.2.2.1.2 (128 + v) (by omega)
    rw [int_cv (kG K) v h1] at hE
    refine r_aload_0 hK dJ33_intValue_0 ?_
    refine p_get (k := 148 + v) hK (by rw [show 148 + v = 20 + (128 + v) by omega]; exact hE) q1779 dJ33_intValue_1 ?_
    exact r_iret hK hRt dJ33_intValue_4 ⟨rfl, rfl, rfl⟩
  · refine r_aload_0 hK dJ33_intValue_0 ?_
    refine r_get hK fl_J33_205 dJ33_intValue_1 (h2) rfl ?_
    exact r_iret hK hRt dJ33_intValue_4 ⟨rfl, rfl, rfl⟩
def SHo (f : Hp) (w R : Nat) : Prop := f 329 = some (.inl (7, [.ref 330, .ref 341, .ref 342, .ref 343, .ref 344, .ref 345, zI (w : Int), zI (R : Int), .ref 346]))
def SHb (f : Hp) (T : Nat → Nat) : Prop := f 330 = some (.inr (6, 5, fun k => .ref (331 + 2 * k))) ∧ ∀ k, k < 5 → f (331 + 2 * k) = some (cBS 630 (fun c => decide (T c = k)))
set_option maxHeartbeats 4000000 in
theorem ct_sNum {G : GT} {Rel : Nat → Hp → Hp → Prop} (hR : RelOK Rel) {n : Nat} {f : Hp} {w R a N : Nat} {h : Nat → Value} {p : Nat → Nat} (hO : SHo f w R) (ha : f a = some (.inr (0, N, h))) (hR8 : R ≤ 8) (hRN : R ≤ N) (hN : N < 1000) (hp : Pm R p) (hh : ∀ x, x < R → h x = zI ((p x : Nat) : Int)) : Ct G Rel yX7_number cX7_number 5 (some .int) (3) (0) [.ref 329, .ref a] n (f) (Pu (zI ((plc p R : Nat) : Int)) n f) := by
  refine ct_intro [some (.ref 329), some (.ref a), none, none, none] hR rfl (Nat.le_of_ble_eq_true rfl) ?_
  intro K hG hRel hK hRt hnm
  have lp : ∀ (d x : Nat), d = R - x → x ≤ R → Wx K 7 [some (.ref 329), some (.ref a), some (zI ((plF p R x : Nat) : Int)), some (zI ((hdS p x : Nat) : Int)), some (zI (x : Int))] [] n f 0 := by
    intro d
    induction d using Nat.strongRecOn with
    | _ d ih =>
      intro x hd hx
      refine r_iload_4 hK dX7_number_7 ?_
      refine r_aload_0 hK dX7_number_9 ?_
      refine r_get hK fl_X7_52 dX7_number_10 (hO) rfl ?_
      refine r_icmp_ge 60 hK dX7_number_13 (by omega) (by omega) (fun h13 => ?_) (fun h13 => ?_)
      · refine r_iload_2 hK dX7_number_60 ?_
        exact r_iret hK hRt dX7_number_61 ⟨by rw [show x = R by omega]; rfl, rfl, rfl⟩ --!
      · refine r_iload_2 hK dX7_number_16 ?_
        refine r_aload_0 hK dX7_number_17 ?_
        refine r_get hK fl_X7_52 dX7_number_18 (hO) rfl ?_
        refine r_iload_4 hK dX7_number_21 ?_
        first | refine r_isubN hK dX7_number_23 (by omega) ?_ | refine r_isub hK dX7_number_23 ?_
        first | refine r_imulN hK dX7_number_24 ?_ | refine r_imul hK dX7_number_24 ?_
        have hpx := hp.1 x (by omega)
        have hhx := hh x (by omega)
        have hn1 := num_step hR8 hp (show x < R by omega)
        have hb1 := (hd_lt hR8 hp x hx).1
        have hrp := rN_pos (p x)
        have hr8 : rN (p x) ≤ 128 := rN_le (k := 7) (by omega)
        have hpl := plF_b hR8 p (i := x) hx
        refine r_aload_1 hK dX7_number_25 ?_
        refine r_iload_4 hK dX7_number_26 ?_
        refine r_iald hK dX7_number_28 ha (by omega) ?_ (by omega)
        rw [hhx]
        first | refine r_iaddN hK dX7_number_29 ?_ | refine r_iadd hK dX7_number_29 ?_
        refine r_iload_3 hK dX7_number_30 ?_
        refine r_iconstN (c := 1) hK dX7_number_31 ?_
        refine r_aload_1 hK dX7_number_32 ?_
        refine r_iload_4 hK dX7_number_33 ?_
        refine r_iald hK dX7_number_35 ha (by omega) ?_ (by omega)
        rw [hhx]
        refine r_ishl hK dX7_number_36 (by omega) (sh1 (by omega)) ?_
        show Wx K _ _ (zI ((rN (p x) : Nat) : Int) :: _) _ _ _
        refine r_iconstN (c := 1) hK dX7_number_37 ?_
        first | refine r_isubN hK dX7_number_38 (by omega) ?_ | refine r_isub hK dX7_number_38 ?_
        first | refine r_iand hK dX7_number_39 ?_ | refine r_andnot hK dX7_number_39 (by omega) ?_
        refine r_pSN1 hK (ct_many0 hK.rel (by have : hdS p x &&& (rN (p x) - 1) < 256 := and_lt hb1; exact this)) lk_X7_114 dX7_number_40 ?_
        first | refine r_isubN hK dX7_number_43 (by omega) ?_ | refine r_isub hK dX7_number_43 ?_
        refine r_istore_2 hK dX7_number_44 ?_
        refine r_iload_3 hK dX7_number_45 ?_
        refine r_iconstN (c := 1) hK dX7_number_46 ?_
        refine r_aload_1 hK dX7_number_47 ?_
        refine r_iload_4 hK dX7_number_48 ?_
        refine r_iald hK dX7_number_50 ha (by omega) ?_ (by omega)
        rw [hhx]
        refine r_ishl hK dX7_number_51 (by omega) (sh1 (by omega)) ?_
        show Wx K _ _ (zI ((rN (p x) : Nat) : Int) :: _) _ _ _
        refine r_ior hK dX7_number_52 ?_
        refine r_istore_3 hK dX7_number_53 ?_
        first | refine r_incN_4 hK dX7_number_54 ?_ | refine r_iinc_4 hK dX7_number_54 ?_
        refine r_goto 7 hK dX7_number_57 ?_
        have := ih (R - (x + 1)) (by omega) (x + 1) rfl (by omega)
        have e1 : plF p R (x + 1) = plF p R x * (R - x) + p x - bits (hdS p x &&& (rN (p x) - 1)) := by
          show plF p R x * (R - x) + cL p (p x) (x + 1) (R - (x + 1)) = _
          omega
        rw [e1] at this
        exact this
  refine r_iconstN (c := 0) hK dX7_number_0 ?_
  refine r_istore_2 hK dX7_number_1 ?_
  refine r_iconstN (c := 0) hK dX7_number_2 ?_
  refine r_istore_3 hK dX7_number_3 ?_
  refine r_iconstN (c := 0) hK dX7_number_4 ?_
  refine r_istore_4 hK dX7_number_5 ?_
  exact lp R 0 rfl (Nat.zero_le _)
set_option maxHeartbeats 4000000 in
theorem ct_sWithin {G : GT} {Rel : Nat → Hp → Hp → Prop} (hR : RelOK Rel) (hP : Rel = RelP) (hX : GX G) {n : Nat} {f : Hp} {w R a N : Nat} {h : Nat → Value} {p T : Nat → Nat} (hO : SHo f w R) (hB : SHb f T) (ha : f a = some (.inr (0, N, h))) (hR8 : R ≤ 8) (hRN : R ≤ N) (hN : N < 1000) (hp : Pm R p) (hh : ∀ x, x < R → h x = zI ((p x : Nat) : Int)) : Ct G Rel yX7_within cX7_within 4 (some .int) (4) (0) [.ref 329, .ref a] n (f) (Pu (zI (if T (plc p R) ≤ 4 then ((T (plc p R) : Nat) : Int) else -1)) n f) := by
  refine ct_intro [some (.ref 329), some (.ref a), none, none] hR rfl (Nat.le_of_ble_eq_true rfl) ?_
  intro K hG hRel hK hRt hnm
  have hQ : kRel K = RelP := by rw [hRel]; exact hP
  have hXK : GX (kG K) := by rw [hG]; exact hX
  obtain ⟨c, hc⟩ : ∃ c, c = plc p R := ⟨_, rfl⟩
  have hcb : c < 40320 := by rw [hc]; exact plc_b hR8 p
  rw [← hc] at hRt
  have lp : ∀ (d k : Nat), d = 5 - k → k ≤ 5 → (∀ i, i < k → T c ≠ i) → Wx K 8 [some (.ref 329), some (.ref a), some (zI (c : Int)), some (zI (k : Int))] [] n f 0 := by
    intro d
    induction d using Nat.strongRecOn with
    | _ d ih =>
      intro k hd hk hi
      refine r_iload_3 hK dX7_within_8 ?_
      refine r_iconstN (c := 4) hK dX7_within_9 ?_
      refine r_icmp_gt 34 hK dX7_within_10 (by omega) (by omega) (fun h10 => ?_) (fun h10 => ?_)
      · refine r_iconst hK dX7_within_34 ?_
        exact r_iret hK hRt dX7_within_35 ⟨by rw [if_neg (fun q => hi (T c) (by omega) rfl)], rfl, rfl⟩ --!
      · refine r_aload_0 hK dX7_within_13 ?_
        refine r_get hK fl_X7_15 dX7_within_14 (hO) rfl ?_
        refine r_iload_3 hK dX7_within_17 ?_
        refine r_aald hK dX7_within_18 hB.1 (by omega) ?_
        refine r_iload_2 hK dX7_within_19 ?_
        refine r_pV1 hK (pb_get hQ hXK (hB.2 k (by omega)) (i := c) (by omega)) lk_X7_111 (rcv_bs hQ (hB.2 k (by omega))) dX7_within_20 ?_
        show Wx K _ _ (zB (decide (T c = k) = true) :: _) _ _ _
        refine r_ifB_eq 28 hK dX7_within_23 (fun h23 => ?_) (fun h23 => ?_)
        rotate_left
        · have e : T c = k := of_decide_eq_true h23
          refine r_iload_3 hK dX7_within_26 ?_
          exact r_iret hK hRt dX7_within_27 ⟨by rw [if_pos (by omega), e], rfl, rfl⟩
        refine r_incN_3 hK dX7_within_28 ?_
        refine r_goto 8 hK dX7_within_31 ?_
        have e : ¬ T c = k := fun q => h23 (decide_eq_true q)
        exact ih (5 - (k + 1)) (by omega) (k + 1) rfl (by omega) (fun i hi2 => by
          by_cases z : i = k
          · rw [z]; exact e
          · exact hi i (by omega))
  refine r_aload_0 hK dX7_within_0 ?_
  refine r_aload_1 hK dX7_within_1 ?_
  refine r_pV1 hK (ct_sNum hK.rel hO ha hR8 hRN hN hp hh) lk_X7_72 (Rcv.raw hK.rel hO rfl) dX7_within_2 ?_
  rw [← hc]
  refine r_istore_2 hK dX7_within_5 ?_
  refine r_iconstN (c := 0) hK dX7_within_6 ?_
  refine r_istore_3 hK dX7_within_7 ?_
  exact lp 5 0 rfl (by omega) (fun i hi => absurd hi (Nat.not_lt_zero _))
