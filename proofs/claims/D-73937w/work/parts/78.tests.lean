set_option maxRecDepth 100000
/-! ===== class Tests ===== -/
theorem updV_I (w : Nat → Nat) (i v : Nat) : updV (fun j => zI ((w j : Nat) : Int)) i (zI (v : Int)) = fun j => zI ((upN w i v j : Nat) : Int) := by
  funext j
  unfold updV upN
  by_cases c : j = i
  · rw [if_pos c, if_pos c]
  · rw [if_neg c, if_neg c]
theorem upN_s {w : Nat → Nat} {i v : Nat} : upN w i v i = v := by unfold upN; rw [if_pos rfl]
theorem upN_n {w : Nat → Nat} {i v j : Nat} (h : j ≠ i) : upN w i v j = w j := by unfold upN; rw [if_neg h]
/-- the first that answers, of d from x on -/
def scn (g : Nat → Option (List Nat)) : Nat → Nat → Option (List Nat)
  | 0, _ => none
  | d + 1, x => match g x with
    | some l => some l
    | none => scn g d (x + 1)
/-- the first k rows from one on by which all is had -/
def tgo (S : Nat → Nat) (R all : Nat) : Nat → Nat → Nat → Option (List Nat)
  | 0, _, had => if had = all then some [] else none
  | k + 1, x0, had => scn (fun x => (tgo S R all k (x + 1) (had ||| S x)).map (fun l => x :: l)) (R - x0) x0
theorem scn_some {g : Nat → Option (List Nat)} {d x : Nat} {l : List Nat} (h : g x = some l) : scn g (d + 1) x = some l := by
  show (match g x with | some l => some l | none => scn g d (x + 1)) = _
  rw [h]
theorem scn_none {g : Nat → Option (List Nat)} {d x : Nat} (h : g x = none) : scn g (d + 1) x = scn g d (x + 1) := by
  show (match g x with | some l => some l | none => scn g d (x + 1)) = _
  rw [h]
def CX (f : Hp) (c sa ca R all M : Nat) (S ch : Nat → Nat) : Prop := f c = some (.inl (8, [.ref sa, .ref ca, zI (R : Int), zI (all : Int), zI (M : Int)])) ∧ f sa = some (.inr (0, 16, fun j => zI ((S j : Nat) : Int))) ∧ f ca = some (.inr (0, 8, fun j => zI ((ch j : Nat) : Int))) ∧ sa ≠ ca
theorem CX.ch {f : Hp} {c sa ca R all M : Nat} {S ch ch' : Nat → Nat} (h : CX f c sa ca R all M S ch) : CX (up f ca (.inr (0, 8, fun j => zI ((ch' j : Nat) : Int)))) c sa ca R all M S ch' := by
  obtain ⟨h1, h2, h3, h4⟩ := h
  have : c ≠ ca := fun q => by rw [q, h3] at h1; cases h1
  exact ⟨by rw [up_n this]; exact h1, by rw [up_n h4]; exact h2, up_s _ _ _, h4⟩
theorem ct_goes {G : GT} {Rel : Nat → Hp → Hp → Prop} (hR : RelOK Rel) {n c sa ca R all M : Nat} {S : Nat → Nat} (hR16 : R ≤ 16) (hS : ∀ x, S x < 65536) (hall : all < 65536) (hM : M ≤ 8) : ∀ (k : Nat) {f : Hp} {ch : Nat → Nat} {n0 x0 had : Nat} (h : CX f c sa ca R all M S ch) (hk : n0 + k = M) (hx0 : x0 ≤ R) (hh : had < 65536), Ct G Rel yX8_goes cX8_goes 5 (some .boolean) (k + 1) 0 [.ref c, zI (n0 : Int), zI (x0 : Int), zI (had : Int)] n f (fun r n' f' => r = some (vB (tgo S R all k x0 had).isSome) ∧ n' = n ∧ ∃ ch' : Nat → Nat, f' = up f ca (.inr (0, 8, fun j => zI ((ch' j : Nat) : Int))) ∧ (∀ j, j < n0 → ch' j = ch j) ∧ ∀ l, tgo S R all k x0 had = some l → ∀ i, i < l.length → ch' (n0 + i) = l.getD i 0) := by
  intro k
  induction k with
  | zero =>
    intro f ch n0 x0 had h hk hx0 hh
    refine ct_intro [some (.ref c), some (zI (n0 : Int)), some (zI (x0 : Int)), some (zI (had : Int)), none] hR rfl (Nat.le_of_ble_eq_true rfl) ?_
    intro K hG hRel hK hRt hnm
    have e : tgo S R all 0 x0 had = if had = all then some [] else none := rfl
    rw [e] at hRt
    refine r_iload_1 hK dX8_goes_0 ?_
    refine r_aload_0 hK dX8_goes_1 ?_
    refine r_get hK fl_X8_25 dX8_goes_2 (h.1) rfl ?_
    refine r_icmp_ne 22 hK dX8_goes_5 (by omega) (by omega) (fun h5 => ?_) (fun h5 => ?_)
    · omega --!
    · refine r_iload_3 hK dX8_goes_8 ?_
      refine r_aload_0 hK dX8_goes_9 ?_
      refine r_get hK fl_X8_22 dX8_goes_10 (h.1) rfl ?_
      refine r_icmp_ne 20 hK dX8_goes_13 (by omega) (by omega) (fun h13 => ?_) (fun h13 => ?_)
      · refine r_iconstN (c := 0) hK dX8_goes_20 ?_
        exact r_zret hK hRt dX8_goes_21 rfl ⟨by rw [if_neg (by omega)]; rfl, rfl, ch, (up_self h.2.2.1).symm, fun _ _ => rfl, fun l hl => by rw [if_neg (by omega)] at hl; cases hl⟩
      · refine r_iconstN (c := 1) hK dX8_goes_16 ?_
        refine r_goto 21 hK dX8_goes_17 ?_
        exact r_zret hK hRt dX8_goes_21 rfl ⟨by rw [if_pos (by omega)]; rfl, rfl, ch, (up_self h.2.2.1).symm, fun _ _ => rfl, fun l hl i hi => by rw [if_pos (by omega)] at hl; cases hl; exact absurd hi (Nat.not_lt_zero _)⟩
  | succ k ih =>
    intro f ch n0 x0 had h hk hx0 hh
    refine ct_intro [some (.ref c), some (zI (n0 : Int)), some (zI (x0 : Int)), some (zI (had : Int)), none] hR rfl (Nat.le_of_ble_eq_true rfl) ?_
    intro K hG hRel hK hRt hnm
    subst hG
    subst hRel
    obtain ⟨gg, hgg⟩ : ∃ gg, gg = fun x => (tgo S R all k (x + 1) (had ||| S x)).map (fun l => x :: l) := ⟨_, rfl⟩
    have e : tgo S R all (k + 1) x0 had = scn gg (R - x0) x0 := by rw [hgg]; rfl
    rw [e] at hRt
    have lp : ∀ (d x : Nat) (ch1 : Nat → Nat), d = R - x → x ≤ R → scn gg (R - x0) x0 = scn gg (R - x) x → (∀ j, j < n0 → ch1 j = ch j) → Wx K 25 [some (.ref c), some (zI (n0 : Int)), some (zI (x0 : Int)), some (zI (had : Int)), some (zI (x : Int))] [] n (up f ca (.inr (0, 8, fun j => zI ((ch1 j : Nat) : Int)))) 0 := by
      intro d
      induction d with
      | zero =>
        intro x ch1 hd hx hsc hch
        have hC := h.ch (ch' := ch1)
        rw [← hd] at hsc
        have hno : scn gg (R - x0) x0 = none := hsc
        refine r_iload_4 hK dX8_goes_25 ?_
        refine r_aload_0 hK dX8_goes_27 ?_
        refine r_get hK fl_X8_18 dX8_goes_28 (hC.1) rfl ?_
        refine r_icmp_ge 73 hK dX8_goes_31 (by omega) (by omega) (fun h31 => ?_) (fun h31 => ?_)
        · refine r_iconstN (c := 0) hK dX8_goes_73 ?_
          exact r_zret hK hRt dX8_goes_74 rfl ⟨by rw [hno]; rfl, rfl, ch1, rfl, hch, fun l hl => by rw [hno] at hl; cases hl⟩
        · omega --!
      | succ d ih2 =>
        intro x ch1 hd hx hsc hch
        have hC := h.ch (ch' := ch1)
        have hC2 := h.ch (ch' := upN ch1 n0 x)
        have hSx := hS x
        have hor : had ||| S x < 65536 := Nat.or_lt_two_pow (n := 16) hh hSx
        rw [show R - x = d + 1 by omega] at hsc
        refine r_iload_4 hK dX8_goes_25 ?_
        refine r_aload_0 hK dX8_goes_27 ?_
        refine r_get hK fl_X8_18 dX8_goes_28 (hC.1) rfl ?_
        refine r_icmp_ge 73 hK dX8_goes_31 (by omega) (by omega) (fun h31 => ?_) (fun h31 => ?_)
        · omega --!
        · refine r_aload_0 hK dX8_goes_34 ?_
          refine r_get hK fl_X8_15 dX8_goes_35 (hC.1) rfl ?_
          refine r_iload_1 hK dX8_goes_38 ?_
          refine r_iload_4 hK dX8_goes_39 ?_
          refine r_iast hK dX8_goes_41 hC.2.2.1 (by omega) ?_
          rw [up_up, updV_I]
          refine r_aload_0 hK dX8_goes_42 ?_
          refine r_iload_1 hK dX8_goes_43 ?_
          refine r_iconstN (c := 1) hK dX8_goes_44 ?_
          first | refine r_iaddN hK dX8_goes_45 ?_ | refine r_iadd hK dX8_goes_45 ?_
          refine r_iload_4 hK dX8_goes_46 ?_
          refine r_iconstN (c := 1) hK dX8_goes_48 ?_
          first | refine r_iaddN hK dX8_goes_49 ?_ | refine r_iadd hK dX8_goes_49 ?_
          refine r_iload_3 hK dX8_goes_50 ?_
          refine r_aload_0 hK dX8_goes_51 ?_
          refine r_get hK fl_X8_9 dX8_goes_52 (hC2.1) rfl ?_
          refine r_iload_4 hK dX8_goes_55 ?_
          refine r_iald hK dX8_goes_57 hC2.2.1 (by omega) ?_
          refine r_ior hK dX8_goes_58 ?_
          refine r_callV3 hK (ih hC2 (n0 := n0 + 1) (x0 := x + 1) (had := had ||| S x) (by omega) (by omega) hor) lk_X8_28 (Rcv.raw hK.rel hC2.1 rfl) dX8_goes_59 (fun r n1 f1 hp => ?_) (hdp := by omega)
          obtain ⟨rfl, rfl, ch', rfl, k1, k2⟩ := hp
          rw [up_up]
          have hgx : gg x = (tgo S R all k (x + 1) (had ||| S x)).map (fun l => x :: l) := by rw [hgg]
          cases hq : tgo S R all k (x + 1) (had ||| S x) with
          | none =>
            rw [hq] at hgx
            rw [scn_none hgx] at hsc
            refine r_if_eq 67 hK dX8_goes_62 (by decide) (fun _ => ?_) (fun q => absurd rfl q)
            refine r_incN_4 hK dX8_goes_67 ?_
            refine r_goto 25 hK dX8_goes_70 ?_
            exact ih2 (x + 1) ch' (by omega) (by omega) (by rw [hsc, show R - (x + 1) = d by omega]) (fun j hj => by rw [k1 j (by omega), upN_n (by omega)]; exact hch j hj)
          | some l =>
            rw [hq] at hgx
            rw [scn_some hgx] at hsc
            refine r_top (show vB (some l).isSome = zI 1 from rfl) ?_
            refine r_if_eq 67 hK dX8_goes_62 (by decide) (fun q => absurd q (by decide)) (fun _ => ?_)
            refine r_iconstN (c := 1) hK dX8_goes_65 ?_
            refine r_zret hK hRt dX8_goes_66 rfl ⟨by rw [hsc]; rfl, rfl, ch', rfl, fun j hj => by rw [k1 j (by omega), upN_n (by omega)]; exact hch j hj, fun l2 hl2 i hi => ?_⟩
            rw [hsc] at hl2
            cases hl2
            cases i with
            | zero => rw [Nat.add_zero, k1 n0 (by omega), upN_s]; rfl
            | succ i =>
              rw [show n0 + (i + 1) = n0 + 1 + i by omega, k2 l hq i (by simpa using hi)]
              simp
    refine r_iload_1 hK dX8_goes_0 ?_
    refine r_aload_0 hK dX8_goes_1 ?_
    refine r_get hK fl_X8_25 dX8_goes_2 (h.1) rfl ?_
    refine r_icmp_ne 22 hK dX8_goes_5 (by omega) (by omega) (fun h5 => ?_) (fun h5 => ?_)
    · refine r_iload_2 hK dX8_goes_22 ?_
      refine r_istore_4 hK dX8_goes_23 ?_
      have := lp (R - x0) x0 ch rfl hx0 rfl (fun _ _ => rfl)
      rw [up_self h.2.2.1] at this
      exact this
    · omega --!
set_option maxHeartbeats 4000000 in
theorem ct_tBegins {G : GT} {Rel : Nat → Hp → Hp → Prop} (hR : RelOK Rel) {n : Nat} {f : Hp} {c R : Nat} {a b e1 e2 e3 : Value} (h : f c = some (.inl (8, [a, b, e1, e2, e3]))) : Ct G Rel yX8_begins cX8_begins 2 none (1) (0) [.ref c, zI (R : Int)] n (f) (Pv n (up f c (.inl (8, [a, b, zI (R : Int), zI ((0 : Nat) : Int), e3])))) := by
  refine ct_intro [some (.ref c), some (zI (R : Int))] hR rfl (Nat.le_of_ble_eq_true rfl) ?_
  intro K hG hRel hK hRt hnm
  refine r_aload_0 hK dX8_begins_0 ?_
  refine r_iload_1 hK dX8_begins_1 ?_
  refine r_put hK fl_X8_18 dX8_begins_2 (h) (by simp) ?_
  refine r_aload_0 hK dX8_begins_5 ?_
  refine r_iconstN (c := 0) hK dX8_begins_6 ?_
  refine r_put hK fl_X8_22 dX8_begins_7 (up_s _ _ _) (by simp) ?_
  exact r_vret hK hRt dX8_begins_10 ⟨rfl, rfl, by rw [up_up]; rfl⟩
set_option maxHeartbeats 4000000 in
theorem ct_tAdds {G : GT} {Rel : Nat → Hp → Hp → Prop} (hR : RelOK Rel) {n : Nat} {f : Hp} {c sa ca R all M x s : Nat} {S ch : Nat → Nat} (h : CX f c sa ca R all M S ch) (hx : x < 16) : Ct G Rel yX8_adds cX8_adds 3 none (1) (0) [.ref c, zI (x : Int), zI (s : Int)] n (f) (Pv n (up (up f sa (.inr (0, 16, fun j => zI ((upN S x s j : Nat) : Int)))) c (.inl (8, [.ref sa, .ref ca, zI (R : Int), zI ((all ||| s : Nat) : Int), zI (M : Int)])))) := by
  refine ct_intro [some (.ref c), some (zI (x : Int)), some (zI (s : Int))] hR rfl (Nat.le_of_ble_eq_true rfl) ?_
  intro K hG hRel hK hRt hnm
  have hcs : c ≠ sa := fun q => by have := h.1; rw [q, h.2.1] at this; cases this
  refine r_aload_0 hK dX8_adds_0 ?_
  refine r_get hK fl_X8_9 dX8_adds_1 (h.1) rfl ?_
  refine r_iload_1 hK dX8_adds_4 ?_
  refine r_iload_2 hK dX8_adds_5 ?_
  refine r_iast hK dX8_adds_6 h.2.1 hx ?_
  rw [updV_I]
  refine r_aload_0 hK dX8_adds_7 ?_
  refine r_dup hK dX8_adds_8 ?_
  refine r_get hK fl_X8_22 dX8_adds_9 ((by rw [up_n hcs]; exact h.1)) rfl ?_
  refine r_iload_2 hK dX8_adds_12 ?_
  refine r_ior hK dX8_adds_13 ?_
  refine r_put hK fl_X8_22 dX8_adds_14 ((by rw [up_n hcs]; exact h.1)) (by simp) ?_
  exact r_vret hK hRt dX8_adds_17 ⟨rfl, rfl, rfl⟩
set_option maxHeartbeats 4000000 in
theorem ct_tChosen {G : GT} {Rel : Nat → Hp → Hp → Prop} (hR : RelOK Rel) {n : Nat} {f : Hp} {c sa ca R all M x : Nat} {S ch : Nat → Nat} (h : CX f c sa ca R all M S ch) (hx : x < 8) : Ct G Rel yX8_chosen cX8_chosen 2 (some .int) (1) (0) [.ref c, zI (x : Int)] n (f) (Pu (zI ((ch x : Nat) : Int)) n f) := by
  refine ct_intro [some (.ref c), some (zI (x : Int))] hR rfl (Nat.le_of_ble_eq_true rfl) ?_
  intro K hG hRel hK hRt hnm
  refine r_aload_0 hK dX8_chosen_0 ?_
  refine r_get hK fl_X8_15 dX8_chosen_1 (h.1) rfl ?_
  refine r_iload_1 hK dX8_chosen_4 ?_
  refine r_iald hK dX8_chosen_5 h.2.2.1 hx ?_
  exact r_iret hK hRt dX8_chosen_6 ⟨rfl, rfl, rfl⟩
theorem tgo_len {S : Nat → Nat} {R all : Nat} : ∀ {k x had : Nat} {l : List Nat}, tgo S R all k x had = some l → l.length = k
  | 0, x, had, l, h => by
    have e : tgo S R all 0 x had = if had = all then some [] else none := rfl
    rw [e] at h
    split at h
    · cases h; rfl
    · cases h
  | k + 1, x, had, l, h => by
    have : ∀ d y, scn (fun x => (tgo S R all k (x + 1) (had ||| S x)).map (fun l => x :: l)) d y = some l → l.length = k + 1 := by
      intro d
      induction d with
      | zero => intro y h; cases h
      | succ d ih =>
        intro y h
        cases hq : tgo S R all k (y + 1) (had ||| S y) with
        | none => rw [scn_none (by simp only [hq]; rfl)] at h; exact ih _ h
        | some l' =>
          rw [scn_some (l := y :: l') (by simp only [hq]; rfl)] at h
          cases h
          rw [List.length_cons, tgo_len hq]
    exact this _ _ h
set_option maxHeartbeats 4000000 in
theorem ct_tLays {G : GT} {Rel : Nat → Hp → Hp → Prop} (hR : RelOK Rel) {n : Nat} {f : Hp} {c sa ca R all M0 Ms : Nat} {S ch : Nat → Nat} {l : List Nat} (h : CX f c sa ca R all M0 S ch) (hR16 : R ≤ 16) (hS : ∀ x, S x < 65536) (hall : all < 65536) (hMs : Ms ≤ 8) (hl : tgo S R all Ms 0 0 = some l) (hmin : ∀ M, M < Ms → tgo S R all M 0 0 = none) : Ct G Rel yX8_lays cX8_lays 1 (some .int) (10) (0) [.ref c] n (f) (fun r n' f' => r = some (zI (Ms : Int)) ∧ n' = n ∧ ∃ ch' : Nat → Nat, f' = up (up f c (.inl (8, [.ref sa, .ref ca, zI (R : Int), zI (all : Int), zI (Ms : Int)]))) ca (.inr (0, 8, fun j => zI ((ch' j : Nat) : Int))) ∧ ∀ i, i < Ms → ch' i = l.getD i 0) := by
  refine ct_intro [some (.ref c)] hR rfl (Nat.le_of_ble_eq_true rfl) ?_
  intro K hG hRel hK hRt hnm
  have hcc : c ≠ ca := fun q => by have := h.1; rw [q, h.2.2.1] at this; cases this
  have hcs : c ≠ sa := fun q => by have := h.1; rw [q, h.2.1] at this; cases this
  have hC : ∀ (M : Nat) (ch : Nat → Nat), CX (up (up f c (.inl (8, [.ref sa, .ref ca, zI (R : Int), zI (all : Int), zI (M : Int)]))) ca (.inr (0, 8, fun j => zI ((ch j : Nat) : Int)))) c sa ca R all M S ch := fun M ch => ⟨by rw [up_n hcc, up_s], by rw [up_n h.2.2.2, up_n (Ne.symm hcs)]; exact h.2.1, up_s _ _ _, h.2.2.2⟩
  have hln := tgo_len hl
  have lp : ∀ (d M : Nat) (ch : Nat → Nat), d = Ms - M → M ≤ Ms → Wx K 5 [some (.ref c)] [] n (up (up f c (.inl (8, [.ref sa, .ref ca, zI (R : Int), zI (all : Int), zI (M : Int)]))) ca (.inr (0, 8, fun j => zI ((ch j : Nat) : Int)))) 0 := by
    intro d
    induction d using Nat.strongRecOn with
    | _ d ih =>
      intro M ch hd hM
      have h' := hC M ch
      refine r_aload_0 hK dX8_lays_5 ?_
      refine r_iconstN (c := 0) hK dX8_lays_6 ?_
      refine r_iconstN (c := 0) hK dX8_lays_7 ?_
      refine r_iconstN (c := 0) hK dX8_lays_8 ?_
      refine r_callV3 hK (ct_goes hK.rel hR16 hS hall (by omega) M h' (n0 := 0) (x0 := 0) (had := 0) (by omega) (by omega) (by decide)) lk_X8_28 (Rcv.raw hK.rel h'.1 rfl) dX8_lays_9 (fun r n1 f1 hp => ?_) (hdp := by omega)
      obtain ⟨rfl, rfl, ch', rfl, k1, k2⟩ := hp
      rw [up_up]
      rcases Nat.eq_or_lt_of_le hM with q | q
      · subst q
        rw [hl]
        refine r_top (show vB (some l).isSome = zI 1 from rfl) ?_
        refine r_if_ne 28 hK dX8_lays_12 (by decide) (fun _ => ?_) (fun q => absurd q (by decide))
        refine r_aload_0 hK dX8_lays_28 ?_
        refine r_get hK fl_X8_25 dX8_lays_29 ((hC M ch').1) rfl ?_
        exact r_iret hK hRt dX8_lays_32 ⟨rfl, rfl, ch', rfl, fun i hi => by have := k2 l hl i (by omega); rw [Nat.zero_add] at this; exact this⟩
      · rw [hmin M q]
        refine r_if_ne 28 hK dX8_lays_12 (by decide) (fun q => absurd rfl q) (fun _ => ?_)
        refine r_aload_0 hK dX8_lays_15 ?_
        refine r_dup hK dX8_lays_16 ?_
        refine r_get hK fl_X8_25 dX8_lays_17 ((hC M ch').1) rfl ?_
        refine r_iconstN (c := 1) hK dX8_lays_20 ?_
        refine r_iaddN hK dX8_lays_21 ?_
        refine r_put hK fl_X8_25 dX8_lays_22 ((hC M ch').1) (by simp) ?_
        refine r_goto 5 hK dX8_lays_25 ?_
        rw [up_comm (Ne.symm hcc), up_up]
        exact ih (Ms - (M + 1)) (by omega) (M + 1) ch' rfl (by omega)
  refine r_aload_0 hK dX8_lays_0 ?_
  refine r_iconstN (c := 0) hK dX8_lays_1 ?_
  refine r_put hK fl_X8_25 dX8_lays_2 (h.1) (by simp) ?_
  have := lp Ms 0 ch rfl (Nat.zero_le _)
  rw [up_self (by rw [up_n (Ne.symm hcc)]; exact h.2.2.1)] at this
  exact this
