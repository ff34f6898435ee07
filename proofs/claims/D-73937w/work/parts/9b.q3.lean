set_option maxRecDepth 100000
/-! ===== BackLogic: what rows see, terms, degree ===== -/
theorem ct_xStuck0 {G : GT} {Rel : Nat → Hp → Hp → Prop} (hP : Rel = RelP) (hX : GX G) {n : Nat} {f : Hp} {x wr : Nat} {pl : Int} {w : Nat} {l : List Nat} {gs : List Gt} (h0 : f 300 = some (x0C pl w)) (h : CC f 318 319 l gs) (hb : ∀ q ∈ gs, gB q) (hx : x < 64) (hwr : wr < 6) : Ct G Rel yX0_stuckAt cX0_stuckAt 6 (some .int) 6 1 [.ref 300, zI (x : Int), zI (wr : Int), zI ((0 : Nat) : Int)] n f (Pg (zI ((stkRun gs wr 0 x : Nat) : Int)) n f) := ct_xStuckAt (o := false) hP hX h0 h hb hx hwr
theorem ct_xStuck1 {G : GT} {Rel : Nat → Hp → Hp → Prop} (hP : Rel = RelP) (hX : GX G) {n : Nat} {f : Hp} {x wr : Nat} {pl : Int} {w : Nat} {l : List Nat} {gs : List Gt} (h0 : f 300 = some (x0C pl w)) (h : CC f 318 319 l gs) (hb : ∀ q ∈ gs, gB q) (hx : x < 64) (hwr : wr < 6) : Ct G Rel yX0_stuckAt cX0_stuckAt 6 (some .int) 6 1 [.ref 300, zI (x : Int), zI (wr : Int), zI ((1 : Nat) : Int)] n f (Pg (zI ((stkRun gs wr 1 x : Nat) : Int)) n f) := ct_xStuckAt (o := true) hP hX h0 h hb hx hwr
set_option maxHeartbeats 4000000 in
theorem ct_xStuck {G : GT} {Rel : Nat → Hp → Hp → Prop} (hR : RelOK Rel) (hP : Rel = RelP) (hX : GX G) {n : Nat} {f : Hp} {pl y z : Int} {o : Bool} {w : Nat} {l : List Nat} {gs : List Gt} (h0 : f 300 = some (x0C pl w)) (hw : w ≤ 4) (hc : CC f 318 319 l gs) (hb : ∀ q ∈ gs, gB q) (hy : inR y) (hz : inR z) : Ct G Rel yX0_stuck cX0_stuck 4 (some .int) (7) (1) [.ref 300, zI y, zI z, zI (((if o then 1 else 0) : Nat) : Int)] n (f) (Pg (zI (if (0 ≤ y ∧ y < rN w) ∧ 0 ≤ z ∧ z < w then ((stkRun gs z.toNat (if o then 1 else 0) y.toNat : Nat) : Int) else -1)) n f) := by
  refine ct_intro [some (.ref 300), some (zI y), some (zI z), some (zI (((if o then 1 else 0) : Nat) : Int))] hR rfl (Nat.le_of_ble_eq_true rfl) ?_
  intro K hG hRel hK hRt hnm
  have hQ : kRel K = RelP := by rw [hRel]; exact hP
  have hXK : GX (kG K) := by rw [hG]; exact hX
  have h4 := rN4 hw
  refine r_aload_0 hK dX0_stuck_0 ?_
  refine r_iload_1 hK dX0_stuck_1 ?_
  refine r_pV1 hK (ct_xIsRow hK.rel h0 hw hy) lk_X0_179 (Rcv.raw hK.rel h0 rfl) dX0_stuck_2 ?_
  refine r_ifB_eq 26 hK dX0_stuck_5 (fun h5 => ?_) (fun h5 => ?_)
  · refine r_iconst hK dX0_stuck_26 ?_
    exact r_iret hK hRt dX0_stuck_27 ⟨by rw [if_neg (by omega)], Nat.le_refl _, rfl⟩
  · refine r_aload_0 hK dX0_stuck_8 ?_
    refine r_iload_2 hK dX0_stuck_9 ?_
    refine r_pV1 hK (ct_xIsWire hK.rel h0 hw hz) lk_X0_175 (Rcv.raw hK.rel h0 rfl) dX0_stuck_10 ?_
    refine r_ifB_eq 26 hK dX0_stuck_13 (fun h13 => ?_) (fun h13 => ?_)
    · refine r_iconst hK dX0_stuck_26 ?_
      exact r_iret hK hRt dX0_stuck_27 ⟨by rw [if_neg (by omega)], Nat.le_refl _, rfl⟩
    · obtain ⟨k, rfl⟩ : ∃ s : Nat, y = (s : Int) := ⟨y.toNat, by omega⟩
      obtain ⟨j, rfl⟩ : ∃ s : Nat, z = (s : Int) := ⟨z.toNat, by omega⟩
      refine r_aload_0 hK dX0_stuck_16 ?_
      refine r_iload_1 hK dX0_stuck_17 ?_
      refine r_iload_2 hK dX0_stuck_18 ?_
      refine r_iload_3 hK dX0_stuck_19 ?_
      refine r_callV3 hK (ct_xStuckAt hQ hXK h0 hc hb (x := k) (wr := j) (o := o) (by omega) (by omega)) lk_X0_318 (Rcv.raw hK.rel h0 rfl) dX0_stuck_20 (fun r n1 f1 hp => ?_)
      obtain ⟨rfl, hn1, rfl⟩ := hp
      refine r_goto 27 hK dX0_stuck_23 ?_
      exact r_iret hK hRt dX0_stuck_27 ⟨by rw [if_pos (show (0 ≤ ((k : Nat) : Int) ∧ ((k : Nat) : Int) < ((rN w : Nat) : Int)) ∧ 0 ≤ ((j : Nat) : Int) ∧ ((j : Nat) : Int) < ((w : Nat) : Int) by omega)]; rfl, hn1, rfl⟩
theorem stkR_lt {wr b x : Nat} {gs : List Gt} (hb : ∀ g ∈ gs, gok 4 g) (hx : x < 16) (hwr : wr < 4) (hb2 : b < 2) : stkRun gs wr b x < 16 := stkRun_lt (k := 4) hb2 hwr (fun g h => (hb g h).1) hx
theorem two_sh (k : Nat) : 2 <<< k = 1 <<< (k + 1) := by rw [Nat.shiftLeft_eq, Nat.shiftLeft_eq, Nat.pow_succ]; omega
set_option maxHeartbeats 4000000 in
theorem ct_xSeen {G : GT} {Rel : Nat → Hp → Hp → Prop} (hR : RelOK Rel) (hP : Rel = RelP) (hX : GX G) {n : Nat} {f : Hp} {pl : Int} {w x : Nat} {l : List Nat} {gs : List Gt} (h0 : f 300 = some (x0C pl w)) (hw : w ≤ 4) (hc : CC f 318 319 l gs) (ho : ∀ q ∈ gs, gok 4 q) (hx : x < 16) : Ct G Rel yX0_seen cX0_seen 5 (some .int) (8) (9) [.ref 300, zI (x : Int)] n (f) (Pg (zI ((senF gs x (2 * w) : Nat) : Int)) n f) := by
  refine ct_intro [some (.ref 300), some (zI (x : Int)), none, none, none] hR rfl (Nat.le_of_ble_eq_true rfl) ?_
  intro K hG hRel hK hRt hnm
  have hQ : kRel K = RelP := by rw [hRel]; exact hP
  have hXK : GX (kG K) := by rw [hG]; exact hX
  have hb : ∀ q ∈ gs, gB q := fun q hq => (ho q hq).gB (by omega)
  have hrun : run gs x < 16 := run_lt (w := 4) (fun g h => (ho g h).1) hx
  have lp : ∀ (m wr n1 u : Nat), wr + m = w → n ≤ n1 → u ≤ 1 + 2 * wr → Wx K 14 [some (.ref 300), some (zI (x : Int)), some (zI ((senF gs x (2 * wr) : Nat) : Int)), some (zI ((run gs x : Nat) : Int)), some (zI (wr : Int))] [] n1 f u := by
    intro m
    induction m with
    | zero =>
      intro wr n1 u hm hn hu
      have e2 : wr = w := hm
      subst e2
      refine r_iload_4 hK dX0_seen_14 ?_
      refine r_aload_0 hK dX0_seen_16 ?_
      refine r_get hK fl_X0_131 dX0_seen_17 (h0) rfl ?_
      refine r_icmp_ge 71 hK dX0_seen_20 (by omega) (by omega) (fun h20 => ?_) (fun h20 => ?_)
      · refine r_iload_2 hK dX0_seen_71 ?_
        exact r_iret hK hRt dX0_seen_72 ⟨rfl, hn, rfl⟩ (by omega)
      · omega --!
    | succ m ih =>
      intro wr n1 u hm hn hu
      have s0 := stkR_lt (wr := wr) (b := 0) ho hx (by omega) (by decide)
      have s1 := stkR_lt (wr := wr) (b := 1) ho hx (by omega) (by decide)
      have e0 : senF gs x (2 * wr + 1) = if stkRun gs (2 * wr / 2) (2 * wr % 2) x = run gs x then senF gs x (2 * wr) else senF gs x (2 * wr) ||| (1 <<< (2 * wr)) := rfl
      have e1 : senF gs x (2 * wr + 1 + 1) = if stkRun gs ((2 * wr + 1) / 2) ((2 * wr + 1) % 2) x = run gs x then senF gs x (2 * wr + 1) else senF gs x (2 * wr + 1) ||| (1 <<< (2 * wr + 1)) := rfl
      rw [show 2 * wr / 2 = wr by omega, show 2 * wr % 2 = 0 by omega] at e0
      rw [show (2 * wr + 1) / 2 = wr by omega, show (2 * wr + 1) % 2 = 1 by omega] at e1
      have nx : ∀ n2 u2, n ≤ n2 → u2 ≤ 1 + 2 * wr + 1 → Wx K 44 [some (.ref 300), some (zI (x : Int)), some (zI ((senF gs x (2 * wr + 1) : Nat) : Int)), some (zI ((run gs x : Nat) : Int)), some (zI (wr : Int))] [] n2 f u2 := by
        intro n2 u2 hn2 hu2
        refine r_aload_0 hK dX0_seen_44 ?_
        refine r_iload_1 hK dX0_seen_45 ?_
        refine r_iload_4 hK dX0_seen_46 ?_
        refine r_iconstN (c := 1) hK dX0_seen_48 ?_
        refine r_callV3 hK (ct_xStuck1 hQ hXK h0 hc hb (x := x) (wr := wr) (by omega) (by omega)) lk_X0_318 (Rcv.raw hK.rel h0 rfl) dX0_seen_49 (fun r n3 f3 hp => ?_) (hu := by omega)
        obtain ⟨rfl, hn3, rfl⟩ := hp
        refine r_iload_3 hK dX0_seen_52 ?_
        refine r_icmp_eq 65 hK dX0_seen_53 (by omega) (by omega) (fun h53 => ?_) (fun h53 => ?_)
        · rw [if_pos (by omega)] at e1
          first | refine r_incN_4 hK dX0_seen_65 ?_ | refine r_iinc_4 hK dX0_seen_65 ?_
          refine r_goto 14 hK dX0_seen_68 ?_
          have := ih (wr + 1) n3 (u2 + 1) (by omega) (by omega) (by omega)
          rw [show 2 * (wr + 1) = 2 * wr + 1 + 1 by omega, e1] at this
          exact this
        · rw [if_neg (by omega)] at e1
          refine r_iload_2 hK dX0_seen_56 ?_
          refine r_iconstN (c := 2) hK dX0_seen_57 ?_
          refine r_iconstN (c := 2) hK dX0_seen_58 ?_
          refine r_iload_4 hK dX0_seen_59 ?_
          first | refine r_imulN hK dX0_seen_61 ?_ | refine r_imul hK dX0_seen_61 ?_
          refine r_ishl hK dX0_seen_62 (by omega) (show _ < _ from by rw [two_sh]; exact Nat.lt_of_lt_of_le (bit_lt (w := 8) (by omega)) (by decide)) ?_
          rw [two_sh]
          refine r_ior hK dX0_seen_63 ?_
          refine r_istore_2 hK dX0_seen_64 ?_
          first | refine r_incN_4 hK dX0_seen_65 ?_ | refine r_iinc_4 hK dX0_seen_65 ?_
          refine r_goto 14 hK dX0_seen_68 ?_
          have := ih (wr + 1) n3 (u2 + 1) (by omega) (by omega) (by omega)
          rw [show 2 * (wr + 1) = 2 * wr + 1 + 1 by omega, e1] at this
          exact this
      refine r_iload_4 hK dX0_seen_14 ?_
      refine r_aload_0 hK dX0_seen_16 ?_
      refine r_get hK fl_X0_131 dX0_seen_17 (h0) rfl ?_
      refine r_icmp_ge 71 hK dX0_seen_20 (by omega) (by omega) (fun h20 => ?_) (fun h20 => ?_)
      · omega --!
      · refine r_aload_0 hK dX0_seen_23 ?_
        refine r_iload_1 hK dX0_seen_24 ?_
        refine r_iload_4 hK dX0_seen_25 ?_
        refine r_iconstN (c := 0) hK dX0_seen_27 ?_
        refine r_callV3 hK (ct_xStuck0 hQ hXK h0 hc hb (x := x) (wr := wr) (by omega) (by omega)) lk_X0_318 (Rcv.raw hK.rel h0 rfl) dX0_seen_28 (fun r n3 f3 hp => ?_) (hu := by omega)
        obtain ⟨rfl, hn3, rfl⟩ := hp
        refine r_iload_3 hK dX0_seen_31 ?_
        refine r_icmp_eq 44 hK dX0_seen_32 (by omega) (by omega) (fun h32 => ?_) (fun h32 => ?_)
        · rw [if_pos (by omega)] at e0
          have := nx n3 (u + 1) (by omega) (by omega)
          rw [e0] at this
          exact this --!
        · rw [if_neg (by omega)] at e0
          refine r_iload_2 hK dX0_seen_35 ?_
          refine r_iconstN (c := 1) hK dX0_seen_36 ?_
          refine r_iconstN (c := 2) hK dX0_seen_37 ?_
          refine r_iload_4 hK dX0_seen_38 ?_
          first | refine r_imulN hK dX0_seen_40 ?_ | refine r_imul hK dX0_seen_40 ?_
          refine r_ishl hK dX0_seen_41 (by omega) (sh1 (by omega)) ?_
          refine r_ior hK dX0_seen_42 ?_
          refine r_istore_2 hK dX0_seen_43 ?_
          have := nx n3 (u + 1) (by omega) (by omega)
          rw [e0] at this
          exact this
  refine r_iconstN (c := 0) hK dX0_seen_0 ?_
  refine r_istore_2 hK dX0_seen_1 ?_
  refine r_aload_0 hK dX0_seen_2 ?_
  refine r_get hK fl_X0_41 dX0_seen_3 (h0) rfl ?_
  refine r_iload_1 hK dX0_seen_6 ?_
  refine r_callV1 hK (ct_cMade hK.rel hQ hXK hc hb (x := x) (by omega)) lk_X0_271 (Rcv.raw hK.rel hc.1 rfl) dX0_seen_7 (fun r n2 f2 hp => ?_)
  obtain ⟨rfl, hn2, rfl⟩ := hp
  refine r_istore_3 hK dX0_seen_10 ?_
  refine r_iconstN (c := 0) hK dX0_seen_11 ?_
  refine r_istore_4 hK dX0_seen_12 ?_
  exact lp w 0 n2 1 (by omega) hn2 (by omega)
theorem clr_le_b : ((List.range 16).all fun r => (List.range 16).all fun s => !(decide (clr r s = 0)) || decide (r ≤ s)) = true := by decide +kernel
theorem clr_le {r s : Nat} (hr : r < 16) (hs : s < 16) (h : clr r s = 0) : r ≤ s := by
  have := all_r (all_r clr_le_b hr) hs
  simpa [h] using this
theorem trI_cut {gs : List Gt} {w s : Nat} : ∀ d, s + 1 + d ≤ 16 → trI gs w s (s + 1 + d) = trI gs w s (s + 1)
  | 0, _ => rfl
  | d + 1, h => by
    show (if clr (s + 1 + d) s = 0 then _ else trI gs w s (s + 1 + d)) = _
    rw [if_neg (fun q => by have := clr_le (by omega) (by omega) q; omega)]
    exact trI_cut d (by omega)
def tri : Nat → Nat
  | 0 => 0
  | s + 1 => tri s + (s + 1)
theorem tri_le : ∀ s, s < 17 → tri s ≤ 136 := by decide
set_option maxHeartbeats 4000000 in
theorem ct_xTerms {G : GT} {Rel : Nat → Hp → Hp → Prop} (hR : RelOK Rel) (hP : Rel = RelP) (hX : GX G) {n : Nat} {f : Hp} {pl z : Int} {w : Nat} {l : List Nat} {gs : List Gt} (h0 : f 300 = some (x0C pl w)) (hw : w ≤ 4) (hc : CC f 318 319 l gs) (ho : ∀ q ∈ gs, gok 4 q) (hz : inR z) : Ct G Rel yX0_terms cX0_terms 6 (some .int) (8) (136) [.ref 300, zI z] n (f) (Pg (zI (if 0 ≤ z ∧ z < w then ((trF gs z.toNat (rN w) (rN w) : Nat) : Int) else -1)) n f) := by
  refine ct_intro [some (.ref 300), some (zI z), none, none, none, none] hR rfl (Nat.le_of_ble_eq_true rfl) ?_
  intro K hG hRel hK hRt hnm
  have hQ : kRel K = RelP := by rw [hRel]; exact hP
  have hXK : GX (kG K) := by rw [hG]; exact hX
  have h4 := rN4 hw
  have hb : ∀ q ∈ gs, gB q := fun q hq => (ho q hq).gB (by omega)
  have lp : ∀ (wr : Nat), z = (wr : Int) → wr < w → ∀ (m s n1 u : Nat) a4 a5, nl a4 = true → s + m = rN w → n ≤ n1 → u ≤ tri s → Wx K 14 [some (.ref 300), some (zI z), some (zI ((trF gs wr (rN w) s : Nat) : Int)), some (zI (s : Int)), a4, a5] [] n1 f u := by
    intro wr hzw hwr m
    induction m with
    | zero =>
      intro s n1 u a4 a5 hna hm hn hu
      have e2 : s = rN w := hm
      have := tri_le s (by omega)
      refine r_iload_3 hK dX0_terms_14 ?_
      refine r_aload_0 hK dX0_terms_15 ?_
      refine r_pV0 hK (ct_xRows hK.rel h0 hw) lk_X0_151 (Rcv.raw hK.rel h0 rfl) dX0_terms_16 ?_
      refine r_icmp_ge 80 hK dX0_terms_19 (by omega) (by omega) (fun h19 => ?_) (fun h19 => ?_)
      · refine r_iload_2 hK dX0_terms_80 ?_
        refine r_iret hK hRt dX0_terms_81 ⟨?_, hn, rfl⟩ (by omega)
        rw [if_pos (by omega), hzw, e2]; rfl
      · omega --!
    | succ m ih =>
      intro s n1 u a4 a5 hna hm hn hu
      have ht16 := tri_le (s + 1) (by omega)
      have et : tri (s + 1) = tri s + (s + 1) := rfl
      have ip : ∀ (dd r n2 u2 : Nat), r + dd = s + 1 → n ≤ n2 → u2 ≤ tri s + r → Wx K 28 [some (.ref 300), some (zI z), some (zI ((trF gs wr (rN w) s : Nat) : Int)), some (zI (s : Int)), some (zI ((trI gs wr s r : Nat) : Int)), some (zI (r : Int))] [] n2 f u2 := by
        intro dd
        induction dd with
        | zero =>
          intro r n2 u2 hr hn2 hu2
          have er : r = s + 1 := hr
          subst er
          have ht2 := trI_lt gs wr s (s + 1)
          have hsh : trI gs wr s (s + 1) <<< s < 65536 := Nat.lt_of_lt_of_le (o_lt (k := s + 1) ht2 (by omega)) (rN_le (k := 16) (by omega))
          refine r_iload_5 hK dX0_terms_28 ?_
          refine r_iload_3 hK dX0_terms_30 ?_
          refine r_icmp_gt 67 hK dX0_terms_31 (by omega) (by omega) (fun h31 => ?_) (fun h31 => ?_)
          · refine r_iload_2 hK dX0_terms_67 ?_
            refine r_iload_4 hK dX0_terms_68 ?_
            refine r_iload_3 hK dX0_terms_70 ?_
            refine r_ishl hK dX0_terms_71 (by omega) (by omega) ?_
            refine r_ior hK dX0_terms_72 ?_
            refine r_istore_2 hK dX0_terms_73 ?_
            first | refine r_incN_3 hK dX0_terms_74 ?_ | refine r_iinc_3 hK dX0_terms_74 ?_
            refine r_goto 14 hK dX0_terms_77 ?_
            have := ih (s + 1) n2 (u2 + 0) (some (zI ((trI gs wr s (s + 1) : Nat) : Int))) (some (zI ((s + 1 : Nat) : Int))) rfl (by omega) hn2 (by omega)
            have e3 : trF gs wr (rN w) (s + 1) = trF gs wr (rN w) s ||| (trI gs wr s (s + 1) <<< s) := by
              show trF gs wr (rN w) s ||| (trI gs wr s (rN w) <<< s) = _
              rw [show rN w = s + 1 + (rN w - (s + 1)) by omega, trI_cut _ (by omega)]
            rw [e3] at this
            exact this
          · omega --!
        | succ dd ih2 =>
          intro r n2 u2 hr hn2 hu2
          have e : trI gs wr s (r + 1) = if clr r s = 0 then trI gs wr s r ^^^ (run gs r >>> wr &&& 1) else trI gs wr s r := rfl
          have hcl : clr r s < 16 := clr_lt (w := 4) (show r < 16 by omega)
          have hrn : run gs r < 16 := run_lt (w := 4) (fun g h => (ho g h).1) (show r < 16 by omega)
          refine r_iload_5 hK dX0_terms_28 ?_
          refine r_iload_3 hK dX0_terms_30 ?_
          refine r_icmp_gt 67 hK dX0_terms_31 (by omega) (by omega) (fun h31 => ?_) (fun h31 => ?_)
          · omega --!
          · refine r_iload_5 hK dX0_terms_34 ?_
            refine r_iload_3 hK dX0_terms_36 ?_
            refine r_iconst hK dX0_terms_37 ?_
            first | refine r_ixor hK dX0_terms_38 ?_ | refine r_not hK dX0_terms_38 ?_
            first | refine r_iand hK dX0_terms_39 ?_ | refine r_andnot hK dX0_terms_39 (by omega) ?_
            refine r_if_ne 61 hK dX0_terms_40 (by omega) (fun h40 => ?_) (fun h40 => ?_)
            · rw [if_neg (by omega)] at e
              first | refine r_incN_5 hK dX0_terms_61 ?_ | refine r_iinc_5 hK dX0_terms_61 ?_
              refine r_goto 28 hK dX0_terms_64 ?_
              have := ih2 (r + 1) n2 u2 (by omega) hn2 (by omega)
              rw [e] at this
              exact this
            · rw [if_pos (by omega)] at e
              refine r_iload_4 hK dX0_terms_43 ?_
              refine r_aload_0 hK dX0_terms_45 ?_
              refine r_get hK fl_X0_41 dX0_terms_46 (h0) rfl ?_
              refine r_iload_5 hK dX0_terms_49 ?_
              refine r_callV1 hK (ct_cMade hK.rel hQ hXK hc hb (x := r) (by omega)) lk_X0_271 (Rcv.raw hK.rel hc.1 rfl) dX0_terms_51 (fun q n3 f3 hp => ?_) (hu := by omega)
              obtain ⟨rfl, hn3, rfl⟩ := hp
              refine r_iload_1 hK dX0_terms_54 ?_
              rw [hzw]
              refine r_ishr hK dX0_terms_55 (by omega) (by omega) ?_
              refine r_iconstN (c := 1) hK dX0_terms_56 ?_
              first | refine r_iand hK dX0_terms_57 ?_ | refine r_andnot hK dX0_terms_57 (by omega) ?_
              first | refine r_ixor hK dX0_terms_58 ?_ | refine r_not hK dX0_terms_58 ?_
              refine r_istore_4 hK dX0_terms_59 ?_
              rw [← hzw]
              first | refine r_incN_5 hK dX0_terms_61 ?_ | refine r_iinc_5 hK dX0_terms_61 ?_
              refine r_goto 28 hK dX0_terms_64 ?_
              have := ih2 (r + 1) n3 (u2 + 1) (by omega) (by omega) (by omega)
              rw [e] at this
              exact this
      refine r_iload_3 hK dX0_terms_14 ?_
      refine r_aload_0 hK dX0_terms_15 ?_
      refine r_pV0 hK (ct_xRows hK.rel h0 hw) lk_X0_151 (Rcv.raw hK.rel h0 rfl) dX0_terms_16 ?_
      refine r_icmp_ge 80 hK dX0_terms_19 (by omega) (by omega) (fun h19 => ?_) (fun h19 => ?_)
      · omega --!
      · refine r_iconstN (c := 0) hK dX0_terms_22 ?_
        refine r_istore_4 hK dX0_terms_23 ?_
        refine r_iconstN (c := 0) hK dX0_terms_25 ?_
        refine r_istore_5 hK dX0_terms_26 ?_
        exact ip (s + 1) 0 n1 _ (by omega) hn (by omega)
  refine r_aload_0 hK dX0_terms_0 ?_
  refine r_iload_1 hK dX0_terms_1 ?_
  refine r_pV1 hK (ct_xIsWire hK.rel h0 hw hz) lk_X0_175 (Rcv.raw hK.rel h0 rfl) dX0_terms_2 ?_
  refine r_ifB_ne 10 hK dX0_terms_5 (fun h5 => ?_) (fun h5 => ?_)
  · refine r_iconstN (c := 0) hK dX0_terms_10 ?_
    refine r_istore_2 hK dX0_terms_11 ?_
    refine r_iconstN (c := 0) hK dX0_terms_12 ?_
    refine r_istore_3 hK dX0_terms_13 ?_
    obtain ⟨y, hy⟩ : ∃ s : Nat, z = (s : Int) := ⟨z.toNat, by omega⟩
    exact lp y hy (by omega) (rN w) 0 n 0 none none rfl (by omega) (Nat.le_refl _) (Nat.zero_le _)
  · refine r_iconst hK dX0_terms_8 ?_
    exact r_iret hK hRt dX0_terms_9 ⟨by rw [if_neg (by omega)], Nat.le_refl _, rfl⟩
set_option maxHeartbeats 4000000 in
theorem ct_xDegree {G : GT} {Rel : Nat → Hp → Hp → Prop} (hR : RelOK Rel) (hP : Rel = RelP) (hX : GX G) {n : Nat} {f : Hp} {pl : Int} {w : Nat} {l : List Nat} {gs : List Gt} (h0 : f 300 = some (x0C pl w)) (hw : w ≤ 4) (hc : CC f 318 319 l gs) (ho : ∀ q ∈ gs, gok 4 q) : Ct G Rel yX0_degree cX0_degree 4 (some .int) (9) (8704) [.ref 300] n (f) (Pg (zI ((dgW gs (rN w) w : Nat) : Int)) n f) := by
  refine ct_intro [some (.ref 300), none, none, none] hR rfl (Nat.le_of_ble_eq_true rfl) ?_
  intro K hG hRel hK hRt hnm
  have hQ : kRel K = RelP := by rw [hRel]; exact hP
  have hXK : GX (kG K) := by rw [hG]; exact hX
  have h4 := rN4 hw
  have lp : ∀ (m wr n1 u : Nat) a3, wr + m = w → n ≤ n1 → u ≤ 2176 * wr → Wx K 4 [some (.ref 300), some (zI ((dgW gs (rN w) wr : Nat) : Int)), some (zI (wr : Int)), a3] [] n1 f u := by
    intro m
    induction m with
    | zero =>
      intro wr n1 u a3 hm hn hu
      have e2 : wr = w := hm
      refine r_iload_2 hK dX0_degree_4 ?_
      refine r_aload_0 hK dX0_degree_5 ?_
      refine r_get hK fl_X0_131 dX0_degree_6 (h0) rfl ?_
      refine r_icmp_ge 55 hK dX0_degree_9 (by omega) (by omega) (fun h9 => ?_) (fun h9 => ?_)
      · refine r_iload_1 hK dX0_degree_55 ?_
        refine r_iret hK hRt dX0_degree_56 ⟨?_, hn, rfl⟩ (by omega)
        rw [e2]
      · omega --!
    | succ m ih =>
      intro wr n1 u a3 hm hn hu
      obtain ⟨T, hT⟩ : ∃ T, T = trF gs wr (rN w) (rN w) := ⟨_, rfl⟩
      have hTl : T < 65536 := by rw [hT]; exact Nat.lt_of_lt_of_le (trF_lt gs wr (rN w) (rN w)) (rN_le (k := 16) (by omega))
      have hd16 : ∀ s, s ≤ 16 → dgS T (dgW gs (rN w) wr) s ≤ 100 := fun s _ => by
        have h1 := dgS_le T (dgW gs (rN w) wr) s
        have h2 := dgW_le gs (rN w) wr
        omega
      have ip : ∀ (d s n2 u2 : Nat), s + d = rN w → n ≤ n2 → u2 ≤ 2176 * wr + 136 * s → Wx K 14 [some (.ref 300), some (zI ((dgS T (dgW gs (rN w) wr) s : Nat) : Int)), some (zI (wr : Int)), some (zI (s : Int))] [] n2 f u2 := by
        intro d
        induction d with
        | zero =>
          intro s n2 u2 hs hn2 hu2
          have es : s = rN w := hs
          refine r_iload_3 hK dX0_degree_14 ?_
          refine r_aload_0 hK dX0_degree_15 ?_
          refine r_pV0 hK (ct_xRows hK.rel h0 hw) lk_X0_151 (Rcv.raw hK.rel h0 rfl) dX0_degree_16 ?_
          refine r_icmp_ge 49 hK dX0_degree_19 (by omega) (by omega) (fun h19 => ?_) (fun h19 => ?_)
          · first | refine r_incN_2 hK dX0_degree_49 ?_ | refine r_iinc_2 hK dX0_degree_49 ?_
            refine r_goto 4 hK dX0_degree_52 ?_
            have := ih (wr + 1) n2 (u2 + 0) (some (zI (s : Int))) (by omega) hn2 (by omega)
            have e3 : dgW gs (rN w) (wr + 1) = dgS T (dgW gs (rN w) wr) s := by rw [es, hT]; rfl
            rw [e3] at this
            exact this
          · omega --!
        | succ d ihd =>
          intro s n2 u2 hs hn2 hu2
          have e : dgS T (dgW gs (rN w) wr) (s + 1) = if T.testBit s = true ∧ dgS T (dgW gs (rN w) wr) s < bits s then bits s else dgS T (dgW gs (rN w) wr) s := rfl
          have hdl := hd16 s (by omega)
          have hbs := bits_le s
          refine r_iload_3 hK dX0_degree_14 ?_
          refine r_aload_0 hK dX0_degree_15 ?_
          refine r_pV0 hK (ct_xRows hK.rel h0 hw) lk_X0_151 (Rcv.raw hK.rel h0 rfl) dX0_degree_16 ?_
          refine r_icmp_ge 49 hK dX0_degree_19 (by omega) (by omega) (fun h19 => ?_) (fun h19 => ?_)
          · omega --!
          · refine r_aload_0 hK dX0_degree_22 ?_
            refine r_iload_2 hK dX0_degree_23 ?_
            refine r_callV1 hK (ct_xTerms hK.rel hQ hXK h0 hw hc ho (z := (wr : Int)) (by omega)) lk_X0_336 (Rcv.raw hK.rel h0 rfl) dX0_degree_24 (fun q n3 f3 hp => ?_) (hu := by omega)
            obtain ⟨rfl, hn3, rfl⟩ := hp
            rw [if_pos (by omega), show ((wr : Nat) : Int).toNat = wr from rfl, ← hT]
            refine r_iload_3 hK dX0_degree_27 ?_
            refine r_pS2 hK (ct_has0 hK.rel (by omega) (by omega)) lk_X0_182 dX0_degree_28 ?_
            refine r_ifB_eq 43 hK dX0_degree_31 (fun h31 => ?_) (fun h31 => ?_)
            · rw [if_neg (fun z => h31 z.1)] at e
              first | refine r_incN_3 hK dX0_degree_43 ?_ | refine r_iinc_3 hK dX0_degree_43 ?_
              refine r_goto 14 hK dX0_degree_46 ?_
              have := ihd (s + 1) n3 (u2 + 136) (by omega) (by omega) (by omega)
              rw [e] at this
              exact this
            · refine r_iload_1 hK dX0_degree_34 ?_
              refine r_iload_3 hK dX0_degree_35 ?_
              refine r_pS1 hK (ct_many0 hK.rel (by omega)) lk_X0_254 dX0_degree_36 ?_
              refine r_mmax hK lk_X0_280 dX0_degree_39 (by omega) (by omega) ?_
              have em : max (dgS T (dgW gs (rN w) wr) s) (bits s) = dgS T (dgW gs (rN w) wr) (s + 1) := by
                rw [e]
                by_cases z : dgS T (dgW gs (rN w) wr) s < bits s
                · rw [if_pos ⟨h31, z⟩]; omega
                · rw [if_neg (fun y => z y.2)]; omega
              rw [em]
              refine r_istore_1 hK dX0_degree_42 ?_
              first | refine r_incN_3 hK dX0_degree_43 ?_ | refine r_iinc_3 hK dX0_degree_43 ?_
              refine r_goto 14 hK dX0_degree_46 ?_
              exact ihd (s + 1) n3 (u2 + 136) (by omega) (by omega) (by omega)
      refine r_iload_2 hK dX0_degree_4 ?_
      refine r_aload_0 hK dX0_degree_5 ?_
      refine r_get hK fl_X0_131 dX0_degree_6 (h0) rfl ?_
      refine r_icmp_ge 55 hK dX0_degree_9 (by omega) (by omega) (fun h9 => ?_) (fun h9 => ?_)
      · omega --!
      · refine r_iconstN (c := 0) hK dX0_degree_12 ?_
        refine r_istore_3 hK dX0_degree_13 ?_
        exact ip (rN w) 0 n1 _ (by omega) hn (by omega)
  refine r_iconstN (c := 0) hK dX0_degree_0 ?_
  refine r_istore_1 hK dX0_degree_1 ?_
  refine r_iconstN (c := 0) hK dX0_degree_2 ?_
  refine r_istore_2 hK dX0_degree_3 ?_
  exact lp w 0 n 0 none (by omega) (Nat.le_refl _) (by omega)
