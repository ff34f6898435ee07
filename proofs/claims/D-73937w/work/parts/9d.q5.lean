set_option maxRecDepth 100000
/-! ===== BackLogic: touched rows, slots counted, count, gate ===== -/
theorem KE.up1 {f : Hp} {k : Nat} {e : E_} (hk : k < 392) (hng : ∀ q, f k ≠ some (cG q)) : KE [k] f (up f k e) := by
  refine ⟨fun id q h => ?_, fun id e' a h => ?_, fun id a b => up_n (fun z => b (by rw [z]; exact List.mem_singleton.mpr rfl))⟩
  · rw [up_n (fun z => hng q (by rw [← z]; exact h))]; exact h
  · rw [up_n (by omega)]; exact h
theorem sen_z {gs : List Gt} {x f : Nat} : senF gs x (f + 1) = 0 ↔ senF gs x f = 0 ∧ stkRun gs (f / 2) (f % 2) x = run gs x := by
  show (if stkRun gs (f / 2) (f % 2) x = run gs x then senF gs x f else senF gs x f ||| (1 <<< f)) = 0 ↔ _
  by_cases c : stkRun gs (f / 2) (f % 2) x = run gs x
  · rw [if_pos c]; exact ⟨fun h => ⟨h, c⟩, fun h => h.1⟩
  · rw [if_neg c]
    refine ⟨fun h => ?_, fun h => absurd h.2 c⟩
    exfalso
    have h2 : (senF gs x f ||| (1 <<< f)).testBit f = false := by rw [h]; exact Nat.zero_testBit _
    rw [Nat.testBit_or, Nat.one_shiftLeft, Nat.testBit_two_pow] at h2
    simp at h2
theorem sen_z2 {gs : List Gt} {x wr : Nat} : senF gs x (2 * (wr + 1)) = 0 ↔ senF gs x (2 * wr) = 0 ∧ stkRun gs wr 0 x = run gs x ∧ stkRun gs wr 1 x = run gs x := by
  rw [show 2 * (wr + 1) = 2 * wr + 1 + 1 by omega, sen_z, sen_z, show 2 * wr / 2 = wr by omega, show 2 * wr % 2 = 0 by omega, show (2 * wr + 1) / 2 = wr by omega, show (2 * wr + 1) % 2 = 1 by omega]
  exact and_assoc
set_option maxHeartbeats 4000000 in
theorem ct_xTouched {G : GT} {Rel : Nat → Hp → Hp → Prop} (hR : RelOK Rel) (hP : Rel = RelP) (hX : GX G) {n : Nat} {f : Hp} {pl : Int} {w : Nat} {l : List Nat} {gs : List Gt} (h0 : f 300 = some (x0C pl w)) (hw : w ≤ 4) (hc : CC f 318 319 l gs) (ho : ∀ q ∈ gs, gok 4 q) : Ct G Rel yX0_touched cX0_touched 4 (some .int) (8) (256) [.ref 300] n (f) (Pg (zI ((seF gs w (rN w) : Nat) : Int)) n f) := by
  refine ct_intro [some (.ref 300), none, none, none] hR rfl (Nat.le_of_ble_eq_true rfl) ?_
  intro K hG hRel hK hRt hnm
  have hQ : kRel K = RelP := by rw [hRel]; exact hP
  have hXK : GX (kG K) := by rw [hG]; exact hX
  have h4 := rN4 hw
  have hb : ∀ q ∈ gs, gB q := fun q hq => (ho q hq).gB (by omega)
  have lp : ∀ (m x n1 u : Nat) a3, x + m = rN w → n ≤ n1 → u ≤ 16 * x → Wx K 4 [some (.ref 300), some (zI ((seF gs w x : Nat) : Int)), some (zI (x : Int)), a3] [] n1 f u := by
    intro m
    induction m with
    | zero =>
      intro x n1 u a3 hm hn hu
      have e2 : x = rN w := hm
      refine r_iload_2 hK dX0_touched_4 ?_
      refine r_aload_0 hK dX0_touched_5 ?_
      refine r_pV0 hK (ct_xRows hK.rel h0 hw) lk_X0_151 (Rcv.raw hK.rel h0 rfl) dX0_touched_6 ?_
      refine r_icmp_ge 76 hK dX0_touched_9 (by omega) (by omega) (fun h9 => ?_) (fun h9 => ?_)
      · refine r_iload_1 hK dX0_touched_76 ?_
        refine r_iret hK hRt dX0_touched_77 ⟨?_, hn, rfl⟩ (by omega)
        rw [e2]
      · omega --!
    | succ m ih =>
      intro x n1 u a3 hm hn hu
      have hx16 : x < 16 := by omega
      have hrun : run gs x < 16 := run_lt (w := 4) (fun g h => (ho g h).1) hx16
      have ip : ∀ (d wr n2 u2 : Nat), wr + d = w → n ≤ n2 → u2 ≤ 16 * x + 4 * wr → Wx K 14 [some (.ref 300), some (zI ((if senF gs x (2 * wr) = 0 then seF gs w x else seF gs w x ||| (1 <<< x) : Nat) : Int)), some (zI (x : Int)), some (zI (wr : Int))] [] n2 f u2 := by
        intro d
        induction d with
        | zero =>
          intro wr n2 u2 hd hn2 hu2
          have ew : wr = w := hd
          refine r_iload_3 hK dX0_touched_14 ?_
          refine r_aload_0 hK dX0_touched_15 ?_
          refine r_get hK fl_X0_131 dX0_touched_16 (h0) rfl ?_
          refine r_icmp_ge 70 hK dX0_touched_19 (by omega) (by omega) (fun h19 => ?_) (fun h19 => ?_)
          · first | refine r_incN_2 hK dX0_touched_70 ?_ | refine r_iinc_2 hK dX0_touched_70 ?_
            refine r_goto 4 hK dX0_touched_73 ?_
            have := ih (x + 1) n2 u2 (some (zI (wr : Int))) (by omega) hn2 (by omega)
            have e3 : seF gs w (x + 1) = if senF gs x (2 * wr) = 0 then seF gs w x else seF gs w x ||| (1 <<< x) := by rw [ew]; rfl
            rw [e3] at this
            exact this
          · omega --!
        | succ d ihd =>
          intro wr n2 u2 hd hn2 hu2
          have s0 := stkR_lt (wr := wr) (b := 0) ho hx16 (by omega) (by decide)
          have s1 := stkR_lt (wr := wr) (b := 1) ho hx16 (by omega) (by decide)
          have hz := sen_z2 (gs := gs) (x := x) (wr := wr)
          have bad : ∀ n3 u3, n ≤ n3 → u3 ≤ 16 * x + 4 * (wr + 1) → ¬ (stkRun gs wr 0 x = run gs x ∧ stkRun gs wr 1 x = run gs x) → Wx K 58 [some (.ref 300), some (zI ((if senF gs x (2 * wr) = 0 then seF gs w x else seF gs w x ||| (1 <<< x) : Nat) : Int)), some (zI (x : Int)), some (zI (wr : Int))] [] n3 f u3 := by
            intro n3 u3 hn3 hu3 hno
            have e5 : (if senF gs x (2 * wr) = 0 then seF gs w x else seF gs w x ||| (1 <<< x)) ||| (1 <<< x) = if senF gs x (2 * (wr + 1)) = 0 then seF gs w x else seF gs w x ||| (1 <<< x) := by
              rw [if_neg (fun q => hno (hz.mp q).2)]
              split
              · rfl
              · rw [Nat.or_assoc, Nat.or_self]
            refine r_iload_1 hK dX0_touched_58 ?_
            refine r_iconstN (c := 1) hK dX0_touched_59 ?_
            refine r_iload_2 hK dX0_touched_60 ?_
            refine r_ishl hK dX0_touched_61 (by omega) (sh1 (by omega)) ?_
            refine r_ior hK dX0_touched_62 ?_
            rw [e5]
            refine r_istore_1 hK dX0_touched_63 ?_
            first | refine r_incN_3 hK dX0_touched_64 ?_ | refine r_iinc_3 hK dX0_touched_64 ?_
            refine r_goto 14 hK dX0_touched_67 ?_
            exact ihd (wr + 1) n3 u3 (by omega) hn3 (by omega)
          refine r_iload_3 hK dX0_touched_14 ?_
          refine r_aload_0 hK dX0_touched_15 ?_
          refine r_get hK fl_X0_131 dX0_touched_16 (h0) rfl ?_
          refine r_icmp_ge 70 hK dX0_touched_19 (by omega) (by omega) (fun h19 => ?_) (fun h19 => ?_)
          · omega --!
          · refine r_aload_0 hK dX0_touched_22 ?_
            refine r_iload_2 hK dX0_touched_23 ?_
            refine r_iload_3 hK dX0_touched_24 ?_
            refine r_iconstN (c := 0) hK dX0_touched_25 ?_
            refine r_callV3 hK (ct_xStuck0 hQ hXK h0 hc hb (x := x) (wr := wr) (by omega) (by omega)) lk_X0_318 (Rcv.raw hK.rel h0 rfl) dX0_touched_26 (fun r n3 f3 hp => ?_) (hu := by omega)
            obtain ⟨rfl, hn3, rfl⟩ := hp
            refine r_aload_0 hK dX0_touched_29 ?_
            refine r_get hK fl_X0_41 dX0_touched_30 (h0) rfl ?_
            refine r_iload_2 hK dX0_touched_33 ?_
            refine r_callV1 hK (ct_cMade hK.rel hQ hXK hc hb (x := x) (by omega)) lk_X0_271 (Rcv.raw hK.rel hc.1 rfl) dX0_touched_34 (fun r n4 f4 hp => ?_) (hu := by omega)
            obtain ⟨rfl, hn4, rfl⟩ := hp
            refine r_icmp_ne 58 hK dX0_touched_37 (by omega) (by omega) (fun h37 => ?_) (fun h37 => ?_)
            · exact bad n4 (u2 + 1 + 1) (by omega) (by omega) (fun q => h37 (by rw [q.1])) --!
            · refine r_aload_0 hK dX0_touched_40 ?_
              refine r_iload_2 hK dX0_touched_41 ?_
              refine r_iload_3 hK dX0_touched_42 ?_
              refine r_iconstN (c := 1) hK dX0_touched_43 ?_
              refine r_callV3 hK (ct_xStuck1 hQ hXK h0 hc hb (x := x) (wr := wr) (by omega) (by omega)) lk_X0_318 (Rcv.raw hK.rel h0 rfl) dX0_touched_44 (fun r n5 f5 hp => ?_) (hu := by omega)
              obtain ⟨rfl, hn5, rfl⟩ := hp
              refine r_aload_0 hK dX0_touched_47 ?_
              refine r_get hK fl_X0_41 dX0_touched_48 (h0) rfl ?_
              refine r_iload_2 hK dX0_touched_51 ?_
              refine r_callV1 hK (ct_cMade hK.rel hQ hXK hc hb (x := x) (by omega)) lk_X0_271 (Rcv.raw hK.rel hc.1 rfl) dX0_touched_52 (fun r n6 f6 hp => ?_) (hu := by omega)
              obtain ⟨rfl, hn6, rfl⟩ := hp
              refine r_icmp_eq 64 hK dX0_touched_55 (by omega) (by omega) (fun h55 => ?_) (fun h55 => ?_)
              · have e6 : (senF gs x (2 * (wr + 1)) = 0) = (senF gs x (2 * wr) = 0) := propext ⟨fun q => (hz.mp q).1, fun q => hz.mpr ⟨q, by omega, by omega⟩⟩
                first | refine r_incN_3 hK dX0_touched_64 ?_ | refine r_iinc_3 hK dX0_touched_64 ?_
                refine r_goto 14 hK dX0_touched_67 ?_
                have := ihd (wr + 1) n6 (u2 + 1 + 1 + 1 + 1) (by omega) (by omega) (by omega)
                simp only [e6] at this
                exact this
              · exact bad n6 (u2 + 1 + 1 + 1 + 1) (by omega) (by omega) (fun q => h55 (by rw [q.2])) --!
      refine r_iload_2 hK dX0_touched_4 ?_
      refine r_aload_0 hK dX0_touched_5 ?_
      refine r_pV0 hK (ct_xRows hK.rel h0 hw) lk_X0_151 (Rcv.raw hK.rel h0 rfl) dX0_touched_6 ?_
      refine r_icmp_ge 76 hK dX0_touched_9 (by omega) (by omega) (fun h9 => ?_) (fun h9 => ?_)
      · omega --!
      · refine r_iconstN (c := 0) hK dX0_touched_12 ?_
        refine r_istore_3 hK dX0_touched_13 ?_
        exact ip w 0 n1 _ (by omega) hn (by omega)
  refine r_iconstN (c := 0) hK dX0_touched_0 ?_
  refine r_istore_1 hK dX0_touched_1 ?_
  refine r_iconstN (c := 0) hK dX0_touched_2 ?_
  refine r_istore_2 hK dX0_touched_3 ?_
  exact lp (rN w) 0 n 0 none (by omega) (Nat.le_refl _) (by omega)
def oN (o : Option (List Gt)) : Nat := match o with
  | none => 0
  | some _ => 1
def hmF (sl : Nat → Option (List Gt)) : Nat → Nat
  | 0 => 0
  | k + 1 => hmF sl k + oN (sl k)
set_option maxHeartbeats 4000000 in
theorem ct_xHeld {G : GT} {Rel : Nat → Hp → Hp → Prop} (hR : RelOK Rel) {n : Nat} {f : Hp} {pl : Int} {w : Nat} {sl : Nat → Option (List Gt)} (h0 : f 300 = some (x0C pl w)) (hs : Ws f sl) : Ct G Rel yX0_heldMany cX0_heldMany 3 (some .int) (1) (0) [.ref 300] n (f) (Pu (zI ((hmF sl 3 : Nat) : Int)) n f) := by
  refine ct_intro [some (.ref 300), none, none] hR rfl (Nat.le_of_ble_eq_true rfl) ?_
  intro K hG hRel hK hRt hnm
  obtain ⟨hv, hs1, hs2⟩ := hs
  have lp : ∀ (m k : Nat), k + m = 3 → Wx K 4 [some (.ref 300), some (zI ((hmF sl k : Nat) : Int)), some (zI (k : Int))] [] n f 0 := by
    intro m
    induction m with
    | zero =>
      intro k hk
      have ek : k = 3 := hk
      subst ek
      refine r_iload_2 hK dX0_heldMany_4 ?_
      refine r_iconstN (c := 3) hK dX0_heldMany_5 ?_
      refine r_icmp_ge 32 hK dX0_heldMany_6 (by omega) (by omega) (fun h6 => ?_) (fun h6 => ?_)
      · refine r_iload_1 hK dX0_heldMany_32 ?_
        exact r_iret hK hRt dX0_heldMany_33 ⟨rfl, rfl, rfl⟩
      · omega --!
    | succ m ih =>
      intro k hk
      have e : hmF sl (k + 1) = hmF sl k + oN (sl k) := rfl
      rcases hs2 k (by omega) with ⟨z1, z2⟩ | ⟨c, g, z1, z2, z3⟩
      · rw [z1] at e
        refine r_iload_2 hK dX0_heldMany_4 ?_
        refine r_iconstN (c := 3) hK dX0_heldMany_5 ?_
        refine r_icmp_ge 32 hK dX0_heldMany_6 (by omega) (by omega) (fun h6 => ?_) (fun h6 => ?_)
        · omega --!
        · refine r_iload_1 hK dX0_heldMany_9 ?_
          refine r_aload_0 hK dX0_heldMany_10 ?_
          refine r_get hK fl_X0_83 dX0_heldMany_11 (h0) rfl ?_
          refine r_iload_2 hK dX0_heldMany_14 ?_
          refine r_aald hK dX0_heldMany_15 hs1 (by omega) ?_
          rw [z2]
          refine r_ifnullN 23 hK dX0_heldMany_16 ?_
          refine r_iconstN (c := 0) hK dX0_heldMany_23 ?_
          refine r_iaddN hK dX0_heldMany_24 ?_
          refine r_istore_1 hK dX0_heldMany_25 ?_
          first | refine r_incN_2 hK dX0_heldMany_26 ?_ | refine r_iinc_2 hK dX0_heldMany_26 ?_
          refine r_goto 4 hK dX0_heldMany_29 ?_
          have := ih (k + 1) (by omega)
          rw [e] at this
          exact this
      · rw [z2] at e
        refine r_iload_2 hK dX0_heldMany_4 ?_
        refine r_iconstN (c := 3) hK dX0_heldMany_5 ?_
        refine r_icmp_ge 32 hK dX0_heldMany_6 (by omega) (by omega) (fun h6 => ?_) (fun h6 => ?_)
        · omega --!
        · refine r_iload_1 hK dX0_heldMany_9 ?_
          refine r_aload_0 hK dX0_heldMany_10 ?_
          refine r_get hK fl_X0_83 dX0_heldMany_11 (h0) rfl ?_
          refine r_iload_2 hK dX0_heldMany_14 ?_
          refine r_aald hK dX0_heldMany_15 hs1 (by omega) ?_
          rw [z1]
          refine r_ifnull hK dX0_heldMany_16 ?_
          refine r_iconstN (c := 1) hK dX0_heldMany_19 ?_
          refine r_goto 24 hK dX0_heldMany_20 ?_
          refine r_iaddN hK dX0_heldMany_24 ?_
          refine r_istore_1 hK dX0_heldMany_25 ?_
          first | refine r_incN_2 hK dX0_heldMany_26 ?_ | refine r_iinc_2 hK dX0_heldMany_26 ?_
          refine r_goto 4 hK dX0_heldMany_29 ?_
          have := ih (k + 1) (by omega)
          rw [e] at this
          exact this
  refine r_iconstN (c := 0) hK dX0_heldMany_0 ?_
  refine r_istore_1 hK dX0_heldMany_1 ?_
  refine r_iconstN (c := 0) hK dX0_heldMany_2 ?_
  refine r_istore_2 hK dX0_heldMany_3 ?_
  exact lp 3 0 rfl
theorem WO.lev {f : Hp} {w : Nat} {gs : List Gt} {pa : List (List Gt)} {sl : Nat → Option (List Gt)} {ni no : Nat} {v p : Nat → Nat} {tp : Nat} {T : Nat → Nat} {pl : Int} (h : WO f w gs pa sl ni no v p tp T pl) (hh : Nat → Value) : KE [356] f (up f 356 (.inr (0, 16, hh))) ∧ WO (up f 356 (.inr (0, 16, hh))) w gs pa sl ni no v p tp T pl := by
  have hk : KE [356] f (up f 356 (.inr (0, 16, hh))) := KE.up1 (by decide) (fun q => h.ng (by decide) q)
  refine ⟨hk, h.ke hk (fun x hx => by have := List.mem_singleton.mp hx; omega) (Or.inl (by decide)) (Or.inl (fun x _ _ z => by have := List.mem_singleton.mp z; omega)) (Or.inl (fun x _ _ z => by have := List.mem_singleton.mp z; omega)) (Or.inl (fun x _ _ z => by have := List.mem_singleton.mp z; omega)) (Or.inr ?_)⟩
  obtain ⟨⟨a, h1⟩, ⟨b, h2⟩, -, d, h4⟩ := h.2.2.2.2.2.2.2.2.2.2.2
  exact ⟨⟨a, (up_n (by decide)).trans h1⟩, ⟨b, (up_n (by decide)).trans h2⟩, ⟨hh, up_s _ _ _⟩, d, (up_n (by decide)).trans h4⟩
set_option maxHeartbeats 4000000 in
theorem ct_xCount {G : GT} {Rel : Nat → Hp → Hp → Prop} (hR : RelOK Rel) (hP : Rel = RelP) (hX : GX G) {n : Nat} {f : Hp} {w : Nat} {gs : List Gt} {pa : List (List Gt)} {sl : Nat → Option (List Gt)} {ni no : Nat} {v p : Nat → Nat} {tp : Nat} {T : Nat → Nat} {pl z : Int} (hz : inR z) (h : WO f w gs pa sl ni no v p tp T pl) (hw : w ≤ 4) (ho : ∀ q ∈ gs, gok w q) (hl16 : gs.length ≤ 16) : Ct G Rel yX0_count cX0_count 2 (some .int) (10) (8704) [.ref 300, zI z] n (f) (Qw (zI (cntS w gs p tp pa.length (hmF sl 3) z)) [356] n f (fun f' => WO f' w gs pa sl ni no v p tp T pl)) := by
  refine ct_intro [some (.ref 300), some (zI z)] hR rfl (Nat.le_of_ble_eq_true rfl) ?_
  intro K hG hRel hK hRt hnm
  have hQ : kRel K = RelP := by rw [hRel]; exact hP
  have hXK : GX (kG K) := by rw [hG]; exact hX
  have ho4 : ∀ g ∈ gs, gok 4 g := fun g hg => gok4 hw (ho g hg)
  have hb : ∀ q ∈ gs, gB q := fun q hq => (ho4 q hq).gB (by omega)
  obtain ⟨h0, hPW, ⟨l, hc⟩, hCT, ⟨lp, hp1, hp2, hp3⟩, hs, ⟨hpr, hpr1, hpr2⟩, hWt, hWf, hWsh, hWte, hWa⟩ := id h
  obtain ⟨mn, hO⟩ := hPW.2.2.1
  obtain ⟨-, -, ⟨lv, hlv⟩, -⟩ := hWa
  have hk := KE.rf [356] f
  refine r_iload_1 hK dX0_count_0 ?_
  have hsw : z = 0 ∨ z = 1 ∨ z = 2 ∨ z = 3 ∨ z = 4 ∨ z = 5 ∨ z = 6 ∨ z = 7 ∨ z = 8 ∨ z = 9 ∨ z = 10 ∨ z = 11 ∨ z = 12 ∨ z = 13 ∨ z = 14 ∨ z = 15 ∨ z = 16 ∨ (z < 0 ∨ 16 < z) := by omega
  rcases hsw with rfl | rfl | rfl | rfl | rfl | rfl | rfl | rfl | rfl | rfl | rfl | rfl | rfl | rfl | rfl | rfl | rfl | hsw
  · refine r_tabIn 84 hK dX0_count_1 (by decide) (by decide) (by decide) rfl rfl ?_
    refine r_aload_0 hK dX0_count_84 ?_
    refine r_get hK fl_X0_131 dX0_count_85 (h0) rfl ?_
    exact r_iret hK hRt dX0_count_88 ⟨by unfold cntS; rw [if_neg (by omega), if_pos rfl], Nat.le_refl _, hk, h⟩
  · refine r_tabIn 89 hK dX0_count_1 (by decide) (by decide) (by decide) rfl rfl ?_
    refine r_aload_0 hK dX0_count_89 ?_
    refine r_get hK fl_X0_41 dX0_count_90 (h0) rfl ?_
    refine r_pV0 hK (ct_cSize hK.rel hQ hXK hc) lk_X0_174 (Rcv.raw hK.rel hc.1 rfl) dX0_count_93 ?_
    exact r_iret hK hRt dX0_count_96 ⟨rfl, Nat.le_refl _, hk, h⟩
  · refine r_tabIn 97 hK dX0_count_1 (by decide) (by decide) (by decide) rfl rfl ?_
    refine r_aload_0 hK dX0_count_97 ?_
    refine r_pV0 hK (ct_xCost hK.rel hQ hXK h0 hc ho4 hl16 hpr1 hpr2) lk_X0_375 (Rcv.raw hK.rel h0 rfl) dX0_count_98 ?_
    exact r_iret hK hRt dX0_count_101 ⟨rfl, Nat.le_refl _, hk, h⟩
  · refine r_tabIn 102 hK dX0_count_1 (by decide) (by decide) (by decide) rfl rfl ?_
    refine r_aload_0 hK dX0_count_102 ?_
    refine r_get hK fl_X0_41 dX0_count_103 (h0) rfl ?_
    refine r_aload_0 hK dX0_count_106 ?_
    refine r_get hK fl_X0_97 dX0_count_107 (h0) rfl ?_
    refine r_callV1 hK (ct_cLevels hK.rel hQ hXK hc hl16 ho4 hlv (by decide) (by decide)) lk_X0_257 (Rcv.raw hK.rel hc.1 rfl) dX0_count_110 (fun r n1 f1 hp => ?_)
    obtain ⟨rfl, rfl, rfl⟩ := hp
    exact r_iret hK hRt dX0_count_113 ⟨rfl, Nat.le_refl _, (h.lev _).1, (h.lev _).2⟩
  · refine r_tabIn 114 hK dX0_count_1 (by decide) (by decide) (by decide) rfl rfl ?_
    refine r_aload_0 hK dX0_count_114 ?_
    refine r_pV0 hK (ct_xAgreeing hK.rel hQ hXK h0 hw hc ho hl16) lk_X0_378 (Rcv.raw hK.rel h0 rfl) dX0_count_115 ?_
    exact r_iret hK hRt dX0_count_118 ⟨rfl, Nat.le_refl _, hk, h⟩
  · refine r_tabIn 119 hK dX0_count_1 (by decide) (by decide) (by decide) rfl rfl ?_
    refine r_aload_0 hK dX0_count_119 ?_
    refine r_iconstN (c := 0) hK dX0_count_120 ?_
    refine r_pV1 hK (ct_xSum (o := false) hK.rel hQ hXK h0 hc ho4 hl16) lk_X0_381 (Rcv.raw hK.rel h0 rfl) dX0_count_121 ?_
    exact r_iret hK hRt dX0_count_124 ⟨rfl, Nat.le_refl _, hk, h⟩
  · refine r_tabIn 125 hK dX0_count_1 (by decide) (by decide) (by decide) rfl rfl ?_
    refine r_aload_0 hK dX0_count_125 ?_
    refine r_get hK fl_X0_25 dX0_count_126 (h0) rfl ?_
    refine r_get hK fl_X0_107 dX0_count_129 (hO) rfl ?_
    exact r_iret hK hRt dX0_count_132 ⟨rfl, Nat.le_refl _, hk, h⟩
  · refine r_tabIn 133 hK dX0_count_1 (by decide) (by decide) (by decide) rfl rfl ?_
    refine r_aload_0 hK dX0_count_133 ?_
    refine r_get hK fl_X0_79 dX0_count_134 (h0) rfl ?_
    refine r_pV0 hK (pd_size hQ hp1) lk_X0_159 (rcv_ad hQ hp1) dX0_count_137 ?_
    exact r_iret hK hRt dX0_count_140 ⟨by rw [hp2]; rfl, Nat.le_refl _, hk, h⟩
  · refine r_tabIn 141 hK dX0_count_1 (by decide) (by decide) (by decide) rfl rfl ?_
    refine r_aload_0 hK dX0_count_141 ?_
    refine r_pV0 hK (ct_xHeld hK.rel h0 hs) lk_X0_385 (Rcv.raw hK.rel h0 rfl) dX0_count_142 ?_
    exact r_iret hK hRt dX0_count_145 ⟨rfl, Nat.le_refl _, hk, h⟩
  · refine r_tabIn 146 hK dX0_count_1 (by decide) (by decide) (by decide) rfl rfl ?_
    refine r_aload_0 hK dX0_count_146 ?_
    refine r_get hK fl_X0_87 dX0_count_147 (h0) rfl ?_
    refine r_iload_1 hK dX0_count_150 ?_
    refine r_bipushN (c := 9) hK dX0_count_151 ?_
    refine r_isub hK dX0_count_153 ?_
    refine r_iald (i := 0) hK dX0_count_154 hpr1 (by omega) ?_
    rw [hpr2 0 (by decide)]
    exact r_iret hK hRt dX0_count_155 ⟨rfl, Nat.le_refl _, hk, h⟩
  · refine r_tabIn 146 hK dX0_count_1 (by decide) (by decide) (by decide) rfl rfl ?_
    refine r_aload_0 hK dX0_count_146 ?_
    refine r_get hK fl_X0_87 dX0_count_147 (h0) rfl ?_
    refine r_iload_1 hK dX0_count_150 ?_
    refine r_bipushN (c := 9) hK dX0_count_151 ?_
    refine r_isub hK dX0_count_153 ?_
    refine r_iald (i := 1) hK dX0_count_154 hpr1 (by omega) ?_
    rw [hpr2 1 (by decide)]
    exact r_iret hK hRt dX0_count_155 ⟨rfl, Nat.le_refl _, hk, h⟩
  · refine r_tabIn 146 hK dX0_count_1 (by decide) (by decide) (by decide) rfl rfl ?_
    refine r_aload_0 hK dX0_count_146 ?_
    refine r_get hK fl_X0_87 dX0_count_147 (h0) rfl ?_
    refine r_iload_1 hK dX0_count_150 ?_
    refine r_bipushN (c := 9) hK dX0_count_151 ?_
    refine r_isub hK dX0_count_153 ?_
    refine r_iald (i := 2) hK dX0_count_154 hpr1 (by omega) ?_
    rw [hpr2 2 (by decide)]
    exact r_iret hK hRt dX0_count_155 ⟨rfl, Nat.le_refl _, hk, h⟩
  · refine r_tabIn 146 hK dX0_count_1 (by decide) (by decide) (by decide) rfl rfl ?_
    refine r_aload_0 hK dX0_count_146 ?_
    refine r_get hK fl_X0_87 dX0_count_147 (h0) rfl ?_
    refine r_iload_1 hK dX0_count_150 ?_
    refine r_bipushN (c := 9) hK dX0_count_151 ?_
    refine r_isub hK dX0_count_153 ?_
    refine r_iald (i := 3) hK dX0_count_154 hpr1 (by omega) ?_
    rw [hpr2 3 (by decide)]
    exact r_iret hK hRt dX0_count_155 ⟨rfl, Nat.le_refl _, hk, h⟩
  · refine r_tabIn 156 hK dX0_count_1 (by decide) (by decide) (by decide) rfl rfl ?_
    refine r_aload_0 hK dX0_count_156 ?_
    refine r_iconstN (c := 1) hK dX0_count_157 ?_
    refine r_pV1 hK (ct_xSum (o := true) hK.rel hQ hXK h0 hc ho4 hl16) lk_X0_381 (Rcv.raw hK.rel h0 rfl) dX0_count_158 ?_
    exact r_iret hK hRt dX0_count_161 ⟨rfl, Nat.le_refl _, hk, h⟩
  · refine r_tabIn 162 hK dX0_count_1 (by decide) (by decide) (by decide) rfl rfl ?_
    refine r_aload_0 hK dX0_count_162 ?_
    refine r_callV0 hK (ct_xTouched hK.rel hQ hXK h0 hw hc ho4) lk_X0_388 (Rcv.raw hK.rel h0 rfl) dX0_count_163 (fun r n1 f1 hp => ?_)
    obtain ⟨rfl, hn1, rfl⟩ := hp
    exact r_iret hK hRt dX0_count_166 ⟨rfl, hn1, hk, h⟩
  · refine r_tabIn 167 hK dX0_count_1 (by decide) (by decide) (by decide) rfl rfl ?_
    refine r_aload_0 hK dX0_count_167 ?_
    refine r_callV0 hK (ct_xDegree hK.rel hQ hXK h0 hw hc ho4) lk_X0_391 (Rcv.raw hK.rel h0 rfl) dX0_count_168 (fun r n1 f1 hp => ?_)
    obtain ⟨rfl, hn1, rfl⟩ := hp
    exact r_iret hK hRt dX0_count_171 ⟨rfl, hn1, hk, h⟩
  · refine r_tabIn 172 hK dX0_count_1 (by decide) (by decide) (by decide) rfl rfl ?_
    refine r_aload_0 hK dX0_count_172 ?_
    refine r_get hK fl_X0_41 dX0_count_173 (h0) rfl ?_
    refine r_pV0 hK (ct_cUnlike hK.rel hQ hXK hc hl16 hb) lk_X0_394 (Rcv.raw hK.rel hc.1 rfl) dX0_count_176 ?_
    exact r_iret hK hRt dX0_count_179 ⟨rfl, Nat.le_refl _, hk, h⟩
  · refine r_tabOut 180 hK dX0_count_1 hz hsw rfl ?_
    refine r_iconst hK dX0_count_180 ?_
    exact r_iret hK hRt dX0_count_181 ⟨by unfold cntS; repeat rw [if_neg (by omega)], Nat.le_refl _, hk, h⟩
set_option maxHeartbeats 4000000 in
theorem ct_xGate {G : GT} {Rel : Nat → Hp → Hp → Prop} (hR : RelOK Rel) (hP : Rel = RelP) (hX : GX G) {n : Nat} {f : Hp} {w : Nat} {gs : List Gt} {pa : List (List Gt)} {sl : Nat → Option (List Gt)} {ni no : Nat} {v p : Nat → Nat} {tp : Nat} {T : Nat → Nat} {pl y z : Int} (hy : inR y) (hz : inR z) (h : WO f w gs pa sl ni no v p tp T pl) (hw : w ≤ 4) (ho : ∀ q ∈ gs, gok w q) (hl16 : gs.length ≤ 16) : Ct G Rel yX0_gate cX0_gate 4 (some .int) (6) (0) [.ref 300, zI y, zI z] n (f) (Qw (zI (gateS w gs p y z)) [356] n f (fun f' => WO f' w gs pa sl ni no v p tp T pl)) := by
  refine ct_intro [some (.ref 300), some (zI y), some (zI z), none] hR rfl (Nat.le_of_ble_eq_true rfl) ?_
  intro K hG hRel hK hRt hnm
  have hQ : kRel K = RelP := by rw [hRel]; exact hP
  have hXK : GX (kG K) := by rw [hG]; exact hX
  have ho4 : ∀ g ∈ gs, gok 4 g := fun g hg => gok4 hw (ho g hg)
  obtain ⟨h0, hPW, ⟨l, hc⟩, hCT, ⟨lp, hp1, hp2, hp3⟩, hs, ⟨hpr, hpr1, hpr2⟩, hWt, hWf, hWsh, hWte, hWa⟩ := id h
  obtain ⟨c1, c2, c3, c4⟩ := id hc
  obtain ⟨-, -, ⟨lv, hlv⟩, -⟩ := hWa
  have hk := KE.rf [356] f
  refine r_aload_0 hK dX0_gate_0 ?_
  refine r_get hK fl_X0_41 dX0_gate_1 (h0) rfl ?_
  refine r_iload_1 hK dX0_gate_4 ?_
  refine r_pV1 hK (ct_cIsGate hK.rel hQ hXK hc hy) lk_X0_204 (Rcv.raw hK.rel hc.1 rfl) dX0_gate_5 ?_
  refine r_ifB_ne 13 hK dX0_gate_8 (fun h8 => ?_) (fun h8 => ?_)
  · obtain ⟨k, rfl⟩ : ∃ s : Nat, y = (s : Int) := ⟨y.toNat, by omega⟩
    have hkl : k < gs.length := by omega
    have gk := c3.2 k (by rw [c3.1]; omega)
    have hg4 := ho4 _ (gt_mem hkl)
    have hct := ctl_lt hg4
    have h16 : (gt gs k).2.1 ||| (gt gs k).2.2 < 16 := or_lt (w := 4) hg4.2.1 hg4.2.2.1
    have eg : gateS w gs p ((k : Nat) : Int) z = (if z = 0 then ((gt gs k).1 : Int) else if z = 1 then ((gt gs k).2.1 : Int) else if z = 2 then ((gt gs k).2.2 : Int) else if z = 3 then (p (bits ((gt gs k).2.1 ||| (gt gs k).2.2)) : Int) else if z = 4 then (lvT gs gs.length k : Int) else if z = 5 then (frB w gs k k : Int) else if z = 6 then (frA w gs k (gs.length - (k + 1)) : Int) else -1) := by
      unfold gateS; rw [if_pos (by omega)]; rfl
    rw [eg] at hRt
    refine r_aload_0 hK dX0_gate_13 ?_
    refine r_get hK fl_X0_41 dX0_gate_14 (h0) rfl ?_
    refine r_iload_1 hK dX0_gate_17 ?_
    refine r_pV1 hK (ct_cAt hK.rel hQ hXK hc (k := k) (by omega)) lk_X0_247 (Rcv.raw hK.rel hc.1 rfl) dX0_gate_18 ?_
    refine r_astore_3 hK dX0_gate_21 ?_
    refine r_iload_2 hK dX0_gate_22 ?_
    have hsw : z = 0 ∨ z = 1 ∨ z = 2 ∨ z = 3 ∨ z = 4 ∨ z = 5 ∨ z = 6 ∨ (z < 0 ∨ 6 < z) := by omega
    rcases hsw with rfl | rfl | rfl | rfl | rfl | rfl | rfl | hsw
    · refine r_tabIn 64 hK dX0_gate_23 (by decide) (by decide) (by decide) rfl rfl ?_
      refine r_aload_3 hK dX0_gate_64 ?_
      refine r_iload_2 hK dX0_gate_65 ?_
      refine r_pV1 hK (ct_gTold hK.rel gk (by decide)) lk_X0_248 (Rcv.raw hK.rel gk rfl) dX0_gate_66 ?_
      exact r_iret hK hRt dX0_gate_69 ⟨rfl, Nat.le_refl _, hk, h⟩
    · refine r_tabIn 64 hK dX0_gate_23 (by decide) (by decide) (by decide) rfl rfl ?_
      refine r_aload_3 hK dX0_gate_64 ?_
      refine r_iload_2 hK dX0_gate_65 ?_
      refine r_pV1 hK (ct_gTold hK.rel gk (by decide)) lk_X0_248 (Rcv.raw hK.rel gk rfl) dX0_gate_66 ?_
      exact r_iret hK hRt dX0_gate_69 ⟨rfl, Nat.le_refl _, hk, h⟩
    · refine r_tabIn 64 hK dX0_gate_23 (by decide) (by decide) (by decide) rfl rfl ?_
      refine r_aload_3 hK dX0_gate_64 ?_
      refine r_iload_2 hK dX0_gate_65 ?_
      refine r_pV1 hK (ct_gTold hK.rel gk (by decide)) lk_X0_248 (Rcv.raw hK.rel gk rfl) dX0_gate_66 ?_
      exact r_iret hK hRt dX0_gate_69 ⟨rfl, Nat.le_refl _, hk, h⟩
    · refine r_tabIn 70 hK dX0_gate_23 (by decide) (by decide) (by decide) rfl rfl ?_
      refine r_aload_0 hK dX0_gate_70 ?_
      refine r_get hK fl_X0_87 dX0_gate_71 (h0) rfl ?_
      refine r_aload_3 hK dX0_gate_74 ?_
      refine r_pV0 hK (ct_gCtl hK.rel gk) lk_X0_251 (Rcv.raw hK.rel gk rfl) dX0_gate_75 ?_
      refine r_pS1 hK (ct_many0 hK.rel (by omega)) lk_X0_254 dX0_gate_78 ?_
      refine r_iald hK dX0_gate_81 hpr1 (by omega) ?_
      rw [hpr2 _ hct]
      exact r_iret hK hRt dX0_gate_82 ⟨rfl, Nat.le_refl _, hk, h⟩
    · refine r_tabIn 83 hK dX0_gate_23 (by decide) (by decide) (by decide) rfl rfl ?_
      refine r_aload_0 hK dX0_gate_83 ?_
      refine r_get hK fl_X0_41 dX0_gate_84 (h0) rfl ?_
      refine r_aload_0 hK dX0_gate_87 ?_
      refine r_get hK fl_X0_97 dX0_gate_88 (h0) rfl ?_
      refine r_callV1 hK (ct_cLevels hK.rel hQ hXK hc hl16 ho4 hlv (by decide) (by decide)) lk_X0_257 (Rcv.raw hK.rel hc.1 rfl) dX0_gate_91 (fun r n1 f1 hp => ?_)
      obtain ⟨rfl, rfl, rfl⟩ := hp
      refine r_pop hK dX0_gate_94 ?_
      refine r_aload_0 hK dX0_gate_95 ?_
      refine r_get hK fl_X0_97 dX0_gate_96 ((up_n (by decide)).trans h0) rfl ?_
      refine r_iload_1 hK dX0_gate_99 ?_
      refine r_iald hK dX0_gate_100 (up_s _ _ _) (by omega) ?_
      rw [show oA gs.length (lvT gs gs.length) lv k = zI ((lvT gs gs.length k : Nat) : Int) from if_pos hkl]
      exact r_iret hK hRt dX0_gate_101 ⟨rfl, Nat.le_refl _, (h.lev _).1, (h.lev _).2⟩
    · refine r_tabIn 102 hK dX0_gate_23 (by decide) (by decide) (by decide) rfl rfl ?_
      refine r_aload_0 hK dX0_gate_102 ?_
      refine r_get hK fl_X0_41 dX0_gate_103 (h0) rfl ?_
      refine r_iload_1 hK dX0_gate_106 ?_
      refine r_aload_0 hK dX0_gate_107 ?_
      refine r_pV0 hK (ct_xRows hK.rel h0 hw) lk_X0_151 (Rcv.raw hK.rel h0 rfl) dX0_gate_108 ?_
      refine r_pV2 hK (ct_cFree hK.rel hQ hXK hc hkl hl16 hw ho) lk_X0_261 (Rcv.raw hK.rel hc.1 rfl) dX0_gate_111 ?_
      exact r_iret hK hRt dX0_gate_114 ⟨rfl, Nat.le_refl _, hk, h⟩
    · refine r_tabIn 115 hK dX0_gate_23 (by decide) (by decide) (by decide) rfl rfl ?_
      refine r_aload_0 hK dX0_gate_115 ?_
      refine r_get hK fl_X0_41 dX0_gate_116 (h0) rfl ?_
      refine r_iload_1 hK dX0_gate_119 ?_
      refine r_aload_0 hK dX0_gate_120 ?_
      refine r_pV0 hK (ct_xRows hK.rel h0 hw) lk_X0_151 (Rcv.raw hK.rel h0 rfl) dX0_gate_121 ?_
      refine r_pV2 hK (ct_cFreeB hK.rel hQ hXK hc hkl hl16 hw ho) lk_X0_265 (Rcv.raw hK.rel hc.1 rfl) dX0_gate_124 ?_
      exact r_iret hK hRt dX0_gate_127 ⟨rfl, Nat.le_refl _, hk, h⟩
    · refine r_tabOut 128 hK dX0_gate_23 hz hsw rfl ?_
      refine r_iconst hK dX0_gate_128 ?_
      exact r_iret hK hRt dX0_gate_129 ⟨by repeat rw [if_neg (by omega)], Nat.le_refl _, hk, h⟩
  · refine r_iconst hK dX0_gate_11 ?_
    exact r_iret hK hRt dX0_gate_12 ⟨by unfold gateS; rw [if_neg (by omega)], Nat.le_refl _, hk, h⟩
