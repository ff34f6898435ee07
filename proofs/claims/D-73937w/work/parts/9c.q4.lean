set_option maxRecDepth 100000
/-! ===== BackLogic: idle runs, counts ===== -/
theorem run_mid {gs : List Gt} {a k : Nat} (ha : a ≤ k) (hk : k < gs.length) (x : Nat) : run ((gs.take (k + 1)).drop a) x = mk (gt gs k) (run ((gs.take k).drop a) x) := by
  rw [List.take_succ_eq_append_getElem hk, List.drop_append_of_le_length (by rw [List.length_take]; omega)]
  unfold run
  rw [List.foldl_append, gt_at hk]; rfl
set_option maxHeartbeats 4000000 in
theorem ct_xIsIdle {G : GT} {Rel : Nat → Hp → Hp → Prop} (hR : RelOK Rel) (hP : Rel = RelP) (hX : GX G) {n : Nat} {f : Hp} {pl : Int} {w a b : Nat} {l : List Nat} {gs : List Gt} (h0 : f 300 = some (x0C pl w)) (hw : w ≤ 4) (hc : CC f 318 319 l gs) (ho : ∀ q ∈ gs, gok 4 q) (hl16 : gs.length ≤ 16) (hab : a < b) (hbl : b ≤ gs.length) : Ct G Rel yX0_isIdle cX0_isIdle 6 (some .boolean) (5) (0) [.ref 300, zI (a : Int), zI ((b - 1 : Nat) : Int)] n (f) (Pu (zB (idl w gs a b = true)) n f) := by
  refine ct_intro [some (.ref 300), some (zI (a : Int)), some (zI ((b - 1 : Nat) : Int)), none, none, none] hR rfl (Nat.le_of_ble_eq_true rfl) ?_
  intro K hG hRel hK hRt hnm
  have hQ : kRel K = RelP := by rw [hRel]; exact hP
  have hXK : GX (kG K) := by rw [hG]; exact hX
  have h4 := rN4 hw
  obtain ⟨c1, c2, c3, c4⟩ := id hc
  have hsub : ∀ k, ∀ g ∈ (gs.take k).drop a, gok 4 g := fun k g hg => ho g (List.mem_of_mem_take (List.mem_of_mem_drop hg))
  have lp : ∀ (m x : Nat) a4 a5, nl a4 = true → x + m = rN w → (∀ y, y < x → run ((gs.take b).drop a) y = y) → Wx K 2 [some (.ref 300), some (zI (a : Int)), some (zI ((b - 1 : Nat) : Int)), some (zI (x : Int)), a4, a5] [] n f 0 := by
    intro m
    induction m with
    | zero =>
      intro x a4 a5 hna hx hall
      have e : idl w gs a b = true := idl_iff.mpr (fun y hy => hall y (by omega))
      refine r_iload_3 hK dX0_isIdle_2 ?_
      refine r_aload_0 hK dX0_isIdle_3 ?_
      refine r_pV0 hK (ct_xRows hK.rel h0 hw) lk_X0_151 (Rcv.raw hK.rel h0 rfl) dX0_isIdle_4 ?_
      refine r_icmp_ge 58 hK dX0_isIdle_7 (by omega) (by omega) (fun h7 => ?_) (fun h7 => ?_)
      · refine r_iconstN (c := 1) hK dX0_isIdle_58 ?_
        refine r_zret hK hRt dX0_isIdle_59 rfl ⟨?_, rfl, rfl⟩
        rw [zB_t e]; rfl
      · omega --!
    | succ m ih =>
      intro x a4 a5 hna hx hall
      have ip : ∀ (d k : Nat), k + d = b → a ≤ k → Wx K 16 [some (.ref 300), some (zI (a : Int)), some (zI ((b - 1 : Nat) : Int)), some (zI (x : Int)), some (zI ((run ((gs.take k).drop a) x : Nat) : Int)), some (zI (k : Int))] [] n f 0 := by
        intro d
        induction d with
        | zero =>
          intro k hk hak
          have ek : k = b := hk
          subst ek
          have hr : run ((gs.take k).drop a) x < 16 := run_lt (w := 4) (fun g h => (hsub k g h).1) (show x < 16 by omega)
          refine r_iload_5 hK dX0_isIdle_16 ?_
          refine r_iload_2 hK dX0_isIdle_18 ?_
          refine r_icmp_gt 44 hK dX0_isIdle_19 (by omega) (by omega) (fun h19 => ?_) (fun h19 => ?_)
          · refine r_iload_4 hK dX0_isIdle_44 ?_
            refine r_iload_3 hK dX0_isIdle_46 ?_
            refine r_icmp_eq 52 hK dX0_isIdle_47 (by omega) (by omega) (fun h47 => ?_) (fun h47 => ?_)
            · have e5 : run ((gs.take k).drop a) x = x := by omega
              first | refine r_incN_3 hK dX0_isIdle_52 ?_ | refine r_iinc_3 hK dX0_isIdle_52 ?_
              refine r_goto 2 hK dX0_isIdle_55 ?_
              exact ih (x + 1) _ _ rfl (by omega) (fun y hy => by
                by_cases z : y = x
                · rw [z]; exact e5
                · exact hall y (by omega))
            · have e5 : ¬ idl w gs a k = true := fun q => by have := idl_iff.mp q x (by omega); omega
              refine r_iconstN (c := 0) hK dX0_isIdle_50 ?_
              refine r_zret hK hRt dX0_isIdle_51 rfl ⟨?_, rfl, rfl⟩
              rw [zB_f e5]; rfl
          · omega --!
        | succ d ihd =>
          intro k hk hak
          have hr : run ((gs.take k).drop a) x < 16 := run_lt (w := 4) (fun g h => (hsub k g h).1) (show x < 16 by omega)
          have gk := c3.2 k (by rw [c3.1]; omega)
          refine r_iload_5 hK dX0_isIdle_16 ?_
          refine r_iload_2 hK dX0_isIdle_18 ?_
          refine r_icmp_gt 44 hK dX0_isIdle_19 (by omega) (by omega) (fun h19 => ?_) (fun h19 => ?_)
          · omega --!
          · refine r_aload_0 hK dX0_isIdle_22 ?_
            refine r_get hK fl_X0_41 dX0_isIdle_23 (h0) rfl ?_
            refine r_iload_5 hK dX0_isIdle_26 ?_
            refine r_pV1 hK (ct_cAt hK.rel hQ hXK hc (k := k) (by omega)) lk_X0_247 (Rcv.raw hK.rel hc.1 rfl) dX0_isIdle_28 ?_
            refine r_iload_4 hK dX0_isIdle_31 ?_
            refine r_pV1 hK (ct_gMade hK.rel gk ((ho _ (gt_mem (by omega))).gB (by decide)) (by omega)) lk_X0_317 (Rcv.raw hK.rel gk rfl) dX0_isIdle_33 ?_
            refine r_istore_4 hK dX0_isIdle_36 ?_
            first | refine r_incN_5 hK dX0_isIdle_38 ?_ | refine r_iinc_5 hK dX0_isIdle_38 ?_
            refine r_goto 16 hK dX0_isIdle_41 ?_
            rw [← run_mid hak (by omega)]
            exact ihd (k + 1) (by omega) (by omega)
      refine r_iload_3 hK dX0_isIdle_2 ?_
      refine r_aload_0 hK dX0_isIdle_3 ?_
      refine r_pV0 hK (ct_xRows hK.rel h0 hw) lk_X0_151 (Rcv.raw hK.rel h0 rfl) dX0_isIdle_4 ?_
      refine r_icmp_ge 58 hK dX0_isIdle_7 (by omega) (by omega) (fun h7 => ?_) (fun h7 => ?_)
      · omega --!
      · refine r_iload_3 hK dX0_isIdle_10 ?_
        refine r_istore_4 hK dX0_isIdle_11 ?_
        refine r_iload_1 hK dX0_isIdle_13 ?_
        refine r_istore_5 hK dX0_isIdle_14 ?_
        have := ip (b - a) a (by omega) (Nat.le_refl _)
        have e6 : run ((gs.take a).drop a) x = x := by rw [List.drop_eq_nil_of_le (by rw [List.length_take]; omega)]; rfl
        rw [e6] at this
        exact this
  refine r_iconstN (c := 0) hK dX0_isIdle_0 ?_
  refine r_istore_3 hK dX0_isIdle_1 ?_
  exact lp (rN w) 0 none none rfl (by omega) (fun y hy => absurd hy (Nat.not_lt_zero _))
def idS (o : Option (Nat × Nat)) (z : Int) : Int := match o with
  | none => -2
  | some p => if z = 0 then (p.1 : Int) else ((p.1 + p.2 - 1 : Nat) : Int)
set_option maxHeartbeats 4000000 in
theorem ct_xIdle {G : GT} {Rel : Nat → Hp → Hp → Prop} (hR : RelOK Rel) (hP : Rel = RelP) (hX : GX G) {n : Nat} {f : Hp} {pl z : Int} {w : Nat} {l : List Nat} {gs : List Gt} (h0 : f 300 = some (x0C pl w)) (hw : w ≤ 4) (hc : CC f 318 319 l gs) (ho : ∀ q ∈ gs, gok 4 q) (hl16 : gs.length ≤ 16) (hz : inR z) : Ct G Rel yX0_idle cX0_idle 4 (some .int) (6) (0) [.ref 300, zI z] n (f) (Pu (zI (if 0 ≤ z ∧ z ≤ 1 then idS (idA w gs) z else -1)) n f) := by
  refine ct_intro [some (.ref 300), some (zI z), none, none] hR rfl (Nat.le_of_ble_eq_true rfl) ?_
  intro K hG hRel hK hRt hnm
  have hQ : kRel K = RelP := by rw [hRel]; exact hP
  have hXK : GX (kG K) := by rw [hG]; exact hX
  have lp : (0 ≤ z ∧ z ≤ 1) → ∀ (m k : Nat) a3, k + m = gs.length + 1 → 1 ≤ k → idA w gs = idN w gs m → Wx K 13 [some (.ref 300), some (zI z), some (zI (k : Int)), a3] [] n f 0 := by
    intro hz01 m
    rw [if_pos hz01] at hRt
    induction m with
    | zero =>
      intro k a3 hk hk1 he
      refine r_iload_2 hK dX0_idle_13 ?_
      refine r_aload_0 hK dX0_idle_14 ?_
      refine r_get hK fl_X0_41 dX0_idle_15 (h0) rfl ?_
      refine r_pV0 hK (ct_cSize hK.rel hQ hXK hc) lk_X0_174 (Rcv.raw hK.rel hc.1 rfl) dX0_idle_18 ?_
      refine r_icmp_gt 78 hK dX0_idle_21 (by omega) (by omega) (fun h21 => ?_) (fun h21 => ?_)
      · refine r_bipush hK dX0_idle_78 ?_
        refine r_iret hK hRt dX0_idle_80 ⟨?_, rfl, rfl⟩
        rw [he]; rfl
      · omega --!
    | succ m ih =>
      intro k a3 hk hk1 he
      have ek : gs.length - m = k := by omega
      have en : idN w gs (m + 1) = ((idI w gs k (m + 1)).map (fun i => (i, k))).or (idN w gs m) := by
        show ((idI w gs (gs.length - m) (m + 1)).map (fun i => (i, gs.length - m))).or (idN w gs m) = _
        rw [ek]
      rw [en] at he
      have ip : ∀ (d i : Nat), i + d + k = gs.length + 1 → idA w gs = ((idI w gs k d).map (fun i => (i, k))).or (idN w gs m) → Wx K 26 [some (.ref 300), some (zI z), some (zI (k : Int)), some (zI (i : Int))] [] n f 0 := by
        intro d
        induction d with
        | zero =>
          intro i hi he2
          refine r_iload_3 hK dX0_idle_26 ?_
          refine r_iload_2 hK dX0_idle_27 ?_
          first | refine r_iaddN hK dX0_idle_28 ?_ | refine r_iadd hK dX0_idle_28 ?_
          refine r_aload_0 hK dX0_idle_29 ?_
          refine r_get hK fl_X0_41 dX0_idle_30 (h0) rfl ?_
          refine r_pV0 hK (ct_cSize hK.rel hQ hXK hc) lk_X0_174 (Rcv.raw hK.rel hc.1 rfl) dX0_idle_33 ?_
          refine r_icmp_gt 72 hK dX0_idle_36 (by omega) (by omega) (fun h36 => ?_) (fun h36 => ?_)
          · first | refine r_incN_2 hK dX0_idle_72 ?_ | refine r_iinc_2 hK dX0_idle_72 ?_
            refine r_goto 13 hK dX0_idle_75 ?_
            exact ih (k + 1) _ (by omega) (by omega) he2
          · omega --!
        | succ d ihd =>
          intro i hi he2
          have e7 : gs.length + 1 - k - (d + 1) = i := by omega
          have e8 : idI w gs k (d + 1) = if idl w gs i (i + k) then some i else idI w gs k d := by
            show (if idl w gs (gs.length + 1 - k - (d + 1)) (gs.length + 1 - k - (d + 1) + k) then some (gs.length + 1 - k - (d + 1)) else idI w gs k d) = _
            rw [e7]
          refine r_iload_3 hK dX0_idle_26 ?_
          refine r_iload_2 hK dX0_idle_27 ?_
          first | refine r_iaddN hK dX0_idle_28 ?_ | refine r_iadd hK dX0_idle_28 ?_
          refine r_aload_0 hK dX0_idle_29 ?_
          refine r_get hK fl_X0_41 dX0_idle_30 (h0) rfl ?_
          refine r_pV0 hK (ct_cSize hK.rel hQ hXK hc) lk_X0_174 (Rcv.raw hK.rel hc.1 rfl) dX0_idle_33 ?_
          refine r_icmp_gt 72 hK dX0_idle_36 (by omega) (by omega) (fun h36 => ?_) (fun h36 => ?_)
          · omega --!
          · refine r_aload_0 hK dX0_idle_39 ?_
            refine r_iload_3 hK dX0_idle_40 ?_
            refine r_iload_3 hK dX0_idle_41 ?_
            refine r_iload_2 hK dX0_idle_42 ?_
            first | refine r_iaddN hK dX0_idle_43 ?_ | refine r_iadd hK dX0_idle_43 ?_
            refine r_iconstN (c := 1) hK dX0_idle_44 ?_
            first | refine r_isubN hK dX0_idle_45 (by omega) ?_ | refine r_isub hK dX0_idle_45 ?_
            refine r_pV2 hK (ct_xIsIdle hK.rel hQ hXK h0 hw hc ho hl16 (a := i) (b := i + k) (by omega) (by omega)) lk_X0_339 (Rcv.raw hK.rel h0 rfl) dX0_idle_46 ?_
            refine r_ifB_eq 66 hK dX0_idle_49 (fun h49 => ?_) (fun h49 => ?_)
            · rw [e8, if_neg h49] at he2
              first | refine r_incN_3 hK dX0_idle_66 ?_ | refine r_iinc_3 hK dX0_idle_66 ?_
              refine r_goto 26 hK dX0_idle_69 ?_
              exact ihd (i + 1) (by omega) he2
            · rw [e8, if_pos h49] at he2
              have e9 : idA w gs = some (i, k) := he2
              rw [e9] at hRt
              refine r_iload_1 hK dX0_idle_52 ?_
              refine r_if_ne 60 hK dX0_idle_53 (by omega) (fun h53 => ?_) (fun h53 => ?_)
              · refine r_iload_3 hK dX0_idle_60 ?_
                refine r_iload_2 hK dX0_idle_61 ?_
                first | refine r_iaddN hK dX0_idle_62 ?_ | refine r_iadd hK dX0_idle_62 ?_
                refine r_iconstN (c := 1) hK dX0_idle_63 ?_
                first | refine r_isubN hK dX0_idle_64 (by omega) ?_ | refine r_isub hK dX0_idle_64 ?_
                exact r_iret hK hRt dX0_idle_65 ⟨by show some (zI ((i + k - 1 : Nat) : Int)) = some (zI (if z = 0 then (i : Int) else ((i + k - 1 : Nat) : Int))); rw [if_neg (by omega)], rfl, rfl⟩
              · refine r_iload_3 hK dX0_idle_56 ?_
                refine r_goto 65 hK dX0_idle_57 ?_
                exact r_iret hK hRt dX0_idle_65 ⟨by show some (zI (i : Int)) = some (zI (if z = 0 then (i : Int) else ((i + k - 1 : Nat) : Int))); rw [if_pos (by omega)], rfl, rfl⟩
      refine r_iload_2 hK dX0_idle_13 ?_
      refine r_aload_0 hK dX0_idle_14 ?_
      refine r_get hK fl_X0_41 dX0_idle_15 (h0) rfl ?_
      refine r_pV0 hK (ct_cSize hK.rel hQ hXK hc) lk_X0_174 (Rcv.raw hK.rel hc.1 rfl) dX0_idle_18 ?_
      refine r_icmp_gt 78 hK dX0_idle_21 (by omega) (by omega) (fun h21 => ?_) (fun h21 => ?_)
      · omega --!
      · refine r_iconstN (c := 0) hK dX0_idle_24 ?_
        refine r_istore_3 hK dX0_idle_25 ?_
        exact ip (m + 1) 0 (by omega) he
  refine r_iload_1 hK dX0_idle_0 ?_
  refine r_iconstN (c := 0) hK dX0_idle_1 ?_
  refine r_iconstN (c := 1) hK dX0_idle_2 ?_
  refine r_pS3 hK (ct_isIn0 hK.rel hz (by decide) (by decide)) lk_X0_155 dX0_idle_3 ?_
  refine r_ifB_ne 11 hK dX0_idle_6 (fun h6 => ?_) (fun h6 => ?_)
  · refine r_iconstN (c := 1) hK dX0_idle_11 ?_
    refine r_istore_2 hK dX0_idle_12 ?_
    exact lp (by omega) gs.length 1 none (by omega) (Nat.le_refl _) rfl
  · refine r_iconst hK dX0_idle_9 ?_
    exact r_iret hK hRt dX0_idle_10 ⟨by rw [if_neg (by omega)], rfl, rfl⟩
set_option maxHeartbeats 4000000 in
theorem ct_xCost {G : GT} {Rel : Nat → Hp → Hp → Prop} (hR : RelOK Rel) (hP : Rel = RelP) (hX : GX G) {n : Nat} {f : Hp} {pl : Int} {w : Nat} {l : List Nat} {gs : List Gt} {p : Nat → Nat} {hp : Nat → Value} (h0 : f 300 = some (x0C pl w)) (hc : CC f 318 319 l gs) (ho : ∀ q ∈ gs, gok 4 q) (hl16 : gs.length ≤ 16) (hpr : f 353 = some (.inr (0, 4, hp))) (hpv : ∀ i, i < 4 → hp i = zI ((p i : Nat) : Int)) : Ct G Rel yX0_cost cX0_cost 3 (some .int) (5) (0) [.ref 300] n (f) (Pu (zI ((cstF gs p gs.length : Nat) : Int)) n f) := by
  refine ct_intro [some (.ref 300), none, none] hR rfl (Nat.le_of_ble_eq_true rfl) ?_
  intro K hG hRel hK hRt hnm
  have hQ : kRel K = RelP := by rw [hRel]; exact hP
  have hXK : GX (kG K) := by rw [hG]; exact hX
  obtain ⟨c1, c2, c3, c4⟩ := id hc
  have lp : ∀ (m k : Nat), k + m = gs.length → Wx K 4 [some (.ref 300), some (zI ((cstF gs p k : Nat) : Int)), some (zI (k : Int))] [] n f 0 := by
    intro m
    induction m with
    | zero =>
      intro k hk
      have ek : k = gs.length := hk
      refine r_iload_2 hK dX0_cost_4 ?_
      refine r_aload_0 hK dX0_cost_5 ?_
      refine r_get hK fl_X0_41 dX0_cost_6 (h0) rfl ?_
      refine r_pV0 hK (ct_cSize hK.rel hQ hXK hc) lk_X0_174 (Rcv.raw hK.rel hc.1 rfl) dX0_cost_9 ?_
      refine r_icmp_ge 43 hK dX0_cost_12 (by omega) (by omega) (fun h12 => ?_) (fun h12 => ?_)
      · refine r_iload_1 hK dX0_cost_43 ?_
        exact r_iret hK hRt dX0_cost_44 ⟨by rw [ek], rfl, rfl⟩
      · omega --!
    | succ m ih =>
      intro k hk
      have gk := c3.2 k (by rw [c3.1]; omega)
      have hg4 := ho _ (gt_mem (show k < gs.length by omega))
      have hct := ctl_lt hg4
      have h16 : (gt gs k).2.1 ||| (gt gs k).2.2 < 16 := or_lt (w := 4) hg4.2.1 hg4.2.2.1
      refine r_iload_2 hK dX0_cost_4 ?_
      refine r_aload_0 hK dX0_cost_5 ?_
      refine r_get hK fl_X0_41 dX0_cost_6 (h0) rfl ?_
      refine r_pV0 hK (ct_cSize hK.rel hQ hXK hc) lk_X0_174 (Rcv.raw hK.rel hc.1 rfl) dX0_cost_9 ?_
      refine r_icmp_ge 43 hK dX0_cost_12 (by omega) (by omega) (fun h12 => ?_) (fun h12 => ?_)
      · omega --!
      · refine r_iload_1 hK dX0_cost_15 ?_
        refine r_aload_0 hK dX0_cost_16 ?_
        refine r_get hK fl_X0_87 dX0_cost_17 (h0) rfl ?_
        refine r_aload_0 hK dX0_cost_20 ?_
        refine r_get hK fl_X0_41 dX0_cost_21 (h0) rfl ?_
        refine r_iload_2 hK dX0_cost_24 ?_
        refine r_pV1 hK (ct_cAt hK.rel hQ hXK hc (k := k) (by omega)) lk_X0_247 (Rcv.raw hK.rel hc.1 rfl) dX0_cost_25 ?_
        refine r_pV0 hK (ct_gCtl hK.rel gk) lk_X0_251 (Rcv.raw hK.rel gk rfl) dX0_cost_28 ?_
        refine r_pS1 hK (ct_many0 hK.rel (by omega)) lk_X0_254 dX0_cost_31 ?_
        refine r_iald hK dX0_cost_34 hpr (by omega) ?_
        rw [hpv _ hct]
        first | refine r_iaddN hK dX0_cost_35 ?_ | refine r_iadd hK dX0_cost_35 ?_
        refine r_istore_1 hK dX0_cost_36 ?_
        first | refine r_incN_2 hK dX0_cost_37 ?_ | refine r_iinc_2 hK dX0_cost_37 ?_
        refine r_goto 4 hK dX0_cost_40 ?_
        exact ih (k + 1) (by omega)
  refine r_iconstN (c := 0) hK dX0_cost_0 ?_
  refine r_istore_1 hK dX0_cost_1 ?_
  refine r_iconstN (c := 0) hK dX0_cost_2 ?_
  refine r_istore_2 hK dX0_cost_3 ?_
  exact lp gs.length 0 (by omega)
theorem agA_f {w : Nat} {gs : List Gt} {a k : Nat} (h : agA w gs a k = false) : ∀ d, agA w gs a (k + d) = false
  | 0 => h
  | d + 1 => by
    show (agA w gs a (k + d) && _) = false
    rw [agA_f h d]; rfl
set_option maxHeartbeats 4000000 in
theorem ct_xAgreeing {G : GT} {Rel : Nat → Hp → Hp → Prop} (hR : RelOK Rel) (hP : Rel = RelP) (hX : GX G) {n : Nat} {f : Hp} {pl : Int} {w : Nat} {l : List Nat} {gs : List Gt} (h0 : f 300 = some (x0C pl w)) (hw : w ≤ 4) (hc : CC f 318 319 l gs) (ho : ∀ q ∈ gs, gok w q) (hl16 : gs.length ≤ 16) : Ct G Rel yX0_agreeing cX0_agreeing 5 (some .int) (5) (0) [.ref 300] n (f) (Pu (zI ((agS w gs gs.length : Nat) : Int)) n f) := by
  refine ct_intro [some (.ref 300), none, none, none, none] hR rfl (Nat.le_of_ble_eq_true rfl) ?_
  intro K hG hRel hK hRt hnm
  have hQ : kRel K = RelP := by rw [hRel]; exact hP
  have hXK : GX (kG K) := by rw [hG]; exact hX
  obtain ⟨c1, c2, c3, c4⟩ := id hc
  have lp : ∀ (m k : Nat) a3 a4, nl a3 = true → k + m = gs.length → Wx K 4 [some (.ref 300), some (zI ((agS w gs k : Nat) : Int)), some (zI (k : Int)), a3, a4] [] n f 0 := by
    intro m
    induction m with
    | zero =>
      intro k a3 a4 hna hk
      have ek : k = gs.length := hk
      refine r_iload_2 hK dX0_agreeing_4 ?_
      refine r_aload_0 hK dX0_agreeing_5 ?_
      refine r_get hK fl_X0_41 dX0_agreeing_6 (h0) rfl ?_
      refine r_pV0 hK (ct_cSize hK.rel hQ hXK hc) lk_X0_174 (Rcv.raw hK.rel hc.1 rfl) dX0_agreeing_9 ?_
      refine r_icmp_ge 87 hK dX0_agreeing_12 (by omega) (by omega) (fun h12 => ?_) (fun h12 => ?_)
      · refine r_iload_1 hK dX0_agreeing_87 ?_
        exact r_iret hK hRt dX0_agreeing_88 ⟨by rw [ek], rfl, rfl⟩
      · omega --!
    | succ m ih =>
      intro k a3 a4 hna hk
      have gk := c3.2 k (by rw [c3.1]; omega)
      have e : agS w gs (k + 1) = if agA w gs k gs.length = true then agS w gs k ||| (1 <<< k) else agS w gs k := rfl
      have fin : ∀ (j : Nat) (bb : Bool), bb = agA w gs k gs.length → Wx K 67 [some (.ref 300), some (zI ((agS w gs k : Nat) : Int)), some (zI (k : Int)), some (zB (bb = true)), some (zI (j : Int))] [] n f 0 := by
        intro j bb hbb
        rw [← hbb] at e
        refine r_iload_1 hK dX0_agreeing_67 ?_
        refine r_iload_3 hK dX0_agreeing_68 ?_
        refine r_ifB_eq 78 hK dX0_agreeing_69 (fun h69 => ?_) (fun h69 => ?_)
        · refine r_iconstN (c := 0) hK dX0_agreeing_78 ?_
          refine r_ior hK dX0_agreeing_79 ?_
          refine r_istore_1 hK dX0_agreeing_80 ?_
          refine r_incN_2 hK dX0_agreeing_81 ?_
          refine r_goto 4 hK dX0_agreeing_84 ?_
          rw [if_neg h69] at e
          have := ih (k + 1) (some (zB (bb = true))) (some (zI (j : Int))) rfl (by omega)
          rw [e] at this
          rw [Nat.or_zero]
          exact this
        refine r_iconstN (c := 1) hK dX0_agreeing_72 ?_
        refine r_iload_2 hK dX0_agreeing_73 ?_
        refine r_ishl hK dX0_agreeing_74 (by omega) (sh1 (by omega)) ?_
        refine r_goto 79 hK dX0_agreeing_75 ?_
        refine r_ior hK dX0_agreeing_79 ?_
        refine r_istore_1 hK dX0_agreeing_80 ?_
        first | refine r_incN_2 hK dX0_agreeing_81 ?_ | refine r_iinc_2 hK dX0_agreeing_81 ?_
        refine r_goto 4 hK dX0_agreeing_84 ?_
        rw [if_pos h69] at e
        have := ih (k + 1) (some (zB (bb = true))) (some (zI (j : Int))) rfl (by omega)
        rw [e] at this
        exact this
      have ip : ∀ (d j : Nat) (bb : Bool), j + d = gs.length → bb = agA w gs k j → Wx K 20 [some (.ref 300), some (zI ((agS w gs k : Nat) : Int)), some (zI (k : Int)), some (zB (bb = true)), some (zI (j : Int))] [] n f 0 := by
        intro d
        induction d with
        | zero =>
          intro j bb hj hbb
          have ej : j = gs.length := hj
          refine r_iload_4 hK dX0_agreeing_20 ?_
          refine r_aload_0 hK dX0_agreeing_22 ?_
          refine r_get hK fl_X0_41 dX0_agreeing_23 (h0) rfl ?_
          refine r_pV0 hK (ct_cSize hK.rel hQ hXK hc) lk_X0_174 (Rcv.raw hK.rel hc.1 rfl) dX0_agreeing_26 ?_
          refine r_icmp_ge 67 hK dX0_agreeing_29 (by omega) (by omega) (fun h29 => ?_) (fun h29 => ?_)
          · exact fin j bb (by rw [hbb, ej])
          · omega --!
        | succ d ihd =>
          intro j bb hj hbb
          have gj := c3.2 j (by rw [c3.1]; omega)
          refine r_iload_4 hK dX0_agreeing_20 ?_
          refine r_aload_0 hK dX0_agreeing_22 ?_
          refine r_get hK fl_X0_41 dX0_agreeing_23 (h0) rfl ?_
          refine r_pV0 hK (ct_cSize hK.rel hQ hXK hc) lk_X0_174 (Rcv.raw hK.rel hc.1 rfl) dX0_agreeing_26 ?_
          refine r_icmp_ge 67 hK dX0_agreeing_29 (by omega) (by omega) (fun h29 => ?_) (fun h29 => ?_)
          · omega --!
          · refine r_iload_3 hK dX0_agreeing_32 ?_
            refine r_ifB_eq 67 hK dX0_agreeing_33 (fun h33 => ?_) (fun h33 => ?_)
            · refine fin j bb ?_
              have h5 : agA w gs k j = false := by rw [← hbb]; simpa using h33
              have := agA_f h5 (d + 1)
              rw [hj] at this
              rw [hbb, h5, this]
            refine r_aload_0 hK dX0_agreeing_36 ?_
            refine r_get hK fl_X0_41 dX0_agreeing_37 (h0) rfl ?_
            refine r_iload_2 hK dX0_agreeing_40 ?_
            refine r_pV1 hK (ct_cAt hK.rel hQ hXK hc (k := k) (by omega)) lk_X0_247 (Rcv.raw hK.rel hc.1 rfl) dX0_agreeing_41 ?_
            refine r_aload_0 hK dX0_agreeing_44 ?_
            refine r_get hK fl_X0_41 dX0_agreeing_45 (h0) rfl ?_
            refine r_iload_4 hK dX0_agreeing_48 ?_
            refine r_pV1 hK (ct_cAt hK.rel hQ hXK hc (k := j) (by omega)) lk_X0_247 (Rcv.raw hK.rel hc.1 rfl) dX0_agreeing_50 ?_
            refine r_aload_0 hK dX0_agreeing_53 ?_
            refine r_pV0 hK (ct_xRows hK.rel h0 hw) lk_X0_151 (Rcv.raw hK.rel h0 rfl) dX0_agreeing_54 ?_
            refine r_pV2 hK (ct_gAgrees hK.rel gk gj hw (ho _ (gt_mem (by omega))) (ho _ (gt_mem (by omega)))) lk_X0_285 (Rcv.raw hK.rel gk rfl) dX0_agreeing_57 ?_
            refine r_istore_3 hK dX0_agreeing_60 ?_
            first | refine r_incN_4 hK dX0_agreeing_61 ?_ | refine r_iinc_4 hK dX0_agreeing_61 ?_
            refine r_goto 20 hK dX0_agreeing_64 ?_
            refine ihd (j + 1) (agr w (gt gs k) (gt gs j)) (by omega) ?_
            show _ = (agA w gs k j && agr w (gt gs k) (gt gs j))
            rw [← hbb, h33]; rfl
      refine r_iload_2 hK dX0_agreeing_4 ?_
      refine r_aload_0 hK dX0_agreeing_5 ?_
      refine r_get hK fl_X0_41 dX0_agreeing_6 (h0) rfl ?_
      refine r_pV0 hK (ct_cSize hK.rel hQ hXK hc) lk_X0_174 (Rcv.raw hK.rel hc.1 rfl) dX0_agreeing_9 ?_
      refine r_icmp_ge 87 hK dX0_agreeing_12 (by omega) (by omega) (fun h12 => ?_) (fun h12 => ?_)
      · omega --!
      · refine r_iconstN (c := 1) hK dX0_agreeing_15 ?_
        refine r_istore_3 hK dX0_agreeing_16 ?_
        refine r_iconstN (c := 0) hK dX0_agreeing_17 ?_
        refine r_istore_4 hK dX0_agreeing_18 ?_
        exact ip gs.length 0 true (by omega) rfl
  refine r_iconstN (c := 0) hK dX0_agreeing_0 ?_
  refine r_istore_1 hK dX0_agreeing_1 ?_
  refine r_iconstN (c := 0) hK dX0_agreeing_2 ?_
  refine r_istore_2 hK dX0_agreeing_3 ?_
  exact lp gs.length 0 none none rfl (by omega)
set_option maxHeartbeats 4000000 in
theorem ct_xSum {G : GT} {Rel : Nat → Hp → Hp → Prop} (hR : RelOK Rel) (hP : Rel = RelP) (hX : GX G) {n : Nat} {f : Hp} {pl : Int} {w : Nat} {o : Bool} {l : List Nat} {gs : List Gt} (h0 : f 300 = some (x0C pl w)) (hc : CC f 318 319 l gs) (ho : ∀ q ∈ gs, gok 4 q) (hl16 : gs.length ≤ 16) : Ct G Rel yX0_sum cX0_sum 5 (some .int) (5) (0) [.ref 300, zI (((if o then 1 else 0) : Nat) : Int)] n (f) (Pu (zI ((if o then coF gs gs.length else woF gs gs.length : Nat) : Int)) n f) := by
  refine ct_intro [some (.ref 300), some (zI (((if o then 1 else 0) : Nat) : Int)), none, none, none] hR rfl (Nat.le_of_ble_eq_true rfl) ?_
  intro K hG hRel hK hRt hnm
  have hQ : kRel K = RelP := by rw [hRel]; exact hP
  have hXK : GX (kG K) := by rw [hG]; exact hX
  obtain ⟨c1, c2, c3, c4⟩ := id hc
  obtain ⟨b, hb01⟩ : ∃ b : Nat, b = if o then 1 else 0 := ⟨_, rfl⟩
  have hRv : (if o then coF gs gs.length else woF gs gs.length) = if b = 0 then woF gs gs.length else coF gs gs.length := by cases o <;> simp [hb01]
  have hb2 : b = 0 ∨ b = 1 := by cases o <;> simp [hb01]
  rw [hRv] at hRt
  rw [← hb01]
  have lp : ∀ (m k : Nat), k + m = gs.length → Wx K 7 [some (.ref 300), some (zI (b : Int)), some (zI ((woF gs k : Nat) : Int)), some (zI ((coF gs k : Nat) : Int)), some (zI (k : Int))] [] n f 0 := by
    intro m
    induction m with
    | zero =>
      intro k hk
      have ek : k = gs.length := hk
      subst ek
      refine r_iload_4 hK dX0_sum_7 ?_
      refine r_aload_0 hK dX0_sum_9 ?_
      refine r_get hK fl_X0_41 dX0_sum_10 (h0) rfl ?_
      refine r_pV0 hK (ct_cSize hK.rel hQ hXK hc) lk_X0_174 (Rcv.raw hK.rel hc.1 rfl) dX0_sum_13 ?_
      refine r_icmp_ge 58 hK dX0_sum_16 (by omega) (by omega) (fun h16 => ?_) (fun h16 => ?_)
      · refine r_iload_1 hK dX0_sum_58 ?_
        refine r_if_eq 66 hK dX0_sum_59 (by omega) (fun h59 => ?_) (fun h59 => ?_)
        · refine r_iload_2 hK dX0_sum_66 ?_
          exact r_iret hK hRt dX0_sum_67 ⟨by rw [if_pos (by omega)], rfl, rfl⟩
        · refine r_iload_3 hK dX0_sum_62 ?_
          refine r_goto 67 hK dX0_sum_63 ?_
          exact r_iret hK hRt dX0_sum_67 ⟨by rw [if_neg (by omega)], rfl, rfl⟩
      · omega --!
    | succ m ih =>
      intro k hk
      have gk := c3.2 k (by rw [c3.1]; omega)
      have hg4 := ho _ (gt_mem (show k < gs.length by omega))
      have h16 : (gt gs k).2.1 ||| (gt gs k).2.2 < 16 := or_lt (w := 4) hg4.2.1 hg4.2.2.1
      refine r_iload_4 hK dX0_sum_7 ?_
      refine r_aload_0 hK dX0_sum_9 ?_
      refine r_get hK fl_X0_41 dX0_sum_10 (h0) rfl ?_
      refine r_pV0 hK (ct_cSize hK.rel hQ hXK hc) lk_X0_174 (Rcv.raw hK.rel hc.1 rfl) dX0_sum_13 ?_
      refine r_icmp_ge 58 hK dX0_sum_16 (by omega) (by omega) (fun h16 => ?_) (fun h16 => ?_)
      · omega --!
      · refine r_iload_2 hK dX0_sum_19 ?_
        refine r_aload_0 hK dX0_sum_20 ?_
        refine r_get hK fl_X0_41 dX0_sum_21 (h0) rfl ?_
        refine r_iload_4 hK dX0_sum_24 ?_
        refine r_pV1 hK (ct_cAt hK.rel hQ hXK hc (k := k) (by omega)) lk_X0_247 (Rcv.raw hK.rel hc.1 rfl) dX0_sum_26 ?_
        refine r_pV0 hK (ct_gWir hK.rel gk (by have := hg4.1; omega)) lk_X0_373 (Rcv.raw hK.rel gk rfl) dX0_sum_29 ?_
        refine r_ior hK dX0_sum_32 ?_
        refine r_istore_2 hK dX0_sum_33 ?_
        refine r_iload_3 hK dX0_sum_34 ?_
        refine r_aload_0 hK dX0_sum_35 ?_
        refine r_get hK fl_X0_41 dX0_sum_36 (h0) rfl ?_
        refine r_iload_4 hK dX0_sum_39 ?_
        refine r_pV1 hK (ct_cAt hK.rel hQ hXK hc (k := k) (by omega)) lk_X0_247 (Rcv.raw hK.rel hc.1 rfl) dX0_sum_41 ?_
        refine r_pV0 hK (ct_gCtl hK.rel gk) lk_X0_251 (Rcv.raw hK.rel gk rfl) dX0_sum_44 ?_
        refine r_pS1 hK (ct_many0 hK.rel (by omega)) lk_X0_254 dX0_sum_47 ?_
        first | refine r_iaddN hK dX0_sum_50 ?_ | refine r_iadd hK dX0_sum_50 ?_
        refine r_istore_3 hK dX0_sum_51 ?_
        first | refine r_incN_4 hK dX0_sum_52 ?_ | refine r_iinc_4 hK dX0_sum_52 ?_
        refine r_goto 7 hK dX0_sum_55 ?_
        exact ih (k + 1) (by omega)
  refine r_iconstN (c := 0) hK dX0_sum_0 ?_
  refine r_istore_2 hK dX0_sum_1 ?_
  refine r_iconstN (c := 0) hK dX0_sum_2 ?_
  refine r_istore_3 hK dX0_sum_3 ?_
  refine r_iconstN (c := 0) hK dX0_sum_4 ?_
  refine r_istore_4 hK dX0_sum_5 ?_
  exact lp gs.length 0 (by omega)
