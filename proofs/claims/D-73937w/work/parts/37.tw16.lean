set_option maxRecDepth 100000
/-! ===== the reference: the tape, slots, wires that change places ===== -/
set_option maxHeartbeats 4000000 in
theorem ct_lays {G : GT} {Rel : Nat → Hp → Hp → Prop} (hR : RelOK Rel) {n : Nat} {f0 : Hp} {F : Nat → Nat} {A : Nat → Nat → Nat} {z : Int} (h : F 2 + 4 ≤ 2000) : Ct G Rel yX9_lays cX9_lays 3 none (1) (0) [.ref 358, zI z] n (tw f0 F A) (Pv n (tw f0 (upF F 2 (F 2 + 4)) (lay4 A (F 2) z))) := by
  refine ct_intro [some (.ref 358), some (zI z), none] hR rfl (Nat.le_of_ble_eq_true rfl) ?_
  intro K hG hRel hK hRt hnm
  have st : ∀ (k : Int) (F1 : Nat → Nat) (A1 : Nat → Nat → Nat), 0 ≤ k ∧ k ≤ 24 → F1 2 < 2000 → Wx K 3 [some (.ref 358), some (zI z), some (zI (k + -8))] [] n (tw f0 (upF F1 2 (F1 2 + 1)) (upA A1 0 (F1 2) (bN z k))) 0 → Wx K 3 [some (.ref 358), some (zI z), some (zI k)] [] n (tw f0 F1 A1) 0 := by
    intro k F1 A1 hk hF kk
    refine r_iload_2 hK dX9_lays_3 ?_
    refine r_if_lt 36 hK dX9_lays_4 (by omega) (fun h4 => ?_) (fun h4 => ?_)
    · exact absurd h4 (by omega) --!
    · refine r_aload_0 hK dX9_lays_7 ?_
      refine r_get hK fl_X9_13 dX9_lays_8 tw_obj rfl ?_
      refine r_aload_0 hK dX9_lays_11 ?_
      refine r_get hK fl_X9_127 dX9_lays_12 tw_obj rfl ?_
      refine r_iload_1 hK dX9_lays_15 ?_
      refine r_iload_2 hK dX9_lays_16 ?_
      refine r_ishrR hK dX9_lays_17 ?_
      refine r_i2b hK dX9_lays_18 ?_
      refine r_top (i8_sx _) ?_
      show Wx K _ _ (zI (sx (bN z k)) :: _) _ _ _
      refine t_bst hK dX9_lays_19 (show _ < 2000 by omega) (bN_lt z k) ?_
      refine r_aload_0 hK dX9_lays_20 ?_
      refine r_dup hK dX9_lays_21 ?_
      refine r_get hK fl_X9_127 dX9_lays_22 tw_obj rfl ?_
      refine r_iconstN (c := 1) hK dX9_lays_25 ?_
      first | refine r_iaddN hK dX9_lays_26 ?_ | refine r_iadd hK dX9_lays_26 ?_
      refine t_put hK fl_X9_127 dX9_lays_27 ?_
      refine r_iinc_2 hK dX9_lays_30 ?_
      refine r_goto 3 hK dX9_lays_33 ?_
      exact kk
  have fin : Wx K 3 [some (.ref 358), some (zI z), some (zI (-8))] [] n (tw f0 (upF F 2 (F 2 + 4)) (lay4 A (F 2) z)) 0 := by
    refine r_iload_2 hK dX9_lays_3 ?_
    refine r_if_lt 36 hK dX9_lays_4 ⟨by decide, by decide⟩ (fun h4 => ?_) (fun h4 => ?_)
    · exact r_vret hK hRt dX9_lays_36 ⟨rfl, rfl, rfl⟩
    · exact absurd h4 (by decide)
  refine r_bipushN (c := 24) hK dX9_lays_0 ?_
  refine r_istore_2 hK dX9_lays_2 ?_
  show Wx K 3 [some (.ref 358), some (zI z), some (zI 24)] [] n (tw f0 F A) 0
  refine st 24 F A (by omega) (by omega) ?_
  refine st 16 _ _ (by omega) (by rw [upF_s]; omega) ?_
  rw [upF_s, upF_upF]
  refine st 8 _ _ (by omega) (by rw [upF_s]; omega) ?_
  rw [upF_s, upF_upF]
  refine st 0 _ _ (by omega) (by rw [upF_s]; omega) ?_
  rw [upF_s, upF_upF]
  exact fin
def lay20 (A : Nat → Nat → Nat) (t : Nat) (a b c e g : Int) : Nat → Nat → Nat := lay4 (lay4 (lay4 (lay4 (lay4 A t a) (t + 4) b) (t + 8) c) (t + 12) e) (t + 16) g
set_option maxHeartbeats 4000000 in
theorem ct_feed {G : GT} {Rel : Nat → Hp → Hp → Prop} (hR : RelOK Rel) {n : Nat} {f0 : Hp} {F : Nat → Nat} {A : Nat → Nat → Nat} {a b c e g : Int} (h : F 2 ≤ 2000) : Ct G Rel yX9_feed cX9_feed 6 (some .int) (2) (0) [.ref 358, zI a, zI b, zI c, zI e, zI g] n (tw f0 F A) (Ti n f0 (fun r F' A' => (F 2 + 20 ≤ 2000 ∧ r = ((F 2 + 20 : Nat) : Int) ∧ F' = upF F 2 (F 2 + 20) ∧ A' = lay20 A (F 2) a b c e g) ∨ (¬ F 2 + 20 ≤ 2000 ∧ r = -1 ∧ F' = F ∧ A' = A))) := by
  refine ct_intro [some (.ref 358), some (zI a), some (zI b), some (zI c), some (zI e), some (zI g)] hR rfl (Nat.le_of_ble_eq_true rfl) ?_
  intro K hG hRel hK hRt hnm
  refine r_aload_0 hK dX9_feed_0 ?_
  refine r_get hK fl_X9_127 dX9_feed_1 tw_obj rfl ?_
  refine r_bipushN (c := 20) hK dX9_feed_4 ?_
  first | refine r_iaddN hK dX9_feed_6 ?_ | refine r_iadd hK dX9_feed_6 ?_
  refine r_sipushN (c := 2000) hK dX9_feed_7 ?_
  refine r_icmp_le 15 hK dX9_feed_10 (by omega) (by omega) (fun h10 => ?_) (fun h10 => ?_)
  · refine r_aload_0 hK dX9_feed_15 ?_
    refine r_iload_1 hK dX9_feed_16 ?_
    refine r_vV1 hK (ct_lays hK.rel (by omega)) lk_X9_130 (tw_rcv hK) dX9_feed_17 ?_
    refine r_aload_0 hK dX9_feed_20 ?_
    refine r_iload_2 hK dX9_feed_21 ?_
    refine r_vV1 hK (ct_lays hK.rel (by rw [upF_s]; omega)) lk_X9_130 (tw_rcv hK) dX9_feed_22 ?_
    rw [upF_s, upF_upF]
    refine r_aload_0 hK dX9_feed_25 ?_
    refine r_iload_3 hK dX9_feed_26 ?_
    refine r_vV1 hK (ct_lays hK.rel (by rw [upF_s]; omega)) lk_X9_130 (tw_rcv hK) dX9_feed_27 ?_
    rw [upF_s, upF_upF]
    refine r_aload_0 hK dX9_feed_30 ?_
    refine r_iload_4 hK dX9_feed_31 ?_
    refine r_vV1 hK (ct_lays hK.rel (by rw [upF_s]; omega)) lk_X9_130 (tw_rcv hK) dX9_feed_33 ?_
    rw [upF_s, upF_upF]
    refine r_aload_0 hK dX9_feed_36 ?_
    refine r_iload_5 hK dX9_feed_37 ?_
    refine r_vV1 hK (ct_lays hK.rel (by rw [upF_s]; omega)) lk_X9_130 (tw_rcv hK) dX9_feed_39 ?_
    rw [upF_s, upF_upF]
    refine r_aload_0 hK dX9_feed_42 ?_
    refine r_get hK fl_X9_127 dX9_feed_43 tw_obj rfl ?_
    exact r_iret hK hRt dX9_feed_46 ⟨_, rfl, rfl, _, _, rfl, Or.inl ⟨by omega, by rw [upF_s], rfl, rfl⟩⟩
  · refine r_iconst hK dX9_feed_13 ?_
    exact r_iret hK hRt dX9_feed_14 ⟨_, rfl, rfl, _, _, rfl, Or.inr ⟨by omega, rfl, rfl, rfl⟩⟩
set_option maxHeartbeats 4000000 in
theorem ct_back {G : GT} {Rel : Nat → Hp → Hp → Prop} (hR : RelOK Rel) {n : Nat} {f0 : Hp} {F : Nat → Nat} {A : Nat → Nat → Nat} {z : Int} (hz : inR z) (h : F 2 ≤ 2000) : Ct G Rel yX9_back cX9_back 2 (some .int) (1) (0) [.ref 358, zI z] n (tw f0 F A) (Ti n f0 (fun r F' A' => ((0 ≤ z ∧ z ≤ F 2) ∧ r = ((F 2 - z.toNat : Nat) : Int) ∧ F' = upF F 2 (F 2 - z.toNat) ∧ A' = A) ∨ (¬ (0 ≤ z ∧ z ≤ F 2) ∧ r = -1 ∧ F' = F ∧ A' = A))) := by
  refine ct_intro [some (.ref 358), some (zI z)] hR rfl (Nat.le_of_ble_eq_true rfl) ?_
  intro K hG hRel hK hRt hnm
  refine r_iload_1 hK dX9_back_0 ?_
  refine r_if_lt 12 hK dX9_back_1 (by omega) (fun h1 => ?_) (fun h1 => ?_)
  · refine r_iconst hK dX9_back_12 ?_
    exact r_iret hK hRt dX9_back_13 ⟨_, rfl, rfl, _, _, rfl, Or.inr ⟨by omega, rfl, rfl, rfl⟩⟩
  · refine r_iload_1 hK dX9_back_4 ?_
    refine r_aload_0 hK dX9_back_5 ?_
    refine r_get hK fl_X9_127 dX9_back_6 tw_obj rfl ?_
    refine r_icmp_le 14 hK dX9_back_9 (by omega) (by omega) (fun h9 => ?_) (fun h9 => ?_)
    · obtain ⟨k, rfl⟩ : ∃ s : Nat, z = (s : Int) := ⟨z.toNat, by omega⟩
      refine r_aload_0 hK dX9_back_14 ?_
      refine r_dup hK dX9_back_15 ?_
      refine r_get hK fl_X9_127 dX9_back_16 tw_obj rfl ?_
      refine r_iload_1 hK dX9_back_19 ?_
      first | refine r_isubN hK dX9_back_20 (by omega) ?_ | refine r_isub hK dX9_back_20 ?_
      refine t_put hK fl_X9_127 dX9_back_21 ?_
      refine r_aload_0 hK dX9_back_24 ?_
      refine r_get hK fl_X9_127 dX9_back_25 tw_obj rfl ?_
      exact r_iret hK hRt dX9_back_28 ⟨_, rfl, rfl, _, _, rfl, Or.inl ⟨by omega, by rw [upF_s, Int.toNat_natCast], by rw [Int.toNat_natCast], rfl⟩⟩
    · refine r_iconst hK dX9_back_12 ?_
      exact r_iret hK hRt dX9_back_13 ⟨_, rfl, rfl, _, _, rfl, Or.inr ⟨by omega, rfl, rfl, rfl⟩⟩
set_option maxHeartbeats 4000000 in
theorem ct_place {G : GT} {Rel : Nat → Hp → Hp → Prop} (hR : RelOK Rel) {n : Nat} {f0 : Hp} {F : Nat → Nat} {A : Nat → Nat → Nat} : Ct G Rel yX9_place cX9_place 1 (some .int) (1) (0) [.ref 358] n (tw f0 F A) (Pu (zI (dz (F 16))) n (tw f0 F A)) := by
  refine ct_intro [some (.ref 358)] hR rfl (Nat.le_of_ble_eq_true rfl) ?_
  intro K hG hRel hK hRt hnm
  refine r_aload_0 hK dX9_place_0 ?_
  refine r_get hK fl_X9_37 dX9_place_1 tw_obj rfl ?_
  exact r_iret hK hRt dX9_place_4 ⟨rfl, rfl, rfl⟩
set_option maxHeartbeats 4000000 in
theorem ct_laysSlot {G : GT} {Rel : Nat → Hp → Hp → Prop} (hR : RelOK Rel) {n : Nat} {f0 : Hp} {F : Nat → Nat} {A : Nat → Nat → Nat} {s : Nat} {gs : List Gt} (hs : s < 3) (hw : F 17 ≤ 4) (hg : GA (fun k => A 14 (49 * s + k)) gs) (ho : ∀ g ∈ gs, gok 4 g) : Ct G Rel yX9_laysSlot cX9_laysSlot 3 none (4) (0) [.ref 358, zI (s : Int)] n (tw f0 F A) (Tv n f0 (fun F' A' => F' = F ∧ (∀ a, a ≠ 16 → a ≠ 18 → A' a = A a) ∧ ∀ r, r < rN (F 17) → A' 16 r = run gs r)) := by
  refine ct_intro [some (.ref 358), some (zI (s : Int)), none] hR rfl (Nat.le_of_ble_eq_true rfl) ?_
  intro K hG hRel hK hRt hnm
  have lp : ∀ m k : Nat, m = 49 - k → k ≤ 49 → Wx K 2 [some (.ref 358), some (zI (s : Int)), some (zI (k : Int))] [] n (tw f0 F (cpA A 18 0 (fun k => A 14 (49 * s + k)) k)) 0 := by
    intro m
    induction m using Nat.strongRecOn with
    | _ m ih =>
      intro k hm hk
      refine r_iload_2 hK dX9_laysSlot_2 ?_
      refine r_bipushN (c := 49) hK dX9_laysSlot_3 ?_
      refine r_icmp_ge 31 hK dX9_laysSlot_5 (by omega) (by omega) (fun h5 => ?_) (fun h5 => ?_)
      · have e : k = 49 := by omega
        subst e
        refine r_aload_0 hK dX9_laysSlot_31 ?_
        refine r_aload_0 hK dX9_laysSlot_32 ?_
        refine r_get hK fl_X9_74 dX9_laysSlot_33 tw_obj rfl ?_
        refine r_tvV1 hK (ct_laysOrder (j := 18) (gs := gs) hK.rel (Or.inr rfl) hw (hg.copy (fun k hk => by have := cpA_in (A := A) (j := 18) (i0 := 0) (src := fun k => A 14 (49 * s + k)) hk; rw [Nat.zero_add] at this; exact this)) ho) lk_X9_285 (tw_rcv hK) dX9_laysSlot_36 (fun F1 A1 h1 => ?_)
        obtain ⟨e1, h2, h3⟩ := h1
        exact r_vret hK hRt dX9_laysSlot_39 ⟨rfl, rfl, _, _, rfl, e1, fun a a1 a2 => by rw [h2 a a1, cpA_j a2], h3⟩
      · refine r_aload_0 hK dX9_laysSlot_8 ?_
        refine r_get hK fl_X9_74 dX9_laysSlot_9 tw_obj rfl ?_
        refine r_iload_2 hK dX9_laysSlot_12 ?_
        refine r_aload_0 hK dX9_laysSlot_13 ?_
        refine r_get hK fl_X9_61 dX9_laysSlot_14 tw_obj rfl ?_
        refine r_bipushN (c := 49) hK dX9_laysSlot_17 ?_
        refine r_iload_1 hK dX9_laysSlot_19 ?_
        first | refine r_imulN hK dX9_laysSlot_20 ?_ | refine r_imul hK dX9_laysSlot_20 ?_
        refine r_iload_2 hK dX9_laysSlot_21 ?_
        first | refine r_iaddN hK dX9_laysSlot_22 ?_ | refine r_iadd hK dX9_laysSlot_22 ?_
        refine t_ild hK dX9_laysSlot_23 (show _ < 147 by omega) ?_
        refine t_ist hK dX9_laysSlot_24 (show _ < 49 by omega) ?_
        rw [show cpA A 18 0 (fun k => A 14 (49 * s + k)) k 14 (49 * s + k) = (fun k => A 14 (49 * s + k)) k by rw [cpA_j (by decide)], show upA (cpA A 18 0 (fun k => A 14 (49 * s + k)) k) 18 k ((fun k => A 14 (49 * s + k)) k) = cpA A 18 0 (fun k => A 14 (49 * s + k)) (k + 1) by have := cpA_s A 18 0 (fun k => A 14 (49 * s + k)) k; rw [Nat.zero_add] at this; exact this]
        first | refine r_incN_2 hK dX9_laysSlot_25 ?_ | refine r_iinc_2 hK dX9_laysSlot_25 ?_
        refine r_goto 2 hK dX9_laysSlot_28 ?_
        exact ih (49 - (k + 1)) (by omega) (k + 1) rfl (by omega)
  refine r_iconstN (c := 0) hK dX9_laysSlot_0 ?_
  refine r_istore_2 hK dX9_laysSlot_1 ?_
  have := lp 49 0 rfl (by omega)
  rw [cpA_0] at this
  exact this
set_option maxHeartbeats 4000000 in
theorem ct_renamed {G : GT} {Rel : Nat → Hp → Hp → Prop} (hR : RelOK Rel) {n : Nat} {f0 : Hp} {F : Nat → Nat} {A : Nat → Nat → Nat} {x : Nat} (hw : F 17 ≤ 4) (hp : ∀ v, v < F 17 → A 30 v < 4) (hx : x < 16) : Ct G Rel yX9_renamed cX9_renamed 4 (some .int) (2) (0) [.ref 358, zI (x : Int)] n (tw f0 F A) (Pu (zI ((rnm (A 30) x (F 17) : Nat) : Int)) n (tw f0 F A)) := by
  refine ct_intro [some (.ref 358), some (zI (x : Int)), none, none] hR rfl (Nat.le_of_ble_eq_true rfl) ?_
  intro K hG hRel hK hRt hnm
  have lp : ∀ m k : Nat, m = F 17 - k → k ≤ F 17 → Wx K 4 [some (.ref 358), some (zI (x : Int)), some (zI ((rnm (A 30) x k : Nat) : Int)), some (zI (k : Int))] [] n (tw f0 F A) 0 := by
    intro m
    induction m using Nat.strongRecOn with
    | _ m ih =>
      intro k hm hk
      have e : rnm (A 30) x (k + 1) = if x.testBit k = true then rnm (A 30) x k ||| (1 <<< A 30 k) else rnm (A 30) x k := rfl
      have hr : rnm (A 30) x k < 16 := rnm_lt (k := 4) k (fun v hv => hp v (by omega))
      refine r_iload_3 hK dX9_renamed_4 ?_
      refine r_aload_0 hK dX9_renamed_5 ?_
      refine r_get hK fl_X9_203 dX9_renamed_6 tw_obj rfl ?_
      refine r_icmp_ge 37 hK dX9_renamed_9 (by omega) (by omega) (fun h9 => ?_) (fun h9 => ?_)
      · have e2 : k = F 17 := by omega
        refine r_iload_2 hK dX9_renamed_37 ?_
        exact r_iret hK hRt dX9_renamed_38 ⟨by rw [e2], rfl, rfl⟩
      · refine r_iload_1 hK dX9_renamed_12 ?_
        refine r_iload_3 hK dX9_renamed_13 ?_
        refine r_pS2 hK (ct_has hK.rel (by omega) (by omega)) lk_X9_261 dX9_renamed_14 ?_
        refine r_ifB_eq 31 hK dX9_renamed_17 (fun h17 => ?_) (fun h17 => ?_)
        · first | refine r_incN_3 hK dX9_renamed_31 ?_ | refine r_iinc_3 hK dX9_renamed_31 ?_
          refine r_goto 4 hK dX9_renamed_34 ?_
          have := ih (F 17 - (k + 1)) (by omega) (k + 1) rfl (by omega)
          rw [e, if_neg h17] at this
          exact this
        · refine r_iload_2 hK dX9_renamed_20 ?_
          refine r_iconstN (c := 1) hK dX9_renamed_21 ?_
          refine r_aload_0 hK dX9_renamed_22 ?_
          refine r_get hK fl_X9_114 dX9_renamed_23 tw_obj rfl ?_
          refine r_iload_3 hK dX9_renamed_26 ?_
          refine t_ild hK dX9_renamed_27 (show _ < 4 by omega) ?_
          have hpk := hp k (by omega)
          refine r_ishl hK dX9_renamed_28 (by omega) (by first | exact sh1 (by omega) | omega) ?_
          refine r_ior hK dX9_renamed_29 ?_
          refine r_istore_2 hK dX9_renamed_30 ?_
          first | refine r_incN_3 hK dX9_renamed_31 ?_ | refine r_iinc_3 hK dX9_renamed_31 ?_
          refine r_goto 4 hK dX9_renamed_34 ?_
          have := ih (F 17 - (k + 1)) (by omega) (k + 1) rfl (by omega)
          rw [e, if_pos h17] at this
          exact this
  refine r_iconstN (c := 0) hK dX9_renamed_0 ?_
  refine r_istore_2 hK dX9_renamed_1 ?_
  refine r_iconstN (c := 0) hK dX9_renamed_2 ?_
  refine r_istore_3 hK dX9_renamed_3 ?_
  exact lp (F 17) 0 rfl (by omega)
set_option maxHeartbeats 4000000 in
theorem ct_isRenamed {G : GT} {Rel : Nat → Hp → Hp → Prop} (hR : RelOK Rel) {n : Nat} {f0 : Hp} {F : Nat → Nat} {A : Nat → Nat → Nat} {gs : List Gt} {q : Nat → Nat} (hw : F 17 ≤ 4) (hp : ∀ v, v < F 17 → A 30 v < F 17) (hg : GA (A 11) gs) (ho : ∀ g ∈ gs, gok (F 17) g) (hq : ∀ r, r < rN (F 17) → A 16 r = q r) (hq2 : ∀ r, r < rN (F 17) → q r < rN (F 17)) : Ct G Rel yX9_isRenamed cX9_isRenamed 2 (some .boolean) (4) (0) [.ref 358] n (tw f0 F A) (Pu (zB (rnmOK (F 17) (run gs) q (A 30) = true)) n (tw f0 F A)) := by
  refine ct_intro [some (.ref 358), none] hR rfl (Nat.le_of_ble_eq_true rfl) ?_
  intro K hG hRel hK hRt hnm
  have h0 := hg.1
  have hr4 := rN4 hw
  have ho4 : ∀ g ∈ gs, gok 4 g := fun g h => gok4 hw (ho g h)
  have hp4 : ∀ v, v < F 17 → A 30 v < 4 := fun v hv => by have := hp v hv; omega
  have hrl : ∀ x, rnm (A 30) x (F 17) < rN (F 17) := fun x => rnm_lt (F 17) hp
  have lp : ∀ m r : Nat, m = rN (F 17) - r → r ≤ rN (F 17) → (∀ x, x < r → q (rnm (A 30) x (F 17)) = rnm (A 30) (run gs x) (F 17)) → Wx K 2 [some (.ref 358), some (zI (r : Int))] [] n (tw f0 F A) 0 := by
    intro m
    induction m using Nat.strongRecOn with
    | _ m ih =>
      intro r hm hr h1
      have r1 := hrl r
      have r2 := hrl (run gs r)
      have r3 := hq2 _ r1
      refine r_iload_1 hK dX9_isRenamed_2 ?_
      refine r_aload_0 hK dX9_isRenamed_3 ?_
      refine r_pV0 hK (ct_rows hK.rel hw) lk_X9_248 (tw_rcv hK) dX9_isRenamed_4 ?_
      refine r_icmp_ge 45 hK dX9_isRenamed_7 (by omega) (by omega) (fun h7 => ?_) (fun h7 => ?_)
      · refine r_iconstN (c := 1) hK dX9_isRenamed_45 ?_
        exact r_zret hK hRt dX9_isRenamed_46 rfl ⟨by rw [zB_t (rnmOK_iff.mpr (fun x hx => h1 x (by omega)))]; rfl, rfl, rfl⟩
      · refine r_aload_0 hK dX9_isRenamed_10 ?_
        refine r_get hK fl_X9_68 dX9_isRenamed_11 tw_obj rfl ?_
        refine r_aload_0 hK dX9_isRenamed_14 ?_
        refine r_iload_1 hK dX9_isRenamed_15 ?_
        refine r_pV1 hK (ct_renamed hK.rel hw hp4 (by omega)) lk_X9_378 (tw_rcv hK) dX9_isRenamed_16 ?_
        refine t_ild hK dX9_isRenamed_19 (show _ < 64 by omega) ?_
        rw [hq _ r1]
        have hrn : run gs r < rN (F 17) := run_lt (fun g h => (ho g h).1) (by omega)
        refine r_aload_0 hK dX9_isRenamed_20 ?_
        refine r_aload_0 hK dX9_isRenamed_21 ?_
        refine r_iload_1 hK dX9_isRenamed_22 ?_
        refine r_iconstN (c := 0) hK dX9_isRenamed_23 ?_
        refine r_aload_0 hK dX9_isRenamed_24 ?_
        refine r_pV0 hK (ct_gates hK.rel) lk_X9_244 (tw_rcv hK) dX9_isRenamed_25 ?_
        rw [h0]
        refine r_pV3 hK (ct_madeBy (a := 0) hK.rel hg ho4 (by omega) (by omega) (Nat.le_refl _)) lk_X9_307 (tw_rcv hK) dX9_isRenamed_28 ?_
        rw [List.take_length, List.drop_zero]
        refine r_pV1 hK (ct_renamed hK.rel hw hp4 (by omega)) lk_X9_378 (tw_rcv hK) dX9_isRenamed_31 ?_
        refine r_icmp_eq 39 hK dX9_isRenamed_34 (by omega) (by omega) (fun h34 => ?_) (fun h34 => ?_)
        · first | refine r_incN_1 hK dX9_isRenamed_39 ?_ | refine r_iinc_1 hK dX9_isRenamed_39 ?_
          refine r_goto 2 hK dX9_isRenamed_42 ?_
          refine ih (rN (F 17) - (r + 1)) (by omega) (r + 1) rfl (by omega) (fun x hx => ?_)
          by_cases e : x = r
          · subst e; omega
          · exact h1 x (by omega)
        · refine r_iconstN (c := 0) hK dX9_isRenamed_37 ?_
          exact r_zret hK hRt dX9_isRenamed_38 rfl ⟨by rw [zB_f (fun h => by have := rnmOK_iff.mp h r (by omega); omega)]; rfl, rfl, rfl⟩
  refine r_iconstN (c := 0) hK dX9_isRenamed_0 ?_
  refine r_istore_1 hK dX9_isRenamed_1 ?_
  exact lp (rN (F 17)) 0 rfl (by omega) (fun x hx => by omega)
def likeS (w : Nat) (gs : List Gt) (sl : Nat → Option (List Gt)) (z : Int) : Int := if 0 ≤ z ∧ z ≤ 2 then (match sl z.toNat with
  | none => -1
  | some hs => (lkF w (run gs) (run hs) (facN w) : Int)) else -1
set_option maxHeartbeats 4000000 in
theorem ct_like {G : GT} {Rel : Nat → Hp → Hp → Prop} (hR : RelOK Rel) {n : Nat} {f0 : Hp} {F : Nat → Nat} {A : Nat → Nat → Nat} {gs : List Gt} {sl : Nat → Option (List Gt)} {z : Int} (hz : inR z) (hw : F 17 ≤ 4) (hg : GA (A 11) gs) (ho : ∀ g ∈ gs, gok (F 17) g) (hh : HeldR A sl) (hso : ∀ s hs, s < 3 → sl s = some hs → ∀ g ∈ hs, gok (F 17) g) : Ct G Rel yX9_like cX9_like 10 (some .int) (5) (0) [.ref 358, zI z] n (tw f0 F A) (Ti n f0 (fun r F' A' => r = likeS (F 17) gs sl z ∧ F' = F ∧ sc A A')) := by
  refine ct_intro [some (.ref 358), some (zI z), none, none, none, none, none, none, none, none] hR rfl (Nat.le_of_ble_eq_true rfl) ?_
  intro K hG hRel hK hRt hnm
  have ho4 : ∀ g ∈ gs, gok 4 g := fun g h => gok4 hw (ho g h)
  have hfl := facN_le (F 17) (by omega)
  have main : ∀ (A1 : Nat → Nat → Nat) (hs : List Gt), sc A A1 → (∀ g ∈ hs, gok (F 17) g) → (∀ r, r < rN (F 17) → A1 16 r = run hs r) → likeS (F 17) gs sl z = (lkF (F 17) (run gs) (run hs) (facN (F 17)) : Int) → ∀ (m way : Nat) (A2 : Nat → Nat → Nat) a5 a6 a7 a8 a9, m = facN (F 17) - way → way ≤ facN (F 17) → (∀ a, a ≠ 30 → A2 a = A1 a) → Wx K 52 [some (.ref 358), some (zI z), some (zI ((facN (F 17) : Nat) : Int)), some (zI ((lkF (F 17) (run gs) (run hs) way : Nat) : Int)), some (zI (way : Int)), a5, a6, a7, a8, a9] [] n (tw f0 F A2) 0 := by
    intro A1 hs sA hsok hA1 hlk m
    induction m using Nat.strongRecOn with
    | _ m ih =>
      intro way A2 a5 a6 a7 a8 a9 hm hway hA2
      have hlw := lkF_le (F 17) (run gs) (run hs) way
      have e : lkF (F 17) (run gs) (run hs) (way + 1) = if rnmOK (F 17) (run gs) (run hs) (dcG (F 17) way) = true then lkF (F 17) (run gs) (run hs) way + 1 else lkF (F 17) (run gs) (run hs) way := rfl
      have nx : ∀ (v : Nat) (A3 : Nat → Nat → Nat) x5 x6 x7 x8 x9, way < facN (F 17) → (∀ a, a ≠ 30 → A3 a = A1 a) → lkF (F 17) (run gs) (run hs) (way + 1) = v → Wx K 172 [some (.ref 358), some (zI z), some (zI ((facN (F 17) : Nat) : Int)), some (zI (v : Int)), some (zI (way : Int)), x5, x6, x7, x8, x9] [] n (tw f0 F A3) 0 := by
        intro v A3 x5 x6 x7 x8 x9 hwl h3 hv
        subst hv
        first | refine r_incN_4 hK dX9_like_172 ?_ | refine r_iinc_4 hK dX9_like_172 ?_
        refine r_goto 52 hK dX9_like_175 ?_
        exact ih (facN (F 17) - (way + 1)) (by omega) (way + 1) A3 _ _ _ _ _ rfl (by omega) h3
      have ip : way < facN (F 17) → ∀ (d v : Nat) (A3 : Nat → Nat → Nat) a8 a9, d = F 17 - v → v ≤ F 17 → (∀ a, a ≠ 30 → A3 a = A1 a) → (∀ u, u < v → A3 30 u = dcG (F 17) way u) → Wx K 68 [some (.ref 358), some (zI z), some (zI ((facN (F 17) : Nat) : Int)), some (zI ((lkF (F 17) (run gs) (run hs) way : Nat) : Int)), some (zI (way : Int)), some (zI (((dcS (F 17) way v).1 : Nat) : Int)), some (zI (((dcS (F 17) way v).2 : Nat) : Int)), some (zI (v : Int)), a8, a9] [] n (tw f0 F A3) 0 := by
        intro hwl d
        induction d using Nat.strongRecOn with
        | _ d ih2 =>
          intro v A3 a8 a9 hd hv h3 h4
          have wp : ∀ (f a to : Nat), v < F 17 → nuOK (dcS (F 17) way v).2 f a to = true → nuF (dcS (F 17) way v).2 f a to = dcG (F 17) way v → a < 24 → to + f = 4 → Wx K 104 [some (.ref 358), some (zI z), some (zI ((facN (F 17) : Nat) : Int)), some (zI ((lkF (F 17) (run gs) (run hs) way : Nat) : Int)), some (zI (way : Int)), some (zI (((dcS (F 17) way v).1 / (F 17 - v) : Nat) : Int)), some (zI (((dcS (F 17) way v).2 : Nat) : Int)), some (zI (v : Int)), some (zI (a : Int)), some (zI (to : Int))] [] n (tw f0 F A3) 0 := by
            intro f
            induction f with
            | zero => intro a to _ h; cases h
            | succ f ih3 =>
              intro a to hvl hok hnu ha hto
              obtain ⟨d1, d2, d3, d4⟩ := dc_ok hw hwl hvl
              have e1 : nuOK (dcS (F 17) way v).2 (f + 1) a to = if (dcS (F 17) way v).2.testBit to = true then nuOK (dcS (F 17) way v).2 f a (to + 1) else if 0 < a then nuOK (dcS (F 17) way v).2 f (a - 1) (to + 1) else true := rfl
              have e2 : nuF (dcS (F 17) way v).2 (f + 1) a to = if (dcS (F 17) way v).2.testBit to = true then nuF (dcS (F 17) way v).2 f a (to + 1) else if 0 < a then nuF (dcS (F 17) way v).2 f (a - 1) (to + 1) else to := rfl
              rw [e1] at hok
              rw [e2] at hnu
              have out : ¬ (dcS (F 17) way v).2.testBit to = true → ¬ 0 < a → Wx K 138 [some (.ref 358), some (zI z), some (zI ((facN (F 17) : Nat) : Int)), some (zI ((lkF (F 17) (run gs) (run hs) way : Nat) : Int)), some (zI (way : Int)), some (zI (((dcS (F 17) way v).1 / (F 17 - v) : Nat) : Int)), some (zI (((dcS (F 17) way v).2 : Nat) : Int)), some (zI (v : Int)), some (zI (a : Int)), some (zI (to : Int))] [] n (tw f0 F A3) 0 := by
                intro c1 c2
                rw [if_neg c1, if_neg c2] at hnu
                refine r_iload_6 hK dX9_like_138 ?_
                refine r_iconstN (c := 1) hK dX9_like_140 ?_
                refine r_iload_9 hK dX9_like_141 ?_
                refine r_ishl hK dX9_like_143 (by omega) (by first | exact sh1 (by omega) | omega) ?_
                refine r_ior hK dX9_like_144 ?_
                refine r_istore_6 hK dX9_like_145 ?_
                refine r_aload_0 hK dX9_like_147 ?_
                refine r_get hK fl_X9_114 dX9_like_148 tw_obj rfl ?_
                refine r_iload_7 hK dX9_like_151 ?_
                refine r_iload_9 hK dX9_like_153 ?_
                refine t_ist hK dX9_like_155 (show _ < 4 by omega) ?_
                first | refine r_incN_7 hK dX9_like_156 ?_ | refine r_iinc_7 hK dX9_like_156 ?_
                refine r_goto 68 hK dX9_like_159 ?_
                have := ih2 (F 17 - (v + 1)) (by omega) (v + 1) (upA A3 30 v to) (some (zI (a : Int))) (some (zI (to : Int))) rfl (by omega) (fun b hb => by rw [upA_j hb]; exact h3 b hb) (fun u hu => by
                  by_cases eu : u = v
                  · subst eu; rw [upA_s]; exact hnu
                  · rw [upA_n eu]; exact h4 u (by omega))
                rw [show (dcS (F 17) way (v + 1)).1 = (dcS (F 17) way v).1 / (F 17 - v) from rfl, show (dcS (F 17) way (v + 1)).2 = (dcS (F 17) way v).2 ||| (1 <<< dcG (F 17) way v) from rfl, ← hnu] at this
                exact this
              refine r_iload_6 hK dX9_like_104 ?_
              refine r_iload_9 hK dX9_like_106 ?_
              refine r_pS2 hK (ct_has hK.rel (by omega) (by omega)) lk_X9_261 dX9_like_108 ?_
              refine r_ifB_ne 119 hK dX9_like_111 (fun h111 => ?_) (fun h111 => ?_)
              · rw [if_pos h111] at hok hnu
                refine r_iload_6 hK dX9_like_119 ?_
                refine r_iload_9 hK dX9_like_121 ?_
                refine r_pS2 hK (ct_has hK.rel (by omega) (by omega)) lk_X9_261 dX9_like_123 ?_
                refine r_ifB_ne 132 hK dX9_like_126 (fun h126 => ?_) (fun h126 => ?_)
                · first | refine r_incN_9 hK dX9_like_132 ?_ | refine r_iinc_9 hK dX9_like_132 ?_
                  refine r_goto 104 hK dX9_like_135 ?_
                  exact ih3 _ _ hvl hok hnu ha (by omega)
                · exact absurd h111 h126
              · refine r_iload_8 hK dX9_like_114 ?_
                refine r_if_le 138 hK dX9_like_116 (by omega) (fun h116 => ?_) (fun h116 => ?_)
                · exact out h111 (by omega) --!
                · rw [if_neg h111, if_pos (by omega)] at hok hnu
                  refine r_iload_6 hK dX9_like_119 ?_
                  refine r_iload_9 hK dX9_like_121 ?_
                  refine r_pS2 hK (ct_has hK.rel (by omega) (by omega)) lk_X9_261 dX9_like_123 ?_
                  refine r_ifB_ne 132 hK dX9_like_126 (fun h126_1 => ?_) (fun h126_1 => ?_)
                  · first | refine r_incN_9 hK dX9_like_132 ?_ | refine r_iinc_9 hK dX9_like_132 ?_
                    exact absurd h126_1 h111
                  · obtain ⟨b, rfl⟩ : ∃ b, a = b + 1 := ⟨a - 1, by omega⟩
                    rw [Nat.add_sub_cancel] at hok hnu
                    first | refine r_decN_8 hK dX9_like_129 ?_ | refine r_iinc_8 hK dX9_like_129 ?_
                    first | refine r_incN_9 hK dX9_like_132 ?_ | refine r_iinc_9 hK dX9_like_132 ?_
                    refine r_goto 104 hK dX9_like_135 ?_
                    exact ih3 _ _ hvl hok hnu (by omega) (by omega)
          refine r_iload_7 hK dX9_like_68 ?_
          refine r_aload_0 hK dX9_like_70 ?_
          refine r_get hK fl_X9_203 dX9_like_71 tw_obj rfl ?_
          refine r_icmp_ge 162 hK dX9_like_74 (by omega) (by omega) (fun h74 => ?_) (fun h74 => ?_)
          · have ev : v = F 17 := by omega
            subst ev
            refine r_aload_0 hK dX9_like_162 ?_
            refine r_pV0 hK (ct_isRenamed (gs := gs) (q := run hs) hK.rel hw (fun u hu => by rw [h4 u hu]; exact (dc_ok hw hwl hu).2.1) (by rw [h3 11 (by decide), sA 11 (by omega)]; exact hg) ho (fun r hr => by rw [h3 16 (by decide)]; exact hA1 r hr) (fun r hr => run_lt (fun g h => (hsok g h).1) hr)) lk_X9_381 (tw_rcv hK) dX9_like_163 ?_
            rw [rnmOK_congr h4]
            refine r_ifB_eq 172 hK dX9_like_166 (fun h166 => ?_) (fun h166 => ?_)
            · exact nx _ A3 _ _ _ _ _ hwl h3 (by rw [e, if_neg h166])
            · first | refine r_incN_3 hK dX9_like_169 ?_ | refine r_iinc_3 hK dX9_like_169 ?_
              exact nx _ A3 _ _ _ _ _ hwl h3 (by rw [e, if_pos h166])
          · obtain ⟨d1, d2, d3, d4⟩ := dc_ok hw hwl (show v < F 17 by omega)
            refine r_iload_5 hK dX9_like_77 ?_
            refine r_aload_0 hK dX9_like_79 ?_
            refine r_get hK fl_X9_203 dX9_like_80 tw_obj rfl ?_
            refine r_iload_7 hK dX9_like_83 ?_
            first | refine r_isubN hK dX9_like_85 (by omega) ?_ | refine r_isub hK dX9_like_85 ?_
            refine r_irem hK dX9_like_86 (by omega) (by omega) (by omega) ?_
            refine r_istore_8 hK dX9_like_87 ?_
            refine r_iload_5 hK dX9_like_89 ?_
            refine r_aload_0 hK dX9_like_91 ?_
            refine r_get hK fl_X9_203 dX9_like_92 tw_obj rfl ?_
            refine r_iload_7 hK dX9_like_95 ?_
            first | refine r_isubN hK dX9_like_97 (by omega) ?_ | refine r_isub hK dX9_like_97 ?_
            refine r_idiv hK dX9_like_98 (by omega) (by omega) (by omega) ?_
            refine r_istore_5 hK dX9_like_99 ?_
            refine r_iconstN (c := 0) hK dX9_like_101 ?_
            refine r_istore_9 hK dX9_like_102 ?_
            exact wp 4 _ 0 (by omega) d1 rfl (Nat.lt_of_le_of_lt (Nat.mod_le _ _) d4) rfl
      refine r_iload_4 hK dX9_like_52 ?_
      refine r_iload_2 hK dX9_like_54 ?_
      refine r_icmp_ge 178 hK dX9_like_55 (by omega) (by omega) (fun h55 => ?_) (fun h55 => ?_)
      · have ew : way = facN (F 17) := by omega
        subst ew
        refine r_iload_3 hK dX9_like_178 ?_
        exact r_iret hK hRt dX9_like_179 ⟨_, rfl, rfl, _, _, rfl, hlk.symm, rfl, sc.t sA (fun a q => hA2 a (by omega))⟩
      · refine r_iload_4 hK dX9_like_58 ?_
        refine r_istore_5 hK dX9_like_60 ?_
        refine r_iconstN (c := 0) hK dX9_like_62 ?_
        refine r_istore_6 hK dX9_like_63 ?_
        refine r_iconstN (c := 0) hK dX9_like_65 ?_
        refine r_istore_7 hK dX9_like_66 ?_
        exact ip (by omega) (F 17) 0 A2 _ _ rfl (by omega) hA2 (fun u hu => by omega)
  have fac : ∀ (A1 : Nat → Nat → Nat) (hs : List Gt), sc A A1 → (∀ g ∈ hs, gok (F 17) g) → (∀ r, r < rN (F 17) → A1 16 r = run hs r) → likeS (F 17) gs sl z = (lkF (F 17) (run gs) (run hs) (facN (F 17)) : Int) → ∀ (m v : Nat), v + m = F 17 + 1 ∨ (m = 0 ∧ F 17 = 0 ∧ v = 2) → 2 ≤ v → Wx K 29 [some (.ref 358), some (zI z), some (zI ((facN (v - 1) : Nat) : Int)), some (zI (v : Int)), none, none, none, none, none, none] [] n (tw f0 F A1) 0 := by
    intro A1 hs sA hsok hA1 hlk m
    induction m with
    | zero =>
      intro v hv hv2
      refine r_iload_3 hK dX9_like_29 ?_
      refine r_aload_0 hK dX9_like_30 ?_
      refine r_get hK fl_X9_203 dX9_like_31 tw_obj rfl ?_
      refine r_icmp_gt 47 hK dX9_like_34 (by omega) (by omega) (fun h34 => ?_) (fun h34 => ?_)
      · refine r_iconstN (c := 0) hK dX9_like_47 ?_
        refine r_istore_3 hK dX9_like_48 ?_
        refine r_iconstN (c := 0) hK dX9_like_49 ?_
        refine r_istore_4 hK dX9_like_50 ?_
        have ef : facN (v - 1) = facN (F 17) := by
          rcases hv with h | ⟨_, h, h'⟩
          · rw [show v - 1 = F 17 by omega]
          · rw [h, h']; rfl
        rw [ef]
        exact main A1 hs sA hsok hA1 hlk (facN (F 17)) 0 A1 _ _ _ _ _ rfl (by omega) (fun _ _ => rfl)
      · exact absurd h34 (by omega)
    | succ m ih =>
      intro v hv hv2
      refine r_iload_3 hK dX9_like_29 ?_
      refine r_aload_0 hK dX9_like_30 ?_
      refine r_get hK fl_X9_203 dX9_like_31 tw_obj rfl ?_
      refine r_icmp_gt 47 hK dX9_like_34 (by omega) (by omega) (fun h34 => ?_) (fun h34 => ?_)
      · exact absurd h34 (by omega)
      · refine r_iload_2 hK dX9_like_37 ?_
        refine r_iload_3 hK dX9_like_38 ?_
        first | refine r_imulN hK dX9_like_39 ?_ | refine r_imul hK dX9_like_39 ?_
        refine r_istore_2 hK dX9_like_40 ?_
        first | refine r_incN_3 hK dX9_like_41 ?_ | refine r_iinc_3 hK dX9_like_41 ?_
        refine r_goto 29 hK dX9_like_44 ?_
        have := ih (v + 1) (by omega) (by omega)
        rw [show v + 1 - 1 = (v - 1) + 1 by omega, show facN ((v - 1) + 1) = facN (v - 1) * v by show (v - 1 + 1) * facN (v - 1) = _; rw [show v - 1 + 1 = v by omega, Nat.mul_comm]] at this
        exact this
  refine r_iload_1 hK dX9_like_0 ?_
  refine r_iconstN (c := 0) hK dX9_like_1 ?_
  refine r_iconstN (c := 2) hK dX9_like_2 ?_
  refine r_pS3 hK (ct_in hK.rel hz (by omega) (by omega)) lk_X9_237 dX9_like_3 ?_
  refine r_ifB_eq 18 hK dX9_like_6 (fun h6 => ?_) (fun h6 => ?_)
  · refine r_iconst hK dX9_like_18 ?_
    exact r_iret hK hRt dX9_like_19 ⟨_, rfl, rfl, _, _, rfl, by unfold likeS; rw [if_neg (by omega)], rfl, sc.rf⟩
  · obtain ⟨k, rfl⟩ : ∃ s : Nat, z = (s : Int) := ⟨z.toNat, by omega⟩
    refine r_aload_0 hK dX9_like_9 ?_
    refine r_get hK fl_X9_64 dX9_like_10 tw_obj rfl ?_
    refine r_iload_1 hK dX9_like_13 ?_
    refine t_zld hK dX9_like_14 (show _ < 3 by omega) ?_
    have hhk := hh k (by omega)
    refine r_if_ne 20 hK dX9_like_15 (by rcases hhk with ⟨_, q⟩ | ⟨_, _, q, _⟩ <;> rw [q] <;> decide) (fun h15 => ?_) (fun h15 => ?_)
    · obtain ⟨hs, q1, q2, q3⟩ : ∃ gs, sl k = some gs ∧ A 15 k = 1 ∧ GA (fun j => A 14 (49 * k + j)) gs := by
        rcases hhk with ⟨_, q⟩ | q
        · omega
        · exact q
      have hsok := hso k hs (by omega) q1
      refine r_aload_0 hK dX9_like_20 ?_
      refine r_iload_1 hK dX9_like_21 ?_
      refine r_tvV1 hK (ct_laysSlot hK.rel (by omega) hw q3 (fun g h => gok4 hw (hsok g h))) lk_X9_375 (tw_rcv hK) dX9_like_22 (fun F1 A1 h1 => ?_)
      obtain ⟨e1, h2, h3⟩ := h1
      subst F1
      refine r_iconstN (c := 1) hK dX9_like_25 ?_
      refine r_istore_2 hK dX9_like_26 ?_
      refine r_iconstN (c := 2) hK dX9_like_27 ?_
      refine r_istore_3 hK dX9_like_28 ?_
      have hL : likeS (F 17) gs sl (k : Int) = (lkF (F 17) (run gs) (run hs) (facN (F 17)) : Int) := by unfold likeS; rw [if_pos (by omega), Int.toNat_natCast, q1]
      by_cases c : F 17 = 0
      · exact fac A1 hs (fun a q => h2 a (by omega) (by omega)) hsok h3 hL 0 2 (Or.inr ⟨rfl, c, rfl⟩) (by omega)
      · exact fac A1 hs (fun a q => h2 a (by omega) (by omega)) hsok h3 hL (F 17 - 1) 2 (Or.inl (by omega)) (by omega)
    · refine r_iconst hK dX9_like_18 ?_
      refine r_iret hK hRt dX9_like_19 ⟨_, rfl, rfl, _, _, rfl, ?_, rfl, sc.rf⟩
      rcases hhk with ⟨q, _⟩ | ⟨_, _, q, _⟩
      · unfold likeS; rw [if_pos (by omega), Int.toNat_natCast, q]
      · omega
