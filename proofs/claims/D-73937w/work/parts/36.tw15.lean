set_option maxRecDepth 100000
/-! ===== the reference: counted ===== -/
set_option maxHeartbeats 4000000 in
theorem ct_cost {G : GT} {Rel : Nat → Hp → Hp → Prop} (hR : RelOK Rel) {n : Nat} {f0 : Hp} {F : Nat → Nat} {A : Nat → Nat → Nat} {gs : List Gt} (hg : GA (A 11) gs) (ho : ∀ g ∈ gs, gok 4 g) : Ct G Rel yX9_cost cX9_cost 3 (some .int) (3) (0) [.ref 358] n (tw f0 F A) (Pu (zI ((cstF gs (A 7) gs.length : Nat) : Int)) n (tw f0 F A)) := by
  refine ct_intro [some (.ref 358), none, none] hR rfl (Nat.le_of_ble_eq_true rfl) ?_
  intro K hG hRel hK hRt hnm
  have h0 := hg.1
  have hl := hg.2.1
  have lp : ∀ m k : Nat, m = gs.length - k → k ≤ gs.length → Wx K 4 [some (.ref 358), some (zI ((cstF gs (A 7) k : Nat) : Int)), some (zI (k : Int))] [] n (tw f0 F A) 0 := by
    intro m
    induction m using Nat.strongRecOn with
    | _ m ih =>
      intro k hm hk
      refine r_iload_2 hK dX9_cost_4 ?_
      refine r_aload_0 hK dX9_cost_5 ?_
      refine r_pV0 hK (ct_gates hK.rel) lk_X9_244 (tw_rcv hK) dX9_cost_6 ?_
      rw [h0]
      refine r_icmp_ge 31 hK dX9_cost_9 (by omega) (by omega) (fun h9 => ?_) (fun h9 => ?_)
      · have e : k = gs.length := by omega
        subst e
        refine r_iload_1 hK dX9_cost_31 ?_
        exact r_iret hK hRt dX9_cost_32 ⟨rfl, rfl, rfl⟩
      · have hkl : k < gs.length := by omega
        have hge := hg.gt hkl
        have hb := ctl_lt (ho _ (gt_mem hkl))
        refine r_iload_1 hK dX9_cost_12 ?_
        refine r_aload_0 hK dX9_cost_13 ?_
        refine r_get hK fl_X9_40 dX9_cost_14 tw_obj rfl ?_
        refine r_aload_0 hK dX9_cost_17 ?_
        refine r_iload_2 hK dX9_cost_18 ?_
        refine r_pV1 hK (ct_controlsOf hK.rel (by omega) (by rw [hge]; exact ho _ (gt_mem hkl))) lk_X9_325 (tw_rcv hK) dX9_cost_19 ?_
        rw [hge]
        refine t_ild hK dX9_cost_22 (show _ < 4 by omega) ?_
        first | refine r_iaddN hK dX9_cost_23 ?_ | refine r_iadd hK dX9_cost_23 ?_
        refine r_istore_1 hK dX9_cost_24 ?_
        first | refine r_incN_2 hK dX9_cost_25 ?_ | refine r_iinc_2 hK dX9_cost_25 ?_
        refine r_goto 4 hK dX9_cost_28 ?_
        exact ih (gs.length - (k + 1)) (by omega) (k + 1) rfl (by omega)
  refine r_iconstN (c := 0) hK dX9_cost_0 ?_
  refine r_istore_1 hK dX9_cost_1 ?_
  refine r_iconstN (c := 0) hK dX9_cost_2 ?_
  refine r_istore_2 hK dX9_cost_3 ?_
  exact lp gs.length 0 rfl (by omega)
set_option maxHeartbeats 4000000 in
theorem ct_agreeing {G : GT} {Rel : Nat → Hp → Hp → Prop} (hR : RelOK Rel) {n : Nat} {f0 : Hp} {F : Nat → Nat} {A : Nat → Nat → Nat} {gs : List Gt} (hw : F 17 ≤ 4) (hg : GA (A 11) gs) (ho : ∀ g ∈ gs, gok 4 g) : Ct G Rel yX9_agreeing cX9_agreeing 5 (some .int) (4) (0) [.ref 358] n (tw f0 F A) (Pu (zI ((agS (F 17) gs gs.length : Nat) : Int)) n (tw f0 F A)) := by
  refine ct_intro [some (.ref 358), none, none, none, none] hR rfl (Nat.le_of_ble_eq_true rfl) ?_
  intro K hG hRel hK hRt hnm
  have h0 := hg.1
  have hl := hg.2.1
  have lp : ∀ (m k : Nat) a3 a4, m = gs.length - k → k ≤ gs.length → Wx K 4 [some (.ref 358), some (zI ((agS (F 17) gs k : Nat) : Int)), some (zI (k : Int)), a3, a4] [] n (tw f0 F A) 0 := by
    intro m
    induction m using Nat.strongRecOn with
    | _ m ih =>
      intro k a3 a4 hm hk
      have e : agS (F 17) gs (k + 1) = if agA (F 17) gs k gs.length = true then agS (F 17) gs k ||| (1 <<< k) else agS (F 17) gs k := rfl
      have hs := agS_lt (F 17) gs k
      have nx : ∀ v x3 x4, k < gs.length → agS (F 17) gs (k + 1) = v → Wx K 58 [some (.ref 358), some (zI (v : Int)), some (zI (k : Int)), x3, x4] [] n (tw f0 F A) 0 := by
        intro v x3 x4 hkl hv
        subst hv
        first | refine r_incN_2 hK dX9_agreeing_58 ?_ | refine r_iinc_2 hK dX9_agreeing_58 ?_
        refine r_goto 4 hK dX9_agreeing_61 ?_
        exact ih (gs.length - (k + 1)) (by omega) (k + 1) _ _ rfl (by omega)
      have ip : ∀ d j : Nat, d = gs.length - j → j ≤ gs.length → k < gs.length → Wx K 17 [some (.ref 358), some (zI ((agS (F 17) gs k : Nat) : Int)), some (zI (k : Int)), some (zI (if agA (F 17) gs k j = true then 1 else 0)), some (zI (j : Int))] [] n (tw f0 F A) 0 := by
        intro d
        induction d using Nat.strongRecOn with
        | _ d ih2 =>
          intro j hd hj hkl
          have e2 : agA (F 17) gs k (j + 1) = (agA (F 17) gs k j && agr (F 17) (gt gs k) (gt gs j)) := rfl
          refine r_iload_4 hK dX9_agreeing_17 ?_
          refine r_aload_0 hK dX9_agreeing_19 ?_
          refine r_pV0 hK (ct_gates hK.rel) lk_X9_244 (tw_rcv hK) dX9_agreeing_20 ?_
          rw [h0]
          refine r_icmp_ge 48 hK dX9_agreeing_23 (by omega) (by omega) (fun h23 => ?_) (fun h23 => ?_)
          · have ej : j = gs.length := by omega
            subst ej
            refine r_iload_3 hK dX9_agreeing_48 ?_
            refine r_if_eq 58 hK dX9_agreeing_49 (by split <;> decide) (fun h49 => ?_) (fun h49 => ?_)
            · have hq : ¬ agA (F 17) gs k gs.length = true := fun q => by rw [if_pos q] at h49; exact absurd h49 (by decide)
              exact nx _ _ _ hkl (by rw [e, if_neg hq]) --!
            · have hq : agA (F 17) gs k gs.length = true := Decidable.byContradiction (fun q => by rw [if_neg q] at h49; exact h49 rfl)
              refine r_iload_1 hK dX9_agreeing_52 ?_
              refine r_iconstN (c := 1) hK dX9_agreeing_53 ?_
              refine r_iload_2 hK dX9_agreeing_54 ?_
              refine r_ishl hK dX9_agreeing_55 (by omega) (by first | exact sh1 (by omega) | omega) ?_
              refine r_ior hK dX9_agreeing_56 ?_
              refine r_istore_1 hK dX9_agreeing_57 ?_
              exact nx _ _ _ hkl (by rw [e, if_pos hq])
          · have hjl : j < gs.length := by omega
            refine r_aload_0 hK dX9_agreeing_26 ?_
            refine r_aload_0 hK dX9_agreeing_27 ?_
            refine r_get hK fl_X9_52 dX9_agreeing_28 tw_obj rfl ?_
            refine r_iload_2 hK dX9_agreeing_31 ?_
            refine r_iload_4 hK dX9_agreeing_32 ?_
            refine r_pV3 hK (ct_doAgree (j := 11) hK.rel (Or.inl rfl) hw (by omega) (by omega) (hg.ok ho hkl) (hg.ok ho hjl)) lk_X9_314 (tw_rcv hK) dX9_agreeing_34 ?_
            rw [hg.gt hkl, hg.gt hjl]
            refine r_ifB_ne 42 hK dX9_agreeing_37 (fun h37 => ?_) (fun h37 => ?_)
            · first | refine r_incN_4 hK dX9_agreeing_42 ?_ | refine r_iinc_4 hK dX9_agreeing_42 ?_
              refine r_goto 17 hK dX9_agreeing_45 ?_
              have := ih2 (gs.length - (j + 1)) (by omega) (j + 1) rfl (by omega) hkl
              rw [e2, h37, Bool.and_true] at this
              exact this
            · refine r_iconstN (c := 0) hK dX9_agreeing_40 ?_
              refine r_istore_3 hK dX9_agreeing_41 ?_
              first | refine r_incN_4 hK dX9_agreeing_42 ?_ | refine r_iinc_4 hK dX9_agreeing_42 ?_
              refine r_goto 17 hK dX9_agreeing_45 ?_
              have := ih2 (gs.length - (j + 1)) (by omega) (j + 1) rfl (by omega) hkl
              rw [e2, Bool.eq_false_iff.mpr h37, Bool.and_false] at this
              exact this
      refine r_iload_2 hK dX9_agreeing_4 ?_
      refine r_aload_0 hK dX9_agreeing_5 ?_
      refine r_pV0 hK (ct_gates hK.rel) lk_X9_244 (tw_rcv hK) dX9_agreeing_6 ?_
      rw [h0]
      refine r_icmp_ge 64 hK dX9_agreeing_9 (by omega) (by omega) (fun h9 => ?_) (fun h9 => ?_)
      · have e2 : k = gs.length := by omega
        subst e2
        refine r_iload_1 hK dX9_agreeing_64 ?_
        exact r_iret hK hRt dX9_agreeing_65 ⟨rfl, rfl, rfl⟩
      · refine r_iconstN (c := 1) hK dX9_agreeing_12 ?_
        refine r_istore_3 hK dX9_agreeing_13 ?_
        refine r_iconstN (c := 0) hK dX9_agreeing_14 ?_
        refine r_istore_4 hK dX9_agreeing_15 ?_
        exact ip gs.length 0 rfl (by omega) (by omega)
  refine r_iconstN (c := 0) hK dX9_agreeing_0 ?_
  refine r_istore_1 hK dX9_agreeing_1 ?_
  refine r_iconstN (c := 0) hK dX9_agreeing_2 ?_
  refine r_istore_2 hK dX9_agreeing_3 ?_
  exact lp gs.length 0 _ _ rfl (by omega)
set_option maxHeartbeats 4000000 in
theorem ct_seeing {G : GT} {Rel : Nat → Hp → Hp → Prop} (hR : RelOK Rel) {n : Nat} {f0 : Hp} {F : Nat → Nat} {A : Nat → Nat → Nat} {gs : List Gt} (hw : F 17 ≤ 4) (hg : GA (A 11) gs) (ho : ∀ g ∈ gs, gok 4 g) : Ct G Rel yX9_seeing cX9_seeing 3 (some .int) (5) (0) [.ref 358] n (tw f0 F A) (Pu (zI ((seF gs (F 17) (rN (F 17)) : Nat) : Int)) n (tw f0 F A)) := by
  refine ct_intro [some (.ref 358), none, none] hR rfl (Nat.le_of_ble_eq_true rfl) ?_
  intro K hG hRel hK hRt hnm
  have hr4 := rN4 hw
  have lp : ∀ m k : Nat, m = rN (F 17) - k → k ≤ rN (F 17) → Wx K 4 [some (.ref 358), some (zI ((seF gs (F 17) k : Nat) : Int)), some (zI (k : Int))] [] n (tw f0 F A) 0 := by
    intro m
    induction m using Nat.strongRecOn with
    | _ m ih =>
      intro k hm hk
      have e : seF gs (F 17) (k + 1) = if senF gs k (2 * F 17) = 0 then seF gs (F 17) k else seF gs (F 17) k ||| (1 <<< k) := rfl
      have hs8 : senF gs k (2 * F 17) < 256 := Nat.lt_of_lt_of_le (senF_lt gs k (2 * F 17)) (rN_le (k := 8) (by omega))
      refine r_iload_2 hK dX9_seeing_4 ?_
      refine r_aload_0 hK dX9_seeing_5 ?_
      refine r_pV0 hK (ct_rows hK.rel hw) lk_X9_248 (tw_rcv hK) dX9_seeing_6 ?_
      refine r_icmp_ge 32 hK dX9_seeing_9 (by omega) (by omega) (fun h9 => ?_) (fun h9 => ?_)
      · have e2 : k = rN (F 17) := by omega
        refine r_iload_1 hK dX9_seeing_32 ?_
        exact r_iret hK hRt dX9_seeing_33 ⟨by rw [e2], rfl, rfl⟩
      · refine r_aload_0 hK dX9_seeing_12 ?_
        refine r_iload_2 hK dX9_seeing_13 ?_
        refine r_pV1 hK (ct_seenBy hK.rel hw hg ho (by omega)) lk_X9_388 (tw_rcv hK) dX9_seeing_14 ?_
        refine r_if_eq 26 hK dX9_seeing_17 (by omega) (fun h17 => ?_) (fun h17 => ?_)
        · first | refine r_incN_2 hK dX9_seeing_26 ?_ | refine r_iinc_2 hK dX9_seeing_26 ?_
          refine r_goto 4 hK dX9_seeing_29 ?_
          have := ih (rN (F 17) - (k + 1)) (by omega) (k + 1) rfl (by omega)
          rw [e, if_pos (by omega)] at this
          exact this
        · refine r_iload_1 hK dX9_seeing_20 ?_
          refine r_iconstN (c := 1) hK dX9_seeing_21 ?_
          refine r_iload_2 hK dX9_seeing_22 ?_
          refine r_ishl hK dX9_seeing_23 (by omega) (by first | exact sh1 (by omega) | omega) ?_
          refine r_ior hK dX9_seeing_24 ?_
          refine r_istore_1 hK dX9_seeing_25 ?_
          first | refine r_incN_2 hK dX9_seeing_26 ?_ | refine r_iinc_2 hK dX9_seeing_26 ?_
          refine r_goto 4 hK dX9_seeing_29 ?_
          have := ih (rN (F 17) - (k + 1)) (by omega) (k + 1) rfl (by omega)
          rw [e, if_neg (by omega)] at this
          exact this
  refine r_iconstN (c := 0) hK dX9_seeing_0 ?_
  refine r_istore_1 hK dX9_seeing_1 ?_
  refine r_iconstN (c := 0) hK dX9_seeing_2 ?_
  refine r_istore_2 hK dX9_seeing_3 ?_
  exact lp (rN (F 17)) 0 rfl (by omega)
set_option maxHeartbeats 4000000 in
theorem ct_sorts {G : GT} {Rel : Nat → Hp → Hp → Prop} (hR : RelOK Rel) {n : Nat} {f0 : Hp} {F : Nat → Nat} {A : Nat → Nat → Nat} {gs : List Gt} (hg : GA (A 11) gs) (ho : ∀ g ∈ gs, gok 4 g) : Ct G Rel yX9_sorts cX9_sorts 5 (some .int) (2) (0) [.ref 358] n (tw f0 F A) (Pu (zI ((soF gs gs.length : Nat) : Int)) n (tw f0 F A)) := by
  refine ct_intro [some (.ref 358), none, none, none, none] hR rfl (Nat.le_of_ble_eq_true rfl) ?_
  intro K hG hRel hK hRt hnm
  have h0 := hg.1
  have hl := hg.2.1
  have lp : ∀ (m k : Nat) a3 a4, m = gs.length - k → k ≤ gs.length → Wx K 4 [some (.ref 358), some (zI ((soF gs k : Nat) : Int)), some (zI (k : Int)), a3, a4] [] n (tw f0 F A) 0 := by
    intro m
    induction m using Nat.strongRecOn with
    | _ m ih =>
      intro k a3 a4 hm hk
      have e : soF gs (k + 1) = if soA gs k k = true then soF gs k + 1 else soF gs k := rfl
      have nx : ∀ v x3 x4, k < gs.length → soF gs (k + 1) = v → Wx K 102 [some (.ref 358), some (zI (v : Int)), some (zI (k : Int)), x3, x4] [] n (tw f0 F A) 0 := by
        intro v x3 x4 hkl hv
        subst hv
        first | refine r_incN_2 hK dX9_sorts_102 ?_ | refine r_iinc_2 hK dX9_sorts_102 ?_
        refine r_goto 4 hK dX9_sorts_105 ?_
        exact ih (gs.length - (k + 1)) (by omega) (k + 1) _ _ rfl (by omega)
      have ip : ∀ d j : Nat, d = k - j → j ≤ k → k < gs.length → Wx K 17 [some (.ref 358), some (zI ((soF gs k : Nat) : Int)), some (zI (k : Int)), some (zI (if soA gs k j = true then 1 else 0)), some (zI (j : Int))] [] n (tw f0 F A) 0 := by
        intro d
        induction d using Nat.strongRecOn with
        | _ d ih2 =>
          intro j hd hj hkl
          have e2 : soA gs k (j + 1) = (soA gs k j && decide (gt gs j ≠ gt gs k)) := rfl
          have gk := gok_s (hg.ok ho hkl)
          have gj := gok_s (hg.ok ho (show j < gs.length by omega))
          simp only [ge] at gk gj
          have hne : (A 11 (1 + j) = A 11 (1 + k) ∧ A 11 (17 + j) = A 11 (17 + k) ∧ A 11 (33 + j) = A 11 (33 + k)) ↔ gt gs j = gt gs k := by
            rw [← hg.gt hkl, ← hg.gt (show j < gs.length by omega)]
            unfold ge
            rw [Prod.mk.injEq, Prod.mk.injEq]
          have nx2 : j < k → gt gs j ≠ gt gs k → Wx K 89 [some (.ref 358), some (zI ((soF gs k : Nat) : Int)), some (zI (k : Int)), some (zI (if soA gs k j = true then 1 else 0)), some (zI (j : Int))] [] n (tw f0 F A) 0 := by
            intro hjk hn
            first | refine r_incN_4 hK dX9_sorts_89 ?_ | refine r_iinc_4 hK dX9_sorts_89 ?_
            refine r_goto 17 hK dX9_sorts_92 ?_
            have := ih2 (k - (j + 1)) (by omega) (j + 1) rfl (by omega) hkl
            rw [e2, decide_eq_true hn, Bool.and_true] at this
            exact this
          refine r_iload_4 hK dX9_sorts_17 ?_
          refine r_iload_2 hK dX9_sorts_19 ?_
          refine r_icmp_ge 95 hK dX9_sorts_20 (by omega) (by omega) (fun h20 => ?_) (fun h20 => ?_)
          · have ej : j = k := by omega
            subst ej
            refine r_iload_3 hK dX9_sorts_95 ?_
            refine r_if_eq 102 hK dX9_sorts_96 (by split <;> decide) (fun h96 => ?_) (fun h96 => ?_)
            · have hq : ¬ soA gs j j = true := fun q => by rw [if_pos q] at h96; exact absurd h96 (by decide)
              exact nx _ _ _ hkl (by rw [e, if_neg hq]) --!
            · have hq : soA gs j j = true := Decidable.byContradiction (fun q => by rw [if_neg q] at h96; exact h96 rfl)
              first | refine r_incN_1 hK dX9_sorts_99 ?_ | refine r_iinc_1 hK dX9_sorts_99 ?_
              exact nx _ _ _ hkl (by rw [e, if_pos hq])
          · refine r_aload_0 hK dX9_sorts_23 ?_
            refine r_get hK fl_X9_52 dX9_sorts_24 tw_obj rfl ?_
            refine r_iconstN (c := 1) hK dX9_sorts_27 ?_
            refine r_iload_4 hK dX9_sorts_28 ?_
            first | refine r_iaddN hK dX9_sorts_30 ?_ | refine r_iadd hK dX9_sorts_30 ?_
            refine t_ild hK dX9_sorts_31 (show _ < 49 by omega) ?_
            refine r_aload_0 hK dX9_sorts_32 ?_
            refine r_get hK fl_X9_52 dX9_sorts_33 tw_obj rfl ?_
            refine r_iconstN (c := 1) hK dX9_sorts_36 ?_
            refine r_iload_2 hK dX9_sorts_37 ?_
            first | refine r_iaddN hK dX9_sorts_38 ?_ | refine r_iadd hK dX9_sorts_38 ?_
            refine t_ild hK dX9_sorts_39 (show _ < 49 by omega) ?_
            refine r_icmp_ne 89 hK dX9_sorts_40 (by omega) (by omega) (fun h40 => ?_) (fun h40 => ?_)
            · exact nx2 (by omega) (fun q => by have := hne.mpr q; omega) --!
            · refine r_aload_0 hK dX9_sorts_43 ?_
              refine r_get hK fl_X9_52 dX9_sorts_44 tw_obj rfl ?_
              refine r_bipushN (c := 17) hK dX9_sorts_47 ?_
              refine r_iload_4 hK dX9_sorts_49 ?_
              first | refine r_iaddN hK dX9_sorts_51 ?_ | refine r_iadd hK dX9_sorts_51 ?_
              refine t_ild hK dX9_sorts_52 (show _ < 49 by omega) ?_
              refine r_aload_0 hK dX9_sorts_53 ?_
              refine r_get hK fl_X9_52 dX9_sorts_54 tw_obj rfl ?_
              refine r_bipushN (c := 17) hK dX9_sorts_57 ?_
              refine r_iload_2 hK dX9_sorts_59 ?_
              first | refine r_iaddN hK dX9_sorts_60 ?_ | refine r_iadd hK dX9_sorts_60 ?_
              refine t_ild hK dX9_sorts_61 (show _ < 49 by omega) ?_
              refine r_icmp_ne 89 hK dX9_sorts_62 (by omega) (by omega) (fun h62 => ?_) (fun h62 => ?_)
              · exact nx2 (by omega) (fun q => by have := hne.mpr q; omega) --!
              · refine r_aload_0 hK dX9_sorts_65 ?_
                refine r_get hK fl_X9_52 dX9_sorts_66 tw_obj rfl ?_
                refine r_bipushN (c := 33) hK dX9_sorts_69 ?_
                refine r_iload_4 hK dX9_sorts_71 ?_
                first | refine r_iaddN hK dX9_sorts_73 ?_ | refine r_iadd hK dX9_sorts_73 ?_
                refine t_ild hK dX9_sorts_74 (show _ < 49 by omega) ?_
                refine r_aload_0 hK dX9_sorts_75 ?_
                refine r_get hK fl_X9_52 dX9_sorts_76 tw_obj rfl ?_
                refine r_bipushN (c := 33) hK dX9_sorts_79 ?_
                refine r_iload_2 hK dX9_sorts_81 ?_
                first | refine r_iaddN hK dX9_sorts_82 ?_ | refine r_iadd hK dX9_sorts_82 ?_
                refine t_ild hK dX9_sorts_83 (show _ < 49 by omega) ?_
                refine r_icmp_ne 89 hK dX9_sorts_84 (by omega) (by omega) (fun h84 => ?_) (fun h84 => ?_)
                · exact nx2 (by omega) (fun q => by have := hne.mpr q; omega) --!
                · refine r_iconstN (c := 0) hK dX9_sorts_87 ?_
                  refine r_istore_3 hK dX9_sorts_88 ?_
                  first | refine r_incN_4 hK dX9_sorts_89 ?_ | refine r_iinc_4 hK dX9_sorts_89 ?_
                  refine r_goto 17 hK dX9_sorts_92 ?_
                  have := ih2 (k - (j + 1)) (by omega) (j + 1) rfl (by omega) hkl
                  rw [e2, decide_eq_false (fun q => q (hne.mp (by omega))), Bool.and_false] at this
                  exact this
      refine r_iload_2 hK dX9_sorts_4 ?_
      refine r_aload_0 hK dX9_sorts_5 ?_
      refine r_pV0 hK (ct_gates hK.rel) lk_X9_244 (tw_rcv hK) dX9_sorts_6 ?_
      rw [h0]
      refine r_icmp_ge 108 hK dX9_sorts_9 (by omega) (by omega) (fun h9 => ?_) (fun h9 => ?_)
      · have e2 : k = gs.length := by omega
        subst e2
        refine r_iload_1 hK dX9_sorts_108 ?_
        exact r_iret hK hRt dX9_sorts_109 ⟨rfl, rfl, rfl⟩
      · refine r_iconstN (c := 1) hK dX9_sorts_12 ?_
        refine r_istore_3 hK dX9_sorts_13 ?_
        refine r_iconstN (c := 0) hK dX9_sorts_14 ?_
        refine r_istore_4 hK dX9_sorts_15 ?_
        exact ip k 0 rfl (by omega) (by omega)
  refine r_iconstN (c := 0) hK dX9_sorts_0 ?_
  refine r_istore_1 hK dX9_sorts_1 ?_
  refine r_iconstN (c := 0) hK dX9_sorts_2 ?_
  refine r_istore_2 hK dX9_sorts_3 ?_
  exact lp gs.length 0 _ _ rfl (by omega)
set_option maxHeartbeats 4000000 in
theorem ct_count {G : GT} {Rel : Nat → Hp → Hp → Prop} (hR : RelOK Rel) {n : Nat} {f0 : Hp} {F : Nat → Nat} {A : Nat → Nat → Nat} {gs : List Gt} {z : Int} (hz : inR z) (hw : F 17 ≤ 4) (hh : ∀ s, s < 3 → A 15 s < 2) (hg : GA (A 11) gs) (ho : ∀ g ∈ gs, gok 4 g) : Ct G Rel yX9_count cX9_count 4 (some .int) (6) (0) [.ref 358, zI z] n (tw f0 F A) (Ti n f0 (fun r F' A' => r = cntS (F 17) gs (A 7) (F 2) (F 32) (A 15 0 + A 15 1 + A 15 2) z ∧ F' = F ∧ sc A A')) := by
  refine ct_intro [some (.ref 358), some (zI z), none, none] hR rfl (Nat.le_of_ble_eq_true rfl) ?_
  intro K hG hRel hK hRt hnm
  have h0 := hg.1
  have hl := hg.2.1
  have q0 := hh 0 (by decide)
  have q1 := hh 1 (by decide)
  have q2 := hh 2 (by decide)
  have lp5 : z = 5 → ∀ m k : Nat, m = gs.length - k → k ≤ gs.length → Wx K 135 [some (.ref 358), some (zI z), some (zI ((woF gs k : Nat) : Int)), some (zI (k : Int))] [] n (tw f0 F A) 0 := by
    intro hz5 m
    induction m using Nat.strongRecOn with
    | _ m ih =>
      intro k hm hk
      have hwo := woF_lt ho k hk
      refine r_iload_3 hK dX9_count_135 ?_
      refine r_aload_0 hK dX9_count_136 ?_
      refine r_pV0 hK (ct_gates hK.rel) lk_X9_244 (tw_rcv hK) dX9_count_137 ?_
      rw [h0]
      refine r_icmp_ge 160 hK dX9_count_140 (by omega) (by omega) (fun h140 => ?_) (fun h140 => ?_)
      · have e : k = gs.length := by omega
        subst e
        refine r_iload_2 hK dX9_count_160 ?_
        exact r_iret hK hRt dX9_count_161 ⟨_, rfl, rfl, _, _, rfl, by rw [hz5]; rfl, rfl, sc.rf⟩
      · have hkl : k < gs.length := by omega
        have hwi := wir_lt (ho _ (gt_mem hkl))
        refine r_iload_2 hK dX9_count_143 ?_
        refine r_aload_0 hK dX9_count_144 ?_
        refine r_get hK fl_X9_52 dX9_count_145 tw_obj rfl ?_
        refine r_iload_3 hK dX9_count_148 ?_
        refine r_pS2 hK (ct_wiresOf hK.rel (by omega) (hg.ok ho hkl)) lk_X9_318 dX9_count_149 ?_
        rw [hg.gt hkl]
        refine r_ior hK dX9_count_152 ?_
        refine r_istore_2 hK dX9_count_153 ?_
        first | refine r_incN_3 hK dX9_count_154 ?_ | refine r_iinc_3 hK dX9_count_154 ?_
        refine r_goto 135 hK dX9_count_157 ?_
        exact ih (gs.length - (k + 1)) (by omega) (k + 1) rfl (by omega)
  have lp13 : z = 13 → ∀ m k : Nat, m = gs.length - k → k ≤ gs.length → Wx K 219 [some (.ref 358), some (zI z), some (zI ((coF gs k : Nat) : Int)), some (zI (k : Int))] [] n (tw f0 F A) 0 := by
    intro hz13 m
    induction m using Nat.strongRecOn with
    | _ m ih =>
      intro k hm hk
      refine r_iload_3 hK dX9_count_219 ?_
      refine r_aload_0 hK dX9_count_220 ?_
      refine r_pV0 hK (ct_gates hK.rel) lk_X9_244 (tw_rcv hK) dX9_count_221 ?_
      rw [h0]
      refine r_icmp_ge 241 hK dX9_count_224 (by omega) (by omega) (fun h224 => ?_) (fun h224 => ?_)
      · have e : k = gs.length := by omega
        subst e
        refine r_iload_2 hK dX9_count_241 ?_
        exact r_iret hK hRt dX9_count_242 ⟨_, rfl, rfl, _, _, rfl, by rw [hz13]; rfl, rfl, sc.rf⟩
      · have hkl : k < gs.length := by omega
        refine r_iload_2 hK dX9_count_227 ?_
        refine r_aload_0 hK dX9_count_228 ?_
        refine r_iload_3 hK dX9_count_229 ?_
        refine r_pV1 hK (ct_controlsOf hK.rel (by omega) (hg.ok ho hkl)) lk_X9_325 (tw_rcv hK) dX9_count_230 ?_
        rw [hg.gt hkl]
        first | refine r_iaddN hK dX9_count_233 ?_ | refine r_iadd hK dX9_count_233 ?_
        refine r_istore_2 hK dX9_count_234 ?_
        first | refine r_incN_3 hK dX9_count_235 ?_ | refine r_iinc_3 hK dX9_count_235 ?_
        refine r_goto 219 hK dX9_count_238 ?_
        exact ih (gs.length - (k + 1)) (by omega) (k + 1) rfl (by omega)
  have j8 : z = 8 → Wx K 172 [some (.ref 358), some (zI z), some (zI ((0 : Nat) : Int)), none] [] n (tw f0 F A) 0 := by
    intro hz8
    have fin : ∀ a b c : Nat, a = A 15 0 → b = A 15 1 → c = A 15 2 → Wx K 215 [some (.ref 358), some (zI z), some (zI ((0 : Nat) : Int)), none] [zI (c : Int), zI ((a + b : Nat) : Int)] n (tw f0 F A) 0 := by
      intro a b c e1 e2 e3
      first | refine r_iaddN hK dX9_count_215 ?_ | refine r_iadd hK dX9_count_215 ?_
      exact r_iret hK hRt dX9_count_216 ⟨_, rfl, rfl, _, _, rfl, by rw [hz8, e1, e2, e3]; rfl, rfl, sc.rf⟩
    have k2 : ∀ a b : Nat, a = A 15 0 → b = A 15 1 → Wx K 200 [some (.ref 358), some (zI z), some (zI ((0 : Nat) : Int)), none] [zI (b : Int), zI (a : Int)] n (tw f0 F A) 0 := by
      intro a b e1 e2
      first | refine r_iaddN hK dX9_count_200 ?_ | refine r_iadd hK dX9_count_200 ?_
      refine r_aload_0 hK dX9_count_201 ?_
      refine r_get hK fl_X9_64 dX9_count_202 tw_obj rfl ?_
      refine r_iconstN (c := 2) hK dX9_count_205 ?_
      refine t_zld hK dX9_count_206 (show _ < 3 by omega) ?_
      refine r_if_eq 214 hK dX9_count_207 (by omega) (fun h207 => ?_) (fun h207 => ?_)
      · refine r_iconstN (c := 0) hK dX9_count_214 ?_
        exact fin a b 0 e1 e2 (by omega)
      · refine r_iconstN (c := 1) hK dX9_count_210 ?_
        refine r_goto 215 hK dX9_count_211 ?_
        exact fin a b 1 e1 e2 (by omega)
    have k1 : ∀ a : Nat, a = A 15 0 → Wx K 186 [some (.ref 358), some (zI z), some (zI ((0 : Nat) : Int)), none] [zI (a : Int)] n (tw f0 F A) 0 := by
      intro a e1
      refine r_aload_0 hK dX9_count_186 ?_
      refine r_get hK fl_X9_64 dX9_count_187 tw_obj rfl ?_
      refine r_iconstN (c := 1) hK dX9_count_190 ?_
      refine t_zld hK dX9_count_191 (show _ < 3 by omega) ?_
      refine r_if_eq 199 hK dX9_count_192 (by omega) (fun h192 => ?_) (fun h192 => ?_)
      · refine r_iconstN (c := 0) hK dX9_count_199 ?_
        exact k2 a 0 e1 (by omega)
      · refine r_iconstN (c := 1) hK dX9_count_195 ?_
        refine r_goto 200 hK dX9_count_196 ?_
        exact k2 a 1 e1 (by omega)
    refine r_aload_0 hK dX9_count_172 ?_
    refine r_get hK fl_X9_64 dX9_count_173 tw_obj rfl ?_
    refine r_iconstN (c := 0) hK dX9_count_176 ?_
    refine t_zld hK dX9_count_177 (show _ < 3 by omega) ?_
    refine r_if_eq 185 hK dX9_count_178 (by omega) (fun h178 => ?_) (fun h178 => ?_)
    · refine r_iconstN (c := 0) hK dX9_count_185 ?_
      exact k1 0 (by omega)
    · refine r_iconstN (c := 1) hK dX9_count_181 ?_
      refine r_goto 186 hK dX9_count_182 ?_
      exact k1 1 (by omega)
  refine r_iload_1 hK dX9_count_0 ?_
  refine r_bipushN (c := 9) hK dX9_count_1 ?_
  refine r_bipushN (c := 12) hK dX9_count_3 ?_
  refine r_pS3 hK (ct_in hK.rel hz (by omega) (by omega)) lk_X9_237 dX9_count_5 ?_
  refine r_ifB_eq 21 hK dX9_count_8 (fun h8 => ?_) (fun h8 => ?_)
  · refine r_iconstN (c := 0) hK dX9_count_21 ?_
    refine r_istore_2 hK dX9_count_22 ?_
    refine r_iload_1 hK dX9_count_23 ?_
    have hsw : z = 0 ∨ z = 1 ∨ z = 2 ∨ z = 3 ∨ z = 4 ∨ z = 5 ∨ z = 6 ∨ z = 7 ∨ z = 8 ∨ z = 9 ∨ z = 10 ∨ z = 11 ∨ z = 12 ∨ z = 13 ∨ z = 14 ∨ z = 15 ∨ z = 16 ∨ (z < 0 ∨ 16 < z) := by omega
    rcases hsw with rfl | rfl | rfl | rfl | rfl | rfl | rfl | rfl | rfl | rfl | rfl | rfl | rfl | rfl | rfl | rfl | rfl | hsw
    · refine r_tabIn 108 hK dX9_count_24 (by decide) (by decide) (by decide) rfl rfl ?_
      refine r_aload_0 hK dX9_count_108 ?_
      refine r_get hK fl_X9_203 dX9_count_109 tw_obj rfl ?_
      exact r_iret hK hRt dX9_count_112 ⟨_, rfl, rfl, _, _, rfl, rfl, rfl, sc.rf⟩
    · refine r_tabIn 113 hK dX9_count_24 (by decide) (by decide) (by decide) rfl rfl ?_
      refine r_aload_0 hK dX9_count_113 ?_
      refine r_pV0 hK (ct_gates hK.rel) lk_X9_244 (tw_rcv hK) dX9_count_114 ?_
      exact r_iret hK hRt dX9_count_117 ⟨_, rfl, rfl, _, _, rfl, by rw [h0]; rfl, rfl, sc.rf⟩
    · refine r_tabIn 118 hK dX9_count_24 (by decide) (by decide) (by decide) rfl rfl ?_
      refine r_aload_0 hK dX9_count_118 ?_
      refine r_pV0 hK (ct_cost hK.rel hg ho) lk_X9_415 (tw_rcv hK) dX9_count_119 ?_
      exact r_iret hK hRt dX9_count_122 ⟨_, rfl, rfl, _, _, rfl, rfl, rfl, sc.rf⟩
    · refine r_tabIn 123 hK dX9_count_24 (by decide) (by decide) (by decide) rfl rfl ?_
      refine r_aload_0 hK dX9_count_123 ?_
      refine r_tiV0 hK (ct_laysLevels hK.rel hg ho) lk_X9_328 (tw_rcv hK) dX9_count_124 (fun z1 F1 A1 h1 => ?_)
      obtain ⟨e0, e1, h2, h3⟩ := h1
      exact r_iret hK hRt dX9_count_127 ⟨_, rfl, rfl, _, _, rfl, e0, e1, fun a q => h2 a (by omega)⟩
    · refine r_tabIn 128 hK dX9_count_24 (by decide) (by decide) (by decide) rfl rfl ?_
      refine r_aload_0 hK dX9_count_128 ?_
      refine r_pV0 hK (ct_agreeing hK.rel hw hg ho) lk_X9_418 (tw_rcv hK) dX9_count_129 ?_
      exact r_iret hK hRt dX9_count_132 ⟨_, rfl, rfl, _, _, rfl, rfl, rfl, sc.rf⟩
    · refine r_tabIn 133 hK dX9_count_24 (by decide) (by decide) (by decide) rfl rfl ?_
      refine r_iconstN (c := 0) hK dX9_count_133 ?_
      refine r_istore_3 hK dX9_count_134 ?_
      exact lp5 rfl gs.length 0 rfl (by omega)
    · refine r_tabIn 162 hK dX9_count_24 (by decide) (by decide) (by decide) rfl rfl ?_
      refine r_aload_0 hK dX9_count_162 ?_
      refine r_get hK fl_X9_127 dX9_count_163 tw_obj rfl ?_
      exact r_iret hK hRt dX9_count_166 ⟨_, rfl, rfl, _, _, rfl, rfl, rfl, sc.rf⟩
    · refine r_tabIn 167 hK dX9_count_24 (by decide) (by decide) (by decide) rfl rfl ?_
      refine r_aload_0 hK dX9_count_167 ?_
      refine r_get hK fl_X9_218 dX9_count_168 tw_obj rfl ?_
      exact r_iret hK hRt dX9_count_171 ⟨_, rfl, rfl, _, _, rfl, rfl, rfl, sc.rf⟩
    · refine r_tabIn 172 hK dX9_count_24 (by decide) (by decide) (by decide) rfl rfl ?_
      exact j8 rfl
    · refine r_tabIn 258 hK dX9_count_24 (by decide) (by decide) (by decide) rfl rfl ?_
      exact absurd (by decide) h8
    · refine r_tabIn 258 hK dX9_count_24 (by decide) (by decide) (by decide) rfl rfl ?_
      exact absurd (by decide) h8
    · refine r_tabIn 258 hK dX9_count_24 (by decide) (by decide) (by decide) rfl rfl ?_
      exact absurd (by decide) h8
    · refine r_tabIn 258 hK dX9_count_24 (by decide) (by decide) (by decide) rfl rfl ?_
      exact absurd (by decide) h8
    · refine r_tabIn 217 hK dX9_count_24 (by decide) (by decide) (by decide) rfl rfl ?_
      refine r_iconstN (c := 0) hK dX9_count_217 ?_
      refine r_istore_3 hK dX9_count_218 ?_
      exact lp13 rfl gs.length 0 rfl (by omega)
    · refine r_tabIn 243 hK dX9_count_24 (by decide) (by decide) (by decide) rfl rfl ?_
      refine r_aload_0 hK dX9_count_243 ?_
      refine r_pV0 hK (ct_seeing hK.rel hw hg ho) lk_X9_421 (tw_rcv hK) dX9_count_244 ?_
      exact r_iret hK hRt dX9_count_247 ⟨_, rfl, rfl, _, _, rfl, rfl, rfl, sc.rf⟩
    · refine r_tabIn 248 hK dX9_count_24 (by decide) (by decide) (by decide) rfl rfl ?_
      refine r_aload_0 hK dX9_count_248 ?_
      refine r_pV0 hK (ct_degree hK.rel hw hg ho) lk_X9_424 (tw_rcv hK) dX9_count_249 ?_
      exact r_iret hK hRt dX9_count_252 ⟨_, rfl, rfl, _, _, rfl, rfl, rfl, sc.rf⟩
    · refine r_tabIn 253 hK dX9_count_24 (by decide) (by decide) (by decide) rfl rfl ?_
      refine r_aload_0 hK dX9_count_253 ?_
      refine r_pV0 hK (ct_sorts hK.rel hg ho) lk_X9_427 (tw_rcv hK) dX9_count_254 ?_
      exact r_iret hK hRt dX9_count_257 ⟨_, rfl, rfl, _, _, rfl, rfl, rfl, sc.rf⟩
    · refine r_tabOut 258 hK dX9_count_24 hz hsw rfl ?_
      refine r_iconst hK dX9_count_258 ?_
      exact r_iret hK hRt dX9_count_259 ⟨_, rfl, rfl, _, _, rfl, by unfold cntS; rw [if_neg (by omega), if_neg (by omega), if_neg (by omega), if_neg (by omega), if_neg (by omega), if_neg (by omega), if_neg (by omega), if_neg (by omega), if_neg (by omega), if_neg (by omega), if_neg (by omega), if_neg (by omega), if_neg (by omega), if_neg (by omega)], rfl, sc.rf⟩
  · obtain ⟨k, rfl⟩ : ∃ s : Nat, z = (s : Int) := ⟨z.toNat, by omega⟩
    refine r_aload_0 hK dX9_count_11 ?_
    refine r_get hK fl_X9_40 dX9_count_12 tw_obj rfl ?_
    refine r_iload_1 hK dX9_count_15 ?_
    refine r_bipushN (c := 9) hK dX9_count_16 ?_
    first | refine r_isubN hK dX9_count_18 (by omega) ?_ | refine r_isub hK dX9_count_18 ?_
    refine t_ild hK dX9_count_19 (show _ < 4 by omega) ?_
    exact r_iret hK hRt dX9_count_20 ⟨_, rfl, rfl, _, _, rfl, by unfold cntS; rw [if_pos (by omega), Int.toNat_natCast], rfl, sc.rf⟩
