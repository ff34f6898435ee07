set_option maxRecDepth 100000
/-! ===== the reference: gate, shrunk, found, order ===== -/
set_option maxHeartbeats 4000000 in
theorem ct_gate {G : GT} {Rel : Nat → Hp → Hp → Prop} (hR : RelOK Rel) {n : Nat} {f0 : Hp} {F : Nat → Nat} {A : Nat → Nat → Nat} {gs : List Gt} {y z : Int} (hy : inR y) (hz : inR z) (hw : F 17 ≤ 4) (hg : GA (A 11) gs) (ho : ∀ g ∈ gs, gok 4 g) : Ct G Rel yX9_gate cX9_gate 3 (some .int) (5) (0) [.ref 358, zI y, zI z] n (tw f0 F A) (Ti n f0 (fun r F' A' => r = gateS (F 17) gs (A 7) y z ∧ F' = F ∧ sc A A')) := by
  refine ct_intro [some (.ref 358), some (zI y), some (zI z)] hR rfl (Nat.le_of_ble_eq_true rfl) ?_
  intro K hG hRel hK hRt hnm
  have h0 := hg.1
  have hl := hg.2.1
  refine r_aload_0 hK dX9_gate_0 ?_
  refine r_iload_1 hK dX9_gate_1 ?_
  refine r_pV1 hK (ct_isGate hK.rel hy (by omega)) lk_X9_272 (tw_rcv hK) dX9_gate_2 ?_
  refine r_ifB_ne 10 hK dX9_gate_5 (fun h5 => ?_) (fun h5 => ?_)
  · obtain ⟨k, rfl⟩ : ∃ s : Nat, y = (s : Int) := ⟨y.toNat, by omega⟩
    have hk : k < gs.length := by omega
    have hge := hg.gt hk
    have hgk := ho _ (gt_mem hk)
    have hb := ctl_lt hgk
    have hG : ∀ q, gateS (F 17) gs (A 7) (k : Int) q = (if q = 0 then ((gt gs k).1 : Int) else if q = 1 then ((gt gs k).2.1 : Int) else if q = 2 then ((gt gs k).2.2 : Int) else if q = 3 then (A 7 (bits ((gt gs k).2.1 ||| (gt gs k).2.2)) : Int) else if q = 4 then (lvT gs gs.length k : Int) else if q = 5 then (frB (F 17) gs k k : Int) else if q = 6 then (frA (F 17) gs k (gs.length - (k + 1)) : Int) else -1) := fun q => by unfold gateS; rw [if_pos (by omega), Int.toNat_natCast]
    refine r_iload_2 hK dX9_gate_10 ?_
    have hsw : z = 0 ∨ z = 1 ∨ z = 2 ∨ z = 3 ∨ z = 4 ∨ z = 5 ∨ z = 6 ∨ (z < 0 ∨ 6 < z) := by omega
    rcases hsw with rfl | rfl | rfl | rfl | rfl | rfl | rfl | hsw
    · refine r_tabIn 52 hK dX9_gate_11 (by decide) (by decide) (by decide) rfl rfl ?_
      refine r_aload_0 hK dX9_gate_52 ?_
      refine r_get hK fl_X9_52 dX9_gate_53 tw_obj rfl ?_
      refine r_iconstN (c := 1) hK dX9_gate_56 ?_
      refine r_iload_1 hK dX9_gate_57 ?_
      first | refine r_iaddN hK dX9_gate_58 ?_ | refine r_iadd hK dX9_gate_58 ?_
      refine t_ild hK dX9_gate_59 (show _ < 49 by omega) ?_
      exact r_iret hK hRt dX9_gate_60 ⟨_, rfl, rfl, _, _, rfl, by rw [hG, ← hge]; rfl, rfl, sc.rf⟩
    · refine r_tabIn 61 hK dX9_gate_11 (by decide) (by decide) (by decide) rfl rfl ?_
      refine r_aload_0 hK dX9_gate_61 ?_
      refine r_get hK fl_X9_52 dX9_gate_62 tw_obj rfl ?_
      refine r_bipushN (c := 17) hK dX9_gate_65 ?_
      refine r_iload_1 hK dX9_gate_67 ?_
      first | refine r_iaddN hK dX9_gate_68 ?_ | refine r_iadd hK dX9_gate_68 ?_
      refine t_ild hK dX9_gate_69 (show _ < 49 by omega) ?_
      exact r_iret hK hRt dX9_gate_70 ⟨_, rfl, rfl, _, _, rfl, by rw [hG, ← hge]; rfl, rfl, sc.rf⟩
    · refine r_tabIn 71 hK dX9_gate_11 (by decide) (by decide) (by decide) rfl rfl ?_
      refine r_aload_0 hK dX9_gate_71 ?_
      refine r_get hK fl_X9_52 dX9_gate_72 tw_obj rfl ?_
      refine r_bipushN (c := 33) hK dX9_gate_75 ?_
      refine r_iload_1 hK dX9_gate_77 ?_
      first | refine r_iaddN hK dX9_gate_78 ?_ | refine r_iadd hK dX9_gate_78 ?_
      refine t_ild hK dX9_gate_79 (show _ < 49 by omega) ?_
      exact r_iret hK hRt dX9_gate_80 ⟨_, rfl, rfl, _, _, rfl, by rw [hG, ← hge]; rfl, rfl, sc.rf⟩
    · refine r_tabIn 81 hK dX9_gate_11 (by decide) (by decide) (by decide) rfl rfl ?_
      refine r_aload_0 hK dX9_gate_81 ?_
      refine r_get hK fl_X9_40 dX9_gate_82 tw_obj rfl ?_
      refine r_aload_0 hK dX9_gate_85 ?_
      refine r_iload_1 hK dX9_gate_86 ?_
      refine r_pV1 hK (ct_controlsOf hK.rel (by omega) (by rw [hge]; exact hgk)) lk_X9_325 (tw_rcv hK) dX9_gate_87 ?_
      rw [hge]
      refine t_ild hK dX9_gate_90 (show _ < 4 by omega) ?_
      exact r_iret hK hRt dX9_gate_91 ⟨_, rfl, rfl, _, _, rfl, by rw [hG]; rfl, rfl, sc.rf⟩
    · refine r_tabIn 92 hK dX9_gate_11 (by decide) (by decide) (by decide) rfl rfl ?_
      refine r_aload_0 hK dX9_gate_92 ?_
      refine r_tiV0 hK (ct_laysLevels hK.rel hg ho) lk_X9_328 (tw_rcv hK) dX9_gate_93 (fun z1 F1 A1 h1 => ?_)
      obtain ⟨-, e1, h2, h3⟩ := h1
      refine r_pop hK dX9_gate_96 ?_
      refine r_aload_0 hK dX9_gate_97 ?_
      refine r_get hK fl_X9_71 dX9_gate_98 tw_obj rfl ?_
      refine r_iload_1 hK dX9_gate_101 ?_
      refine t_ild hK dX9_gate_102 (show _ < 16 by omega) ?_
      exact r_iret hK hRt dX9_gate_103 ⟨_, rfl, rfl, _, _, rfl, by rw [hG, h3 k hk]; rfl, e1, fun a q => h2 a (by omega)⟩
    · refine r_tabIn 104 hK dX9_gate_11 (by decide) (by decide) (by decide) rfl rfl ?_
      refine r_aload_0 hK dX9_gate_104 ?_
      refine r_iload_1 hK dX9_gate_105 ?_
      refine r_iconst hK dX9_gate_106 ?_
      refine r_pV2 hK (ct_freeOf (s := -1) hK.rel (Or.inl rfl) hk hw hg ho) lk_X9_331 (tw_rcv hK) dX9_gate_107 ?_
      exact r_iret hK hRt dX9_gate_110 ⟨_, rfl, rfl, _, _, rfl, by rw [hG]; rfl, rfl, sc.rf⟩
    · refine r_tabIn 111 hK dX9_gate_11 (by decide) (by decide) (by decide) rfl rfl ?_
      refine r_aload_0 hK dX9_gate_111 ?_
      refine r_iload_1 hK dX9_gate_112 ?_
      refine r_iconstN (c := 1) hK dX9_gate_113 ?_
      refine r_pV2 hK (ct_freeOf (s := 1) hK.rel (Or.inr rfl) hk hw hg ho) lk_X9_331 (tw_rcv hK) dX9_gate_114 ?_
      exact r_iret hK hRt dX9_gate_117 ⟨_, rfl, rfl, _, _, rfl, by rw [hG]; rfl, rfl, sc.rf⟩
    · refine r_tabOut 118 hK dX9_gate_11 hz hsw rfl ?_
      refine r_iconst hK dX9_gate_118 ?_
      exact r_iret hK hRt dX9_gate_119 ⟨_, rfl, rfl, _, _, rfl, by rw [hG, if_neg (by omega), if_neg (by omega), if_neg (by omega), if_neg (by omega), if_neg (by omega), if_neg (by omega), if_neg (by omega)], rfl, sc.rf⟩
  · refine r_iconst hK dX9_gate_8 ?_
    exact r_iret hK hRt dX9_gate_9 ⟨_, rfl, rfl, _, _, rfl, by unfold gateS; rw [if_neg (by omega)], rfl, sc.rf⟩
set_option maxHeartbeats 4000000 in
theorem ct_shrunk {G : GT} {Rel : Nat → Hp → Hp → Prop} (hR : RelOK Rel) {n : Nat} {f0 : Hp} {F : Nat → Nat} {A : Nat → Nat → Nat} {gs : List Gt} {y z : Int} (hy : inR y) (hz : inR z) (hw : F 17 ≤ 4) (hg : GA (A 11) gs) (ho : ∀ g ∈ gs, gok (F 17) g) : Ct G Rel yX9_shrunk cX9_shrunk 3 (some .int) (7) (0) [.ref 358, zI y, zI z] n (tw f0 F A) (Ti n f0 (fun r F' A' => r = askG (shrAll (F 17) 17 gs) y z ∧ F' = F ∧ sc A A')) := by
  refine ct_intro [some (.ref 358), some (zI y), some (zI z)] hR rfl (Nat.le_of_ble_eq_true rfl) ?_
  intro K hG hRel hK hRt hnm
  refine r_aload_0 hK dX9_shrunk_0 ?_
  refine r_tvV0 hK (ct_laysShrunk hK.rel hw hg ho) lk_X9_282 (tw_rcv hK) dX9_shrunk_1 (fun F1 A1 h1 => ?_)
  obtain ⟨e1, h2, h3⟩ := h1
  have sA : sc A A1 := fun a q => h2 a (by omega)
  have s0 := h3.1
  have sl := h3.2.1
  refine r_iload_1 hK dX9_shrunk_4 ?_
  refine r_iconst hK dX9_shrunk_5 ?_
  refine r_icmp_ne 16 hK dX9_shrunk_6 (by omega) (by omega) (fun h6 => ?_) (fun h6 => ?_)
  · refine r_iload_1 hK dX9_shrunk_16 ?_
    refine r_iconstN (c := 0) hK dX9_shrunk_17 ?_
    refine r_aload_0 hK dX9_shrunk_18 ?_
    refine r_get hK fl_X9_74 dX9_shrunk_19 tw_obj rfl ?_
    refine r_iconstN (c := 0) hK dX9_shrunk_22 ?_
    refine t_ild hK dX9_shrunk_23 (show _ < 49 by omega) ?_
    refine r_iconstN (c := 1) hK dX9_shrunk_24 ?_
    rw [s0]
    refine r_isub hK dX9_shrunk_25 ?_
    refine r_pS3 hK (ct_in hK.rel hy (by omega) (by omega)) lk_X9_237 dX9_shrunk_26 ?_
    refine r_ifB_eq 41 hK dX9_shrunk_29 (fun h29 => ?_) (fun h29 => ?_)
    · refine r_iconst hK dX9_shrunk_41 ?_
      exact r_iret hK hRt dX9_shrunk_42 ⟨_, rfl, rfl, _, _, rfl, by unfold askG; rw [if_neg (by omega), if_neg (by omega)], e1, sA⟩
    · refine r_iload_2 hK dX9_shrunk_32 ?_
      refine r_iconstN (c := 0) hK dX9_shrunk_33 ?_
      refine r_iconstN (c := 2) hK dX9_shrunk_34 ?_
      refine r_pS3 hK (ct_in hK.rel hz (by omega) (by omega)) lk_X9_237 dX9_shrunk_35 ?_
      refine r_ifB_ne 43 hK dX9_shrunk_38 (fun h38 => ?_) (fun h38 => ?_)
      · obtain ⟨k, rfl⟩ : ∃ s : Nat, y = (s : Int) := ⟨y.toNat, by omega⟩
        have hk : k < (shrAll (F 17) 17 gs).length := by omega
        have hge := h3.gt hk
        have hG : askG (shrAll (F 17) 17 gs) (k : Int) z = tellG (gt (shrAll (F 17) 17 gs) k) z := by unfold askG; rw [if_neg (by omega), if_pos (by omega), Int.toNat_natCast]
        refine r_iload_2 hK dX9_shrunk_43 ?_
        refine r_if_ne 58 hK dX9_shrunk_44 (by omega) (fun h44 => ?_) (fun h44 => ?_)
        · refine r_iload_2 hK dX9_shrunk_58 ?_
          refine r_iconstN (c := 1) hK dX9_shrunk_59 ?_
          refine r_icmp_ne 75 hK dX9_shrunk_60 (by omega) (by omega) (fun h60 => ?_) (fun h60 => ?_)
          · refine r_aload_0 hK dX9_shrunk_75 ?_
            refine r_get hK fl_X9_74 dX9_shrunk_76 tw_obj rfl ?_
            refine r_bipushN (c := 33) hK dX9_shrunk_79 ?_
            refine r_iload_1 hK dX9_shrunk_81 ?_
            first | refine r_iaddN hK dX9_shrunk_82 ?_ | refine r_iadd hK dX9_shrunk_82 ?_
            refine t_ild hK dX9_shrunk_83 (show _ < 49 by omega) ?_
            exact r_iret hK hRt dX9_shrunk_84 ⟨_, rfl, rfl, _, _, rfl, by rw [hG, ← hge]; unfold tellG; rw [if_neg (by omega), if_neg (by omega)]; rfl, e1, sA⟩
          · refine r_aload_0 hK dX9_shrunk_63 ?_
            refine r_get hK fl_X9_74 dX9_shrunk_64 tw_obj rfl ?_
            refine r_bipushN (c := 17) hK dX9_shrunk_67 ?_
            refine r_iload_1 hK dX9_shrunk_69 ?_
            first | refine r_iaddN hK dX9_shrunk_70 ?_ | refine r_iadd hK dX9_shrunk_70 ?_
            refine t_ild hK dX9_shrunk_71 (show _ < 49 by omega) ?_
            refine r_goto 84 hK dX9_shrunk_72 ?_
            exact r_iret hK hRt dX9_shrunk_84 ⟨_, rfl, rfl, _, _, rfl, by rw [hG, ← hge]; unfold tellG; rw [if_neg (by omega), if_pos (by omega)]; rfl, e1, sA⟩
        · refine r_aload_0 hK dX9_shrunk_47 ?_
          refine r_get hK fl_X9_74 dX9_shrunk_48 tw_obj rfl ?_
          refine r_iconstN (c := 1) hK dX9_shrunk_51 ?_
          refine r_iload_1 hK dX9_shrunk_52 ?_
          first | refine r_iaddN hK dX9_shrunk_53 ?_ | refine r_iadd hK dX9_shrunk_53 ?_
          refine t_ild hK dX9_shrunk_54 (show _ < 49 by omega) ?_
          refine r_goto 84 hK dX9_shrunk_55 ?_
          exact r_iret hK hRt dX9_shrunk_84 ⟨_, rfl, rfl, _, _, rfl, by rw [hG, ← hge]; unfold tellG; rw [if_pos (by omega)]; rfl, e1, sA⟩
      · refine r_iconst hK dX9_shrunk_41 ?_
        exact r_iret hK hRt dX9_shrunk_42 ⟨_, rfl, rfl, _, _, rfl, by unfold askG; rw [if_neg (by omega), if_neg (by omega)], e1, sA⟩
  · refine r_aload_0 hK dX9_shrunk_9 ?_
    refine r_get hK fl_X9_74 dX9_shrunk_10 tw_obj rfl ?_
    refine r_iconstN (c := 0) hK dX9_shrunk_13 ?_
    refine t_ild hK dX9_shrunk_14 (show _ < 49 by omega) ?_
    exact r_iret hK hRt dX9_shrunk_15 ⟨_, rfl, rfl, _, _, rfl, by unfold askG; rw [if_pos (by omega), s0], e1, sA⟩
set_option maxHeartbeats 4000000 in
theorem ct_foundOf {G : GT} {Rel : Nat → Hp → Hp → Prop} (hR : RelOK Rel) {n : Nat} {f0 : Hp} {F : Nat → Nat} {A : Nat → Nat → Nat} {l : List (Nat × Nat)} {y z : Int} (hy : inR y) (hz : inR z) (h1 : F 38 = l.length) (hl : l.length ≤ 800) (hf2 : ∀ i, i < l.length → l[i]? = some (A 19 i, A 20 i)) : Ct G Rel yX9_foundOf cX9_foundOf 3 (some .int) (2) (0) [.ref 358, zI y, zI z] n (tw f0 F A) (Pu (zI (askF l y z)) n (tw f0 F A)) := by
  refine ct_intro [some (.ref 358), some (zI y), some (zI z)] hR rfl (Nat.le_of_ble_eq_true rfl) ?_
  intro K hG hRel hK hRt hnm
  refine r_iload_1 hK dX9_foundOf_0 ?_
  refine r_iconst hK dX9_foundOf_1 ?_
  refine r_icmp_ne 10 hK dX9_foundOf_2 (by omega) (by omega) (fun h2 => ?_) (fun h2 => ?_)
  · refine r_iload_1 hK dX9_foundOf_10 ?_
    refine r_iconstN (c := 0) hK dX9_foundOf_11 ?_
    refine r_aload_0 hK dX9_foundOf_12 ?_
    refine r_get hK fl_X9_296 dX9_foundOf_13 tw_obj rfl ?_
    refine r_iconstN (c := 1) hK dX9_foundOf_16 ?_
    refine r_isub hK dX9_foundOf_17 ?_
    refine r_pS3 hK (ct_in hK.rel hy (by omega) (by omega)) lk_X9_237 dX9_foundOf_18 ?_
    refine r_ifB_eq 33 hK dX9_foundOf_21 (fun h21 => ?_) (fun h21 => ?_)
    · refine r_iconst hK dX9_foundOf_33 ?_
      exact r_iret hK hRt dX9_foundOf_34 ⟨by unfold askF; rw [if_neg (by omega), if_neg (by omega)], rfl, rfl⟩
    · refine r_iload_2 hK dX9_foundOf_24 ?_
      refine r_iconstN (c := 0) hK dX9_foundOf_25 ?_
      refine r_iconstN (c := 1) hK dX9_foundOf_26 ?_
      refine r_pS3 hK (ct_in hK.rel hz (by omega) (by omega)) lk_X9_237 dX9_foundOf_27 ?_
      refine r_ifB_ne 35 hK dX9_foundOf_30 (fun h30 => ?_) (fun h30 => ?_)
      · obtain ⟨k, rfl⟩ : ∃ s : Nat, y = (s : Int) := ⟨y.toNat, by omega⟩
        have hk := hf2 k (by omega)
        have hG : askF l (k : Int) z = (if z = 0 then (A 19 k : Int) else (A 20 k : Int)) := by unfold askF ftAt; rw [if_neg (by omega), if_pos (by omega), Int.toNat_natCast, List.getD_eq_getElem?_getD, hk]; rfl
        refine r_iload_2 hK dX9_foundOf_35 ?_
        refine r_if_ne 48 hK dX9_foundOf_36 (by omega) (fun h36 => ?_) (fun h36 => ?_)
        · refine r_aload_0 hK dX9_foundOf_48 ?_
          refine r_get hK fl_X9_80 dX9_foundOf_49 tw_obj rfl ?_
          refine r_iload_1 hK dX9_foundOf_52 ?_
          refine t_ild hK dX9_foundOf_53 (show _ < 800 by omega) ?_
          exact r_iret hK hRt dX9_foundOf_54 ⟨by rw [hG, if_neg (by omega)], rfl, rfl⟩
        · refine r_aload_0 hK dX9_foundOf_39 ?_
          refine r_get hK fl_X9_77 dX9_foundOf_40 tw_obj rfl ?_
          refine r_iload_1 hK dX9_foundOf_43 ?_
          refine t_ild hK dX9_foundOf_44 (show _ < 800 by omega) ?_
          refine r_goto 54 hK dX9_foundOf_45 ?_
          exact r_iret hK hRt dX9_foundOf_54 ⟨by rw [hG, if_pos (by omega)], rfl, rfl⟩
      · refine r_iconst hK dX9_foundOf_33 ?_
        exact r_iret hK hRt dX9_foundOf_34 ⟨by unfold askF; rw [if_neg (by omega), if_neg (by omega)], rfl, rfl⟩
  · refine r_aload_0 hK dX9_foundOf_5 ?_
    refine r_get hK fl_X9_296 dX9_foundOf_6 tw_obj rfl ?_
    exact r_iret hK hRt dX9_foundOf_9 ⟨by unfold askF; rw [if_pos (by omega), h1], rfl, rfl⟩
set_option maxHeartbeats 4000000 in
theorem ct_found {G : GT} {Rel : Nat → Hp → Hp → Prop} (hR : RelOK Rel) {n : Nat} {f0 : Hp} {F : Nat → Nat} {A : Nat → Nat → Nat} {gs : List Gt} {both : Bool} {y z : Int} (hy : inR y) (hz : inR z) (hw : F 17 ≤ 4) (hg : GA (A 11) gs) (ho : ∀ g ∈ gs, gok (F 17) g) : Ct G Rel yX9_found cX9_found 4 (some .int) (4) (0) [.ref 358, zI (if both then 1 else 0), zI y, zI z] n (tw f0 F A) (Ti n f0 (fun r F' A' => r = askF (fdL (fdAll (F 17) both (run gs))) y z ∧ kF F F' ∧ sc A A')) := by
  refine ct_intro [some (.ref 358), some (zI (if both then 1 else 0)), some (zI y), some (zI z)] hR rfl (Nat.le_of_ble_eq_true rfl) ?_
  intro K hG hRel hK hRt hnm
  have ho4 : ∀ g ∈ gs, gok 4 g := fun g h => gok4 hw (ho g h)
  refine r_aload_0 hK dX9_found_0 ?_
  refine r_aload_0 hK dX9_found_1 ?_
  refine r_get hK fl_X9_52 dX9_found_2 tw_obj rfl ?_
  refine r_tvV1 hK (ct_laysOrder (j := 11) hK.rel (Or.inl rfl) hw hg ho4) lk_X9_285 (tw_rcv hK) dX9_found_5 (fun F1 A1 h1 => ?_)
  obtain ⟨e1, h2, h3⟩ := h1
  subst F1
  refine r_aload_0 hK dX9_found_8 ?_
  refine r_aload_0 hK dX9_found_9 ?_
  refine r_get hK fl_X9_203 dX9_found_10 tw_obj rfl ?_
  refine r_iload_1 hK dX9_found_13 ?_
  refine r_tvV2 hK (ct_laysFound (both := both) hK.rel (by omega) (onto_run ho) h3) lk_X9_289 (tw_rcv hK) dX9_found_14 (fun F2 A2 h4 => ?_)
  obtain ⟨q1, q2, q3, q4, q5⟩ := h4
  refine r_aload_0 hK dX9_found_17 ?_
  refine r_iload_2 hK dX9_found_18 ?_
  refine r_iload_3 hK dX9_found_19 ?_
  refine r_pV2 hK (ct_foundOf hK.rel hy hz q1 (by omega) q3) lk_X9_360 (tw_rcv hK) dX9_found_20 ?_
  exact r_iret hK hRt dX9_found_23 ⟨_, rfl, rfl, _, _, rfl, rfl, q4, sc.t (fun a q => h2 a (by omega)) q5.sc⟩
set_option maxHeartbeats 4000000 in
theorem ct_common {G : GT} {Rel : Nat → Hp → Hp → Prop} (hR : RelOK Rel) {n : Nat} {f : Hp} {a b : Nat} (ha : a < 2147483648) (hb : b < 2147483648) : Ct G Rel yX9_common cX9_common 5 (some .int) (1) (0) [zI (a : Int), zI (b : Int)] n (f) (Pu (zI ((Nat.gcd a b : Nat) : Int)) n f) := by
  refine ct_intro [some (zI (a : Int)), some (zI (b : Int)), none, none, none] hR rfl (Nat.le_of_ble_eq_true rfl) ?_
  intro K hG hRel hK hRt hnm
  have lp : ∀ (y x : Nat) a4, x < 2147483648 → y < 2147483648 → Nat.gcd x y = Nat.gcd a b → Wx K 4 [some (zI (a : Int)), some (zI (b : Int)), some (zI (x : Int)), some (zI (y : Int)), a4] [] n f 0 := by
    intro y
    induction y using Nat.strongRecOn with
    | _ y ih =>
      intro x a4 hx hy hxy
      refine r_iload_3 hK dX9_common_4 ?_
      refine r_if_le 21 hK dX9_common_5 (by omega) (fun h5 => ?_) (fun h5 => ?_)
      · have e : y = 0 := by omega
        subst e
        refine r_iload_2 hK dX9_common_21 ?_
        exact r_iret hK hRt dX9_common_22 ⟨by rw [← hxy, Nat.gcd_zero_right], rfl, rfl⟩
      · refine r_iload_2 hK dX9_common_8 ?_
        refine r_iload_3 hK dX9_common_9 ?_
        refine r_irem hK dX9_common_10 (by omega) (by omega) (by omega) ?_
        refine r_istore_4 hK dX9_common_11 ?_
        refine r_iload_3 hK dX9_common_13 ?_
        refine r_istore_2 hK dX9_common_14 ?_
        refine r_iload_4 hK dX9_common_15 ?_
        refine r_istore_3 hK dX9_common_17 ?_
        have hm : x % y < y := Nat.mod_lt _ (by omega)
        refine r_goto 4 hK dX9_common_18 ?_
        exact ih (x % y) hm y _ hy (by omega) (by rw [← hxy, Nat.gcd_comm x y, Nat.gcd_rec y x, Nat.gcd_comm])
  refine r_iload_0 hK dX9_common_0 ?_
  refine r_istore_2 hK dX9_common_1 ?_
  refine r_iload_1 hK dX9_common_2 ?_
  refine r_istore_3 hK dX9_common_3 ?_
  exact lp b a _ ha hb rfl
set_option maxHeartbeats 4000000 in
theorem ct_order {G : GT} {Rel : Nat → Hp → Hp → Prop} (hR : RelOK Rel) {n : Nat} {f0 : Hp} {F : Nat → Nat} {A : Nat → Nat → Nat} {gs : List Gt} {z : Int} (hz : inR z) (hw : F 17 ≤ 4) (hg : GA (A 11) gs) (ho : ∀ g ∈ gs, gok (F 17) g) : Ct G Rel yX9_order cX9_order 10 (some .int) (4) (0) [.ref 358, zI z] n (tw f0 F A) (Ti n f0 (fun r F' A' => r = ordS (rN (F 17)) (run gs) z ∧ F' = F ∧ sc A A')) := by
  refine ct_intro [some (.ref 358), some (zI z), none, none, none, none, none, none, none, none] hR rfl (Nat.le_of_ble_eq_true rfl) ?_
  intro K hG hRel hK hRt hnm
  have ho4 : ∀ g ∈ gs, gok 4 g := fun g h => gok4 hw (ho g h)
  have hr4 := rN4 hw
  have p1 : ∀ x, x < rN (F 17) → run gs x < rN (F 17) := fun x hx => run_lt (fun g h => (ho g h).1) hx
  have p2 : ∀ x, x < rN (F 17) → run gs.reverse (run gs x) = x := fun x hx => run_rev' gs x ho
  have main : ∀ A1, (∀ a, a ≠ 16 → A1 a = A a) → (∀ r, r < rN (F 17) → A1 16 r = run gs r) → 0 ≤ z ∧ z ≤ 4 → ∀ (m row : Nat) a7 a8 a9, m = rN (F 17) - row → row ≤ rN (F 17) → Wx K 32 [some (.ref 358), some (zI z), some (zI ((odF (run gs) row).1 : Int)), some (zI ((odF (run gs) row).2.1 : Int)), some (zI ((odF (run gs) row).2.2.1 : Int)), some (zI ((odF (run gs) row).2.2.2 : Int)), some (zI (row : Int)), a7, a8, a9] [] n (tw f0 F A1) 0 := by
    intro A1 h2 h3 hz4 m
    have sA : sc A A1 := fun a q => h2 a (by omega)
    induction m using Nat.strongRecOn with
    | _ m ih =>
      intro row a7 a8 a9 hm hrow
      obtain ⟨b1, b2, b3, b4⟩ := odF_ok (p := run gs) row (fun y hy => cyc_n hr4.2 p1 p2 (by omega))
      have b5 : (odF (run gs) row).2.2.1 ≤ 720720 := Nat.le_of_dvd (by decide) b3
      have b6 : 1 ≤ (odF (run gs) row).2.2.1 := Nat.pos_of_dvd_of_pos b3 (by decide)
      have nx : ∀ (a b c e : Nat) x7 x8 x9, row < rN (F 17) → odF (run gs) (row + 1) = (a, b, c, e) → Wx K 136 [some (.ref 358), some (zI z), some (zI (a : Int)), some (zI (b : Int)), some (zI (c : Int)), some (zI (e : Int)), some (zI (row : Int)), x7, x8, x9] [] n (tw f0 F A1) 0 := by
        intro a b c e x7 x8 x9 hr he
        first | refine r_incN_6 hK dX9_order_136 ?_ | refine r_iinc_6 hK dX9_order_136 ?_
        refine r_goto 32 hK dX9_order_139 ?_
        have := ih (rN (F 17) - (row + 1)) (by omega) (row + 1) x7 x8 x9 rfl (by omega)
        rw [he] at this
        exact this
      have ip : ∀ (m r c l : Nat), (∃ j, j < m ∧ itr (run gs) j r = row) → r < rN (F 17) → c + m = 17 → 1 ≤ c → l ≤ row → cyc (run gs) row = cyW (run gs) row m r c l → row < rN (F 17) → Wx K 57 [some (.ref 358), some (zI z), some (zI ((odF (run gs) row).1 : Int)), some (zI ((odF (run gs) row).2.1 : Int)), some (zI ((odF (run gs) row).2.2.1 : Int)), some (zI ((odF (run gs) row).2.2.2 : Int)), some (zI (row : Int)), some (zI (c : Int)), some (zI (l : Int)), some (zI (r : Int))] [] n (tw f0 F A1) 0 := by
        intro m
        induction m with
        | zero => intro r c l hj; obtain ⟨j, hj, -⟩ := hj; exact absurd hj (Nat.not_lt_zero _)
        | succ m ih2 =>
          intro r c l hj hr hc hc1 hl hcy hrr
          have e : cyW (run gs) row (m + 1) r c l = if r = row then (c, l) else cyW (run gs) row m (run gs r) (c + 1) (if r < l then r else l) := rfl
          have hg1 : 0 < Nat.gcd (odF (run gs) row).2.2.1 c := Nat.gcd_pos_of_pos_left _ b6
          have hg2 : Nat.gcd (odF (run gs) row).2.2.1 c ≤ (odF (run gs) row).2.2.1 := Nat.gcd_le_left _ b6
          have hpr := p1 r hr
          have nx2 : r ≠ row → ∀ l', l' = (if r < l then r else l) → Wx K 75 [some (.ref 358), some (zI z), some (zI ((odF (run gs) row).1 : Int)), some (zI ((odF (run gs) row).2.1 : Int)), some (zI ((odF (run gs) row).2.2.1 : Int)), some (zI ((odF (run gs) row).2.2.2 : Int)), some (zI (row : Int)), some (zI (c : Int)), some (zI (l' : Int)), some (zI (r : Int))] [] n (tw f0 F A1) 0 := by
            intro hne l' hl'
            first | refine r_incN_7 hK dX9_order_75 ?_ | refine r_iinc_7 hK dX9_order_75 ?_
            refine r_aload_0 hK dX9_order_78 ?_
            refine r_get hK fl_X9_68 dX9_order_79 tw_obj rfl ?_
            refine r_iload_9 hK dX9_order_82 ?_
            refine t_ild hK dX9_order_84 (show _ < 64 by omega) ?_
            rw [h3 r hr]
            refine r_istore_9 hK dX9_order_85 ?_
            refine r_goto 57 hK dX9_order_87 ?_
            refine ih2 _ _ _ ?_ hpr (by omega) (by omega) (by rw [hl']; split <;> omega) (by rw [hcy, e, if_neg hne, hl']) hrr
            obtain ⟨j, hj1, hj2⟩ := hj
            cases j with
            | zero => exact absurd hj2 hne
            | succ j => exact ⟨j, by omega, hj2⟩
          refine r_iload_9 hK dX9_order_57 ?_
          refine r_iload_6 hK dX9_order_59 ?_
          refine r_icmp_eq 90 hK dX9_order_61 (by omega) (by omega) (fun h61 => ?_) (fun h61 => ?_)
          · have hcc : cyc (run gs) row = (c, l) := by rw [hcy, e, if_pos (by omega)]
            refine r_iload_8 hK dX9_order_90 ?_
            refine r_iload_6 hK dX9_order_92 ?_
            refine r_icmp_ge 100 hK dX9_order_94 (by omega) (by omega) (fun h94 => ?_) (fun h94 => ?_)
            · first | refine r_incN_2 hK dX9_order_100 ?_ | refine r_iinc_2 hK dX9_order_100 ?_
              refine r_iload_7 hK dX9_order_103 ?_
              refine r_iload_3 hK dX9_order_105 ?_
              refine r_icmp_le 112 hK dX9_order_106 (by omega) (by omega) (fun h106 => ?_) (fun h106 => ?_)
              · refine r_iload_7 hK dX9_order_112 ?_
                refine r_iconstN (c := 1) hK dX9_order_114 ?_
                refine r_icmp_ne 121 hK dX9_order_115 (by omega) (by omega) (fun h115 => ?_) (fun h115 => ?_)
                · refine r_iload_4 hK dX9_order_121 ?_
                  refine r_iload_4 hK dX9_order_123 ?_
                  refine r_iload_7 hK dX9_order_125 ?_
                  refine r_pS2 hK (ct_common hK.rel (by omega) (by omega)) lk_X9_311 dX9_order_127 ?_
                  refine r_idiv hK dX9_order_130 (by omega) (by omega) (by omega) ?_
                  refine r_iload_7 hK dX9_order_131 ?_
                  first | refine r_imulN hK dX9_order_133 ?_ | refine r_imul hK dX9_order_133 ?_
                  refine r_istore_4 hK dX9_order_134 ?_
                  exact nx _ _ _ _ _ _ _ hrr (odS_2 hcc (by omega) (by first | rw [if_pos (by omega)] | rw [if_neg (by omega)]) (by first | rw [if_pos (by omega)] | rw [if_neg (by omega)]))
                · first | refine r_incN_5 hK dX9_order_118 ?_ | refine r_iinc_5 hK dX9_order_118 ?_
                  refine r_iload_4 hK dX9_order_121 ?_
                  refine r_iload_4 hK dX9_order_123 ?_
                  refine r_iload_7 hK dX9_order_125 ?_
                  refine r_pS2 hK (ct_common hK.rel (by omega) (by omega)) lk_X9_311 dX9_order_127 ?_
                  refine r_idiv hK dX9_order_130 (by omega) (by omega) (by omega) ?_
                  refine r_iload_7 hK dX9_order_131 ?_
                  first | refine r_imulN hK dX9_order_133 ?_ | refine r_imul hK dX9_order_133 ?_
                  refine r_istore_4 hK dX9_order_134 ?_
                  exact nx _ _ _ _ _ _ _ hrr (odS_2 hcc (by omega) (by first | rw [if_pos (by omega)] | rw [if_neg (by omega)]) (by first | rw [if_pos (by omega)] | rw [if_neg (by omega)]))
              · refine r_iload_7 hK dX9_order_109 ?_
                refine r_istore_3 hK dX9_order_111 ?_
                refine r_iload_7 hK dX9_order_112 ?_
                refine r_iconstN (c := 1) hK dX9_order_114 ?_
                refine r_icmp_ne 121 hK dX9_order_115 (by omega) (by omega) (fun h115_1 => ?_) (fun h115_1 => ?_)
                · refine r_iload_4 hK dX9_order_121 ?_
                  refine r_iload_4 hK dX9_order_123 ?_
                  refine r_iload_7 hK dX9_order_125 ?_
                  refine r_pS2 hK (ct_common hK.rel (by omega) (by omega)) lk_X9_311 dX9_order_127 ?_
                  refine r_idiv hK dX9_order_130 (by omega) (by omega) (by omega) ?_
                  refine r_iload_7 hK dX9_order_131 ?_
                  first | refine r_imulN hK dX9_order_133 ?_ | refine r_imul hK dX9_order_133 ?_
                  refine r_istore_4 hK dX9_order_134 ?_
                  exact nx _ _ _ _ _ _ _ hrr (odS_2 hcc (by omega) (by first | rw [if_pos (by omega)] | rw [if_neg (by omega)]) (by first | rw [if_pos (by omega)] | rw [if_neg (by omega)]))
                · first | refine r_incN_5 hK dX9_order_118 ?_ | refine r_iinc_5 hK dX9_order_118 ?_
                  refine r_iload_4 hK dX9_order_121 ?_
                  refine r_iload_4 hK dX9_order_123 ?_
                  refine r_iload_7 hK dX9_order_125 ?_
                  refine r_pS2 hK (ct_common hK.rel (by omega) (by omega)) lk_X9_311 dX9_order_127 ?_
                  refine r_idiv hK dX9_order_130 (by omega) (by omega) (by omega) ?_
                  refine r_iload_7 hK dX9_order_131 ?_
                  first | refine r_imulN hK dX9_order_133 ?_ | refine r_imul hK dX9_order_133 ?_
                  refine r_istore_4 hK dX9_order_134 ?_
                  exact nx _ _ _ _ _ _ _ hrr (odS_2 hcc (by omega) (by first | rw [if_pos (by omega)] | rw [if_neg (by omega)]) (by first | rw [if_pos (by omega)] | rw [if_neg (by omega)]))
            · refine r_goto 136 hK dX9_order_97 ?_
              exact nx _ _ _ _ _ _ _ hrr (odS_1 hcc (by omega))
          · refine r_iload_9 hK dX9_order_64 ?_
            refine r_iload_8 hK dX9_order_66 ?_
            refine r_icmp_ge 75 hK dX9_order_68 (by omega) (by omega) (fun h68 => ?_) (fun h68 => ?_)
            · exact nx2 (by omega) l (by rw [if_neg (by omega)])
            · refine r_iload_9 hK dX9_order_71 ?_
              refine r_istore_8 hK dX9_order_73 ?_
              exact nx2 (by omega) r (by rw [if_pos (by omega)])
      refine r_iload_6 hK dX9_order_32 ?_
      refine r_aload_0 hK dX9_order_34 ?_
      refine r_pV0 hK (ct_rows hK.rel hw) lk_X9_248 (tw_rcv hK) dX9_order_35 ?_
      refine r_icmp_ge 142 hK dX9_order_38 (by omega) (by omega) (fun h38 => ?_) (fun h38 => ?_)
      · have er : row = rN (F 17) := by omega
        subst er
        refine r_iload_1 hK dX9_order_142 ?_
        refine r_if_ne 150 hK dX9_order_143 (by omega) (fun h143 => ?_) (fun h143 => ?_)
        · refine r_iload_1 hK dX9_order_150 ?_
          refine r_iconstN (c := 1) hK dX9_order_151 ?_
          refine r_icmp_ne 159 hK dX9_order_152 (by omega) (by omega) (fun h152 => ?_) (fun h152 => ?_)
          · refine r_iload_1 hK dX9_order_159 ?_
            refine r_iconstN (c := 2) hK dX9_order_160 ?_
            refine r_icmp_ne 169 hK dX9_order_161 (by omega) (by omega) (fun h161 => ?_) (fun h161 => ?_)
            · refine r_iload_1 hK dX9_order_169 ?_
              refine r_iconstN (c := 3) hK dX9_order_170 ?_
              refine r_icmp_ne 187 hK dX9_order_171 (by omega) (by omega) (fun h171 => ?_) (fun h171 => ?_)
              · refine r_iload_5 hK dX9_order_187 ?_
                exact r_iret hK hRt dX9_order_189 ⟨_, rfl, rfl, _, _, rfl, by unfold ordS; rw [if_neg (by omega), if_neg (by omega), if_neg (by omega), if_neg (by omega), if_pos (by omega)], rfl, sA⟩
              · refine r_iconstN (c := 1) hK dX9_order_174 ?_
                refine r_aload_0 hK dX9_order_175 ?_
                refine r_pV0 hK (ct_rows hK.rel hw) lk_X9_248 (tw_rcv hK) dX9_order_176 ?_
                refine r_iload_2 hK dX9_order_179 ?_
                first | refine r_isubN hK dX9_order_180 (by omega) ?_ | refine r_isub hK dX9_order_180 ?_
                refine r_iconstN (c := 2) hK dX9_order_181 ?_
                refine r_irem hK dX9_order_182 (by omega) (by omega) (by omega) ?_
                first | refine r_isubN hK dX9_order_183 (by omega) ?_ | refine r_isub hK dX9_order_183 ?_
                refine r_goto 189 hK dX9_order_184 ?_
                exact r_iret hK hRt dX9_order_189 ⟨_, rfl, rfl, _, _, rfl, by unfold ordS; rw [if_neg (by omega), if_neg (by omega), if_neg (by omega), if_pos (by omega)], rfl, sA⟩
            · refine r_iload_4 hK dX9_order_164 ?_
              refine r_goto 189 hK dX9_order_166 ?_
              exact r_iret hK hRt dX9_order_189 ⟨_, rfl, rfl, _, _, rfl, by unfold ordS; rw [if_neg (by omega), if_neg (by omega), if_pos (by omega)], rfl, sA⟩
          · refine r_iload_3 hK dX9_order_155 ?_
            refine r_goto 189 hK dX9_order_156 ?_
            exact r_iret hK hRt dX9_order_189 ⟨_, rfl, rfl, _, _, rfl, by unfold ordS; rw [if_neg (by omega), if_pos (by omega)], rfl, sA⟩
        · refine r_iload_2 hK dX9_order_146 ?_
          refine r_goto 189 hK dX9_order_147 ?_
          exact r_iret hK hRt dX9_order_189 ⟨_, rfl, rfl, _, _, rfl, by unfold ordS; rw [if_pos (by omega)], rfl, sA⟩
      · refine r_iconstN (c := 1) hK dX9_order_41 ?_
        refine r_istore_7 hK dX9_order_42 ?_
        refine r_iload_6 hK dX9_order_44 ?_
        refine r_istore_8 hK dX9_order_46 ?_
        refine r_aload_0 hK dX9_order_48 ?_
        refine r_get hK fl_X9_68 dX9_order_49 tw_obj rfl ?_
        refine r_iload_6 hK dX9_order_52 ?_
        refine t_ild hK dX9_order_54 (show _ < 64 by omega) ?_
        rw [h3 row (by omega)]
        have hq1 := p1 row (by omega)
        refine r_istore_9 hK dX9_order_55 ?_
        obtain ⟨j, j1, j2⟩ := cyc_ret p1 p2 (show row < rN (F 17) by omega)
        exact ip 16 _ 1 row ⟨j, by omega, j2⟩ hq1 rfl (Nat.le_refl _) (Nat.le_refl _) rfl (by omega)
  refine r_iload_1 hK dX9_order_0 ?_
  refine r_iconstN (c := 0) hK dX9_order_1 ?_
  refine r_iconstN (c := 4) hK dX9_order_2 ?_
  refine r_pS3 hK (ct_in hK.rel hz (by omega) (by omega)) lk_X9_237 dX9_order_3 ?_
  refine r_ifB_ne 11 hK dX9_order_6 (fun h6 => ?_) (fun h6 => ?_)
  · refine r_aload_0 hK dX9_order_11 ?_
    refine r_aload_0 hK dX9_order_12 ?_
    refine r_get hK fl_X9_52 dX9_order_13 tw_obj rfl ?_
    refine r_tvV1 hK (ct_laysOrder (j := 11) hK.rel (Or.inl rfl) hw hg ho4) lk_X9_285 (tw_rcv hK) dX9_order_16 (fun F1 A1 h1 => ?_)
    obtain ⟨e1, h2, h3⟩ := h1
    subst F1
    refine r_iconstN (c := 0) hK dX9_order_19 ?_
    refine r_istore_2 hK dX9_order_20 ?_
    refine r_iconstN (c := 0) hK dX9_order_21 ?_
    refine r_istore_3 hK dX9_order_22 ?_
    refine r_iconstN (c := 1) hK dX9_order_23 ?_
    refine r_istore_4 hK dX9_order_24 ?_
    refine r_iconstN (c := 0) hK dX9_order_26 ?_
    refine r_istore_5 hK dX9_order_27 ?_
    refine r_iconstN (c := 0) hK dX9_order_29 ?_
    refine r_istore_6 hK dX9_order_30 ?_
    exact main A1 h2 h3 (by omega) (rN (F 17)) 0 _ _ _ rfl (by omega)
  · refine r_iconst hK dX9_order_9 ?_
    exact r_iret hK hRt dX9_order_10 ⟨_, rfl, rfl, _, _, rfl, by unfold ordS; rw [if_neg (by omega), if_neg (by omega), if_neg (by omega), if_neg (by omega), if_neg (by omega)], rfl, sc.rf⟩
