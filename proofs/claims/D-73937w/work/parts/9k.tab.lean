set_option maxRecDepth 100000
/-! ===== BackLogic: table, laid ===== -/
theorem tab8 {n m : Nat} {v : Nat → Nat} (h : tabOK n m v) : ∀ x, x < rN n → v x < 8 := fun x hx => Nat.lt_of_lt_of_le (h.2.2 x hx) (rN_le8 h.2.1.2)
set_option maxHeartbeats 4000000 in
theorem ct_xTable {G : GT} {Rel : Nat → Hp → Hp → Prop} (hR : RelOK Rel) (hP : Rel = RelP) (hX : GX G) {n : Nat} {f : Hp} {w : Nat} {gs : List Gt} {pa : List (List Gt)} {sl : Nat → Option (List Gt)} {ni no : Nat} {v p : Nat → Nat} {tp : Nat} {T : Nat → Nat} {pl z : Int} (hz : inR z) (h : WO f w gs pa sl ni no v p tp T pl) (ht : ni = 0 ∨ tabOK ni no v) (hv : ∀ x, x < 8 → v x < 10000) (hn0 : 392 ≤ n) : Ct G Rel yX0_table cX0_table 2 (some .int) (7) (1538) [.ref 300, zI z] n (f) (Qw (zI (tblS ni no v z)) SO n f (fun f' => WO f' w gs pa sl ni no v p tp T pl)) := by
  refine ct_intro [some (.ref 300), some (zI z)] hR rfl (Nat.le_of_ble_eq_true rfl) ?_
  intro K hG hRel hK hRt hnm
  have hQ : kRel K = RelP := by rw [hRel]; exact hP
  have hXK : GX (kG K) := by rw [hG]; exact hX
  obtain ⟨h0, hPW, hWc, hCT, hWp, hs, hWpr, hWt, hWf, hWsh, hWte, ⟨or0, hor⟩, hWa⟩ := id h
  have hk := KE.rf SO f
  rcases ht with hni | ht
  · refine r_aload_0 hK dX0_table_0 ?_
    refine r_get hK fl_X0_51 dX0_table_1 (h0) rfl ?_
    refine r_pV0 hK (tb_isThere hK.rel hCT (by omega)) lk_X0_342 (Rcv.raw hK.rel hCT.1 rfl) dX0_table_4 ?_
    refine r_ifB_ne 12 hK dX0_table_7 (fun h7 => ?_) (fun h7 => ?_)
    · omega --!
    · refine r_iconst hK dX0_table_10 ?_
      exact r_iret hK hRt dX0_table_11 ⟨by unfold tblS; rw [if_pos hni], Nat.le_refl _, hk, h⟩
  · have hi := ht.1.2
    have hi1 := ht.1.1
    have ho := ht.2.1.2
    have hL := lnN_ok (v := v) hi ho
    have hv8 := tab8 ht
    have hr64 : rN (lnN ni no v) ≤ 64 := rN_le (k := 6) hL.1
    have hG : ∀ q, tblS ni no v q = if q = 0 then (ni : Int) else if q = 1 then (no : Int) else if q = 2 then (cpM v (rN ni) 8 : Int) else if q = 3 then (gbg (cpM v (rN ni) 8) : Int) else if q = 4 then (lnN ni no v : Int) else if q = 5 then ((lnN ni no v - ni : Nat) : Int) else if q = 6 then ((fdL (fdAll (lnN ni no v) false (told ni no v))).length : Int) else if q = 7 then ((fdL (fdAll (lnN ni no v) true (told ni no v))).length : Int) else -1 := fun q => by
      unfold tblS; rw [if_neg (by omega)]
    have fnd : ∀ (both : Bool) (n1 : Nat) (f1 : Hp), n ≤ n1 → KE [354] f f1 → WO f1 w gs pa sl ni no v p tp T pl → f1 354 = some (.inr (0, 64, oA (rN (lnN ni no v)) (told ni no v) or0)) → (z = if both then 7 else 6) → Wx K 155 [some (.ref 300), some (zI z)] [vB both, zI ((rN (lnN ni no v) : Nat) : Int), .ref 354, .ref 324] n1 f1 2 := by
      intro both n1 f1 hn1 hk1 hW1 hA hb
      obtain ⟨g0, -, -, -, -, -, -, -, ⟨R0, W0, s0, l1, l2, gfi⟩, -⟩ := id hW1
      refine r_fact hK (fun _ hno => ?_)
      refine r_callV3 hK (ct_fFinds hK.rel hQ hXK gfi (L := lnN ni no v) (both := both) (p := told ni no v) hL.1 (told_onto ht) hA hr64 (by decide) (fun x hx => if_pos hx) (by decide)) lk_X0_289 (Rcv.raw hK.rel gfi.1 rfl) dX0_table_155 (fun r n2 f2 hp => ?_)
      obtain ⟨rfl, hn2, ⟨l1', l2', hfi⟩, hfr⟩ := hp
      have hk2 : KE SF f1 f2 := KE.of hno (by omega) hfr (SF_ok hW1)
      have hW2 := hW1.fin hk2 ⟨_, _, _, l1', l2', hfi⟩
      refine r_aload_0 hK dX0_table_158 ?_
      refine r_get hK fl_X0_58 dX0_table_159 hW2.1 rfl ?_
      refine r_pV0 hK (ct_fSize hK.rel hQ hXK hfi) lk_X0_222 (Rcv.raw hK.rel hfi.1 rfl) dX0_table_162 ?_
      refine r_iret hK hRt dX0_table_165 ⟨?_, by omega, (hk1.mono (fun x hx => by rw [List.mem_singleton.mp hx]; decide)).tr (hk2.mono (fun x hx => by unfold SF at hx; unfold SO; simp at hx ⊢; omega)), hW2⟩
      rw [hG, hb]
      cases both <;> rfl
    refine r_aload_0 hK dX0_table_0 ?_
    refine r_get hK fl_X0_51 dX0_table_1 (h0) rfl ?_
    refine r_pV0 hK (tb_isThere hK.rel hCT (by omega)) lk_X0_342 (Rcv.raw hK.rel hCT.1 rfl) dX0_table_4 ?_
    refine r_ifB_ne 12 hK dX0_table_7 (fun h7 => ?_) (fun h7 => ?_)
    · refine r_iload_1 hK dX0_table_12 ?_
      have hsw : z = 0 ∨ z = 1 ∨ z = 2 ∨ z = 3 ∨ z = 4 ∨ z = 5 ∨ z = 6 ∨ z = 7 ∨ (z < 0 ∨ 7 < z) := by omega
      rcases hsw with rfl | rfl | rfl | rfl | rfl | rfl | rfl | rfl | hsw
      · refine r_tabIn 60 hK dX0_table_13 (by decide) (by decide) (by decide) rfl rfl ?_
        refine r_aload_0 hK dX0_table_60 ?_
        refine r_get hK fl_X0_51 dX0_table_61 (h0) rfl ?_
        refine r_get hK fl_X0_345 dX0_table_64 (hCT.1) rfl ?_
        exact r_iret hK hRt dX0_table_67 ⟨by rw [hG]; rfl, Nat.le_refl _, hk, h⟩
      · refine r_tabIn 68 hK dX0_table_13 (by decide) (by decide) (by decide) rfl rfl ?_
        refine r_aload_0 hK dX0_table_68 ?_
        refine r_get hK fl_X0_51 dX0_table_69 (h0) rfl ?_
        refine r_get hK fl_X0_348 dX0_table_72 (hCT.1) rfl ?_
        exact r_iret hK hRt dX0_table_75 ⟨by rw [hG]; rfl, Nat.le_refl _, hk, h⟩
      · refine r_tabIn 76 hK dX0_table_13 (by decide) (by decide) (by decide) rfl rfl ?_
        refine r_aload_0 hK dX0_table_76 ?_
        refine r_get hK fl_X0_51 dX0_table_77 (h0) rfl ?_
        refine r_pV0 hK (tb_copies hK.rel hCT hi hv hv8) lk_X0_351 (Rcv.raw hK.rel hCT.1 rfl) dX0_table_80 ?_
        exact r_iret hK hRt dX0_table_83 ⟨by rw [hG]; rfl, Nat.le_refl _, hk, h⟩
      · refine r_tabIn 84 hK dX0_table_13 (by decide) (by decide) (by decide) rfl rfl ?_
        refine r_aload_0 hK dX0_table_84 ?_
        refine r_get hK fl_X0_51 dX0_table_85 (h0) rfl ?_
        refine r_pV0 hK (tb_garbage hK.rel hCT hi hv hv8) lk_X0_354 (Rcv.raw hK.rel hCT.1 rfl) dX0_table_88 ?_
        exact r_iret hK hRt dX0_table_91 ⟨by rw [hG]; rfl, Nat.le_refl _, hk, h⟩
      · refine r_tabIn 92 hK dX0_table_13 (by decide) (by decide) (by decide) rfl rfl ?_
        refine r_aload_0 hK dX0_table_92 ?_
        refine r_get hK fl_X0_51 dX0_table_93 (h0) rfl ?_
        refine r_pV0 hK (tb_lines hK.rel hCT hi ho hv hv8) lk_X0_357 (Rcv.raw hK.rel hCT.1 rfl) dX0_table_96 ?_
        exact r_iret hK hRt dX0_table_99 ⟨by rw [hG]; rfl, Nat.le_refl _, hk, h⟩
      · refine r_tabIn 100 hK dX0_table_13 (by decide) (by decide) (by decide) rfl rfl ?_
        refine r_aload_0 hK dX0_table_100 ?_
        refine r_get hK fl_X0_51 dX0_table_101 (h0) rfl ?_
        refine r_pV0 hK (tb_lines hK.rel hCT hi ho hv hv8) lk_X0_357 (Rcv.raw hK.rel hCT.1 rfl) dX0_table_104 ?_
        refine r_aload_0 hK dX0_table_107 ?_
        refine r_get hK fl_X0_51 dX0_table_108 (h0) rfl ?_
        refine r_get hK fl_X0_345 dX0_table_111 (hCT.1) rfl ?_
        first | refine r_isubN hK dX0_table_114 (by omega) ?_ | refine r_isub hK dX0_table_114 ?_
        exact r_iret hK hRt dX0_table_115 ⟨by rw [hG]; rfl, Nat.le_refl _, hk, h⟩
      · refine r_tabIn 116 hK dX0_table_13 (by decide) (by decide) (by decide) rfl rfl ?_
        refine r_aload_0 hK dX0_table_116 ?_
        refine r_get hK fl_X0_51 dX0_table_117 (h0) rfl ?_
        refine r_aload_0 hK dX0_table_120 ?_
        refine r_get hK fl_X0_91 dX0_table_121 (h0) rfl ?_
        refine r_callV1 hK (tb_lays hK.rel hQ hXK hCT hi ho hv hv8 hL.1 hL.2.1 (t1_lt ht) hor (by decide)) lk_X0_360 (Rcv.raw hK.rel hCT.1 rfl) dX0_table_124 (fun r n1 f1 hp => ?_)
        obtain ⟨rfl, hn1, hf1⟩ := hp
        have hW1 := h.ord (oA (rN (lnN ni no v)) (told ni no v) or0)
        rw [← hf1] at hW1
        have hA : f1 354 = some (.inr (0, 64, oA (rN (lnN ni no v)) (told ni no v) or0)) := by rw [hf1]; exact up_s _ _ _
        obtain ⟨g0, -, -, gCT, -⟩ := id hW1.2
        refine r_aload_0 hK dX0_table_127 ?_
        refine r_get hK fl_X0_58 dX0_table_128 (g0) rfl ?_
        refine r_aload_0 hK dX0_table_131 ?_
        refine r_get hK fl_X0_91 dX0_table_132 (g0) rfl ?_
        refine r_iconstN (c := 1) hK dX0_table_135 ?_
        refine r_aload_0 hK dX0_table_136 ?_
        refine r_get hK fl_X0_51 dX0_table_137 (g0) rfl ?_
        refine r_pV0 hK (tb_lines hK.rel gCT hi ho hv hv8) lk_X0_357 (Rcv.raw hK.rel gCT.1 rfl) dX0_table_140 ?_
        refine r_ishl hK dX0_table_143 (by omega) (sh1 (by omega)) ?_
        refine r_iload_1 hK dX0_table_144 ?_
        refine r_bipushN (c := 7) hK dX0_table_145 ?_
        refine r_icmp_ne 154 hK dX0_table_147 (by omega) (by omega) (fun h147 => ?_) (fun h147 => ?_)
        · refine r_iconstN (c := 0) hK dX0_table_154 ?_
          exact fnd false n1 f1 hn1 hW1.1 hW1.2 hA rfl --!
        · exact absurd h147 (by decide) --!
      · refine r_tabIn 116 hK dX0_table_13 (by decide) (by decide) (by decide) rfl rfl ?_
        refine r_aload_0 hK dX0_table_116 ?_
        refine r_get hK fl_X0_51 dX0_table_117 (h0) rfl ?_
        refine r_aload_0 hK dX0_table_120 ?_
        refine r_get hK fl_X0_91 dX0_table_121 (h0) rfl ?_
        refine r_callV1 hK (tb_lays hK.rel hQ hXK hCT hi ho hv hv8 hL.1 hL.2.1 (t1_lt ht) hor (by decide)) lk_X0_360 (Rcv.raw hK.rel hCT.1 rfl) dX0_table_124 (fun r n1 f1 hp => ?_)
        obtain ⟨rfl, hn1, hf1⟩ := hp
        have hW1 := h.ord (oA (rN (lnN ni no v)) (told ni no v) or0)
        rw [← hf1] at hW1
        have hA : f1 354 = some (.inr (0, 64, oA (rN (lnN ni no v)) (told ni no v) or0)) := by rw [hf1]; exact up_s _ _ _
        obtain ⟨g0, -, -, gCT, -⟩ := id hW1.2
        refine r_aload_0 hK dX0_table_127 ?_
        refine r_get hK fl_X0_58 dX0_table_128 (g0) rfl ?_
        refine r_aload_0 hK dX0_table_131 ?_
        refine r_get hK fl_X0_91 dX0_table_132 (g0) rfl ?_
        refine r_iconstN (c := 1) hK dX0_table_135 ?_
        refine r_aload_0 hK dX0_table_136 ?_
        refine r_get hK fl_X0_51 dX0_table_137 (g0) rfl ?_
        refine r_pV0 hK (tb_lines hK.rel gCT hi ho hv hv8) lk_X0_357 (Rcv.raw hK.rel gCT.1 rfl) dX0_table_140 ?_
        refine r_ishl hK dX0_table_143 (by omega) (sh1 (by omega)) ?_
        refine r_iload_1 hK dX0_table_144 ?_
        refine r_bipushN (c := 7) hK dX0_table_145 ?_
        refine r_icmp_ne 154 hK dX0_table_147 (by omega) (by omega) (fun h147_1 => ?_) (fun h147_1 => ?_)
        · exact absurd rfl h147_1 --!
        · refine r_iconstN (c := 1) hK dX0_table_150 ?_
          refine r_goto 155 hK dX0_table_151 ?_
          exact fnd true n1 f1 hn1 hW1.1 hW1.2 hA rfl --!
      · refine r_tabOut 166 hK dX0_table_13 hz hsw rfl ?_
        refine r_iconst hK dX0_table_166 ?_
        exact r_iret hK hRt dX0_table_167 ⟨by rw [hG]; repeat rw [if_neg (by omega)], Nat.le_refl _, hk, h⟩
    · omega --!
set_option maxHeartbeats 4000000 in
theorem ct_xLaid {G : GT} {Rel : Nat → Hp → Hp → Prop} (hR : RelOK Rel) (hP : Rel = RelP) (hX : GX G) {n : Nat} {f : Hp} {w : Nat} {gs : List Gt} {pa : List (List Gt)} {sl : Nat → Option (List Gt)} {ni no : Nat} {v p : Nat → Nat} {tp : Nat} {T : Nat → Nat} {pl z : Int} (hz : inR z) (h : WO f w gs pa sl ni no v p tp T pl) (ht : ni = 0 ∨ tabOK ni no v) (hv : ∀ x, x < 8 → v x < 10000) : Ct G Rel yX0_laid cX0_laid 2 (some .int) (7) (2) [.ref 300, zI z] n (f) (Qw (zI (laidS ni no v z)) [354] n f (fun f' => WO f' w gs pa sl ni no v p tp T pl)) := by
  refine ct_intro [some (.ref 300), some (zI z)] hR rfl (Nat.le_of_ble_eq_true rfl) ?_
  intro K hG hRel hK hRt hnm
  have hQ : kRel K = RelP := by rw [hRel]; exact hP
  have hXK : GX (kG K) := by rw [hG]; exact hX
  obtain ⟨h0, hPW, hWc, hCT, hWp, hs, hWpr, hWt, hWf, hWsh, hWte, ⟨or0, hor⟩, hWa⟩ := id h
  have hk := KE.rf [354] f
  rcases ht with hni | ht
  · refine r_aload_0 hK dX0_laid_0 ?_
    refine r_get hK fl_X0_51 dX0_laid_1 (h0) rfl ?_
    refine r_pV0 hK (tb_isThere hK.rel hCT (by omega)) lk_X0_342 (Rcv.raw hK.rel hCT.1 rfl) dX0_laid_4 ?_
    refine r_ifB_eq 29 hK dX0_laid_7 (fun h7 => ?_) (fun h7 => ?_)
    · refine r_iconst hK dX0_laid_29 ?_
      exact r_iret hK hRt dX0_laid_30 ⟨by unfold laidS; rw [if_neg (by omega)], Nat.le_refl _, hk, h⟩
    · omega --!
  · have hi := ht.1.2
    have hi1 := ht.1.1
    have ho := ht.2.1.2
    have hL := lnN_ok (v := v) hi ho
    have hv8 := tab8 ht
    have hr64 : rN (lnN ni no v) ≤ 64 := rN_le (k := 6) hL.1
    have hr1 : 1 ≤ rN (lnN ni no v) := rN_pos _
    refine r_aload_0 hK dX0_laid_0 ?_
    refine r_get hK fl_X0_51 dX0_laid_1 (h0) rfl ?_
    refine r_pV0 hK (tb_isThere hK.rel hCT (by omega)) lk_X0_342 (Rcv.raw hK.rel hCT.1 rfl) dX0_laid_4 ?_
    refine r_ifB_eq 29 hK dX0_laid_7 (fun h7 => ?_) (fun h7 => ?_)
    · omega --!
    · refine r_iload_1 hK dX0_laid_10 ?_
      refine r_iconstN (c := 0) hK dX0_laid_11 ?_
      refine r_iconstN (c := 1) hK dX0_laid_12 ?_
      refine r_aload_0 hK dX0_laid_13 ?_
      refine r_get hK fl_X0_51 dX0_laid_14 (h0) rfl ?_
      refine r_pV0 hK (tb_lines hK.rel hCT hi ho hv hv8) lk_X0_357 (Rcv.raw hK.rel hCT.1 rfl) dX0_laid_17 ?_
      refine r_ishl hK dX0_laid_20 (by omega) (sh1 (by omega)) ?_
      show Wx K _ _ (zI ((rN (lnN ni no v) : Nat) : Int) :: _) _ _ _
      refine r_iconstN (c := 1) hK dX0_laid_21 ?_
      refine r_isub hK dX0_laid_22 ?_
      refine r_pS3 hK (ct_isIn0 hK.rel hz (by omega) (by omega)) lk_X0_155 dX0_laid_23 ?_
      refine r_ifB_ne 31 hK dX0_laid_26 (fun h26 => ?_) (fun h26 => ?_)
      · obtain ⟨k, rfl⟩ : ∃ s : Nat, z = (s : Int) := ⟨z.toNat, by omega⟩
        refine r_aload_0 hK dX0_laid_31 ?_
        refine r_get hK fl_X0_51 dX0_laid_32 (h0) rfl ?_
        refine r_aload_0 hK dX0_laid_35 ?_
        refine r_get hK fl_X0_91 dX0_laid_36 (h0) rfl ?_
        refine r_callV1 hK (tb_lays hK.rel hQ hXK hCT hi ho hv hv8 hL.1 hL.2.1 (t1_lt ht) hor (by decide)) lk_X0_360 (Rcv.raw hK.rel hCT.1 rfl) dX0_laid_39 (fun r n1 f1 hp => ?_)
        obtain ⟨rfl, hn1, hf1⟩ := hp
        have hW1 := h.ord (oA (rN (lnN ni no v)) (told ni no v) or0)
        rw [← hf1] at hW1
        have hA : f1 354 = some (.inr (0, 64, oA (rN (lnN ni no v)) (told ni no v) or0)) := by rw [hf1]; exact up_s _ _ _
        refine r_aload_0 hK dX0_laid_42 ?_
        refine r_get hK fl_X0_91 dX0_laid_43 (hW1.2.1) rfl ?_
        refine r_iload_1 hK dX0_laid_46 ?_
        refine r_iald hK dX0_laid_47 hA (by omega) ?_
        rw [show oA (rN (lnN ni no v)) (told ni no v) or0 k = zI ((told ni no v k : Nat) : Int) from if_pos (by omega)]
        exact r_iret hK hRt dX0_laid_48 ⟨by unfold laidS; rw [if_pos (by omega)]; rfl, hn1, hW1.1, hW1.2⟩
      · refine r_iconst hK dX0_laid_29 ?_
        exact r_iret hK hRt dX0_laid_30 ⟨by unfold laidS; rw [if_neg (by omega)], Nat.le_refl _, hk, h⟩
