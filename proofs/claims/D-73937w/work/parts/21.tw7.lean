set_option maxRecDepth 100000
/-! ===== the reference: free, levels, gate ===== -/
set_option maxHeartbeats 4000000 in
theorem ct_freeOf {G : GT} {Rel : Nat → Hp → Hp → Prop} (hR : RelOK Rel) {n : Nat} {f0 : Hp} {F : Nat → Nat} {A : Nat → Nat → Nat} {gs : List Gt} {k : Nat} {s : Int} (hs : s = -1 ∨ s = 1) (hk : k < gs.length) (hw : F 17 ≤ 4) (hg : GA (A 11) gs) (ho : ∀ g ∈ gs, gok 4 g) : Ct G Rel yX9_freeOf cX9_freeOf 5 (some .int) (4) (0) [.ref 358, zI (k : Int), zI s] n (tw f0 F A) (Pu (zI ((if s = -1 then frB (F 17) gs k k else frA (F 17) gs k (gs.length - (k + 1)) : Nat) : Int)) n (tw f0 F A)) := by
  refine ct_intro [some (.ref 358), some (zI (k : Int)), some (zI s), none, none] hR rfl (Nat.le_of_ble_eq_true rfl) ?_
  intro K hG hRel hK hRt hnm
  have h0 := hg.1
  have hl := hg.2.1
  have hkk := hg.ok ho hk
  rcases hs with rfl | rfl
  · have lp : ∀ i c : Nat, i ≤ k → c + frB (F 17) gs k i = frB (F 17) gs k k → Wx K 7 [some (.ref 358), some (zI (k : Int)), some (zI (-1)), some (zI (c : Int)), some (zI ((i : Int) + -1))] [] n (tw f0 F A) 0 := by
      intro i
      induction i with
      | zero =>
        intro c hi hc
        refine r_aload_0 hK dX9_freeOf_7 ?_
        refine r_iload_4 hK dX9_freeOf_8 ?_
        refine r_pV1 hK (ct_isGate hK.rel (by omega) (by omega)) lk_X9_272 (tw_rcv hK) dX9_freeOf_10 ?_
        refine r_ifB_eq 42 hK dX9_freeOf_13 (fun h13 => ?_) (fun h13 => ?_)
        · refine r_iload_3 hK dX9_freeOf_42 ?_
          exact r_iret hK hRt dX9_freeOf_43 ⟨by rw [if_pos rfl, ← hc]; rfl, rfl, rfl⟩
        · exact absurd h13 (by omega)
      | succ i ih =>
        intro c hi hc
        rw [show ((i + 1 : Nat) : Int) + -1 = (i : Int) by omega]
        have hgi := hg.ok ho (show i < gs.length by omega)
        have e : frB (F 17) gs k (i + 1) = if agr (F 17) (gt gs k) (gt gs i) then frB (F 17) gs k i + 1 else 0 := rfl
        refine r_aload_0 hK dX9_freeOf_7 ?_
        refine r_iload_4 hK dX9_freeOf_8 ?_
        refine r_pV1 hK (ct_isGate hK.rel (by omega) (by omega)) lk_X9_272 (tw_rcv hK) dX9_freeOf_10 ?_
        refine r_ifB_eq 42 hK dX9_freeOf_13 (fun h13 => ?_) (fun h13 => ?_)
        · exact absurd (by omega) h13
          skip
        · refine r_aload_0 hK dX9_freeOf_16 ?_
          refine r_aload_0 hK dX9_freeOf_17 ?_
          refine r_get hK fl_X9_52 dX9_freeOf_18 tw_obj rfl ?_
          refine r_iload_1 hK dX9_freeOf_21 ?_
          refine r_iload_4 hK dX9_freeOf_22 ?_
          refine r_pV3 hK (ct_doAgree (j := 11) hK.rel (Or.inl rfl) hw (by omega) (by omega) hkk hgi) lk_X9_314 (tw_rcv hK) dX9_freeOf_24 ?_
          rw [hg.gt hk, hg.gt (show i < gs.length by omega)]
          refine r_ifB_eq 42 hK dX9_freeOf_27 (fun h27 => ?_) (fun h27 => ?_)
          · refine r_iload_3 hK dX9_freeOf_42 ?_
            exact r_iret hK hRt dX9_freeOf_43 ⟨by rw [if_neg h27] at e; rw [if_pos rfl, ← hc, e]; rfl, rfl, rfl⟩
          · first | refine r_incN_3 hK dX9_freeOf_30 ?_ | refine r_iinc_3 hK dX9_freeOf_30 ?_
            refine r_iload_4 hK dX9_freeOf_33 ?_
            refine r_iload_2 hK dX9_freeOf_35 ?_
            first | refine r_iaddN hK dX9_freeOf_36 ?_ | refine r_iadd hK dX9_freeOf_36 ?_
            refine r_istore_4 hK dX9_freeOf_37 ?_
            refine r_goto 7 hK dX9_freeOf_39 ?_
            exact ih (c + 1) (by omega) (by rw [if_pos h27] at e; omega)
    refine r_iconstN (c := 0) hK dX9_freeOf_0 ?_
    refine r_istore_3 hK dX9_freeOf_1 ?_
    refine r_iload_1 hK dX9_freeOf_2 ?_
    refine r_iload_2 hK dX9_freeOf_3 ?_
    refine r_iadd hK dX9_freeOf_4 ?_
    refine r_istore_4 hK dX9_freeOf_5 ?_
    exact lp k 0 (Nat.le_refl _) (Nat.zero_add _)
  · have lp : ∀ m c i : Nat, i + m = gs.length → k < i → c + frA (F 17) gs k m = frA (F 17) gs k (gs.length - (k + 1)) → Wx K 7 [some (.ref 358), some (zI (k : Int)), some (zI 1), some (zI (c : Int)), some (zI (i : Int))] [] n (tw f0 F A) 0 := by
      intro m
      induction m with
      | zero =>
        intro c i hi hki hc
        refine r_aload_0 hK dX9_freeOf_7 ?_
        refine r_iload_4 hK dX9_freeOf_8 ?_
        refine r_pV1 hK (ct_isGate hK.rel (by omega) (by omega)) lk_X9_272 (tw_rcv hK) dX9_freeOf_10 ?_
        refine r_ifB_eq 42 hK dX9_freeOf_13 (fun h13 => ?_) (fun h13 => ?_)
        · refine r_iload_3 hK dX9_freeOf_42 ?_
          exact r_iret hK hRt dX9_freeOf_43 ⟨by rw [if_neg (by decide), ← hc]; rfl, rfl, rfl⟩
        · exact absurd h13 (by omega)
      | succ m ih =>
        intro c i hi hki hc
        have hgi := hg.ok ho (show i < gs.length by omega)
        have e : frA (F 17) gs k (m + 1) = if agr (F 17) (gt gs k) (gt gs (gs.length - (m + 1))) then frA (F 17) gs k m + 1 else 0 := rfl
        rw [show gs.length - (m + 1) = i by omega] at e
        refine r_aload_0 hK dX9_freeOf_7 ?_
        refine r_iload_4 hK dX9_freeOf_8 ?_
        refine r_pV1 hK (ct_isGate hK.rel (by omega) (by omega)) lk_X9_272 (tw_rcv hK) dX9_freeOf_10 ?_
        refine r_ifB_eq 42 hK dX9_freeOf_13 (fun h13 => ?_) (fun h13 => ?_)
        · exact absurd (by omega) h13
          skip
        · refine r_aload_0 hK dX9_freeOf_16 ?_
          refine r_aload_0 hK dX9_freeOf_17 ?_
          refine r_get hK fl_X9_52 dX9_freeOf_18 tw_obj rfl ?_
          refine r_iload_1 hK dX9_freeOf_21 ?_
          refine r_iload_4 hK dX9_freeOf_22 ?_
          refine r_pV3 hK (ct_doAgree (j := 11) hK.rel (Or.inl rfl) hw (by omega) (by omega) hkk hgi) lk_X9_314 (tw_rcv hK) dX9_freeOf_24 ?_
          rw [hg.gt hk, hg.gt (show i < gs.length by omega)]
          refine r_ifB_eq 42 hK dX9_freeOf_27 (fun h27 => ?_) (fun h27 => ?_)
          · refine r_iload_3 hK dX9_freeOf_42 ?_
            exact r_iret hK hRt dX9_freeOf_43 ⟨by rw [if_neg h27] at e; rw [if_neg (by decide), ← hc, e]; rfl, rfl, rfl⟩
          · first | refine r_incN_3 hK dX9_freeOf_30 ?_ | refine r_iinc_3 hK dX9_freeOf_30 ?_
            refine r_iload_4 hK dX9_freeOf_33 ?_
            refine r_iload_2 hK dX9_freeOf_35 ?_
            refine r_iadd hK dX9_freeOf_36 ?_
            refine r_istore_4 hK dX9_freeOf_37 ?_
            refine r_goto 7 hK dX9_freeOf_39 ?_
            exact ih (c + 1) (i + 1) (by omega) (by omega) (by rw [if_pos h27] at e; omega)
    refine r_iconstN (c := 0) hK dX9_freeOf_0 ?_
    refine r_istore_3 hK dX9_freeOf_1 ?_
    refine r_iload_1 hK dX9_freeOf_2 ?_
    refine r_iload_2 hK dX9_freeOf_3 ?_
    refine r_iadd hK dX9_freeOf_4 ?_
    refine r_istore_4 hK dX9_freeOf_5 ?_
    exact lp (gs.length - (k + 1)) 0 (k + 1) (by omega) (by omega) (Nat.zero_add _)
set_option maxHeartbeats 4000000 in
theorem ct_wiresOf {G : GT} {Rel : Nat → Hp → Hp → Prop} (hR : RelOK Rel) {n : Nat} {f0 : Hp} {F : Nat → Nat} {A : Nat → Nat → Nat} {k : Nat} (hk : k < 16) (hg : gok 4 (ge (A 11) k)) : Ct G Rel yX9_wiresOf cX9_wiresOf 2 (some .int) (1) (0) [.ref 370, zI (k : Int)] n (tw f0 F A) (Pu (zI ((wir (ge (A 11) k) : Nat) : Int)) n (tw f0 F A)) := by
  refine ct_intro [some (.ref 370), some (zI (k : Int))] hR rfl (Nat.le_of_ble_eq_true rfl) ?_
  intro K hG hRel hK hRt hnm
  obtain ⟨g1, g2, g3⟩ := gok_s hg
  simp only [ge] at g1 g2 g3
  refine r_aload_0 hK dX9_wiresOf_0 ?_
  refine r_bipushN (c := 17) hK dX9_wiresOf_1 ?_
  refine r_iload_1 hK dX9_wiresOf_3 ?_
  first | refine r_iaddN hK dX9_wiresOf_4 ?_ | refine r_iadd hK dX9_wiresOf_4 ?_
  refine t_ild (j := 11) hK dX9_wiresOf_5 (show _ < 49 by omega) ?_
  refine r_aload_0 hK dX9_wiresOf_6 ?_
  refine r_bipushN (c := 33) hK dX9_wiresOf_7 ?_
  refine r_iload_1 hK dX9_wiresOf_9 ?_
  first | refine r_iaddN hK dX9_wiresOf_10 ?_ | refine r_iadd hK dX9_wiresOf_10 ?_
  refine t_ild (j := 11) hK dX9_wiresOf_11 (show _ < 49 by omega) ?_
  refine r_ior hK dX9_wiresOf_12 ?_
  refine r_iconstN (c := 1) hK dX9_wiresOf_13 ?_
  refine r_aload_0 hK dX9_wiresOf_14 ?_
  refine r_iconstN (c := 1) hK dX9_wiresOf_15 ?_
  refine r_iload_1 hK dX9_wiresOf_16 ?_
  first | refine r_iaddN hK dX9_wiresOf_17 ?_ | refine r_iadd hK dX9_wiresOf_17 ?_
  refine t_ild (j := 11) hK dX9_wiresOf_18 (show _ < 49 by omega) ?_
  refine r_ishl hK dX9_wiresOf_19 (by omega) (by first | exact sh1 (by omega) | omega) ?_
  refine r_ior hK dX9_wiresOf_20 ?_
  exact r_iret hK hRt dX9_wiresOf_21 ⟨rfl, rfl, rfl⟩
set_option maxHeartbeats 4000000 in
theorem ct_controlsOf {G : GT} {Rel : Nat → Hp → Hp → Prop} (hR : RelOK Rel) {n : Nat} {f0 : Hp} {F : Nat → Nat} {A : Nat → Nat → Nat} {k : Nat} (hk : k < 16) (hg : gok 4 (ge (A 11) k)) : Ct G Rel yX9_controlsOf cX9_controlsOf 2 (some .int) (2) (0) [.ref 358, zI (k : Int)] n (tw f0 F A) (Pu (zI ((bits ((ge (A 11) k).2.1 ||| (ge (A 11) k).2.2) : Nat) : Int)) n (tw f0 F A)) := by
  refine ct_intro [some (.ref 358), some (zI (k : Int))] hR rfl (Nat.le_of_ble_eq_true rfl) ?_
  intro K hG hRel hK hRt hnm
  have hor : (ge (A 11) k).2.1 ||| (ge (A 11) k).2.2 < 16 := or_lt (w := 4) hg.2.1 hg.2.2.1
  simp only [ge] at hor
  refine r_aload_0 hK dX9_controlsOf_0 ?_
  refine r_get hK fl_X9_52 dX9_controlsOf_1 tw_obj rfl ?_
  refine r_bipushN (c := 17) hK dX9_controlsOf_4 ?_
  refine r_iload_1 hK dX9_controlsOf_6 ?_
  first | refine r_iaddN hK dX9_controlsOf_7 ?_ | refine r_iadd hK dX9_controlsOf_7 ?_
  refine t_ild hK dX9_controlsOf_8 (show _ < 49 by omega) ?_
  refine r_aload_0 hK dX9_controlsOf_9 ?_
  refine r_get hK fl_X9_52 dX9_controlsOf_10 tw_obj rfl ?_
  refine r_bipushN (c := 33) hK dX9_controlsOf_13 ?_
  refine r_iload_1 hK dX9_controlsOf_15 ?_
  first | refine r_iaddN hK dX9_controlsOf_16 ?_ | refine r_iadd hK dX9_controlsOf_16 ?_
  refine t_ild hK dX9_controlsOf_17 (show _ < 49 by omega) ?_
  refine r_ior hK dX9_controlsOf_18 ?_
  refine r_pS1 hK (ct_bitsOf hK.rel (by omega)) lk_X9_322 dX9_controlsOf_19 ?_
  exact r_iret hK hRt dX9_controlsOf_22 ⟨rfl, rfl, rfl⟩
set_option maxHeartbeats 4000000 in
theorem ct_laysLevels {G : GT} {Rel : Nat → Hp → Hp → Prop} (hR : RelOK Rel) {n : Nat} {f0 : Hp} {F : Nat → Nat} {A : Nat → Nat → Nat} {gs : List Gt} (hg : GA (A 11) gs) (ho : ∀ g ∈ gs, gok 4 g) : Ct G Rel yX9_laysLevels cX9_laysLevels 4 (some .int) (2) (0) [.ref 358] n (tw f0 F A) (Ti n f0 (fun z F' A' => z = ((lvM gs gs.length : Nat) : Int) ∧ F' = F ∧ (∀ a, a ≠ 17 → A' a = A a) ∧ ∀ k, k < gs.length → A' 17 k = lvT gs gs.length k)) := by
  refine ct_intro [some (.ref 358), none, none, none] hR rfl (Nat.le_of_ble_eq_true rfl) ?_
  intro K hG hRel hK hRt hnm
  have h0 := hg.1
  have hl := hg.2.1
  have lp : ∀ m g A', m = gs.length - g → g ≤ gs.length → (∀ a, a ≠ 17 → A' a = A a) → (∀ k, k < g → A' 17 k = lvT gs g k) → Wx K 4 [some (.ref 358), some (zI ((lvM gs g : Nat) : Int)), some (zI (g : Int)), none] [] n (tw f0 F A') 0 := by
    intro m
    induction m using Nat.strongRecOn with
    | _ m ih =>
      intro g A' hm hgl h1 h2
      have hM := lvM_le gs g
      have j100 : ∀ A'', g < gs.length → (∀ a, a ≠ 17 → A'' a = A a) → (∀ k, k < g + 1 → A'' 17 k = lvT gs (g + 1) k) → Wx K 100 [some (.ref 358), some (zI ((lvM gs (g + 1) : Nat) : Int)), some (zI (g : Int)), some (zI (g : Int))] [] n (tw f0 F A'') 0 := by
        intro A'' hg2 g1 g2
        first | refine r_incN_2 hK dX9_laysLevels_100 ?_ | refine r_iinc_2 hK dX9_laysLevels_100 ?_
        refine r_goto 4 hK dX9_laysLevels_103 ?_
        refine r_forget_3 ?_
        exact ih (gs.length - (g + 1)) (by omega) (g + 1) A'' rfl (by omega) g1 g2
      have ip : ∀ dd k A'', dd = g - k → k ≤ g → g < gs.length → (∀ a, a ≠ 17 → A'' a = A a) → (∀ q, q < g → A'' 17 q = lvT gs g q) → A'' 17 g = lvIn gs (lvT gs g) g k → Wx K 21 [some (.ref 358), some (zI ((lvM gs g : Nat) : Int)), some (zI (g : Int)), some (zI (k : Int))] [] n (tw f0 F A'') 0 := by
        intro dd
        induction dd using Nat.strongRecOn with
        | _ dd ih2 =>
          intro k A'' hdd hk hg2 g1 g2 g3
          have g11 := g1 11 (by decide)
          have hgg : gok 4 (ge (A'' 11) g) := by rw [g11]; exact hg.ok ho hg2
          have hlk := lvT_le gs g k
          have hlg : lvIn gs (lvT gs g) g k ≤ g + 1 := lvIn_le k (fun j hj => by have := lvT_le gs g j; omega)
          have nx : ∀ A3, (∀ a, a ≠ 17 → A3 a = A a) → (∀ q, q < g → A3 17 q = lvT gs g q) → k < g → A3 17 g = lvIn gs (lvT gs g) g (k + 1) → Wx K 75 [some (.ref 358), some (zI ((lvM gs g : Nat) : Int)), some (zI (g : Int)), some (zI (k : Int))] [] n (tw f0 F A3) 0 := by
            intro A3 q1 q2 q3 q4
            first | refine r_incN_3 hK dX9_laysLevels_75 ?_ | refine r_iinc_3 hK dX9_laysLevels_75 ?_
            refine r_goto 21 hK dX9_laysLevels_78 ?_
            exact ih2 (g - (k + 1)) (by omega) (k + 1) A3 rfl (by omega) hg2 q1 q2 q4
          have e : lvIn gs (lvT gs g) g (k + 1) = if wir (gt gs g) &&& wir (gt gs k) ≠ 0 then max (lvIn gs (lvT gs g) g k) (lvT gs g k + 1) else lvIn gs (lvT gs g) g k := rfl
          have eT : lvT gs (g + 1) g = lvIn gs (lvT gs g) g g := by show (if g = g then _ else _) = _; rw [if_pos rfl]
          have eT2 : ∀ q, q < g → lvT gs (g + 1) q = lvT gs g q := fun q hq => by show (if q = g then _ else _) = _; rw [if_neg (by omega)]
          have eM : lvM gs (g + 1) = max (lvM gs g) (lvIn gs (lvT gs g) g g + 1) := by rw [← eT]; rfl
          have hand : wir (gt gs g) &&& wir (gt gs k) < 16 := and_lt (wir_lt (ho _ (gt_mem hg2)))
          have fin : k = g → ∀ q, q < g + 1 → A'' 17 q = lvT gs (g + 1) q := fun ek q hq => by
            by_cases eq : q = g
            · subst eq; rw [g3, eT, ek]
            · rw [eT2 q (by omega)]; exact g2 q (by omega)
          refine r_iload_3 hK dX9_laysLevels_21 ?_
          refine r_iload_2 hK dX9_laysLevels_22 ?_
          refine r_icmp_ge 81 hK dX9_laysLevels_23 (by omega) (by omega) (fun h23 => ?_) (fun h23 => ?_)
          · have ek : k = g := by omega
            refine r_aload_0 hK dX9_laysLevels_81 ?_
            refine r_get hK fl_X9_71 dX9_laysLevels_82 tw_obj rfl ?_
            refine r_iload_2 hK dX9_laysLevels_85 ?_
            refine t_ild hK dX9_laysLevels_86 (show _ < 16 by omega) ?_
            rw [g3]
            refine r_iload_1 hK dX9_laysLevels_87 ?_
            refine r_icmp_lt 100 hK dX9_laysLevels_88 (by omega) (by omega) (fun h88 => ?_) (fun h88 => ?_)
            · have := j100 A'' hg2 g1 (fin ek)
              rw [ek] at h88 ⊢
              rw [eM, show max (lvM gs g) (lvIn gs (lvT gs g) g g + 1) = lvM gs g by omega] at this
              exact this
            · refine r_aload_0 hK dX9_laysLevels_91 ?_
              refine r_get hK fl_X9_71 dX9_laysLevels_92 tw_obj rfl ?_
              refine r_iload_2 hK dX9_laysLevels_95 ?_
              refine t_ild hK dX9_laysLevels_96 (show _ < 16 by omega) ?_
              rw [g3]
              refine r_iconstN (c := 1) hK dX9_laysLevels_97 ?_
              first | refine r_iaddN hK dX9_laysLevels_98 ?_ | refine r_iadd hK dX9_laysLevels_98 ?_
              refine r_istore_1 hK dX9_laysLevels_99 ?_
              have := j100 A'' hg2 g1 (fin ek)
              rw [ek] at h88 ⊢
              rw [eM, show max (lvM gs g) (lvIn gs (lvT gs g) g g + 1) = lvIn gs (lvT gs g) g g + 1 by omega] at this
              exact this
          · refine r_aload_0 hK dX9_laysLevels_26 ?_
            refine r_get hK fl_X9_52 dX9_laysLevels_27 tw_obj rfl ?_
            refine r_iload_2 hK dX9_laysLevels_30 ?_
            refine r_pS2 hK (ct_wiresOf hK.rel (by omega) hgg) lk_X9_318 dX9_laysLevels_31 ?_
            refine r_aload_0 hK dX9_laysLevels_34 ?_
            refine r_get hK fl_X9_52 dX9_laysLevels_35 tw_obj rfl ?_
            refine r_iload_3 hK dX9_laysLevels_38 ?_
            refine r_pS2 hK (ct_wiresOf hK.rel (by omega) (by rw [g11]; exact hg.ok ho (by omega))) lk_X9_318 dX9_laysLevels_39 ?_
            rw [g11, hg.gt hg2, hg.gt (show k < gs.length by omega)]
            first | refine r_iand hK dX9_laysLevels_42 ?_ | refine r_andnot hK dX9_laysLevels_42 (by omega) ?_
            refine r_if_eq 75 hK dX9_laysLevels_43 (by omega) (fun h43 => ?_) (fun h43 => ?_)
            · rw [if_neg (by omega)] at e
              exact nx A'' g1 g2 (by omega) (by rw [g3, e]) --!
            · refine r_aload_0 hK dX9_laysLevels_46 ?_
              refine r_get hK fl_X9_71 dX9_laysLevels_47 tw_obj rfl ?_
              refine r_iload_3 hK dX9_laysLevels_50 ?_
              refine t_ild hK dX9_laysLevels_51 (show _ < 16 by omega) ?_
              rw [g2 k (by omega)]
              refine r_aload_0 hK dX9_laysLevels_52 ?_
              refine r_get hK fl_X9_71 dX9_laysLevels_53 tw_obj rfl ?_
              refine r_iload_2 hK dX9_laysLevels_56 ?_
              refine t_ild hK dX9_laysLevels_57 (show _ < 16 by omega) ?_
              rw [g3]
              refine r_icmp_lt 75 hK dX9_laysLevels_58 (by omega) (by omega) (fun h58 => ?_) (fun h58 => ?_)
              · rw [if_pos (by omega)] at e
                exact nx A'' g1 g2 (by omega) (by rw [g3, e]; omega) --!
              · refine r_aload_0 hK dX9_laysLevels_61 ?_
                refine r_get hK fl_X9_71 dX9_laysLevels_62 tw_obj rfl ?_
                refine r_iload_2 hK dX9_laysLevels_65 ?_
                refine r_aload_0 hK dX9_laysLevels_66 ?_
                refine r_get hK fl_X9_71 dX9_laysLevels_67 tw_obj rfl ?_
                refine r_iload_3 hK dX9_laysLevels_70 ?_
                refine t_ild hK dX9_laysLevels_71 (show _ < 16 by omega) ?_
                rw [g2 k (by omega)]
                refine r_iconstN (c := 1) hK dX9_laysLevels_72 ?_
                first | refine r_iaddN hK dX9_laysLevels_73 ?_ | refine r_iadd hK dX9_laysLevels_73 ?_
                refine t_ist hK dX9_laysLevels_74 (show _ < 16 by omega) ?_
                rw [if_pos (by omega)] at e
                exact nx _ (fun a ha => by rw [upA_j ha]; exact g1 a ha) (fun q hq => by rw [upA_n (by omega)]; exact g2 q hq) (by omega) (by rw [upA_s, e]; omega)
      refine r_iload_2 hK dX9_laysLevels_4 ?_
      refine r_aload_0 hK dX9_laysLevels_5 ?_
      refine r_pV0 hK (ct_gates hK.rel) lk_X9_244 (tw_rcv hK) dX9_laysLevels_6 ?_
      rw [h1 11 (by decide), h0]
      refine r_icmp_ge 106 hK dX9_laysLevels_9 (by omega) (by omega) (fun h9 => ?_) (fun h9 => ?_)
      · have e : g = gs.length := by omega
        subst e
        refine r_iload_1 hK dX9_laysLevels_106 ?_
        exact r_iret hK hRt dX9_laysLevels_107 ⟨_, rfl, rfl, _, _, rfl, rfl, rfl, h1, h2⟩
      · refine r_aload_0 hK dX9_laysLevels_12 ?_
        refine r_get hK fl_X9_71 dX9_laysLevels_13 tw_obj rfl ?_
        refine r_iload_2 hK dX9_laysLevels_16 ?_
        refine r_iconstN (c := 0) hK dX9_laysLevels_17 ?_
        refine t_ist hK dX9_laysLevels_18 (show _ < 16 by omega) ?_
        refine r_iconstN (c := 0) hK dX9_laysLevels_19 ?_
        refine r_istore_3 hK dX9_laysLevels_20 ?_
        exact ip g 0 _ rfl (by omega) (by omega) (fun a ha => by rw [upA_j ha]; exact h1 a ha) (fun q hq => by rw [upA_n (by omega)]; exact h2 q hq) (upA_s _ _ _ _)
  refine r_iconstN (c := 0) hK dX9_laysLevels_0 ?_
  refine r_istore_1 hK dX9_laysLevels_1 ?_
  refine r_iconstN (c := 0) hK dX9_laysLevels_2 ?_
  refine r_istore_2 hK dX9_laysLevels_3 ?_
  exact lp gs.length 0 A rfl (by omega) (fun _ _ => rfl) (fun q hq => by omega)
