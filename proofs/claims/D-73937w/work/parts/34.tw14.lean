set_option maxRecDepth 100000
/-! ===== the reference: tests, tables ===== -/
set_option maxHeartbeats 4000000 in
theorem ct_isFirst {G : GT} {Rel : Nat → Hp → Hp → Prop} (hR : RelOK Rel) {n : Nat} {f : Hp} {a b : Nat} (ha : a < 65536) (hb : b < 65536) : Ct G Rel yX9_isFirst cX9_isFirst 3 (some .boolean) (2) (0) [zI (a : Int), zI (b : Int)] n (f) (Pu (zB (ltS a b = true)) n f) := by
  refine ct_intro [some (zI (a : Int)), some (zI (b : Int)), none] hR rfl (Nat.le_of_ble_eq_true rfl) ?_
  intro K hG hRel hK hRt hnm
  have b1 := bits_le a
  have b2 := bits_le b
  have hx : a ^^^ b < 65536 := xor_lt (w := 16) ha hb
  have hy : (a &&& (a ^^^ b)) &&& (4294967296 - (a ^^^ b)) < 65536 := and_lt (and_lt ha)
  refine r_iload_0 hK dX9_isFirst_0 ?_
  refine r_pS1 hK (ct_bitsOf hK.rel (by omega)) lk_X9_322 dX9_isFirst_1 ?_
  refine r_iload_1 hK dX9_isFirst_4 ?_
  refine r_pS1 hK (ct_bitsOf hK.rel (by omega)) lk_X9_322 dX9_isFirst_5 ?_
  refine r_icmp_eq 28 hK dX9_isFirst_8 (by omega) (by omega) (fun h8 => ?_) (fun h8 => ?_)
  · refine r_iload_0 hK dX9_isFirst_28 ?_
    refine r_iload_1 hK dX9_isFirst_29 ?_
    first | refine r_ixor hK dX9_isFirst_30 ?_ | refine r_not hK dX9_isFirst_30 ?_
    refine r_istore_2 hK dX9_isFirst_31 ?_
    refine r_iload_0 hK dX9_isFirst_32 ?_
    refine r_iload_2 hK dX9_isFirst_33 ?_
    first | refine r_iand hK dX9_isFirst_34 ?_ | refine r_andnot hK dX9_isFirst_34 (by omega) ?_
    refine r_iload_2 hK dX9_isFirst_35 ?_
    refine r_ineg hK dX9_isFirst_36 ?_
    refine r_top (zneg (by omega)) ?_
    first | refine r_iand hK dX9_isFirst_37 ?_ | refine r_andnot hK dX9_isFirst_37 (by omega) ?_
    refine r_if_eq 45 hK dX9_isFirst_38 (by omega) (fun h38 => ?_) (fun h38 => ?_)
    · refine r_iconstN (c := 0) hK dX9_isFirst_45 ?_
      exact r_zret hK hRt dX9_isFirst_46 rfl ⟨by rw [zB_f (by unfold ltS; rw [if_pos (by omega)]; simp; omega)]; rfl, rfl, rfl⟩
    · refine r_iconstN (c := 1) hK dX9_isFirst_41 ?_
      refine r_goto 46 hK dX9_isFirst_42 ?_
      exact r_zret hK hRt dX9_isFirst_46 rfl ⟨by rw [zB_t (by unfold ltS; rw [if_pos (by omega)]; simp; omega)]; rfl, rfl, rfl⟩
  · refine r_iload_0 hK dX9_isFirst_11 ?_
    refine r_pS1 hK (ct_bitsOf hK.rel (by omega)) lk_X9_322 dX9_isFirst_12 ?_
    refine r_iload_1 hK dX9_isFirst_15 ?_
    refine r_pS1 hK (ct_bitsOf hK.rel (by omega)) lk_X9_322 dX9_isFirst_16 ?_
    refine r_icmp_ge 26 hK dX9_isFirst_19 (by omega) (by omega) (fun h19 => ?_) (fun h19 => ?_)
    · refine r_iconstN (c := 0) hK dX9_isFirst_26 ?_
      exact r_zret hK hRt dX9_isFirst_27 rfl ⟨by rw [zB_f (by unfold ltS; rw [if_neg (by omega)]; simp; omega)]; rfl, rfl, rfl⟩
    · refine r_iconstN (c := 1) hK dX9_isFirst_22 ?_
      refine r_goto 27 hK dX9_isFirst_23 ?_
      exact r_zret hK hRt dX9_isFirst_27 rfl ⟨by rw [zB_t (by unfold ltS; rw [if_neg (by omega)]; simp; omega)]; rfl, rfl, rfl⟩
set_option maxHeartbeats 4000000 in
theorem ct_testRows {G : GT} {Rel : Nat → Hp → Hp → Prop} (hR : RelOK Rel) {n : Nat} {f0 : Hp} {F : Nat → Nat} {A : Nat → Nat → Nat} {gs : List Gt} {S : Nat → Nat} (hS : S = fun r => senF gs r (2 * F 17)) (hw : F 17 ≤ 4) (hg : GA (A 11) gs) (ho : ∀ g ∈ gs, gok 4 g) : Ct G Rel yX9_testRows cX9_testRows 6 (some .int) (5) (0) [.ref 358] n (tw f0 F A) (Ti n f0 (fun r F' A' => (∃ b, tbF S (rN (F 17)) (allS S (rN (F 17))) (rN (rN (F 17))) = some b ∧ r = (b : Int)) ∧ F' = F ∧ sc A A')) := by
  refine ct_intro [some (.ref 358), none, none, none, none, none] hR rfl (Nat.le_of_ble_eq_true rfl) ?_
  intro K hG hRel hK hRt hnm
  have hr4 := rN4 hw
  have hS8 : ∀ r, S r < 256 := fun r => by rw [hS]; exact Nat.lt_of_lt_of_le (senF_lt gs r (2 * F 17)) (rN_le (k := 8) (by omega))
  have hal : ∀ r, allS S r < 256 := fun r => allS_lt (k := 8) r (fun q _ => hS8 q)
  have hRR : rN (rN (F 17)) ≤ 65536 := rN_le (k := 16) hr4.2
  have hRp := rN_pos (rN (F 17))
  have m2 : ∀ A1, (∀ a, a ≠ 31 → A1 a = A a) → (∀ q, q < rN (F 17) → A1 31 q = S q) → ∀ (m s : Nat) a4 a5, m = rN (rN (F 17)) - s → s ≤ rN (rN (F 17)) → Wx K 42 [some (.ref 358), some (zI ((allS S (rN (F 17)) : Nat) : Int)), some (zI (oI (tbF S (rN (F 17)) (allS S (rN (F 17))) s))), some (zI (s : Int)), a4, a5] [] n (tw f0 F A1) 0 := by
    intro A1 h2 h3 m
    induction m using Nat.strongRecOn with
    | _ m ih =>
      intro s a4 a5 hm hs
      have hall := hal (rN (F 17))
      have e : tbF S (rN (F 17)) (allS S (rN (F 17))) (s + 1) = match tbF S (rN (F 17)) (allS S (rN (F 17))) s with
        | none => if sn S s (rN (F 17)) = allS S (rN (F 17)) then some s else none
        | some b => if ltS s b = true ∧ sn S s (rN (F 17)) = allS S (rN (F 17)) then some s else some b := rfl
      have nx : ∀ (o : Option Nat) x4 x5, s < rN (rN (F 17)) → tbF S (rN (F 17)) (allS S (rN (F 17))) (s + 1) = o → Wx K 117 [some (.ref 358), some (zI ((allS S (rN (F 17)) : Nat) : Int)), some (zI (oI o)), some (zI (s : Int)), x4, x5] [] n (tw f0 F A1) 0 := by
        intro o x4 x5 hsl ho'
        subst ho'
        first | refine r_incN_3 hK dX9_testRows_117 ?_ | refine r_iinc_3 hK dX9_testRows_117 ?_
        refine r_goto 42 hK dX9_testRows_120 ?_
        exact ih (rN (rN (F 17)) - (s + 1)) (by omega) (s + 1) x4 x5 rfl (by omega)
      have hoI : ∀ o, tbF S (rN (F 17)) (allS S (rN (F 17))) s = o → inR (oI o) := fun o ho' => by
        cases o with
        | none => exact ⟨by decide, by decide⟩
        | some b => have := tbF_lt s b ho'; exact ⟨by show -2147483648 ≤ (b : Int); omega, by show (b : Int) < 2147483648; omega⟩
      have ip : ∀ o, tbF S (rN (F 17)) (allS S (rN (F 17))) s = o → s < rN (rN (F 17)) → (∀ b, o = some b → ltS s b = true) → ∀ (d r : Nat), d = rN (F 17) - r → r ≤ rN (F 17) → Wx K 73 [some (.ref 358), some (zI ((allS S (rN (F 17)) : Nat) : Int)), some (zI (oI o)), some (zI (s : Int)), some (zI ((sn S s r : Nat) : Int)), some (zI (r : Int))] [] n (tw f0 F A1) 0 := by
        intro o ho' hsl hlt d
        induction d using Nat.strongRecOn with
        | _ d ih2 =>
          intro r hd hr
          have hsn : sn S s r < 256 := sn_lt (k := 8) r (fun q _ => hS8 q)
          have e2 : sn S s (r + 1) = if s.testBit r = true then sn S s r ||| S r else sn S s r := rfl
          refine r_iload_5 hK dX9_testRows_73 ?_
          refine r_aload_0 hK dX9_testRows_75 ?_
          refine r_pV0 hK (ct_rows hK.rel hw) lk_X9_248 (tw_rcv hK) dX9_testRows_76 ?_
          refine r_icmp_ge 109 hK dX9_testRows_79 (by omega) (by omega) (fun h79 => ?_) (fun h79 => ?_)
          · have er : r = rN (F 17) := by omega
            subst er
            refine r_iload_4 hK dX9_testRows_109 ?_
            refine r_iload_1 hK dX9_testRows_111 ?_
            refine r_icmp_ne 117 hK dX9_testRows_112 (by omega) (by omega) (fun h112 => ?_) (fun h112 => ?_)
            · refine nx o _ _ hsl ?_
              rw [e, ho']
              cases o with
              | none => simp only; rw [if_neg (by omega)]
              | some b => simp only; rw [if_neg (fun q => by omega)]
            · refine r_iload_3 hK dX9_testRows_115 ?_
              refine r_istore_2 hK dX9_testRows_116 ?_
              refine nx (some s) _ _ hsl ?_
              rw [e, ho']
              cases o with
              | none => simp only; rw [if_pos (by omega)]
              | some b => simp only; rw [if_pos ⟨hlt b rfl, by omega⟩]
          · refine r_iload_3 hK dX9_testRows_82 ?_
            refine r_iload_5 hK dX9_testRows_83 ?_
            refine r_pS2 hK (ct_has hK.rel (by omega) (by omega)) lk_X9_261 dX9_testRows_85 ?_
            refine r_ifB_eq 103 hK dX9_testRows_88 (fun h88 => ?_) (fun h88 => ?_)
            · first | refine r_incN_5 hK dX9_testRows_103 ?_ | refine r_iinc_5 hK dX9_testRows_103 ?_
              refine r_goto 73 hK dX9_testRows_106 ?_
              have := ih2 (rN (F 17) - (r + 1)) (by omega) (r + 1) rfl (by omega)
              rw [e2, if_neg h88] at this
              exact this
            · refine r_iload_4 hK dX9_testRows_91 ?_
              refine r_aload_0 hK dX9_testRows_93 ?_
              refine r_get hK fl_X9_117 dX9_testRows_94 tw_obj rfl ?_
              refine r_iload_5 hK dX9_testRows_97 ?_
              refine t_ild hK dX9_testRows_99 (show _ < 16 by omega) ?_
              rw [h3 r (by omega)]
              refine r_ior hK dX9_testRows_100 ?_
              refine r_istore_4 hK dX9_testRows_101 ?_
              first | refine r_incN_5 hK dX9_testRows_103 ?_ | refine r_iinc_5 hK dX9_testRows_103 ?_
              refine r_goto 73 hK dX9_testRows_106 ?_
              have := ih2 (rN (F 17) - (r + 1)) (by omega) (r + 1) rfl (by omega)
              rw [e2, if_pos h88] at this
              exact this
      cases ho' : tbF S (rN (F 17)) (allS S (rN (F 17))) s with
      | none =>
        refine r_iload_3 hK dX9_testRows_42 ?_
        refine r_iconstN (c := 1) hK dX9_testRows_43 ?_
        refine r_aload_0 hK dX9_testRows_44 ?_
        refine r_pV0 hK (ct_rows hK.rel hw) lk_X9_248 (tw_rcv hK) dX9_testRows_45 ?_
        refine r_ishl hK dX9_testRows_48 (by omega) (sh1 (by omega)) ?_
        show Wx K _ _ (zI ((rN (rN (F 17)) : Nat) : Int) :: _) _ _ _
        refine r_icmp_ge 123 hK dX9_testRows_49 (by omega) (by omega) (fun h49 => ?_) (fun h49 => ?_)
        · obtain ⟨b, hb⟩ := tbF_some (S := S) hRp
          have es : s = rN (rN (F 17)) := by omega
          rw [es, hb] at ho'; cases ho'
        · refine r_iload_2 hK dX9_testRows_52 ?_
          refine r_if_lt 67 hK dX9_testRows_53 (by show inR (-1); exact ⟨by decide, by decide⟩) (fun h53 => ?_) (fun h53 => ?_)
          · refine r_iconstN (c := 0) hK dX9_testRows_67 ?_
            refine r_istore_4 hK dX9_testRows_68 ?_
            refine r_iconstN (c := 0) hK dX9_testRows_70 ?_
            refine r_istore_5 hK dX9_testRows_71 ?_
            exact ip none ho' (by omega) (fun b h => by cases h) (rN (F 17)) 0 rfl (by omega)
          · exact absurd (show (0 : Int) ≤ -1 from h53) (by decide)
      | some b =>
        have hbs := tbF_lt s b ho'
        show Wx K 42 [some (.ref 358), some (zI ((allS S (rN (F 17)) : Nat) : Int)), some (zI (b : Int)), some (zI (s : Int)), a4, a5] [] n (tw f0 F A1) 0
        refine r_iload_3 hK dX9_testRows_42 ?_
        refine r_iconstN (c := 1) hK dX9_testRows_43 ?_
        refine r_aload_0 hK dX9_testRows_44 ?_
        refine r_pV0 hK (ct_rows hK.rel hw) lk_X9_248 (tw_rcv hK) dX9_testRows_45 ?_
        refine r_ishl hK dX9_testRows_48 (by omega) (sh1 (by omega)) ?_
        show Wx K _ _ (zI ((rN (rN (F 17)) : Nat) : Int) :: _) _ _ _
        refine r_icmp_ge 123 hK dX9_testRows_49 (by omega) (by omega) (fun h49 => ?_) (fun h49 => ?_)
        · refine r_iload_2 hK dX9_testRows_123 ?_
          exact r_iret hK hRt dX9_testRows_124 ⟨_, rfl, rfl, _, _, rfl, ⟨b, by rw [show rN (rN (F 17)) = s by omega]; exact ho', rfl⟩, rfl, fun a q => h2 a (by omega)⟩
        · refine r_iload_2 hK dX9_testRows_52 ?_
          refine r_if_lt 67 hK dX9_testRows_53 (by omega) (fun h53 => ?_) (fun h53 => ?_)
          · exact absurd h53 (by omega) --!
          · refine r_iload_3 hK dX9_testRows_56 ?_
            refine r_iload_2 hK dX9_testRows_57 ?_
            refine r_pS2 hK (ct_isFirst hK.rel (by omega) (by omega)) lk_X9_391 dX9_testRows_58 ?_
            refine r_ifB_ne 67 hK dX9_testRows_61 (fun h61 => ?_) (fun h61 => ?_)
            · refine r_iconstN (c := 0) hK dX9_testRows_67 ?_
              refine r_istore_4 hK dX9_testRows_68 ?_
              refine r_iconstN (c := 0) hK dX9_testRows_70 ?_
              refine r_istore_5 hK dX9_testRows_71 ?_
              exact ip (some b) ho' (by omega) (fun b' h => by cases h; exact h61) (rN (F 17)) 0 rfl (by omega)
            · refine r_goto 117 hK dX9_testRows_64 ?_
              refine nx (some b) _ _ (by omega) ?_
              rw [e, ho']
              simp only
              rw [if_neg (fun q => h61 q.1)]
  have m1 : ∀ (m r : Nat) (A1 : Nat → Nat → Nat), m = rN (F 17) - r → r ≤ rN (F 17) → (∀ a, a ≠ 31 → A1 a = A a) → (∀ q, q < r → A1 31 q = S q) → Wx K 4 [some (.ref 358), some (zI ((allS S r : Nat) : Int)), some (zI (r : Int)), none, none, none] [] n (tw f0 F A1) 0 := by
    intro m
    induction m using Nat.strongRecOn with
    | _ m ih =>
      intro r A1 hm hr h2 h3
      have ha := hal r
      have hsr := hS8 r
      refine r_iload_2 hK dX9_testRows_4 ?_
      refine r_aload_0 hK dX9_testRows_5 ?_
      refine r_pV0 hK (ct_rows hK.rel hw) lk_X9_248 (tw_rcv hK) dX9_testRows_6 ?_
      refine r_icmp_ge 38 hK dX9_testRows_9 (by omega) (by omega) (fun h9 => ?_) (fun h9 => ?_)
      · refine r_iconst hK dX9_testRows_38 ?_
        refine r_istore_2 hK dX9_testRows_39 ?_
        refine r_iconstN (c := 0) hK dX9_testRows_40 ?_
        refine r_istore_3 hK dX9_testRows_41 ?_
        have er : r = rN (F 17) := by omega
        subst er
        exact m2 A1 h2 h3 (rN (rN (F 17))) 0 _ _ rfl (by omega)
      · refine r_aload_0 hK dX9_testRows_12 ?_
        refine r_get hK fl_X9_117 dX9_testRows_13 tw_obj rfl ?_
        refine r_iload_2 hK dX9_testRows_16 ?_
        refine r_aload_0 hK dX9_testRows_17 ?_
        refine r_iload_2 hK dX9_testRows_18 ?_
        refine r_pV1 hK (ct_seenBy (gs := gs) hK.rel hw (by rw [h2 11 (by decide)]; exact hg) ho (by omega)) lk_X9_388 (tw_rcv hK) dX9_testRows_19 ?_
        rw [show senF gs r (2 * F 17) = S r by rw [hS]]
        refine t_ist hK dX9_testRows_22 (show _ < 16 by omega) ?_
        refine r_iload_1 hK dX9_testRows_23 ?_
        refine r_aload_0 hK dX9_testRows_24 ?_
        refine r_get hK fl_X9_117 dX9_testRows_25 tw_obj rfl ?_
        refine r_iload_2 hK dX9_testRows_28 ?_
        refine t_ild hK dX9_testRows_29 (show _ < 16 by omega) ?_
        rw [upA_s]
        refine r_ior hK dX9_testRows_30 ?_
        refine r_istore_1 hK dX9_testRows_31 ?_
        first | refine r_incN_2 hK dX9_testRows_32 ?_ | refine r_iinc_2 hK dX9_testRows_32 ?_
        refine r_goto 4 hK dX9_testRows_35 ?_
        refine ih (rN (F 17) - (r + 1)) (by omega) (r + 1) _ rfl (by omega) (fun a a1 => by rw [upA_j a1]; exact h2 a a1) (fun q hq => ?_)
        by_cases eq : q = r
        · subst eq; rw [upA_s]
        · rw [upA_n eq]; exact h3 q (by omega)
  refine r_iconstN (c := 0) hK dX9_testRows_0 ?_
  refine r_istore_1 hK dX9_testRows_1 ?_
  refine r_iconstN (c := 0) hK dX9_testRows_2 ?_
  refine r_istore_2 hK dX9_testRows_3 ?_
  exact m1 (rN (F 17)) 0 A rfl (by omega) (fun _ _ => rfl) (fun q hq => by omega)
set_option maxHeartbeats 4000000 in
theorem ct_test {G : GT} {Rel : Nat → Hp → Hp → Prop} (hR : RelOK Rel) {n : Nat} {f0 : Hp} {F : Nat → Nat} {A : Nat → Nat → Nat} {gs : List Gt} {S : Nat → Nat} {z : Int} (hz : inR z) (hS : S = fun r => senF gs r (2 * F 17)) (hw : F 17 ≤ 4) (hg : GA (A 11) gs) (ho : ∀ g ∈ gs, gok 4 g) : Ct G Rel yX9_test cX9_test 5 (some .int) (6) (0) [.ref 358, zI z] n (tw f0 F A) (Ti n f0 (fun r F' A' => r = tstS S (rN (F 17)) z ∧ F' = F ∧ sc A A')) := by
  refine ct_intro [some (.ref 358), some (zI z), none, none, none] hR rfl (Nat.le_of_ble_eq_true rfl) ?_
  intro K hG hRel hK hRt hnm
  have hr4 := rN4 hw
  have hRR : rN (rN (F 17)) ≤ 65536 := rN_le (k := 16) hr4.2
  have lp : ∀ A1 (b : Nat), sc A A1 → b < 65536 → -1 ≤ z → tstS S (rN (F 17)) z = ntF b (rN (F 17)) z (rN (F 17)) 0 → ∀ (m r c : Nat), r + m = rN (F 17) → c ≤ r → ntF b (rN (F 17)) z (rN (F 17)) 0 = ntF b (rN (F 17)) z m c → Wx K 17 [some (.ref 358), some (zI z), some (zI (b : Int)), some (zI (c : Int)), some (zI (r : Int))] [] n (tw f0 F A1) 0 := by
    intro A1 b sA hb hz1 ht m
    induction m with
    | zero =>
      intro r c hm hc he
      refine r_iload_4 hK dX9_test_17 ?_
      refine r_aload_0 hK dX9_test_19 ?_
      refine r_pV0 hK (ct_rows hK.rel hw) lk_X9_248 (tw_rcv hK) dX9_test_20 ?_
      refine r_icmp_ge 55 hK dX9_test_23 (by omega) (by omega) (fun h23 => ?_) (fun h23 => ?_)
      · refine r_iload_1 hK dX9_test_55 ?_
        refine r_iconst hK dX9_test_56 ?_
        refine r_icmp_ne 64 hK dX9_test_57 (by omega) (by omega) (fun h57 => ?_) (fun h57 => ?_)
        · refine r_iconst hK dX9_test_64 ?_
          exact r_iret hK hRt dX9_test_65 ⟨_, rfl, rfl, _, _, rfl, by rw [ht, he]; unfold ntF; rw [if_neg (by omega)], rfl, sA⟩
        · refine r_iload_3 hK dX9_test_60 ?_
          refine r_goto 65 hK dX9_test_61 ?_
          exact r_iret hK hRt dX9_test_65 ⟨_, rfl, rfl, _, _, rfl, by rw [ht, he]; unfold ntF; rw [if_pos (by omega)], rfl, sA⟩
      · exact absurd h23 (by omega)
    | succ m ih =>
      intro r c hm hc he
      have e : ntF b (rN (F 17)) z (m + 1) c = if b.testBit r = true then (if (c : Int) = z then (r : Int) else ntF b (rN (F 17)) z m (c + 1)) else ntF b (rN (F 17)) z m c := by
        show (if b.testBit (rN (F 17) - (m + 1)) = true then (if (c : Int) = z then ((rN (F 17) - (m + 1) : Nat) : Int) else _) else _) = _
        rw [show rN (F 17) - (m + 1) = r by omega]
      rw [e] at he
      refine r_iload_4 hK dX9_test_17 ?_
      refine r_aload_0 hK dX9_test_19 ?_
      refine r_pV0 hK (ct_rows hK.rel hw) lk_X9_248 (tw_rcv hK) dX9_test_20 ?_
      refine r_icmp_ge 55 hK dX9_test_23 (by omega) (by omega) (fun h23 => ?_) (fun h23 => ?_)
      · exact absurd h23 (by omega)
      · refine r_iload_2 hK dX9_test_26 ?_
        refine r_iload_4 hK dX9_test_27 ?_
        refine r_pS2 hK (ct_has hK.rel (by omega) (by omega)) lk_X9_261 dX9_test_29 ?_
        refine r_ifB_ne 38 hK dX9_test_32 (fun h32 => ?_) (fun h32 => ?_)
        · refine r_iload_3 hK dX9_test_38 ?_
          refine r_iload_1 hK dX9_test_39 ?_
          refine r_icmp_ne 46 hK dX9_test_40 (by omega) (by omega) (fun h40 => ?_) (fun h40 => ?_)
          · first | refine r_incN_3 hK dX9_test_46 ?_ | refine r_iinc_3 hK dX9_test_46 ?_
            first | refine r_incN_4 hK dX9_test_49 ?_ | refine r_iinc_4 hK dX9_test_49 ?_
            refine r_goto 17 hK dX9_test_52 ?_
            exact ih (r + 1) _ (by omega) (by omega) (by rw [he, if_pos h32, if_neg (by omega)])
          · refine r_iload_4 hK dX9_test_43 ?_
            exact r_iret hK hRt dX9_test_45 ⟨_, rfl, rfl, _, _, rfl, by rw [ht, he, if_pos h32, if_pos (by omega)], rfl, sA⟩
        · refine r_goto 49 hK dX9_test_35 ?_
          first | refine r_incN_4 hK dX9_test_49 ?_ | refine r_iinc_4 hK dX9_test_49 ?_
          refine r_goto 17 hK dX9_test_52 ?_
          exact ih (r + 1) _ (by omega) (by omega) (by rw [he, if_neg h32])
  refine r_iload_1 hK dX9_test_0 ?_
  refine r_iconst hK dX9_test_1 ?_
  refine r_icmp_ge 7 hK dX9_test_2 (by omega) (by omega) (fun h2 => ?_) (fun h2 => ?_)
  · refine r_aload_0 hK dX9_test_7 ?_
    refine r_tiV0 hK (ct_testRows hK.rel hS hw hg ho) lk_X9_394 (tw_rcv hK) dX9_test_8 (fun r1 F1 A1 h1 => ?_)
    obtain ⟨⟨b, hb1, hb2⟩, e1, sA⟩ := h1
    subst F1
    subst r1
    have hbl := tbF_lt _ _ hb1
    refine r_istore_2 hK dX9_test_11 ?_
    refine r_iconstN (c := 0) hK dX9_test_12 ?_
    refine r_istore_3 hK dX9_test_13 ?_
    refine r_iconstN (c := 0) hK dX9_test_14 ?_
    refine r_istore_4 hK dX9_test_15 ?_
    exact lp A1 b sA (by omega) (by omega) (by unfold tstS; rw [if_neg (by omega), hb1]) (rN (F 17)) 0 0 (by omega) (Nat.le_refl _) rfl
  · refine r_iconst hK dX9_test_5 ?_
    exact r_iret hK hRt dX9_test_6 ⟨_, rfl, rfl, _, _, rfl, by unfold tstS; rw [if_pos (by omega)], rfl, sc.rf⟩
def tblS (n m : Nat) (v : Nat → Nat) (z : Int) : Int := if n = 0 then -1 else if z = 0 then (n : Int) else if z = 1 then (m : Int) else if z = 2 then (cpM v (rN n) 8 : Int) else if z = 3 then (gbg (cpM v (rN n) 8) : Int) else if z = 4 then (lnN n m v : Int) else if z = 5 then ((lnN n m v - n : Nat) : Int) else if z = 6 then ((fdL (fdAll (lnN n m v) false (told n m v))).length : Int) else if z = 7 then ((fdL (fdAll (lnN n m v) true (told n m v))).length : Int) else -1
set_option maxHeartbeats 4000000 in
theorem ct_table {G : GT} {Rel : Nat → Hp → Hp → Prop} (hR : RelOK Rel) {n : Nat} {f0 : Hp} {F : Nat → Nat} {A : Nat → Nat → Nat} {z : Int} (hz : inR z) (ht : F 19 = 0 ∨ tabOK (F 19) (F 20) (A 8)) : Ct G Rel yX9_table cX9_table 2 (some .int) (5) (0) [.ref 358, zI z] n (tw f0 F A) (Ti n f0 (fun r F' A' => r = tblS (F 19) (F 20) (A 8) z ∧ kF F F' ∧ sc A A')) := by
  refine ct_intro [some (.ref 358), some (zI z)] hR rfl (Nat.le_of_ble_eq_true rfl) ?_
  intro K hG hRel hK hRt hnm
  rcases ht with h0 | ht
  · refine r_aload_0 hK dX9_table_0 ?_
    refine r_get hK fl_X9_209 dX9_table_1 tw_obj rfl ?_
    refine r_if_ne 9 hK dX9_table_4 (by omega) (fun h4 => ?_) (fun h4 => ?_)
    · exact absurd (show (F 19 : Int) = 0 by omega) h4
    · refine r_iconst hK dX9_table_7 ?_
      exact r_iret hK hRt dX9_table_8 ⟨_, rfl, rfl, _, _, rfl, by unfold tblS; rw [if_pos h0], kF.rf, sc.rf⟩
  · have hi := ht.1.2
    have hi1 := ht.1.1
    have ho := ht.2.1.2
    have hv : ∀ x, x < rN (F 19) → A 8 x < 10000 := fun x hx => by
      have h1 := ht.2.2 x hx
      have h2 : rN (F 20) ≤ 8 := rN_le (k := 3) ho
      omega
    have hL := lnN_ok (v := A 8) hi ho
    have hG : ∀ q, tblS (F 19) (F 20) (A 8) q = if q = 0 then (F 19 : Int) else if q = 1 then (F 20 : Int) else if q = 2 then (cpM (A 8) (rN (F 19)) 8 : Int) else if q = 3 then (gbg (cpM (A 8) (rN (F 19)) 8) : Int) else if q = 4 then (lnN (F 19) (F 20) (A 8) : Int) else if q = 5 then ((lnN (F 19) (F 20) (A 8) - F 19 : Nat) : Int) else if q = 6 then ((fdL (fdAll (lnN (F 19) (F 20) (A 8)) false (told (F 19) (F 20) (A 8)))).length : Int) else if q = 7 then ((fdL (fdAll (lnN (F 19) (F 20) (A 8)) true (told (F 19) (F 20) (A 8)))).length : Int) else -1 := fun q => by unfold tblS; rw [if_neg (by omega)]
    have j91 : ∀ both : Bool, (z = if both then 7 else 6) → Wx K 91 [some (.ref 358), some (zI z)] [] n (tw f0 F A) 0 := by
      intro both hb
      have hzz : z = 6 ∨ z = 7 := by cases both <;> simp at hb <;> omega
      refine r_aload_0 hK dX9_table_91 ?_
      refine r_tvV0 hK (ct_laysTold hK.rel hi ho hv hL.1 hL.2.1 (t1_lt ht)) lk_X9_412 (tw_rcv hK) dX9_table_92 (fun F1 A1 h1 => ?_)
      obtain ⟨e1, h2, h3⟩ := h1
      subst F1
      refine r_aload_0 hK dX9_table_95 ?_
      refine r_aload_0 hK dX9_table_96 ?_
      refine r_pV0 hK (ct_lines hK.rel hi ho (by rw [h2 8 (by decide) (by decide)]; exact hv)) lk_X9_409 (tw_rcv hK) dX9_table_97 ?_
      rw [h2 8 (by decide) (by decide)]
      refine r_iload_1 hK dX9_table_100 ?_
      refine r_bipushN (c := 7) hK dX9_table_101 ?_
      refine r_icmp_ne 110 hK dX9_table_103 (by omega) (by omega) (fun h103 => ?_) (fun h103 => ?_)
      · refine r_iconstN (c := 0) hK dX9_table_110 ?_
        refine r_tvV2 hK (ct_laysFound (both := false) hK.rel hL.1 (told_onto ht) h3) lk_X9_289 (tw_rcv hK) dX9_table_111 (fun F2 A2 h4 => ?_)
        obtain ⟨q1, q2, q3, q4, q5⟩ := h4
        refine r_aload_0 hK dX9_table_114 ?_
        refine r_get hK fl_X9_296 dX9_table_115 tw_obj rfl ?_
        refine r_iret hK hRt dX9_table_118 ⟨_, rfl, rfl, _, _, rfl, ?_, q4, sc.t (fun a q => h2 a (by omega) (by omega)) q5.sc⟩
        rw [q1, hG, show z = 6 by omega]; rfl
      · refine r_iconstN (c := 1) hK dX9_table_106 ?_
        refine r_goto 111 hK dX9_table_107 ?_
        refine r_tvV2 hK (ct_laysFound (both := true) hK.rel hL.1 (told_onto ht) h3) lk_X9_289 (tw_rcv hK) dX9_table_111 (fun F2 A2 h4 => ?_)
        obtain ⟨q1, q2, q3, q4, q5⟩ := h4
        refine r_aload_0 hK dX9_table_114 ?_
        refine r_get hK fl_X9_296 dX9_table_115 tw_obj rfl ?_
        refine r_iret hK hRt dX9_table_118 ⟨_, rfl, rfl, _, _, rfl, ?_, q4, sc.t (fun a q => h2 a (by omega) (by omega)) q5.sc⟩
        rw [q1, hG, show z = 7 by omega]; rfl
    refine r_aload_0 hK dX9_table_0 ?_
    refine r_get hK fl_X9_209 dX9_table_1 tw_obj rfl ?_
    refine r_if_ne 9 hK dX9_table_4 (by omega) (fun h4 => ?_) (fun h4 => ?_)
    · refine r_iload_1 hK dX9_table_9 ?_
      have hsw : z = 0 ∨ z = 1 ∨ z = 2 ∨ z = 3 ∨ z = 4 ∨ z = 5 ∨ z = 6 ∨ z = 7 ∨ (z < 0 ∨ 7 < z) := by omega
      rcases hsw with rfl | rfl | rfl | rfl | rfl | rfl | rfl | rfl | hsw
      · refine r_tabIn 56 hK dX9_table_10 (by decide) (by decide) (by decide) rfl rfl ?_
        refine r_aload_0 hK dX9_table_56 ?_
        refine r_get hK fl_X9_209 dX9_table_57 tw_obj rfl ?_
        exact r_iret hK hRt dX9_table_60 ⟨_, rfl, rfl, _, _, rfl, by rw [hG]; rfl, kF.rf, sc.rf⟩
      · refine r_tabIn 61 hK dX9_table_10 (by decide) (by decide) (by decide) rfl rfl ?_
        refine r_aload_0 hK dX9_table_61 ?_
        refine r_get hK fl_X9_215 dX9_table_62 tw_obj rfl ?_
        exact r_iret hK hRt dX9_table_65 ⟨_, rfl, rfl, _, _, rfl, by rw [hG]; rfl, kF.rf, sc.rf⟩
      · refine r_tabIn 66 hK dX9_table_10 (by decide) (by decide) (by decide) rfl rfl ?_
        refine r_aload_0 hK dX9_table_66 ?_
        refine r_pV0 hK (ct_copies hK.rel hi hv) lk_X9_403 (tw_rcv hK) dX9_table_67 ?_
        exact r_iret hK hRt dX9_table_70 ⟨_, rfl, rfl, _, _, rfl, by rw [hG]; rfl, kF.rf, sc.rf⟩
      · refine r_tabIn 71 hK dX9_table_10 (by decide) (by decide) (by decide) rfl rfl ?_
        refine r_aload_0 hK dX9_table_71 ?_
        refine r_pV0 hK (ct_garbage hK.rel hi hv) lk_X9_406 (tw_rcv hK) dX9_table_72 ?_
        exact r_iret hK hRt dX9_table_75 ⟨_, rfl, rfl, _, _, rfl, by rw [hG]; rfl, kF.rf, sc.rf⟩
      · refine r_tabIn 76 hK dX9_table_10 (by decide) (by decide) (by decide) rfl rfl ?_
        refine r_aload_0 hK dX9_table_76 ?_
        refine r_pV0 hK (ct_lines hK.rel hi ho hv) lk_X9_409 (tw_rcv hK) dX9_table_77 ?_
        exact r_iret hK hRt dX9_table_80 ⟨_, rfl, rfl, _, _, rfl, by rw [hG]; rfl, kF.rf, sc.rf⟩
      · refine r_tabIn 81 hK dX9_table_10 (by decide) (by decide) (by decide) rfl rfl ?_
        refine r_aload_0 hK dX9_table_81 ?_
        refine r_pV0 hK (ct_lines hK.rel hi ho hv) lk_X9_409 (tw_rcv hK) dX9_table_82 ?_
        refine r_aload_0 hK dX9_table_85 ?_
        refine r_get hK fl_X9_209 dX9_table_86 tw_obj rfl ?_
        first | refine r_isubN hK dX9_table_89 (by omega) ?_ | refine r_isub hK dX9_table_89 ?_
        exact r_iret hK hRt dX9_table_90 ⟨_, rfl, rfl, _, _, rfl, by rw [hG]; rfl, kF.rf, sc.rf⟩
      · refine r_tabIn 91 hK dX9_table_10 (by decide) (by decide) (by decide) rfl rfl ?_
        exact j91 false rfl
      · refine r_tabIn 91 hK dX9_table_10 (by decide) (by decide) (by decide) rfl rfl ?_
        exact j91 true rfl
      · refine r_tabOut 119 hK dX9_table_10 hz hsw rfl ?_
        refine r_iconst hK dX9_table_119 ?_
        exact r_iret hK hRt dX9_table_120 ⟨_, rfl, rfl, _, _, rfl, by rw [hG, if_neg (by omega), if_neg (by omega), if_neg (by omega), if_neg (by omega), if_neg (by omega), if_neg (by omega), if_neg (by omega), if_neg (by omega)], kF.rf, sc.rf⟩
    · refine r_iconst hK dX9_table_7 ?_
      exact absurd h4 (by omega)
def laidS (n m : Nat) (v : Nat → Nat) (z : Int) : Int := if n ≠ 0 ∧ 0 ≤ z ∧ z < rN (lnN n m v) then (told n m v z.toNat : Int) else -1
set_option maxHeartbeats 4000000 in
theorem ct_laid {G : GT} {Rel : Nat → Hp → Hp → Prop} (hR : RelOK Rel) {n : Nat} {f0 : Hp} {F : Nat → Nat} {A : Nat → Nat → Nat} {z : Int} (hz : inR z) (ht : F 19 = 0 ∨ tabOK (F 19) (F 20) (A 8)) : Ct G Rel yX9_laid cX9_laid 2 (some .int) (5) (0) [.ref 358, zI z] n (tw f0 F A) (Ti n f0 (fun r F' A' => r = laidS (F 19) (F 20) (A 8) z ∧ F' = F ∧ sc A A')) := by
  refine ct_intro [some (.ref 358), some (zI z)] hR rfl (Nat.le_of_ble_eq_true rfl) ?_
  intro K hG hRel hK hRt hnm
  rcases ht with h0 | ht
  · refine r_aload_0 hK dX9_laid_0 ?_
    refine r_get hK fl_X9_209 dX9_laid_1 tw_obj rfl ?_
    refine r_if_eq 23 hK dX9_laid_4 (by omega) (fun h4 => ?_) (fun h4 => ?_)
    · refine r_iconst hK dX9_laid_23 ?_
      exact r_iret hK hRt dX9_laid_24 ⟨_, rfl, rfl, _, _, rfl, by unfold laidS; rw [if_neg (fun q => q.1 h0)], rfl, sc.rf⟩
    · exact absurd (show (F 19 : Int) = 0 by omega) h4
  · have hi := ht.1.2
    have hi1 := ht.1.1
    have ho := ht.2.1.2
    have hv : ∀ x, x < rN (F 19) → A 8 x < 10000 := fun x hx => by
      have h1 := ht.2.2 x hx
      have h2 : rN (F 20) ≤ 8 := rN_le (k := 3) ho
      omega
    have hL := lnN_ok (v := A 8) hi ho
    have h64 : rN (lnN (F 19) (F 20) (A 8)) ≤ 64 := rN_le (k := 6) hL.1
    refine r_aload_0 hK dX9_laid_0 ?_
    refine r_get hK fl_X9_209 dX9_laid_1 tw_obj rfl ?_
    refine r_if_eq 23 hK dX9_laid_4 (by omega) (fun h4 => ?_) (fun h4 => ?_)
    · exact absurd h4 (by omega) --!
    · refine r_iload_1 hK dX9_laid_7 ?_
      refine r_iconstN (c := 0) hK dX9_laid_8 ?_
      refine r_iconstN (c := 1) hK dX9_laid_9 ?_
      refine r_aload_0 hK dX9_laid_10 ?_
      refine r_pV0 hK (ct_lines hK.rel hi ho hv) lk_X9_409 (tw_rcv hK) dX9_laid_11 ?_
      refine r_ishl hK dX9_laid_14 (by omega) (sh1 (by omega)) ?_
      show Wx K _ _ (zI ((rN (lnN (F 19) (F 20) (A 8)) : Nat) : Int) :: _) _ _ _
      refine r_iconstN (c := 1) hK dX9_laid_15 ?_
      refine r_isub hK dX9_laid_16 ?_
      refine r_pS3 hK (ct_in hK.rel hz (by omega) (by omega)) lk_X9_237 dX9_laid_17 ?_
      refine r_ifB_ne 25 hK dX9_laid_20 (fun h20 => ?_) (fun h20 => ?_)
      · obtain ⟨k, rfl⟩ : ∃ s : Nat, z = (s : Int) := ⟨z.toNat, by omega⟩
        refine r_aload_0 hK dX9_laid_25 ?_
        refine r_tvV0 hK (ct_laysTold hK.rel hi ho hv hL.1 hL.2.1 (t1_lt ht)) lk_X9_412 (tw_rcv hK) dX9_laid_26 (fun F1 A1 h1 => ?_)
        obtain ⟨e1, h2, h3⟩ := h1
        subst F1
        refine r_aload_0 hK dX9_laid_29 ?_
        refine r_get hK fl_X9_68 dX9_laid_30 tw_obj rfl ?_
        refine r_iload_1 hK dX9_laid_33 ?_
        refine t_ild hK dX9_laid_34 (show _ < 64 by omega) ?_
        exact r_iret hK hRt dX9_laid_35 ⟨_, rfl, rfl, _, _, rfl, by unfold laidS; rw [if_pos (by omega), h3 k (by omega), Int.toNat_natCast], rfl, fun a q => h2 a (by omega) (by omega)⟩
      · refine r_iconst hK dX9_laid_23 ?_
        exact r_iret hK hRt dX9_laid_24 ⟨_, rfl, rfl, _, _, rfl, by unfold laidS; rw [if_neg (fun q => by omega)], rfl, sc.rf⟩
