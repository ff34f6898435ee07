set_option maxRecDepth 100000
/-! ===== the reference: shrinking ===== -/
theorem shrAll_none {w m : Nat} {gs : List Gt} (h : shrA w gs = none) : shrAll w (m + 1) gs = gs := by unfold shrAll; rw [h]
set_option maxHeartbeats 4000000 in
theorem ct_canMeet {G : GT} {Rel : Nat → Hp → Hp → Prop} (hR : RelOK Rel) {n : Nat} {f0 : Hp} {F : Nat → Nat} {A : Nat → Nat → Nat} {gs : List Gt} {i k : Nat} (hik : i < k) (hk : k < gs.length) (hw : F 17 ≤ 4) (hg : GA (A 18) gs) (ho : ∀ g ∈ gs, gok 4 g) : Ct G Rel yX9_canMeet cX9_canMeet 4 (some .boolean) (4) (0) [.ref 358, zI (i : Int), zI (k : Int)] n (tw f0 F A) (Pu (zB (cm (F 17) gs i k = true)) n (tw f0 F A)) := by
  refine ct_intro [some (.ref 358), some (zI (i : Int)), some (zI (k : Int)), none] hR rfl (Nat.le_of_ble_eq_true rfl) ?_
  intro K hG hRel hK hRt hnm
  have hl := hg.2.1
  have lp : ∀ m j : Nat, j + m = k → i < j → cm (F 17) gs i k = cmF (F 17) gs i k m → Wx K 4 [some (.ref 358), some (zI (i : Int)), some (zI (k : Int)), some (zI (j : Int))] [] n (tw f0 F A) 0 := by
    intro m
    induction m with
    | zero =>
      intro j hj hij hc
      refine r_iload_3 hK dX9_canMeet_4 ?_
      refine r_iload_2 hK dX9_canMeet_5 ?_
      refine r_icmp_ge 30 hK dX9_canMeet_6 (by omega) (by omega) (fun h6 => ?_) (fun h6 => ?_)
      · refine r_iconstN (c := 1) hK dX9_canMeet_30 ?_
        exact r_zret hK hRt dX9_canMeet_31 rfl ⟨by rw [hc, zB_t (show cmF (F 17) gs i k 0 = true from rfl)]; rfl, rfl, rfl⟩
      · exact absurd h6 (by omega)
    | succ m ih =>
      intro j hj hij hc
      have e : cmF (F 17) gs i k (m + 1) = (agr (F 17) (gt gs i) (gt gs j) && cmF (F 17) gs i k m) := by show (agr (F 17) (gt gs i) (gt gs (k - (m + 1))) && _) = _; rw [show k - (m + 1) = j by omega]
      rw [e] at hc
      refine r_iload_3 hK dX9_canMeet_4 ?_
      refine r_iload_2 hK dX9_canMeet_5 ?_
      refine r_icmp_ge 30 hK dX9_canMeet_6 (by omega) (by omega) (fun h6 => ?_) (fun h6 => ?_)
      · exact absurd h6 (by omega)
      · refine r_aload_0 hK dX9_canMeet_9 ?_
        refine r_aload_0 hK dX9_canMeet_10 ?_
        refine r_get hK fl_X9_74 dX9_canMeet_11 tw_obj rfl ?_
        refine r_iload_1 hK dX9_canMeet_14 ?_
        refine r_iload_3 hK dX9_canMeet_15 ?_
        refine r_pV3 hK (ct_doAgree (j := 18) hK.rel (Or.inr rfl) hw (by omega) (by omega) (hg.ok ho (by omega)) (hg.ok ho (by omega))) lk_X9_314 (tw_rcv hK) dX9_canMeet_16 ?_
        rw [hg.gt (show i < gs.length by omega), hg.gt (show j < gs.length by omega)]
        refine r_ifB_ne 24 hK dX9_canMeet_19 (fun h19 => ?_) (fun h19 => ?_)
        · first | refine r_incN_3 hK dX9_canMeet_24 ?_ | refine r_iinc_3 hK dX9_canMeet_24 ?_
          refine r_goto 4 hK dX9_canMeet_27 ?_
          exact ih (j + 1) (by omega) (by omega) (by rw [hc, h19, Bool.true_and])
        · refine r_iconstN (c := 0) hK dX9_canMeet_22 ?_
          exact r_zret hK hRt dX9_canMeet_23 rfl ⟨by rw [zB_f (by rw [hc, Bool.eq_false_iff.mpr h19]; simp)]; rfl, rfl, rfl⟩
  refine r_iload_1 hK dX9_canMeet_0 ?_
  refine r_iconstN (c := 1) hK dX9_canMeet_1 ?_
  first | refine r_iaddN hK dX9_canMeet_2 ?_ | refine r_iadd hK dX9_canMeet_2 ?_
  refine r_istore_3 hK dX9_canMeet_3 ?_
  exact lp (k - (i + 1)) (i + 1) (by omega) (by omega) rfl
set_option maxHeartbeats 4000000 in
theorem ct_fits {G : GT} {Rel : Nat → Hp → Hp → Prop} (hR : RelOK Rel) {n : Nat} {f0 : Hp} {F : Nat → Nat} {A : Nat → Nat → Nat} {r i k : Nat} (hr : r = 1 ∨ r = 2 ∨ r = 3) (hi : i < 16) (hk : k < 16) (hgi : gok 4 (ge (A 18) i)) (hgk : gok 4 (ge (A 18) k)) : Ct G Rel yX9_fits cX9_fits 6 (some .boolean) (2) (0) [.ref 358, zI (r : Int), zI (i : Int), zI (k : Int)] n (tw f0 F A) (Pu (zB (fitR r (ge (A 18) i) (ge (A 18) k) = true)) n (tw f0 F A)) := by
  refine ct_intro [some (.ref 358), some (zI (r : Int)), some (zI (i : Int)), some (zI (k : Int)), none, none] hR rfl (Nat.le_of_ble_eq_true rfl) ?_
  intro K hG hRel hK hRt hnm
  have x1 : (ge (A 18) i).2.1 ^^^ (ge (A 18) k).2.1 < 16 := xor_lt (w := 4) hgi.2.1 hgk.2.1
  have x2 : (ge (A 18) i).2.2 ^^^ (ge (A 18) k).2.2 < 16 := xor_lt (w := 4) hgi.2.2.1 hgk.2.2.1
  have fe : fitR r (ge (A 18) i) (ge (A 18) k) = true ↔ if r = 1 then (ge (A 18) i).2.1 ^^^ (ge (A 18) k).2.1 = 0 ∧ (ge (A 18) i).2.2 ^^^ (ge (A 18) k).2.2 = 0 else if r = 2 then (ge (A 18) i).2.1 ^^^ (ge (A 18) k).2.1 = (ge (A 18) i).2.2 ^^^ (ge (A 18) k).2.2 ∧ bits ((ge (A 18) i).2.1 ^^^ (ge (A 18) k).2.1) = 1 else bits ((ge (A 18) i).2.1 ^^^ (ge (A 18) k).2.1) + bits ((ge (A 18) i).2.2 ^^^ (ge (A 18) k).2.2) = 1 := by
    unfold fitR
    split
    · exact decide_eq_true_iff
    · split
      · exact decide_eq_true_iff
      · exact decide_eq_true_iff
  simp only [ge] at x1 x2 fe
  have b1 := bits_le (A 18 (17 + i) ^^^ A 18 (17 + k))
  have b2 := bits_le (A 18 (33 + i) ^^^ A 18 (33 + k))
  refine r_aload_0 hK dX9_fits_0 ?_
  refine r_get hK fl_X9_74 dX9_fits_1 tw_obj rfl ?_
  refine r_bipushN (c := 17) hK dX9_fits_4 ?_
  refine r_iload_2 hK dX9_fits_6 ?_
  first | refine r_iaddN hK dX9_fits_7 ?_ | refine r_iadd hK dX9_fits_7 ?_
  refine t_ild hK dX9_fits_8 (show _ < 49 by omega) ?_
  refine r_aload_0 hK dX9_fits_9 ?_
  refine r_get hK fl_X9_74 dX9_fits_10 tw_obj rfl ?_
  refine r_bipushN (c := 17) hK dX9_fits_13 ?_
  refine r_iload_3 hK dX9_fits_15 ?_
  first | refine r_iaddN hK dX9_fits_16 ?_ | refine r_iadd hK dX9_fits_16 ?_
  refine t_ild hK dX9_fits_17 (show _ < 49 by omega) ?_
  first | refine r_ixor hK dX9_fits_18 ?_ | refine r_not hK dX9_fits_18 ?_
  refine r_istore_4 hK dX9_fits_19 ?_
  refine r_aload_0 hK dX9_fits_21 ?_
  refine r_get hK fl_X9_74 dX9_fits_22 tw_obj rfl ?_
  refine r_bipushN (c := 33) hK dX9_fits_25 ?_
  refine r_iload_2 hK dX9_fits_27 ?_
  first | refine r_iaddN hK dX9_fits_28 ?_ | refine r_iadd hK dX9_fits_28 ?_
  refine t_ild hK dX9_fits_29 (show _ < 49 by omega) ?_
  refine r_aload_0 hK dX9_fits_30 ?_
  refine r_get hK fl_X9_74 dX9_fits_31 tw_obj rfl ?_
  refine r_bipushN (c := 33) hK dX9_fits_34 ?_
  refine r_iload_3 hK dX9_fits_36 ?_
  first | refine r_iaddN hK dX9_fits_37 ?_ | refine r_iadd hK dX9_fits_37 ?_
  refine t_ild hK dX9_fits_38 (show _ < 49 by omega) ?_
  first | refine r_ixor hK dX9_fits_39 ?_ | refine r_not hK dX9_fits_39 ?_
  refine r_istore_5 hK dX9_fits_40 ?_
  refine r_iload_1 hK dX9_fits_42 ?_
  refine r_iconstN (c := 1) hK dX9_fits_43 ?_
  refine r_icmp_ne 63 hK dX9_fits_44 (by omega) (by omega) (fun h44 => ?_) (fun h44 => ?_)
  · refine r_iload_1 hK dX9_fits_63 ?_
    refine r_iconstN (c := 2) hK dX9_fits_64 ?_
    refine r_icmp_ne 90 hK dX9_fits_65 (by omega) (by omega) (fun h65 => ?_) (fun h65 => ?_)
    · refine r_iload_4 hK dX9_fits_90 ?_
      refine r_pS1 hK (ct_bitsOf hK.rel (by omega)) lk_X9_322 dX9_fits_92 ?_
      refine r_iload_5 hK dX9_fits_95 ?_
      refine r_pS1 hK (ct_bitsOf hK.rel (by omega)) lk_X9_322 dX9_fits_97 ?_
      first | refine r_iaddN hK dX9_fits_100 ?_ | refine r_iadd hK dX9_fits_100 ?_
      refine r_iconstN (c := 1) hK dX9_fits_101 ?_
      refine r_icmp_ne 109 hK dX9_fits_102 (by omega) (by omega) (fun h102 => ?_) (fun h102 => ?_)
      · have ff : ¬ fitR r (ge (A 18) i) (ge (A 18) k) = true := by simp only [ge]; rw [fe, if_neg (by omega), if_neg (by omega)]; omega
        refine r_iconstN (c := 0) hK dX9_fits_109 ?_
        exact r_zret hK hRt dX9_fits_110 rfl ⟨by rw [zB_f ff]; rfl, rfl, rfl⟩
      · have ff : fitR r (ge (A 18) i) (ge (A 18) k) = true := by simp only [ge]; rw [fe, if_neg (by omega), if_neg (by omega)]; omega
        refine r_iconstN (c := 1) hK dX9_fits_105 ?_
        refine r_goto 110 hK dX9_fits_106 ?_
        exact r_zret hK hRt dX9_fits_110 rfl ⟨by rw [zB_t ff]; rfl, rfl, rfl⟩
    · refine r_iload_4 hK dX9_fits_68 ?_
      refine r_iload_5 hK dX9_fits_70 ?_
      refine r_icmp_ne 88 hK dX9_fits_72 (by omega) (by omega) (fun h72 => ?_) (fun h72 => ?_)
      · have ff : ¬ fitR r (ge (A 18) i) (ge (A 18) k) = true := by simp only [ge]; rw [fe, if_neg (by omega), if_pos (by omega)]; omega
        refine r_iconstN (c := 0) hK dX9_fits_88 ?_
        exact r_zret hK hRt dX9_fits_89 rfl ⟨by rw [zB_f ff]; rfl, rfl, rfl⟩
      · refine r_iload_4 hK dX9_fits_75 ?_
        refine r_pS1 hK (ct_bitsOf hK.rel (by omega)) lk_X9_322 dX9_fits_77 ?_
        refine r_iconstN (c := 1) hK dX9_fits_80 ?_
        refine r_icmp_ne 88 hK dX9_fits_81 (by omega) (by omega) (fun h81 => ?_) (fun h81 => ?_)
        · have ff : ¬ fitR r (ge (A 18) i) (ge (A 18) k) = true := by simp only [ge]; rw [fe, if_neg (by omega), if_pos (by omega)]; omega
          refine r_iconstN (c := 0) hK dX9_fits_88 ?_
          exact r_zret hK hRt dX9_fits_89 rfl ⟨by rw [zB_f ff]; rfl, rfl, rfl⟩
        · have ff : fitR r (ge (A 18) i) (ge (A 18) k) = true := by simp only [ge]; rw [fe, if_neg (by omega), if_pos (by omega)]; omega
          refine r_iconstN (c := 1) hK dX9_fits_84 ?_
          refine r_goto 89 hK dX9_fits_85 ?_
          exact r_zret hK hRt dX9_fits_89 rfl ⟨by rw [zB_t ff]; rfl, rfl, rfl⟩
  · refine r_iload_4 hK dX9_fits_47 ?_
    refine r_if_ne 61 hK dX9_fits_49 (by omega) (fun h49 => ?_) (fun h49 => ?_)
    · have ff : ¬ fitR r (ge (A 18) i) (ge (A 18) k) = true := by simp only [ge]; rw [fe, if_pos (by omega)]; omega
      refine r_iconstN (c := 0) hK dX9_fits_61 ?_
      exact r_zret hK hRt dX9_fits_62 rfl ⟨by rw [zB_f ff]; rfl, rfl, rfl⟩
    · refine r_iload_5 hK dX9_fits_52 ?_
      refine r_if_ne 61 hK dX9_fits_54 (by omega) (fun h54 => ?_) (fun h54 => ?_)
      · have ff : ¬ fitR r (ge (A 18) i) (ge (A 18) k) = true := by simp only [ge]; rw [fe, if_pos (by omega)]; omega
        refine r_iconstN (c := 0) hK dX9_fits_61 ?_
        exact r_zret hK hRt dX9_fits_62 rfl ⟨by rw [zB_f ff]; rfl, rfl, rfl⟩
      · have ff : fitR r (ge (A 18) i) (ge (A 18) k) = true := by simp only [ge]; rw [fe, if_pos (by omega)]; omega
        refine r_iconstN (c := 1) hK dX9_fits_57 ?_
        refine r_goto 62 hK dX9_fits_58 ?_
        exact r_zret hK hRt dX9_fits_62 rfl ⟨by rw [zB_t ff]; rfl, rfl, rfl⟩
theorem upA2_G {A : Nat → Nat → Nat} {j k b c : Nat} : upA (upA A j (17 + k) b) j (33 + k) c = upG A j k (A j (1 + k), b, c) := by
  unfold upG
  have : upA A j (1 + k) (A j (1 + k)) = A := by
    funext x y
    unfold upA
    split
    · rename_i h
      subst h
      split
      · rename_i h; rw [h]
      · rfl
    · rfl
  rw [this]
theorem GA.set {A : Nat → Nat → Nat} {j k : Nat} {gs : List Gt} {g : Gt} (h : GA (A j) gs) (hk : k < gs.length) : GA (upG A j k g j) (gs.set k g) := by
  obtain ⟨h1, h2, h3⟩ := h
  refine ⟨by rw [upG_0, h1, List.length_set], by rw [List.length_set]; exact h2, fun m hm => ?_⟩
  rw [List.length_set] at hm
  by_cases e : m = k
  · subst e; rw [List.getElem?_set_self hk, ge_upG_s (by omega)]
  · rw [List.getElem?_set_ne (Ne.symm e), ge_upG_n (by omega) (by omega) e]; exact h3 m hm
set_option maxHeartbeats 4000000 in
theorem ct_does {G : GT} {Rel : Nat → Hp → Hp → Prop} (hR : RelOK Rel) {n : Nat} {f0 : Hp} {F : Nat → Nat} {A : Nat → Nat → Nat} {gs : List Gt} {w r i k : Nat} (hw : w ≤ 4) (hr : r = 1 ∨ r = 2 ∨ r = 3) (hik : i < k) (hk : k < gs.length) (hg : GA (A 18) gs) (ho : ∀ g ∈ gs, gok w g) (hgd : good w r gs i k = true) : Ct G Rel yX9_does cX9_does 7 none (3) (0) [.ref 358, zI (r : Int), zI (i : Int), zI (k : Int)] n (tw f0 F A) (Tv n f0 (fun F' A' => F' = F ∧ GA (A' 18) (resR r gs i k) ∧ ∀ a, a ≠ 18 → A' a = A a)) := by
  refine ct_intro [some (.ref 358), some (zI (r : Int)), some (zI (i : Int)), some (zI (k : Int)), none, none, none] hR rfl (Nat.le_of_ble_eq_true rfl) ?_
  intro K hG hRel hK hRt hnm
  have hl := hg.2.1
  have ho4 : ∀ g ∈ gs, gok 4 g := fun g h => gok4 hw (ho g h)
  have hgi := hg.ok ho4 (show i < gs.length by omega)
  have hgk := hg.ok ho4 hk
  have ei := hg.gt (show i < gs.length by omega)
  have ek := hg.gt hk
  have x1 : (ge (A 18) i).2.1 ^^^ (ge (A 18) k).2.1 < 16 := xor_lt (w := 4) hgi.2.1 hgk.2.1
  have x2 : (ge (A 18) i).2.2 ^^^ (ge (A 18) k).2.2 < 16 := xor_lt (w := 4) hgi.2.2.1 hgk.2.2.1
  have x3 : dif (ge (A 18) i) (ge (A 18) k) < 16 := or_lt (w := 4) x1 x2
  have y1 : (ge (A 18) k).2.1 < 16 := hgk.2.1
  have y2 : (ge (A 18) k).2.2 < 16 := hgk.2.2.1
  obtain ⟨gd1, gd2⟩ := good_fit hgd
  have j166 : ∀ A' gs1 a4 a5 a6, GA (A' 18) gs1 → (∀ g ∈ gs1, gok 4 g) → i < gs1.length → gs1.eraseIdx i = resR r gs i k → (∀ a, a ≠ 18 → A' a = A a) → Wx K 166 [some (.ref 358), some (zI (r : Int)), some (zI (i : Int)), some (zI (k : Int)), a4, a5, a6] [] n (tw f0 F A') 0 := by
    intro A' gs1 a4 a5 a6 q1 q2 q3 q4 q5
    refine r_aload_0 hK dX9_does_166 ?_
    refine r_get hK fl_X9_74 dX9_does_167 tw_obj rfl ?_
    refine r_iload_2 hK dX9_does_170 ?_
    refine r_tvS2 hK (ct_takesOff (j := 18) hK.rel (Or.inr rfl) q1 q2 q3) lk_X9_275 dX9_does_171 (fun F2 A2 h2 => ?_)
    obtain ⟨t1, t2, t3⟩ := h2
    subst t1
    exact r_vret hK hRt dX9_does_174 ⟨rfl, rfl, _, _, rfl, rfl, by rw [← q4]; exact t2, fun a ha => by rw [t3 a ha, q5 a ha]⟩
  simp only [ge] at x1 x2 x3 y1 y2
  rcases hr with rfl | rfl | rfl
  · refine r_aload_0 hK dX9_does_0 ?_
    refine r_get hK fl_X9_74 dX9_does_1 tw_obj rfl ?_
    refine r_bipushN (c := 17) hK dX9_does_4 ?_
    refine r_iload_2 hK dX9_does_6 ?_
    first | refine r_iaddN hK dX9_does_7 ?_ | refine r_iadd hK dX9_does_7 ?_
    refine t_ild hK dX9_does_8 (show _ < 49 by omega) ?_
    refine r_aload_0 hK dX9_does_9 ?_
    refine r_get hK fl_X9_74 dX9_does_10 tw_obj rfl ?_
    refine r_bipushN (c := 17) hK dX9_does_13 ?_
    refine r_iload_3 hK dX9_does_15 ?_
    first | refine r_iaddN hK dX9_does_16 ?_ | refine r_iadd hK dX9_does_16 ?_
    refine t_ild hK dX9_does_17 (show _ < 49 by omega) ?_
    first | refine r_ixor hK dX9_does_18 ?_ | refine r_not hK dX9_does_18 ?_
    refine r_aload_0 hK dX9_does_19 ?_
    refine r_get hK fl_X9_74 dX9_does_20 tw_obj rfl ?_
    refine r_bipushN (c := 33) hK dX9_does_23 ?_
    refine r_iload_2 hK dX9_does_25 ?_
    first | refine r_iaddN hK dX9_does_26 ?_ | refine r_iadd hK dX9_does_26 ?_
    refine t_ild hK dX9_does_27 (show _ < 49 by omega) ?_
    refine r_aload_0 hK dX9_does_28 ?_
    refine r_get hK fl_X9_74 dX9_does_29 tw_obj rfl ?_
    refine r_bipushN (c := 33) hK dX9_does_32 ?_
    refine r_iload_3 hK dX9_does_34 ?_
    first | refine r_iaddN hK dX9_does_35 ?_ | refine r_iadd hK dX9_does_35 ?_
    refine t_ild hK dX9_does_36 (show _ < 49 by omega) ?_
    first | refine r_ixor hK dX9_does_37 ?_ | refine r_not hK dX9_does_37 ?_
    refine r_ior hK dX9_does_38 ?_
    refine r_istore_4 hK dX9_does_39 ?_
    refine r_iload_1 hK dX9_does_41 ?_
    refine r_iconstN (c := 1) hK dX9_does_42 ?_
    refine r_icmp_ne 54 hK dX9_does_43 (by omega) (by omega) (fun h43 => ?_) (fun h43 => ?_)
    · exact absurd rfl h43
    · refine r_aload_0 hK dX9_does_46 ?_
      refine r_get hK fl_X9_74 dX9_does_47 tw_obj rfl ?_
      refine r_iload_3 hK dX9_does_50 ?_
      refine r_tvS2 hK (ct_takesOff (j := 18) hK.rel (Or.inr rfl) hg ho4 hk) lk_X9_275 dX9_does_51 (fun F1 A1 h1 => ?_)
      obtain ⟨t1, t2, t3⟩ := h1
      subst t1
      refine r_iload_1 hK dX9_does_54 ?_
      refine r_iconstN (c := 2) hK dX9_does_55 ?_
      refine r_icmp_ne 91 hK dX9_does_56 (by omega) (by omega) (fun h56 => ?_) (fun h56 => ?_)
      · refine r_iload_1 hK dX9_does_91 ?_
        refine r_iconstN (c := 3) hK dX9_does_92 ?_
        refine r_icmp_ne 166 hK dX9_does_93 (by omega) (by omega) (fun h93 => ?_) (fun h93 => ?_)
        · exact j166 A1 (gs.eraseIdx k) _ _ _ t2 (fun g h => ho4 g (List.mem_of_mem_eraseIdx h)) (by rw [List.length_eraseIdx_of_lt hk]; omega) (by unfold resR; rw [if_pos rfl]) t3
        · exact absurd h93 (by decide)
      · exact absurd h56 (by decide)
  · have e2 : newR 2 (gt gs i) (gt gs k) = (A 18 (1 + k), clr (A 18 (17 + k)) (dif (ge (A 18) i) (ge (A 18) k)), clr (A 18 (33 + k)) (dif (ge (A 18) i) (ge (A 18) k))) := by unfold newR; rw [if_pos rfl, ← ei, ← ek]; rfl
    have gn := gok4 hw (newR_ok hw (Or.inl rfl) (ho _ (gt_mem (show i < gs.length by omega))) (ho _ (gt_mem hk)) gd1 gd2)
    refine r_aload_0 hK dX9_does_0 ?_
    refine r_get hK fl_X9_74 dX9_does_1 tw_obj rfl ?_
    refine r_bipushN (c := 17) hK dX9_does_4 ?_
    refine r_iload_2 hK dX9_does_6 ?_
    first | refine r_iaddN hK dX9_does_7 ?_ | refine r_iadd hK dX9_does_7 ?_
    refine t_ild hK dX9_does_8 (show _ < 49 by omega) ?_
    refine r_aload_0 hK dX9_does_9 ?_
    refine r_get hK fl_X9_74 dX9_does_10 tw_obj rfl ?_
    refine r_bipushN (c := 17) hK dX9_does_13 ?_
    refine r_iload_3 hK dX9_does_15 ?_
    first | refine r_iaddN hK dX9_does_16 ?_ | refine r_iadd hK dX9_does_16 ?_
    refine t_ild hK dX9_does_17 (show _ < 49 by omega) ?_
    first | refine r_ixor hK dX9_does_18 ?_ | refine r_not hK dX9_does_18 ?_
    refine r_aload_0 hK dX9_does_19 ?_
    refine r_get hK fl_X9_74 dX9_does_20 tw_obj rfl ?_
    refine r_bipushN (c := 33) hK dX9_does_23 ?_
    refine r_iload_2 hK dX9_does_25 ?_
    first | refine r_iaddN hK dX9_does_26 ?_ | refine r_iadd hK dX9_does_26 ?_
    refine t_ild hK dX9_does_27 (show _ < 49 by omega) ?_
    refine r_aload_0 hK dX9_does_28 ?_
    refine r_get hK fl_X9_74 dX9_does_29 tw_obj rfl ?_
    refine r_bipushN (c := 33) hK dX9_does_32 ?_
    refine r_iload_3 hK dX9_does_34 ?_
    first | refine r_iaddN hK dX9_does_35 ?_ | refine r_iadd hK dX9_does_35 ?_
    refine t_ild hK dX9_does_36 (show _ < 49 by omega) ?_
    first | refine r_ixor hK dX9_does_37 ?_ | refine r_not hK dX9_does_37 ?_
    refine r_ior hK dX9_does_38 ?_
    refine r_istore_4 hK dX9_does_39 ?_
    refine r_iload_1 hK dX9_does_41 ?_
    refine r_iconstN (c := 1) hK dX9_does_42 ?_
    refine r_icmp_ne 54 hK dX9_does_43 (by omega) (by omega) (fun h43 => ?_) (fun h43 => ?_)
    · refine r_iload_1 hK dX9_does_54 ?_
      refine r_iconstN (c := 2) hK dX9_does_55 ?_
      refine r_icmp_ne 91 hK dX9_does_56 (by omega) (by omega) (fun h56 => ?_) (fun h56 => ?_)
      · exact absurd rfl h56
      · refine r_aload_0 hK dX9_does_59 ?_
        refine r_get hK fl_X9_74 dX9_does_60 tw_obj rfl ?_
        refine r_bipushN (c := 17) hK dX9_does_63 ?_
        refine r_iload_3 hK dX9_does_65 ?_
        first | refine r_iaddN hK dX9_does_66 ?_ | refine r_iadd hK dX9_does_66 ?_
        refine r_dup2 hK dX9_does_67 ?_
        refine t_ild hK dX9_does_68 (show _ < 49 by omega) ?_
        refine r_iload_4 hK dX9_does_69 ?_
        refine r_iconst hK dX9_does_71 ?_
        first | refine r_ixor hK dX9_does_72 ?_ | refine r_not hK dX9_does_72 ?_
        first | refine r_iand hK dX9_does_73 ?_ | refine r_andnot hK dX9_does_73 (by omega) ?_
        refine t_ist hK dX9_does_74 (show _ < 49 by omega) ?_
        refine r_aload_0 hK dX9_does_75 ?_
        refine r_get hK fl_X9_74 dX9_does_76 tw_obj rfl ?_
        refine r_bipushN (c := 33) hK dX9_does_79 ?_
        refine r_iload_3 hK dX9_does_81 ?_
        first | refine r_iaddN hK dX9_does_82 ?_ | refine r_iadd hK dX9_does_82 ?_
        refine r_dup2 hK dX9_does_83 ?_
        refine t_ild hK dX9_does_84 (show _ < 49 by omega) ?_
        rw [upA_n (show 33 + k ≠ 17 + k by omega)]
        refine r_iload_4 hK dX9_does_85 ?_
        refine r_iconst hK dX9_does_87 ?_
        first | refine r_ixor hK dX9_does_88 ?_ | refine r_not hK dX9_does_88 ?_
        first | refine r_iand hK dX9_does_89 ?_ | refine r_andnot hK dX9_does_89 (by omega) ?_
        refine t_ist hK dX9_does_90 (show _ < 49 by omega) ?_
        refine r_iload_1 hK dX9_does_91 ?_
        refine r_iconstN (c := 3) hK dX9_does_92 ?_
        refine r_icmp_ne 166 hK dX9_does_93 (by omega) (by omega) (fun h93 => ?_) (fun h93 => ?_)
        · rw [upA2_G]
          refine j166 _ (gs.set k (newR 2 (gt gs i) (gt gs k))) _ _ _ ?_ (fun g h => ?_) (by rw [List.length_set]; omega) (by unfold resR; rw [if_neg (by decide)]) (fun a ha => upG_j ha)
          · rw [e2]; exact GA.set hg hk
          · rcases List.mem_or_eq_of_mem_set h with q | q
            · exact ho4 g q
            · rw [q]; exact gn
        · exact absurd h93 (by decide)
    · exact absurd h43 (by decide)
  · have e2 : newR 3 (gt gs i) (gt gs k) = (A 18 (1 + k), (A 18 (17 + i) ||| A 18 (17 + k)) ^^^ (dif (ge (A 18) i) (ge (A 18) k)), (A 18 (33 + i) ||| A 18 (33 + k)) ^^^ (dif (ge (A 18) i) (ge (A 18) k))) := by unfold newR; rw [if_neg (by decide), ← ei, ← ek]; rfl
    have gn := gok4 hw (newR_ok hw (Or.inr rfl) (ho _ (gt_mem (show i < gs.length by omega))) (ho _ (gt_mem hk)) gd1 gd2)
    refine r_aload_0 hK dX9_does_0 ?_
    refine r_get hK fl_X9_74 dX9_does_1 tw_obj rfl ?_
    refine r_bipushN (c := 17) hK dX9_does_4 ?_
    refine r_iload_2 hK dX9_does_6 ?_
    first | refine r_iaddN hK dX9_does_7 ?_ | refine r_iadd hK dX9_does_7 ?_
    refine t_ild hK dX9_does_8 (show _ < 49 by omega) ?_
    refine r_aload_0 hK dX9_does_9 ?_
    refine r_get hK fl_X9_74 dX9_does_10 tw_obj rfl ?_
    refine r_bipushN (c := 17) hK dX9_does_13 ?_
    refine r_iload_3 hK dX9_does_15 ?_
    first | refine r_iaddN hK dX9_does_16 ?_ | refine r_iadd hK dX9_does_16 ?_
    refine t_ild hK dX9_does_17 (show _ < 49 by omega) ?_
    first | refine r_ixor hK dX9_does_18 ?_ | refine r_not hK dX9_does_18 ?_
    refine r_aload_0 hK dX9_does_19 ?_
    refine r_get hK fl_X9_74 dX9_does_20 tw_obj rfl ?_
    refine r_bipushN (c := 33) hK dX9_does_23 ?_
    refine r_iload_2 hK dX9_does_25 ?_
    first | refine r_iaddN hK dX9_does_26 ?_ | refine r_iadd hK dX9_does_26 ?_
    refine t_ild hK dX9_does_27 (show _ < 49 by omega) ?_
    refine r_aload_0 hK dX9_does_28 ?_
    refine r_get hK fl_X9_74 dX9_does_29 tw_obj rfl ?_
    refine r_bipushN (c := 33) hK dX9_does_32 ?_
    refine r_iload_3 hK dX9_does_34 ?_
    first | refine r_iaddN hK dX9_does_35 ?_ | refine r_iadd hK dX9_does_35 ?_
    refine t_ild hK dX9_does_36 (show _ < 49 by omega) ?_
    first | refine r_ixor hK dX9_does_37 ?_ | refine r_not hK dX9_does_37 ?_
    refine r_ior hK dX9_does_38 ?_
    refine r_istore_4 hK dX9_does_39 ?_
    refine r_iload_1 hK dX9_does_41 ?_
    refine r_iconstN (c := 1) hK dX9_does_42 ?_
    refine r_icmp_ne 54 hK dX9_does_43 (by omega) (by omega) (fun h43 => ?_) (fun h43 => ?_)
    · refine r_iload_1 hK dX9_does_54 ?_
      refine r_iconstN (c := 2) hK dX9_does_55 ?_
      refine r_icmp_ne 91 hK dX9_does_56 (by omega) (by omega) (fun h56 => ?_) (fun h56 => ?_)
      · refine r_iload_1 hK dX9_does_91 ?_
        refine r_iconstN (c := 3) hK dX9_does_92 ?_
        refine r_icmp_ne 166 hK dX9_does_93 (by omega) (by omega) (fun h93 => ?_) (fun h93 => ?_)
        · exact absurd rfl h93
        · refine r_aload_0 hK dX9_does_96 ?_
          refine r_get hK fl_X9_74 dX9_does_97 tw_obj rfl ?_
          refine r_bipushN (c := 17) hK dX9_does_100 ?_
          refine r_iload_2 hK dX9_does_102 ?_
          first | refine r_iaddN hK dX9_does_103 ?_ | refine r_iadd hK dX9_does_103 ?_
          refine t_ild hK dX9_does_104 (show _ < 49 by omega) ?_
          refine r_aload_0 hK dX9_does_105 ?_
          refine r_get hK fl_X9_74 dX9_does_106 tw_obj rfl ?_
          refine r_bipushN (c := 17) hK dX9_does_109 ?_
          refine r_iload_3 hK dX9_does_111 ?_
          first | refine r_iaddN hK dX9_does_112 ?_ | refine r_iadd hK dX9_does_112 ?_
          refine t_ild hK dX9_does_113 (show _ < 49 by omega) ?_
          refine r_ior hK dX9_does_114 ?_
          refine r_istore_5 hK dX9_does_115 ?_
          refine r_aload_0 hK dX9_does_117 ?_
          refine r_get hK fl_X9_74 dX9_does_118 tw_obj rfl ?_
          refine r_bipushN (c := 33) hK dX9_does_121 ?_
          refine r_iload_2 hK dX9_does_123 ?_
          first | refine r_iaddN hK dX9_does_124 ?_ | refine r_iadd hK dX9_does_124 ?_
          refine t_ild hK dX9_does_125 (show _ < 49 by omega) ?_
          refine r_aload_0 hK dX9_does_126 ?_
          refine r_get hK fl_X9_74 dX9_does_127 tw_obj rfl ?_
          refine r_bipushN (c := 33) hK dX9_does_130 ?_
          refine r_iload_3 hK dX9_does_132 ?_
          first | refine r_iaddN hK dX9_does_133 ?_ | refine r_iadd hK dX9_does_133 ?_
          refine t_ild hK dX9_does_134 (show _ < 49 by omega) ?_
          refine r_ior hK dX9_does_135 ?_
          refine r_istore_6 hK dX9_does_136 ?_
          refine r_aload_0 hK dX9_does_138 ?_
          refine r_get hK fl_X9_74 dX9_does_139 tw_obj rfl ?_
          refine r_bipushN (c := 17) hK dX9_does_142 ?_
          refine r_iload_3 hK dX9_does_144 ?_
          first | refine r_iaddN hK dX9_does_145 ?_ | refine r_iadd hK dX9_does_145 ?_
          refine r_iload_5 hK dX9_does_146 ?_
          refine r_iload_4 hK dX9_does_148 ?_
          first | refine r_ixor hK dX9_does_150 ?_ | refine r_not hK dX9_does_150 ?_
          refine t_ist hK dX9_does_151 (show _ < 49 by omega) ?_
          refine r_aload_0 hK dX9_does_152 ?_
          refine r_get hK fl_X9_74 dX9_does_153 tw_obj rfl ?_
          refine r_bipushN (c := 33) hK dX9_does_156 ?_
          refine r_iload_3 hK dX9_does_158 ?_
          first | refine r_iaddN hK dX9_does_159 ?_ | refine r_iadd hK dX9_does_159 ?_
          refine r_iload_6 hK dX9_does_160 ?_
          refine r_iload_4 hK dX9_does_162 ?_
          first | refine r_ixor hK dX9_does_164 ?_ | refine r_not hK dX9_does_164 ?_
          refine t_ist hK dX9_does_165 (show _ < 49 by omega) ?_
          rw [upA2_G]
          refine j166 _ (gs.set k (newR 3 (gt gs i) (gt gs k))) _ _ _ ?_ (fun g h => ?_) (by rw [List.length_set]; omega) (by unfold resR; rw [if_neg (by decide)]) (fun a ha => upG_j ha)
          · rw [e2]; exact GA.set hg hk
          · rcases List.mem_or_eq_of_mem_set h with q | q
            · exact ho4 g q
            · rw [q]; exact gn
      · exact absurd h56 (by decide)
    · exact absurd h43 (by decide)
set_option maxHeartbeats 4000000 in
theorem ct_shrinks {G : GT} {Rel : Nat → Hp → Hp → Prop} (hR : RelOK Rel) {n : Nat} {f0 : Hp} {F : Nat → Nat} {A : Nat → Nat → Nat} {gs : List Gt} {r : Nat} (hr : r = 1 ∨ r = 2 ∨ r = 3) (hw : F 17 ≤ 4) (hg : GA (A 18) gs) (ho : ∀ g ∈ gs, gok (F 17) g) : Ct G Rel yX9_shrinks cX9_shrinks 4 (some .boolean) (5) (0) [.ref 358, zI (r : Int)] n (tw f0 F A) (Ti n f0 (fun z F' A' => F' = F ∧ (∀ a, a ≠ 18 → A' a = A a) ∧ ((z = 1 ∧ ∃ gs', shr (F 17) r gs = some gs' ∧ GA (A' 18) gs') ∨ (z = 0 ∧ shr (F 17) r gs = none ∧ A' = A)))) := by
  refine ct_intro [some (.ref 358), some (zI (r : Int)), none, none] hR rfl (Nat.le_of_ble_eq_true rfl) ?_
  intro K hG hRel hK hRt hnm
  have hl := hg.2.1
  have h0 := hg.1
  have ho4 : ∀ g ∈ gs, gok 4 g := fun g h => gok4 hw (ho g h)
  have lp : ∀ m i : Nat, i + m = gs.length → shI (F 17) r gs gs.length = shI (F 17) r gs m → Wx K 2 [some (.ref 358), some (zI (r : Int)), some (zI (i : Int)), none] [] n (tw f0 F A) 0 := by
    intro m
    induction m with
    | zero =>
      intro i hi hs
      refine r_iload_2 hK dX9_shrinks_2 ?_
      refine r_aload_0 hK dX9_shrinks_3 ?_
      refine r_get hK fl_X9_74 dX9_shrinks_4 tw_obj rfl ?_
      refine r_iconstN (c := 0) hK dX9_shrinks_7 ?_
      refine t_ild hK dX9_shrinks_8 (show _ < 49 by omega) ?_
      rw [h0]
      refine r_icmp_ge 88 hK dX9_shrinks_9 (by omega) (by omega) (fun h9 => ?_) (fun h9 => ?_)
      · refine r_iconstN (c := 0) hK dX9_shrinks_88 ?_
        exact r_zret hK hRt dX9_shrinks_89 rfl ⟨0, rfl, rfl, _, _, rfl, rfl, fun _ _ => rfl, Or.inr ⟨rfl, by unfold shr; rw [hs]; rfl, rfl⟩⟩
      · exact absurd h9 (by omega)
    | succ m ih =>
      intro i hi hs
      have hs1 : shI (F 17) r gs (m + 1) = (shK (F 17) r gs i m).or (shI (F 17) r gs m) := by show (shK (F 17) r gs (gs.length - (m + 1)) m).or _ = _; rw [show gs.length - (m + 1) = i by omega]
      rw [hs1] at hs
      have ip : ∀ q k : Nat, k + q = gs.length → i < k → shI (F 17) r gs gs.length = (shK (F 17) r gs i q).or (shI (F 17) r gs m) → Wx K 16 [some (.ref 358), some (zI (r : Int)), some (zI (i : Int)), some (zI (k : Int))] [] n (tw f0 F A) 0 := by
        intro q
        induction q with
        | zero =>
          intro k hk hik hs2
          refine r_iload_3 hK dX9_shrinks_16 ?_
          refine r_aload_0 hK dX9_shrinks_17 ?_
          refine r_get hK fl_X9_74 dX9_shrinks_18 tw_obj rfl ?_
          refine r_iconstN (c := 0) hK dX9_shrinks_21 ?_
          refine t_ild hK dX9_shrinks_22 (show _ < 49 by omega) ?_
          rw [h0]
          refine r_icmp_ge 82 hK dX9_shrinks_23 (by omega) (by omega) (fun h23 => ?_) (fun h23 => ?_)
          · first | refine r_incN_2 hK dX9_shrinks_82 ?_ | refine r_iinc_2 hK dX9_shrinks_82 ?_
            refine r_goto 2 hK dX9_shrinks_85 ?_
            refine r_forget_3 ?_
            exact ih (i + 1) (by omega) (by rw [hs2]; rfl)
          · exact absurd h23 (by omega)
        | succ q ih2 =>
          intro k hk hik hs2
          have e : shK (F 17) r gs i (q + 1) = if good (F 17) r gs i k then some (i, k) else shK (F 17) r gs i q := by show (if good (F 17) r gs i (gs.length - (q + 1)) then some (i, gs.length - (q + 1)) else _) = _; rw [show gs.length - (q + 1) = k by omega]
          rw [e] at hs2
          have hil : i < gs.length := by omega
          have hkl : k < gs.length := by omega
          have hgi := hg.ok ho4 hil
          have hgk := hg.ok ho4 hkl
          obtain ⟨g1, -, -⟩ := gok_s hgi
          obtain ⟨g2, -, -⟩ := gok_s hgk
          have ei := hg.gt hil
          have ek := hg.gt hkl
          simp only [ge] at g1 g2
          have ti : A 18 (1 + i) = (gt gs i).1 := by rw [← ei]; rfl
          have tk : A 18 (1 + k) = (gt gs k).1 := by rw [← ek]; rfl
          have nx : good (F 17) r gs i k = false → Wx K 76 [some (.ref 358), some (zI (r : Int)), some (zI (i : Int)), some (zI (k : Int))] [] n (tw f0 F A) 0 := by
            intro hb
            rw [if_neg (by rw [hb]; decide)] at hs2
            first | refine r_incN_3 hK dX9_shrinks_76 ?_ | refine r_iinc_3 hK dX9_shrinks_76 ?_
            refine r_goto 16 hK dX9_shrinks_79 ?_
            exact ih2 (k + 1) (by omega) (by omega) hs2
          refine r_iload_3 hK dX9_shrinks_16 ?_
          refine r_aload_0 hK dX9_shrinks_17 ?_
          refine r_get hK fl_X9_74 dX9_shrinks_18 tw_obj rfl ?_
          refine r_iconstN (c := 0) hK dX9_shrinks_21 ?_
          refine t_ild hK dX9_shrinks_22 (show _ < 49 by omega) ?_
          rw [h0]
          refine r_icmp_ge 82 hK dX9_shrinks_23 (by omega) (by omega) (fun h23 => ?_) (fun h23 => ?_)
          · exact absurd h23 (by omega)
          · refine r_aload_0 hK dX9_shrinks_26 ?_
            refine r_get hK fl_X9_74 dX9_shrinks_27 tw_obj rfl ?_
            refine r_iconstN (c := 1) hK dX9_shrinks_30 ?_
            refine r_iload_2 hK dX9_shrinks_31 ?_
            first | refine r_iaddN hK dX9_shrinks_32 ?_ | refine r_iadd hK dX9_shrinks_32 ?_
            refine t_ild hK dX9_shrinks_33 (show _ < 49 by omega) ?_
            refine r_aload_0 hK dX9_shrinks_34 ?_
            refine r_get hK fl_X9_74 dX9_shrinks_35 tw_obj rfl ?_
            refine r_iconstN (c := 1) hK dX9_shrinks_38 ?_
            refine r_iload_3 hK dX9_shrinks_39 ?_
            first | refine r_iaddN hK dX9_shrinks_40 ?_ | refine r_iadd hK dX9_shrinks_40 ?_
            refine t_ild hK dX9_shrinks_41 (show _ < 49 by omega) ?_
            refine r_icmp_ne 76 hK dX9_shrinks_42 (by omega) (by omega) (fun h42 => ?_) (fun h42 => ?_)
            · exact nx (by unfold good; rw [decide_eq_false (by omega)]; rfl) --!
            · refine r_aload_0 hK dX9_shrinks_45 ?_
              refine r_iload_1 hK dX9_shrinks_46 ?_
              refine r_iload_2 hK dX9_shrinks_47 ?_
              refine r_iload_3 hK dX9_shrinks_48 ?_
              refine r_pV3 hK (ct_fits hK.rel hr (by omega) (by omega) hgi hgk) lk_X9_337 (tw_rcv hK) dX9_shrinks_49 ?_
              rw [ei, ek]
              refine r_ifB_eq 76 hK dX9_shrinks_52 (fun h52 => ?_) (fun h52 => ?_)
              · exact nx (by unfold good; rw [Bool.eq_false_iff.mpr h52]; simp) --!
              · refine r_aload_0 hK dX9_shrinks_55 ?_
                refine r_iload_2 hK dX9_shrinks_56 ?_
                refine r_iload_3 hK dX9_shrinks_57 ?_
                refine r_pV2 hK (ct_canMeet hK.rel hik hkl hw hg ho4) lk_X9_340 (tw_rcv hK) dX9_shrinks_58 ?_
                refine r_ifB_ne 67 hK dX9_shrinks_61 (fun h61 => ?_) (fun h61 => ?_)
                · have hgd : good (F 17) r gs i k = true := by unfold good; rw [decide_eq_true (show (gt gs i).1 = (gt gs k).1 by omega), h52, h61]; rfl
                  rw [if_pos hgd] at hs2
                  refine r_aload_0 hK dX9_shrinks_67 ?_
                  refine r_iload_1 hK dX9_shrinks_68 ?_
                  refine r_iload_2 hK dX9_shrinks_69 ?_
                  refine r_iload_3 hK dX9_shrinks_70 ?_
                  refine r_tvV3 hK (ct_does hK.rel hw hr hik hkl hg ho hgd) lk_X9_343 (tw_rcv hK) dX9_shrinks_71 (fun F1 A1 h1 => ?_)
                  obtain ⟨t1, t2, t3⟩ := h1
                  subst t1
                  refine r_iconstN (c := 1) hK dX9_shrinks_74 ?_
                  exact r_zret hK hRt dX9_shrinks_75 rfl ⟨1, rfl, rfl, _, _, rfl, rfl, t3, Or.inl ⟨rfl, _, by unfold shr; rw [hs2]; rfl, t2⟩⟩
                · refine r_goto 76 hK dX9_shrinks_64 ?_
                  exact nx (by unfold good; rw [Bool.eq_false_iff.mpr h61]; simp)
      refine r_iload_2 hK dX9_shrinks_2 ?_
      refine r_aload_0 hK dX9_shrinks_3 ?_
      refine r_get hK fl_X9_74 dX9_shrinks_4 tw_obj rfl ?_
      refine r_iconstN (c := 0) hK dX9_shrinks_7 ?_
      refine t_ild hK dX9_shrinks_8 (show _ < 49 by omega) ?_
      rw [h0]
      refine r_icmp_ge 88 hK dX9_shrinks_9 (by omega) (by omega) (fun h9 => ?_) (fun h9 => ?_)
      · exact absurd h9 (by omega)
      · refine r_iload_2 hK dX9_shrinks_12 ?_
        refine r_iconstN (c := 1) hK dX9_shrinks_13 ?_
        first | refine r_iaddN hK dX9_shrinks_14 ?_ | refine r_iadd hK dX9_shrinks_14 ?_
        refine r_istore_3 hK dX9_shrinks_15 ?_
        exact ip m (i + 1) (by omega) (by omega) hs
  refine r_iconstN (c := 0) hK dX9_shrinks_0 ?_
  refine r_istore_2 hK dX9_shrinks_1 ?_
  exact lp gs.length 0 (by omega) rfl
set_option maxHeartbeats 4000000 in
theorem ct_laysShrunk {G : GT} {Rel : Nat → Hp → Hp → Prop} (hR : RelOK Rel) {n : Nat} {f0 : Hp} {F : Nat → Nat} {A : Nat → Nat → Nat} {gs : List Gt} (hw : F 17 ≤ 4) (hg : GA (A 11) gs) (ho : ∀ g ∈ gs, gok (F 17) g) : Ct G Rel yX9_laysShrunk cX9_laysShrunk 2 none (6) (0) [.ref 358] n (tw f0 F A) (Tv n f0 (fun F' A' => F' = F ∧ (∀ a, a ≠ 18 → A' a = A a) ∧ GA (A' 18) (shrAll (F 17) 17 gs))) := by
  refine ct_intro [some (.ref 358), none] hR rfl (Nat.le_of_ble_eq_true rfl) ?_
  intro K hG hRel hK hRt hnm
  have hl := hg.2.1
  have lp2 : ∀ (m : Nat) (gs1 : List Gt) (A' : Nat → Nat → Nat), gs1.length < m → GA (A' 18) gs1 → (∀ g ∈ gs1, gok (F 17) g) → (∀ a, a ≠ 18 → A' a = A a) → shrAll (F 17) 17 gs = shrAll (F 17) m gs1 → Wx K 28 [some (.ref 358), some (zI ((1 : Nat) : Int))] [] n (tw f0 F A') 0 := by
    intro m
    induction m with
    | zero => intro gs1 A' h; omega
    | succ m ih =>
      intro gs1 A' hm h1 h2 h3 h4
      have go : ∀ gs2 A2, shrA (F 17) gs1 = some gs2 → GA (A2 18) gs2 → (∀ a, a ≠ 18 → A2 a = A' a) → Wx K 56 [some (.ref 358), some (zI ((1 : Nat) : Int))] [] n (tw f0 F A2) 0 := by
        intro gs2 A2 q1 q2 q3
        obtain ⟨q4, q5⟩ := shrA_ok hw h2 q1
        refine r_iconstN (c := 1) hK dX9_laysShrunk_56 ?_
        refine r_goto 61 hK dX9_laysShrunk_57 ?_
        refine r_istore_1 hK dX9_laysShrunk_61 ?_
        refine r_goto 28 hK dX9_laysShrunk_62 ?_
        exact ih gs2 A2 (by omega) q2 q4 (fun a ha => by rw [q3 a ha, h3 a ha]) (by rw [h4]; show (match shrA (F 17) gs1 with | none => gs1 | some gs' => shrAll (F 17) m gs') = _; rw [q1])
      refine r_iload_1 hK dX9_laysShrunk_28 ?_
      refine r_if_eq 65 hK dX9_laysShrunk_29 (by decide) (fun h29 => ?_) (fun h29 => ?_)
      · exact absurd h29 (by decide)
      · refine r_aload_0 hK dX9_laysShrunk_32 ?_
        refine r_iconstN (c := 1) hK dX9_laysShrunk_33 ?_
        refine r_tiV1 hK (ct_shrinks (r := 1) hK.rel (by omega) hw h1 h2) lk_X9_334 (tw_rcv hK) dX9_laysShrunk_34 (fun z1 F1 A1 p1 => ?_)
        obtain ⟨rfl, p2, p3⟩ := p1
        refine r_if_ne 56 hK dX9_laysShrunk_37 (by omega) (fun h37 => ?_) (fun h37 => ?_)
        · rcases p3 with ⟨-, gs2, p4, p5⟩ | ⟨p4, -⟩
          · exact go gs2 A1 (by unfold shrA; rw [p4]; rfl) p5 p2
          · exact absurd p4 h37 --!
        · rcases p3 with ⟨p4, -⟩ | ⟨-, p4, rfl⟩
          · rw [h37] at p4; exact absurd p4 (by decide)
          refine r_aload_0 hK dX9_laysShrunk_40 ?_
          refine r_iconstN (c := 2) hK dX9_laysShrunk_41 ?_
          refine r_tiV1 hK (ct_shrinks (r := 2) hK.rel (by omega) hw h1 h2) lk_X9_334 (tw_rcv hK) dX9_laysShrunk_42 (fun z2 F2 A2 r1 => ?_)
          obtain ⟨rfl, r2, r3⟩ := r1
          refine r_if_ne 56 hK dX9_laysShrunk_45 (by omega) (fun h45 => ?_) (fun h45 => ?_)
          · rcases r3 with ⟨-, gs2, r4, r5⟩ | ⟨r4, -⟩
            · exact go gs2 A2 (by unfold shrA; rw [p4, r4]; rfl) r5 r2
            · exact absurd r4 h45 --!
          · rcases r3 with ⟨r4, -⟩ | ⟨-, r4, rfl⟩
            · rw [h45] at r4; exact absurd r4 (by decide)
            refine r_aload_0 hK dX9_laysShrunk_48 ?_
            refine r_iconstN (c := 3) hK dX9_laysShrunk_49 ?_
            refine r_tiV1 hK (ct_shrinks (r := 3) hK.rel (by omega) hw h1 h2) lk_X9_334 (tw_rcv hK) dX9_laysShrunk_50 (fun z3 F3 A3 s1 => ?_)
            obtain ⟨rfl, s2, s3⟩ := s1
            refine r_if_eq 60 hK dX9_laysShrunk_53 (by omega) (fun h53 => ?_) (fun h53 => ?_)
            · rcases s3 with ⟨s4, -⟩ | ⟨-, s4, rfl⟩
              · rw [h53] at s4; exact absurd s4 (by decide)
              refine r_iconstN (c := 0) hK dX9_laysShrunk_60 ?_
              refine r_istore_1 hK dX9_laysShrunk_61 ?_
              refine r_goto 28 hK dX9_laysShrunk_62 ?_
              refine r_iload_1 hK dX9_laysShrunk_28 ?_
              refine r_if_eq 65 hK dX9_laysShrunk_29 (by decide) (fun h29_1 => ?_) (fun h29_1 => ?_)
              · exact r_vret hK hRt dX9_laysShrunk_65 ⟨rfl, rfl, _, _, rfl, rfl, h3, by rw [h4, shrAll_none (by unfold shrA; rw [p4, r4, s4]; rfl)]; exact h1⟩
              · exact absurd rfl h29_1
            · rcases s3 with ⟨-, gs2, s4, s5⟩ | ⟨s4, -⟩
              · exact go gs2 A3 (by unfold shrA; rw [p4, r4, s4]; rfl) s5 s2
              · exact absurd s4 h53
  have lp : ∀ m k : Nat, m = 49 - k → k ≤ 49 → Wx K 2 [some (.ref 358), some (zI (k : Int))] [] n (tw f0 F (cpA A 18 0 (A 11) k)) 0 := by
    intro m
    induction m using Nat.strongRecOn with
    | _ m ih =>
      intro k hm hk
      have e1 : cpA A 18 0 (A 11) k 11 k = A 11 k := by rw [cpA_j (by decide)]
      have e2 : upA (cpA A 18 0 (A 11) k) 18 k (A 11 k) = cpA A 18 0 (A 11) (k + 1) := by
        have := cpA_s A 18 0 (A 11) k
        rw [Nat.zero_add] at this; exact this
      refine r_iload_1 hK dX9_laysShrunk_2 ?_
      refine r_bipushN (c := 49) hK dX9_laysShrunk_3 ?_
      refine r_icmp_ge 26 hK dX9_laysShrunk_5 (by omega) (by omega) (fun h5 => ?_) (fun h5 => ?_)
      · refine r_iconstN (c := 1) hK dX9_laysShrunk_26 ?_
        refine r_istore_1 hK dX9_laysShrunk_27 ?_
        have e : k = 49 := by omega
        subst e
        refine lp2 17 gs _ (by omega) (hg.copy (fun k hk => ?_)) ho (fun a ha => cpA_j ha) rfl
        have := cpA_in (A := A) (j := 18) (i0 := 0) (src := A 11) hk
        rw [Nat.zero_add] at this
        exact this
      · refine r_aload_0 hK dX9_laysShrunk_8 ?_
        refine r_get hK fl_X9_74 dX9_laysShrunk_9 tw_obj rfl ?_
        refine r_iload_1 hK dX9_laysShrunk_12 ?_
        refine r_aload_0 hK dX9_laysShrunk_13 ?_
        refine r_get hK fl_X9_52 dX9_laysShrunk_14 tw_obj rfl ?_
        refine r_iload_1 hK dX9_laysShrunk_17 ?_
        refine t_ild hK dX9_laysShrunk_18 (show _ < 49 by omega) ?_
        refine t_ist hK dX9_laysShrunk_19 (show _ < 49 by omega) ?_
        rw [e1, e2]
        first | refine r_incN_1 hK dX9_laysShrunk_20 ?_ | refine r_iinc_1 hK dX9_laysShrunk_20 ?_
        refine r_goto 2 hK dX9_laysShrunk_23 ?_
        exact ih (49 - (k + 1)) (by omega) (k + 1) rfl (by omega)
  refine r_iconstN (c := 0) hK dX9_laysShrunk_0 ?_
  refine r_istore_1 hK dX9_laysShrunk_1 ?_
  have := lp 49 0 rfl (by omega)
  rw [cpA_0] at this
  exact this
