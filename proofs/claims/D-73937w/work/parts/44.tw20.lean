set_option maxRecDepth 100000
/-! ===== the reference: what a text means ===== -/
set_option maxHeartbeats 4000000 in
theorem ct_meansTable {G : GT} {Rel : Nat → Hp → Hp → Prop} (hR : RelOK Rel) {n : Nat} {f0 : Hp} {F : Nat → Nat} {A X : Nat → Nat → Nat} {N k e : Nat} {s : Nat × Nat} (hT : TP A X N) (hQ : MQr X N) (hf : F 12 = 0) (hl : lnOK X N 23 k e) (hs : WR X N F s) : Ct G Rel yX9_meansTable cX9_meansTable 6 none (2) (0) [.ref 358, zI (k : Int)] n (tw f0 F A) (Tv n f0 (fun F' A' => WR X N F' (tbW X k e s) ∧ F' 25 = X 4 (k + 1) ∧ F' 26 = X 4 (k + 2) ∧ (∀ j, j ≠ 14 → j ≠ 15 → j ≠ 25 → j ≠ 26 → F' j = F j) ∧ (∀ a, a ≠ 10 → A' a = A a) ∧ ∀ x, x < e - (k + 3) → A' 10 x = X 4 (k + 3 + x))) := by
  refine ct_intro [some (.ref 358), some (zI (k : Int)), none, none, none, none] hR rfl (Nat.le_of_ble_eq_true rfl) ?_
  intro K hG hRel hK hRt hnm
  obtain ⟨t1, t2, t3, t4, t5, t6, t7, t8⟩ := id hT
  obtain ⟨l1, l2, l3, l4, l5, l6, l7, l8, l9⟩ := hl
  obtain ⟨m1, m2, m3⟩ := l9 rfl
  obtain ⟨a, ha⟩ : ∃ a, a = X 4 (k + 1) := ⟨_, rfl⟩
  obtain ⟨b, hb⟩ : ∃ b, b = X 4 (k + 2) := ⟨_, rfl⟩
  have ba : a < 10000 := by rw [ha]; exact t7 _
  have bb : b < 10000 := by rw [hb]; exact t7 _
  have q41 : A 4 (k + 1) = a := by rw [ha]; exact (t3 _ (by omega)).2.2.1
  have q42 : A 4 (k + 2) = b := by rw [hb]; exact (t3 _ (by omega)).2.2.1
  obtain ⟨s1, hs1⟩ : ∃ s1, s1 = (if 1 ≤ a ∧ a ≤ 3 then s else tellS s 5 (k + 1)) := ⟨_, rfl⟩
  obtain ⟨s2, hs2⟩ : ∃ s2, s2 = (if 1 ≤ b ∧ b ≤ 3 then s1 else tellS s1 5 (k + 2)) := ⟨_, rfl⟩
  have hW : tbW X k e s = if (1 ≤ a ∧ a ≤ 3) ∧ e - (k + 3) ≠ rN a then tellS (tvF X k b s2 (e - (k + 3))) 6 e else tvF X k b s2 (e - (k + 3)) := by rw [hs2, hs1, ha, hb]; rfl
  have j148 : ∀ (F1 : Nat → Nat) (A1 : Nat → Nat → Nat) a4 a5, WR X N F1 (tbW X k e s) → uF F F1 → (∀ a, a ≠ 10 → A1 a = A a) → (∀ x, x < e - (k + 3) → A1 10 x = X 4 (k + 3 + x)) → Wx K 148 [some (.ref 358), some (zI (k : Int)), some (zI (a : Int)), some (zI (b : Int)), a4, a5] [] n (tw f0 F1 A1) 0 := by
    intro F1 A1 a4 a5 hW1 hu hA hx
    refine r_aload_0 hK dX9_meansTable_148 ?_
    refine r_iload_2 hK dX9_meansTable_149 ?_
    refine t_put hK fl_X9_206 dX9_meansTable_150 ?_
    refine r_aload_0 hK dX9_meansTable_153 ?_
    refine r_iload_3 hK dX9_meansTable_154 ?_
    refine t_put hK fl_X9_212 dX9_meansTable_155 ?_
    exact r_vret hK hRt dX9_meansTable_158 ⟨rfl, rfl, _, _, rfl, ⟨by rw [upF_n (by decide), upF_n (by decide)]; exact hW1.1, hW1.2.1, fun h => by rw [upF_n (by decide), upF_n (by decide)]; exact hW1.2.2 h⟩, by rw [upF_n (by decide), upF_s]; exact ha, by rw [upF_s]; exact hb, fun j j1 j2 j3 j4 => by rw [upF_n j4, upF_n j3]; exact hu j j1 j2, hA, hx⟩
  have lp : ∀ (d c : Nat) (F1 : Nat → Nat) (A1 : Nat → Nat → Nat), k + 3 + c + d = e → WR X N F1 (tvF X k b s2 c) → uF F F1 → (∀ j, j ≠ 10 → A1 j = A j) → (∀ x, x < c → A1 10 x = X 4 (k + 3 + x)) → Wx K 60 [some (.ref 358), some (zI (k : Int)), some (zI (a : Int)), some (zI (b : Int)), some (zI (c : Int)), some (zI ((k + 3 + c : Nat) : Int))] [] n (tw f0 F1 A1) 0 := by
    intro d
    induction d with
    | zero =>
      intro c F1 A1 hc hW1 hu hA hx
      have ee : e - (k + 3) = c := by omega
      have ek : k + 3 + c = e := by omega
      have q2 : A1 2 (k + 3 + c) = 4 := by rw [hA 2 (by decide), ek, (t3 _ l4).1]; exact l5
      have hTA : TP A1 X N := ⟨t1, t2, fun j hj => by rw [hA 2 (by decide), hA 3 (by decide), hA 4 (by decide), hA 5 (by decide)]; exact t3 j hj, t4, t5, t6, t7, t8⟩
      have f1f : F1 12 = 0 := by rw [hu 12 (by decide) (by decide)]; exact hf
      refine r_aload_0 hK dX9_meansTable_60 ?_
      refine r_get hK fl_X9_20 dX9_meansTable_61 tw_obj rfl ?_
      refine r_iload_5 hK dX9_meansTable_64 ?_
      refine t_ild hK dX9_meansTable_66 (show _ < 403 by omega) ?_
      rw [q2]
      refine r_iconstN (c := 2) hK dX9_meansTable_67 ?_
      refine r_icmp_ne 123 hK dX9_meansTable_68 (by omega) (by omega) (fun h68 => ?_) (fun h68 => ?_)
      · refine r_iload_2 hK dX9_meansTable_123 ?_
        refine r_iconstN (c := 1) hK dX9_meansTable_124 ?_
        refine r_iconstN (c := 3) hK dX9_meansTable_125 ?_
        refine r_pS3 hK (ct_in hK.rel (by omega) (by omega) (by omega)) lk_X9_237 dX9_meansTable_126 ?_
        refine r_ifB_eq 148 hK dX9_meansTable_129 (fun h129 => ?_) (fun h129 => ?_)
        · exact j148 F1 A1 _ _ (by rw [hW, if_neg (by omega), ee]; exact hW1) hu hA (by rw [ee]; exact hx)
        · refine r_iload_4 hK dX9_meansTable_132 ?_
          refine r_iconstN (c := 1) hK dX9_meansTable_134 ?_
          refine r_iload_2 hK dX9_meansTable_135 ?_
          refine r_ishl hK dX9_meansTable_136 (by omega) (by first | exact sh1 (by omega) | omega) ?_
          have r0 : rN a = 1 <<< a := rfl
          have hr : rN a ≤ 8 := rN_le (k := 3) (by omega)
          rw [← r0]
          refine r_icmp_eq 148 hK dX9_meansTable_137 (by omega) (by omega) (fun h137 => ?_) (fun h137 => ?_)
          · exact j148 F1 A1 _ _ (by rw [hW, if_neg (by omega), ee]; exact hW1) hu hA (by rw [ee]; exact hx)
          · refine r_aload_0 hK dX9_meansTable_140 ?_
            refine r_bipushN (c := 6) hK dX9_meansTable_141 ?_
            refine r_iload_5 hK dX9_meansTable_143 ?_
            refine r_tvV2 hK (ct_wrong hK.rel hTA hQ f1f (by omega) (by omega) hW1) lk_X9_230 (tw_rcv hK) dX9_meansTable_145 (fun F3 A3 h5 => ?_)
            obtain ⟨ea, w3, u3⟩ := h5
            subst A3
            exact j148 F3 A1 _ _ (by rw [hW, if_pos (by omega), ee]; rw [ek] at w3; exact w3) (hu.t u3) hA (by rw [ee]; exact hx)
      · exact absurd h68 (by omega) --!
    | succ d ih =>
      intro c F1 A1 hc hW1 hu hA hx
      obtain ⟨y, hy⟩ : ∃ y, y = k + 3 + c := ⟨_, rfl⟩
      have q2 : A1 2 y = 2 := by rw [hA 2 (by decide), (t3 y (by omega)).1]; exact m3 y (by omega) (by omega)
      have q4 : A1 4 y = X 4 y := by rw [hA 4 (by decide)]; exact (t3 y (by omega)).2.2.1
      have b4 := t7 y
      have hTA : TP A1 X N := ⟨t1, t2, fun j hj => by rw [hA 2 (by decide), hA 3 (by decide), hA 4 (by decide), hA 5 (by decide)]; exact t3 j hj, t4, t5, t6, t7, t8⟩
      have f1f : F1 12 = 0 := by rw [hu 12 (by decide) (by decide)]; exact hf
      have e1 : tvF X k b s2 (c + 1) = if (1 ≤ b ∧ b ≤ 3) ∧ rN b ≤ X 4 y then tellS (tvF X k b s2 c) 5 y else tvF X k b s2 c := by rw [hy]; rfl
      have nx : ∀ F3, WR X N F3 (tvF X k b s2 (c + 1)) → uF F F3 → Wx K 100 [some (.ref 358), some (zI (k : Int)), some (zI (a : Int)), some (zI (b : Int)), some (zI (c : Int)), some (zI (y : Int))] [] n (tw f0 F3 A1) 0 := by
        intro F3 hW3 hu3
        refine r_aload_0 hK dX9_meansTable_100 ?_
        refine r_get hK fl_X9_49 dX9_meansTable_101 tw_obj rfl ?_
        refine r_iload_4 hK dX9_meansTable_104 ?_
        refine r_aload_0 hK dX9_meansTable_106 ?_
        refine r_get hK fl_X9_27 dX9_meansTable_107 tw_obj rfl ?_
        refine r_iload_5 hK dX9_meansTable_110 ?_
        refine t_ild hK dX9_meansTable_112 (show _ < 403 by omega) ?_
        rw [q4]
        refine t_ist hK dX9_meansTable_113 (show _ < 8 by omega) ?_
        first | refine r_incN_4 hK dX9_meansTable_114 ?_ | refine r_iinc_4 hK dX9_meansTable_114 ?_
        first | refine r_incN_5 hK dX9_meansTable_117 ?_ | refine r_iinc_5 hK dX9_meansTable_117 ?_
        refine r_goto 60 hK dX9_meansTable_120 ?_
        have := ih (c + 1) F3 (upA A1 10 c (X 4 y)) (by omega) hW3 hu3 (fun j hj => by rw [upA_j hj]; exact hA j hj) (fun x hx2 => ?_)
        · rw [show k + 3 + (c + 1) = y + 1 by omega] at this
          exact this
        · by_cases cx : x = c
          · rw [cx, upA_s, hy]
          · rw [upA_n cx]; exact hx x (by omega)
      rw [← hy]
      refine r_aload_0 hK dX9_meansTable_60 ?_
      refine r_get hK fl_X9_20 dX9_meansTable_61 tw_obj rfl ?_
      refine r_iload_5 hK dX9_meansTable_64 ?_
      refine t_ild hK dX9_meansTable_66 (show _ < 403 by omega) ?_
      rw [q2]
      refine r_iconstN (c := 2) hK dX9_meansTable_67 ?_
      refine r_icmp_ne 123 hK dX9_meansTable_68 (by omega) (by omega) (fun h68 => ?_) (fun h68 => ?_)
      · exact absurd h68 (by omega) --!
      · refine r_iload_3 hK dX9_meansTable_71 ?_
        refine r_iconstN (c := 1) hK dX9_meansTable_72 ?_
        refine r_iconstN (c := 3) hK dX9_meansTable_73 ?_
        refine r_pS3 hK (ct_in hK.rel (by omega) (by omega) (by omega)) lk_X9_237 dX9_meansTable_74 ?_
        refine r_ifB_eq 100 hK dX9_meansTable_77 (fun h77 => ?_) (fun h77 => ?_)
        · exact nx F1 (by rw [e1, if_neg (by omega)]; exact hW1) hu
        · refine r_aload_0 hK dX9_meansTable_80 ?_
          refine r_get hK fl_X9_27 dX9_meansTable_81 tw_obj rfl ?_
          refine r_iload_5 hK dX9_meansTable_84 ?_
          refine t_ild hK dX9_meansTable_86 (show _ < 403 by omega) ?_
          rw [q4]
          refine r_iconstN (c := 1) hK dX9_meansTable_87 ?_
          refine r_iload_3 hK dX9_meansTable_88 ?_
          refine r_ishl hK dX9_meansTable_89 (by omega) (by first | exact sh1 (by omega) | omega) ?_
          have r0 : rN b = 1 <<< b := rfl
          have hr : rN b ≤ 8 := rN_le (k := 3) (by omega)
          rw [← r0]
          refine r_icmp_lt 100 hK dX9_meansTable_90 (by omega) (by omega) (fun h90 => ?_) (fun h90 => ?_)
          · exact nx F1 (by rw [e1, if_neg (by omega)]; exact hW1) hu
          · refine r_aload_0 hK dX9_meansTable_93 ?_
            refine r_iconstN (c := 5) hK dX9_meansTable_94 ?_
            refine r_iload_5 hK dX9_meansTable_95 ?_
            refine r_tvV2 hK (ct_wrong hK.rel hTA hQ f1f (by omega) (by omega) hW1) lk_X9_230 (tw_rcv hK) dX9_meansTable_97 (fun F3 A3 h5 => ?_)
            obtain ⟨ea, w3, u3⟩ := h5
            subst A3
            exact nx F3 (by rw [e1, if_pos (by omega)]; exact w3) (hu.t u3)
  have j52 : ∀ F1, WR X N F1 s2 → uF F F1 → Wx K 52 [some (.ref 358), some (zI (k : Int)), some (zI (a : Int)), some (zI (b : Int)), none, none] [] n (tw f0 F1 A) 0 := by
    intro F1 hW1 hu
    refine r_iconstN (c := 0) hK dX9_meansTable_52 ?_
    refine r_istore_4 hK dX9_meansTable_53 ?_
    refine r_iload_1 hK dX9_meansTable_55 ?_
    refine r_iconstN (c := 3) hK dX9_meansTable_56 ?_
    first | refine r_iaddN hK dX9_meansTable_57 ?_ | refine r_iadd hK dX9_meansTable_57 ?_
    refine r_istore_5 hK dX9_meansTable_58 ?_
    exact lp (e - (k + 3)) 0 F1 A (by omega) hW1 hu (fun _ _ => rfl) (fun x hx => absurd hx (Nat.not_lt_zero _))
  have j35 : ∀ F1, WR X N F1 s1 → uF F F1 → Wx K 35 [some (.ref 358), some (zI (k : Int)), some (zI (a : Int)), some (zI (b : Int)), none, none] [] n (tw f0 F1 A) 0 := by
    intro F1 hW1 hu
    have f1f : F1 12 = 0 := by rw [hu 12 (by decide) (by decide)]; exact hf
    refine r_iload_3 hK dX9_meansTable_35 ?_
    refine r_iconstN (c := 1) hK dX9_meansTable_36 ?_
    refine r_iconstN (c := 3) hK dX9_meansTable_37 ?_
    refine r_pS3 hK (ct_in hK.rel (by omega) (by omega) (by omega)) lk_X9_237 dX9_meansTable_38 ?_
    refine r_ifB_ne 52 hK dX9_meansTable_41 (fun h41 => ?_) (fun h41 => ?_)
    · exact j52 F1 (by rw [hs2, if_pos (by omega)]; exact hW1) hu
    · refine r_aload_0 hK dX9_meansTable_44 ?_
      refine r_iconstN (c := 5) hK dX9_meansTable_45 ?_
      refine r_iload_1 hK dX9_meansTable_46 ?_
      refine r_iconstN (c := 2) hK dX9_meansTable_47 ?_
      first | refine r_iaddN hK dX9_meansTable_48 ?_ | refine r_iadd hK dX9_meansTable_48 ?_
      refine r_tvV2 hK (ct_wrong hK.rel hT hQ f1f (by omega) (by omega) hW1) lk_X9_230 (tw_rcv hK) dX9_meansTable_49 (fun F3 A3 h5 => ?_)
      obtain ⟨ea, w3, u3⟩ := h5
      subst A3
      exact j52 F3 (by rw [hs2, if_neg (by omega)]; exact w3) (hu.t u3)
  refine r_aload_0 hK dX9_meansTable_0 ?_
  refine r_get hK fl_X9_27 dX9_meansTable_1 tw_obj rfl ?_
  refine r_iload_1 hK dX9_meansTable_4 ?_
  refine r_iconstN (c := 1) hK dX9_meansTable_5 ?_
  first | refine r_iaddN hK dX9_meansTable_6 ?_ | refine r_iadd hK dX9_meansTable_6 ?_
  refine t_ild hK dX9_meansTable_7 (show _ < 403 by omega) ?_
  rw [q41]
  refine r_istore_2 hK dX9_meansTable_8 ?_
  refine r_aload_0 hK dX9_meansTable_9 ?_
  refine r_get hK fl_X9_27 dX9_meansTable_10 tw_obj rfl ?_
  refine r_iload_1 hK dX9_meansTable_13 ?_
  refine r_iconstN (c := 2) hK dX9_meansTable_14 ?_
  first | refine r_iaddN hK dX9_meansTable_15 ?_ | refine r_iadd hK dX9_meansTable_15 ?_
  refine t_ild hK dX9_meansTable_16 (show _ < 403 by omega) ?_
  rw [q42]
  refine r_istore_3 hK dX9_meansTable_17 ?_
  refine r_iload_2 hK dX9_meansTable_18 ?_
  refine r_iconstN (c := 1) hK dX9_meansTable_19 ?_
  refine r_iconstN (c := 3) hK dX9_meansTable_20 ?_
  refine r_pS3 hK (ct_in hK.rel (by omega) (by omega) (by omega)) lk_X9_237 dX9_meansTable_21 ?_
  refine r_ifB_ne 35 hK dX9_meansTable_24 (fun h24 => ?_) (fun h24 => ?_)
  · exact j35 F (by rw [hs1, if_pos (by omega)]; exact hs) uF.rf
  · refine r_aload_0 hK dX9_meansTable_27 ?_
    refine r_iconstN (c := 5) hK dX9_meansTable_28 ?_
    refine r_iload_1 hK dX9_meansTable_29 ?_
    refine r_iconstN (c := 1) hK dX9_meansTable_30 ?_
    first | refine r_iaddN hK dX9_meansTable_31 ?_ | refine r_iadd hK dX9_meansTable_31 ?_
    refine r_tvV2 hK (ct_wrong hK.rel hT hQ hf (by omega) (by omega) hs) lk_X9_230 (tw_rcv hK) dX9_meansTable_32 (fun F3 A3 h5 => ?_)
    obtain ⟨ea, w3, u3⟩ := h5
    subst A3
    exact j35 F3 (by rw [hs1, if_neg (by omega)]; exact w3) u3
def nK (kd : Nat) : List (Nat × Nat × Nat) → Nat
  | [] => 0
  | l :: r => (if l.1 = kd then 1 else 0) + nK kd r
/-- what the reference has noted of a text -/
def MR (X : Nat → Nat → Nat) (N : Nat) (F0 : Nat → Nat) (A0 : Nat → Nat → Nat) (s : MS) (F : Nat → Nat) (A : Nat → Nat → Nat) : Prop := WR X N F s.1 ∧ (∀ j, j ≠ 14 → j ≠ 15 → j ≠ 25 → j ≠ 26 → F j = F0 j) ∧ (F 25 = s.2.2.1.1 ∧ F 26 = s.2.2.1.2.1) ∧ (∀ a, a ≠ 9 → a ≠ 10 → a ≠ 12 → A a = A0 a) ∧ (∀ i, i < 4 → A 9 i = s.2.1 i) ∧ (∀ x, x < s.2.2.1.2.2.1 → A 10 x = s.2.2.1.2.2.2 x) ∧ GA (A 12) s.2.2.2 ∧ ∀ g, s.2.2.2.length ≤ g → g < 16 → A 12 (1 + g) = 0 ∧ A 12 (17 + g) = 0 ∧ A 12 (33 + g) = 0
theorem MR.tp {X : Nat → Nat → Nat} {N : Nat} {F0 : Nat → Nat} {A0 : Nat → Nat → Nat} {s : MS} {F : Nat → Nat} {A : Nat → Nat → Nat} (h : MR X N F0 A0 s F A) (hT : TP A0 X N) : TP A X N := by
  obtain ⟨t1, t2, t3, t4, t5, t6, t7, t8⟩ := hT
  have hA := h.2.2.2.1
  exact ⟨t1, t2, fun j hj => by rw [hA 2 (by decide) (by decide) (by decide), hA 3 (by decide) (by decide) (by decide), hA 4 (by decide) (by decide) (by decide), hA 5 (by decide) (by decide) (by decide)]; exact t3 j hj, t4, t5, t6, t7, t8⟩
theorem MR.wr {X : Nat → Nat → Nat} {N : Nat} {F0 : Nat → Nat} {A0 : Nat → Nat → Nat} {s : MS} {F F1 : Nat → Nat} {A : Nat → Nat → Nat} {s1 : Nat × Nat} (h : MR X N F0 A0 s F A) (h1 : WR X N F1 s1) (hu : uF F F1) : MR X N F0 A0 (s1, s.2) F1 A :=
  ⟨h1, fun j a b c d => by rw [hu j a b]; exact h.2.1 j a b c d, ⟨by rw [hu 25 (by decide) (by decide)]; exact h.2.2.1.1, by rw [hu 26 (by decide) (by decide)]; exact h.2.2.1.2⟩, h.2.2.2⟩
theorem LO.skip {X : Nat → Nat → Nat} {N k : Nat} : ∀ {ls}, LO X N k ls → X 2 k < 20 → LO X N (k + 1) ls
  | [], h, _ => fun j a b => h j (by omega) b
  | ln :: r, h, hk => by
    obtain ⟨h1, h2, h3, h4⟩ := h
    have : ln.2.1 ≠ k := fun e => by
      have := h3.2.1; rw [e] at this; have := h3.1.1; omega
    exact ⟨by omega, fun j a b => h2 j (by omega) b, h3, h4⟩
theorem LO.take {X : Nat → Nat → Nat} {N k : Nat} (hkN : k < N) : ∀ {ls}, LO X N k ls → ¬ X 2 k < 20 → ∃ e r, ls = (X 2 k, k, e) :: r ∧ lnOK X N (X 2 k) k e ∧ LO X N (k + 1) r
  | [], h, hn => absurd (h k (Nat.le_refl _) hkN) hn
  | (kd, t, e) :: r, h, hk => by
    obtain ⟨h1, h2, h3, h4⟩ := h
    have ht : t = k := by
      by_cases c : k < t
      · exact absurd (h2 k (Nat.le_refl _) c) hk
      · have : k ≤ t := h1
        omega
    subst ht
    have hkd : kd = X 2 t := h3.2.1.symm
    subst hkd
    exact ⟨e, r, rfl, h3, h4⟩
theorem GA.add1 {a a' : Nat → Nat} {gs : List Gt} {g : Gt} (h : GA a gs) (hl : gs.length < 16) (h0 : a' 0 = gs.length + 1) (hg : ge a' gs.length = g) (hs : ∀ j, j ≠ 0 → j ≠ 1 + gs.length → j ≠ 17 + gs.length → j ≠ 33 + gs.length → a' j = a j) : GA a' (gs ++ [g]) := by
  refine ⟨by rw [List.length_append]; exact h0, by rw [List.length_append]; exact hl, fun i hi => ?_⟩
  rw [List.length_append] at hi
  have hi' : i < gs.length + 1 := hi
  by_cases c : i = gs.length
  · subst c
    rw [List.getElem?_append_right (Nat.le_refl _), Nat.sub_self, hg]; rfl
  · rw [List.getElem?_append_left (by omega), h.2.2 i (by omega)]
    unfold ge
    rw [hs _ (by omega) (by omega) (by omega) (by omega), hs _ (by omega) (by omega) (by omega) (by omega), hs _ (by omega) (by omega) (by omega) (by omega)]
theorem oI_k (X : Nat → Nat → Nat) (k j : Nat) (hk : k ≤ 401) : inR (oI (nmd X k (X 5 j))) := by
  cases ho : nmd X k (X 5 j) with
  | none => exact ⟨by decide, by decide⟩
  | some c =>
    have := nmdF_lt _ _ _ ho
    exact ⟨by show -2147483648 ≤ (c : Int); omega, by show (c : Int) < 2147483648; omega⟩
theorem dz_z : dz 0 = ((0 : Nat) : Int) := rfl
set_option maxHeartbeats 4000000 in
theorem ct_means {G : GT} {Rel : Nat → Hp → Hp → Prop} (hR : RelOK Rel) {n : Nat} {f0 : Hp} {F : Nat → Nat} {A X : Nat → Nat → Nat} {N : Nat} {ls : List (Nat × Nat × Nat)} (hT : TP A X N) (hQ : MQr X N) (hN : F 10 = N) (hf : F 12 = 0) (hw : F 14 = 0) (hl : LO X N 0 ls) (hc : nK 21 ls ≤ 16) : Ct G Rel yX9_means cX9_means 3 none (3) (0) [.ref 358] n (tw f0 F A) (Tv n f0 (MR X N F A (mean X N ls))) := by
  refine ct_intro [some (.ref 358), none, none] hR rfl (Nat.le_of_ble_eq_true rfl) ?_
  intro K hG hRel hK hRt hnm
  have hN401 : N ≤ 401 := hT.2.1
  have hX2 := hT.2.2.2.2.1
  have lp : ∀ (m k : Nat) (ls' : List (Nat × Nat × Nat)) (s : MS) (F1 : Nat → Nat) (A1 : Nat → Nat → Nat) a2, nl a2 = true → k + m = N → LO X N k ls' → MR X N F A s F1 A1 → s.2.2.2.length + nK 21 ls' ≤ 16 → ls'.foldl (smS X N) s = mean X N ls → Wx K 62 [some (.ref 358), some (zI (k : Int)), a2] [] n (tw f0 F1 A1) 0 := by
    intro m
    induction m with
    | zero =>
      intro k ls' s F1 A1 a2 hn hk hL hM hg hs
      have f1N : F1 10 = N := by rw [hM.2.1 10 (by decide) (by decide) (by decide) (by decide)]; exact hN
      have e0 : ls' = [] := by
        cases ls' with
        | nil => rfl
        | cons l r => have := hL.2.2.1.2.2.2.1; have := hL.2.2.1.2.2.1; have := hL.1; omega
      subst e0
      refine r_iload_1 hK dX9_means_62 ?_
      refine r_aload_0 hK dX9_means_63 ?_
      refine r_get hK fl_X9_143 dX9_means_64 tw_obj rfl ?_
      rw [f1N]
      refine r_icmp_ge 203 hK dX9_means_67 (by omega) (by omega) (fun h67 => ?_) (fun h67 => ?_)
      · exact r_vret hK hRt dX9_means_203 ⟨rfl, rfl, _, _, rfl, by rw [← hs]; exact hM⟩
      · exact absurd h67 (by omega)
    | succ m ih =>
      intro k ls' s F1 A1 a2 hn hk hL hM hg hs
      have kN : k < N := by omega
      have f1N : F1 10 = N := by rw [hM.2.1 10 (by decide) (by decide) (by decide) (by decide)]; exact hN
      have q2 : ∀ {s' : MS} {F2 : Nat → Nat} {A2 : Nat → Nat → Nat}, MR X N F A s' F2 A2 → A2 2 k = X 2 k := fun h => ((h.tp hT).2.2.1 k kN).1
      have bk := hX2 k
      -- the ways out
      have j197 : ∀ (F2 : Nat → Nat) (A2 : Nat → Nat → Nat) (s2 : MS) (r : List (Nat × Nat × Nat)) (y2 : Int), LO X N (k + 1) r → MR X N F A s2 F2 A2 → s2.2.2.2.length + nK 21 r ≤ 16 → r.foldl (smS X N) s2 = mean X N ls → Wx K 197 [some (.ref 358), some (zI (k : Int)), some (zI y2)] [] n (tw f0 F2 A2) 0 := by
        intro F2 A2 s2 r y2 hr hM2 hg2 hs2
        first | refine r_incN_1 hK dX9_means_197 ?_ | refine r_iinc_1 hK dX9_means_197 ?_
        refine r_goto 62 hK dX9_means_200 ?_
        exact ih (k + 1) r s2 F2 A2 _ rfl (by omega) hr hM2 hg2 hs2
      have j116 : X 2 k ≠ 22 → X 2 k ≠ 23 → ∀ (F2 : Nat → Nat) (A2 : Nat → Nat → Nat) (s2 : MS) (r : List (Nat × Nat × Nat)) a2, nl a2 = true → LO X N (k + 1) r → MR X N F A s2 F2 A2 → s2.2.2.2.length + nK 21 r ≤ 16 → r.foldl (smS X N) s2 = mean X N ls → Wx K 116 [some (.ref 358), some (zI (k : Int)), a2] [] n (tw f0 F2 A2) 0 := by
        intro n2 n3 F2 A2 s2 r a2 hn2 hr hM2 hg2 hs2
        refine r_iconstN (c := 0) hK dX9_means_116 ?_
        refine r_istore_2 hK dX9_means_117 ?_
        refine r_iload_2 hK dX9_means_118 ?_
        refine r_iconstN (c := 4) hK dX9_means_119 ?_
        refine r_icmp_ge 181 hK dX9_means_120 (by omega) (by omega) (fun h120 => ?_) (fun h120 => ?_)
        · exact absurd h120 (by omega)
        · refine r_aload_0 hK dX9_means_123 ?_
          refine r_get hK fl_X9_20 dX9_means_124 tw_obj rfl ?_
          refine r_iload_1 hK dX9_means_127 ?_
          refine t_ild hK dX9_means_128 (show _ < 403 by omega) ?_
          rw [q2 hM2]
          refine r_bipushN (c := 22) hK dX9_means_129 ?_
          refine r_icmp_ne 181 hK dX9_means_131 (by omega) (by omega) (fun h131 => ?_) (fun h131 => ?_)
          · refine r_aload_0 hK dX9_means_181 ?_
            refine r_get hK fl_X9_20 dX9_means_182 tw_obj rfl ?_
            refine r_iload_1 hK dX9_means_185 ?_
            refine t_ild hK dX9_means_186 (show _ < 403 by omega) ?_
            rw [q2 hM2]
            refine r_bipushN (c := 23) hK dX9_means_187 ?_
            refine r_icmp_ne 197 hK dX9_means_189 (by omega) (by omega) (fun h189 => ?_) (fun h189 => ?_)
            · exact j197 F2 A2 s2 r _ hr hM2 hg2 hs2
            · exact absurd h189 (by omega)
          · exact absurd h131 (by omega)
      have j100 : X 2 k ≠ 21 → X 2 k ≠ 22 → X 2 k ≠ 23 → ∀ (F2 : Nat → Nat) (A2 : Nat → Nat → Nat) (s2 : MS) (r : List (Nat × Nat × Nat)) a2, nl a2 = true → LO X N (k + 1) r → MR X N F A s2 F2 A2 → s2.2.2.2.length + nK 21 r ≤ 16 → r.foldl (smS X N) s2 = mean X N ls → Wx K 100 [some (.ref 358), some (zI (k : Int)), a2] [] n (tw f0 F2 A2) 0 := by
        intro n1 n2 n3 F2 A2 s2 r a2 hn2 hr hM2 hg2 hs2
        refine r_aload_0 hK dX9_means_100 ?_
        refine r_get hK fl_X9_20 dX9_means_101 tw_obj rfl ?_
        refine r_iload_1 hK dX9_means_104 ?_
        refine t_ild hK dX9_means_105 (show _ < 403 by omega) ?_
        rw [q2 hM2]
        refine r_bipushN (c := 21) hK dX9_means_106 ?_
        refine r_icmp_ne 116 hK dX9_means_108 (by omega) (by omega) (fun h108 => ?_) (fun h108 => ?_)
        · exact j116 n2 n3 F2 A2 s2 r _ hn2 hr hM2 hg2 hs2
        · exact absurd h108 (by omega)
      by_cases ck : X 2 k < 20
      · refine r_iload_1 hK dX9_means_62 ?_
        refine r_aload_0 hK dX9_means_63 ?_
        refine r_get hK fl_X9_143 dX9_means_64 tw_obj rfl ?_
        rw [f1N]
        refine r_icmp_ge 203 hK dX9_means_67 (by omega) (by omega) (fun h67 => ?_) (fun h67 => ?_)
        · exact absurd h67 (by omega)
        · refine r_aload_0 hK dX9_means_70 ?_
          refine r_get hK fl_X9_20 dX9_means_71 tw_obj rfl ?_
          refine r_iload_1 hK dX9_means_74 ?_
          refine t_ild hK dX9_means_75 (show _ < 403 by omega) ?_
          rw [q2 hM]
          refine r_bipushN (c := 20) hK dX9_means_76 ?_
          refine r_icmp_ne 100 hK dX9_means_78 (by omega) (by omega) (fun h78 => ?_) (fun h78 => ?_)
          · exact j100 (by omega) (by omega) (by omega) F1 A1 s ls' _ hn (hL.skip ck) hM hg hs
          · exact absurd h78 (by omega)
      · obtain ⟨e, r, el, hO, hr⟩ := hL.take kN ck
        subst el
        have hgr : s.2.2.2.length + ((if X 2 k = 21 then 1 else 0) + nK 21 r) ≤ 16 := hg
        have hs' : r.foldl (smS X N) (smS X N s (X 2 k, k, e)) = mean X N ls := hs
        have f1f : F1 12 = 0 := by rw [hM.2.1 12 (by decide) (by decide) (by decide) (by decide)]; exact hf
        by_cases c20 : X 2 k = 20
        · rw [if_neg (by omega)] at hgr
          have eS : smS X N s (X 2 k, k, e) = ((match nmd X k (X 5 (k + 1)) with | none => s.1 | some _ => tellS s.1 3 (k + 1)), s.2) := by unfold smS; rw [if_pos c20]; rfl
          rw [eS] at hs'
          have hk1 := hQ.2.1 k kN c20
          refine r_iload_1 hK dX9_means_62 ?_
          refine r_aload_0 hK dX9_means_63 ?_
          refine r_get hK fl_X9_143 dX9_means_64 tw_obj rfl ?_
          rw [f1N]
          refine r_icmp_ge 203 hK dX9_means_67 (by omega) (by omega) (fun h67 => ?_) (fun h67 => ?_)
          · exact absurd h67 (by omega)
          · refine r_aload_0 hK dX9_means_70 ?_
            refine r_get hK fl_X9_20 dX9_means_71 tw_obj rfl ?_
            refine r_iload_1 hK dX9_means_74 ?_
            refine t_ild hK dX9_means_75 (show _ < 403 by omega) ?_
            rw [q2 hM]
            refine r_bipushN (c := 20) hK dX9_means_76 ?_
            refine r_icmp_ne 100 hK dX9_means_78 (by omega) (by omega) (fun h78 => ?_) (fun h78 => ?_)
            · exact absurd h78 (by omega)
            · refine r_aload_0 hK dX9_means_81 ?_
              refine r_iload_1 hK dX9_means_82 ?_
              refine r_iconstN (c := 1) hK dX9_means_83 ?_
              first | refine r_iaddN hK dX9_means_84 ?_ | refine r_iadd hK dX9_means_84 ?_
              refine r_iload_1 hK dX9_means_85 ?_
              refine r_pV2 hK (ct_named hK.rel (hM.tp hT) hQ hk1 (by omega)) lk_X9_227 (tw_rcv hK) dX9_means_86 ?_
              refine r_if_lt 100 hK dX9_means_89 (oI_k X k (k + 1) (by omega)) (fun h89 => ?_) (fun h89 => ?_)
              · cases ho : nmd X k (X 5 (k + 1)) with
                | none => rw [ho] at hs'; exact j100 (by omega) (by omega) (by omega) F1 A1 s r _ hn hr hM (by omega) hs'
                | some w => rw [ho] at h89; exact absurd (show (w : Int) < 0 from h89) (by omega)
              · refine r_aload_0 hK dX9_means_92 ?_
                refine r_iconstN (c := 3) hK dX9_means_93 ?_
                refine r_iload_1 hK dX9_means_94 ?_
                refine r_iconstN (c := 1) hK dX9_means_95 ?_
                first | refine r_iaddN hK dX9_means_96 ?_ | refine r_iadd hK dX9_means_96 ?_
                refine r_tvV2 hK (ct_wrong hK.rel (hM.tp hT) hQ f1f (by omega) hk1 hM.1) lk_X9_230 (tw_rcv hK) dX9_means_97 (fun F3 A3 h5 => ?_)
                obtain ⟨ea, w3, u3⟩ := h5
                subst A3
                cases ho : nmd X k (X 5 (k + 1)) with
                | none => rw [ho] at h89; exact absurd (show (0 : Int) ≤ -1 from h89) (by decide)
                | some w => rw [ho] at hs'; exact j100 (by omega) (by omega) (by omega) F3 A1 (tellS s.1 3 (k + 1), s.2) r _ hn hr (hM.wr w3 u3) (by show s.2.2.2.length + _ ≤ 16; omega) hs'
        · by_cases c21 : X 2 k = 21
          · rw [if_pos c21] at hgr
            have eS : smS X N s (X 2 k, k, e) = ((gsT X N k s.1 (e - (k + 1))).1, s.2.1, s.2.2.1, s.2.2.2 ++ [(gsT X N k s.1 (e - (k + 1))).2]) := by unfold smS; rw [if_neg c20, if_pos c21]
            rw [eS] at hs'
            have hO1 : lnOK X N 21 k e := by rw [c21] at hO; exact hO
            refine r_iload_1 hK dX9_means_62 ?_
            refine r_aload_0 hK dX9_means_63 ?_
            refine r_get hK fl_X9_143 dX9_means_64 tw_obj rfl ?_
            rw [f1N]
            refine r_icmp_ge 203 hK dX9_means_67 (by omega) (by omega) (fun h67 => ?_) (fun h67 => ?_)
            · exact absurd h67 (by omega)
            · refine r_aload_0 hK dX9_means_70 ?_
              refine r_get hK fl_X9_20 dX9_means_71 tw_obj rfl ?_
              refine r_iload_1 hK dX9_means_74 ?_
              refine t_ild hK dX9_means_75 (show _ < 403 by omega) ?_
              rw [q2 hM]
              refine r_bipushN (c := 20) hK dX9_means_76 ?_
              refine r_icmp_ne 100 hK dX9_means_78 (by omega) (by omega) (fun h78 => ?_) (fun h78 => ?_)
              · refine r_aload_0 hK dX9_means_100 ?_
                refine r_get hK fl_X9_20 dX9_means_101 tw_obj rfl ?_
                refine r_iload_1 hK dX9_means_104 ?_
                refine t_ild hK dX9_means_105 (show _ < 403 by omega) ?_
                rw [q2 hM]
                refine r_bipushN (c := 21) hK dX9_means_106 ?_
                refine r_icmp_ne 116 hK dX9_means_108 (by omega) (by omega) (fun h108 => ?_) (fun h108 => ?_)
                · exact absurd h108 (by omega)
                · refine r_aload_0 hK dX9_means_111 ?_
                  refine r_iload_1 hK dX9_means_112 ?_
                  refine r_tvV1 hK (ct_meansGate hK.rel (hM.tp hT) hQ f1N f1f hO1 hM.2.2.2.2.2.2.1.1 (by omega) (hM.2.2.2.2.2.2.2 _ (Nat.le_refl _) (by omega)).2.1 (hM.2.2.2.2.2.2.2 _ (Nat.le_refl _) (by omega)).2.2 hM.1) lk_X9_234 (tw_rcv hK) dX9_means_113 (fun F3 A3 h5 => ?_)
                  obtain ⟨w3, u3, hA3, h30, h3g, h3o⟩ := h5
                  have hM1 := hM.wr w3 u3
                  refine j116 (by omega) (by omega) F3 A3 _ r _ hn hr ?_ ?_ hs'
                  · refine ⟨w3, hM1.2.1, hM1.2.2.1, fun a a1 a2 a3 => by rw [hA3 a a3]; exact hM.2.2.2.1 a a1 a2 a3, fun i hi => by rw [hA3 9 (by decide)]; exact hM.2.2.2.2.1 i hi, fun x hx => by rw [hA3 10 (by decide)]; exact hM.2.2.2.2.2.1 x hx, GA.add1 hM.2.2.2.2.2.2.1 (by omega) h30 h3g h3o, fun g g1 g2 => ?_⟩
                    have g1' : s.2.2.2.length + 1 ≤ g := by have := g1; simp only [List.length_append, List.length_cons, List.length_nil] at this; exact this
                    rw [h3o _ (by omega) (by omega) (by omega) (by omega), h3o _ (by omega) (by omega) (by omega) (by omega), h3o _ (by omega) (by omega) (by omega) (by omega)]
                    exact hM.2.2.2.2.2.2.2 g (by omega) g2
                  · simp only [List.length_append, List.length_cons, List.length_nil]; omega
              · exact absurd h78 (by omega)
          · rw [if_neg c21] at hgr
            by_cases c22 : X 2 k = 22
            · have eS : smS X N s (X 2 k, k, e) = (prF X k s.1 4, (fun i => if i < 4 then X 4 (k + 1 + i) else s.2.1 i), s.2.2) := by unfold smS; rw [if_neg c20, if_neg c21, if_pos c22]
              rw [eS] at hs'
              obtain ⟨p1, p2⟩ := hO.2.2.2.2.2.2.2.1 c22
              have heN := hO.2.2.2.1
              have j181 : ∀ (F2 : Nat → Nat) (A2 : Nat → Nat → Nat) (s2 : MS) (y2 : Int), MR X N F A s2 F2 A2 → s2.2.2.2.length + nK 21 r ≤ 16 → r.foldl (smS X N) s2 = mean X N ls → Wx K 181 [some (.ref 358), some (zI (k : Int)), some (zI y2)] [] n (tw f0 F2 A2) 0 := by
                intro F2 A2 s2 y2 hM2 hg2 hs2
                refine r_aload_0 hK dX9_means_181 ?_
                refine r_get hK fl_X9_20 dX9_means_182 tw_obj rfl ?_
                refine r_iload_1 hK dX9_means_185 ?_
                refine t_ild hK dX9_means_186 (show _ < 403 by omega) ?_
                rw [q2 hM2]
                refine r_bipushN (c := 23) hK dX9_means_187 ?_
                refine r_icmp_ne 197 hK dX9_means_189 (by omega) (by omega) (fun h189 => ?_) (fun h189 => ?_)
                · exact j197 F2 A2 s2 r _ hr hM2 hg2 hs2
                · exact absurd h189 (by omega)
              have l4 : ∀ (d c : Nat) (F2 : Nat → Nat) (A2 : Nat → Nat → Nat), c + d = 4 → MR X N F A (prF X k s.1 c, (fun i => if i < c then X 4 (k + 1 + i) else s.2.1 i), s.2.2) F2 A2 → Wx K 118 [some (.ref 358), some (zI (k : Int)), some (zI (c : Int))] [] n (tw f0 F2 A2) 0 := by
                intro d
                induction d with
                | zero =>
                  intro c F2 A2 hd hM2
                  have : c = 4 := hd
                  subst this
                  refine r_iload_2 hK dX9_means_118 ?_
                  refine r_iconstN (c := 4) hK dX9_means_119 ?_
                  refine r_icmp_ge 181 hK dX9_means_120 (by omega) (by omega) (fun h120 => ?_) (fun h120 => ?_)
                  · exact j181 F2 A2 _ _ hM2 (by show s.2.2.2.length + _ ≤ 16; omega) hs'
                  · exact absurd h120 (by omega)
                | succ d ih4 =>
                  intro c F2 A2 hd hM2
                  have f2f : F2 12 = 0 := by rw [hM2.2.1 12 (by decide) (by decide) (by decide) (by decide)]; exact hf
                  have q4 : A2 4 (k + 1 + c) = X 4 (k + 1 + c) := ((hM2.tp hT).2.2.1 _ (by omega)).2.2.1
                  have b4 := (hM2.tp hT).2.2.2.2.2.2.1 (k + 1 + c)
                  have eP : prF X k s.1 (c + 1) = if 1 ≤ X 4 (k + 1 + c) ∧ X 4 (k + 1 + c) ≤ 99 then prF X k s.1 c else tellS (prF X k s.1 c) 5 (k + 1 + c) := rfl
                  have hM3 : MR X N F A (prF X k s.1 c, (fun i => if i < c + 1 then X 4 (k + 1 + i) else s.2.1 i), s.2.2) F2 (upA A2 9 c (X 4 (k + 1 + c))) := by
                    refine ⟨hM2.1, hM2.2.1, hM2.2.2.1, fun a a1 a2 a3 => by rw [upA_j a1]; exact hM2.2.2.2.1 a a1 a2 a3, fun i hi => ?_, fun x hx => by rw [upA_j (by decide)]; exact hM2.2.2.2.2.2.1 x hx, by rw [upA_j (by decide)]; exact hM2.2.2.2.2.2.2⟩
                    by_cases ci : i = c
                    · subst ci
                      rw [upA_s]
                      show _ = if i < i + 1 then _ else _
                      rw [if_pos (by omega)]
                    · rw [upA_n ci]
                      have := hM2.2.2.2.2.1 i hi
                      show _ = if i < c + 1 then _ else _
                      rw [this]
                      show (if i < c then _ else _) = _
                      by_cases c2 : i < c
                      · rw [if_pos c2, if_pos (by omega)]
                      · rw [if_neg c2, if_neg (by omega)]
                  refine r_iload_2 hK dX9_means_118 ?_
                  refine r_iconstN (c := 4) hK dX9_means_119 ?_
                  refine r_icmp_ge 181 hK dX9_means_120 (by omega) (by omega) (fun h120 => ?_) (fun h120 => ?_)
                  · exact absurd h120 (by omega)
                  · refine r_aload_0 hK dX9_means_123 ?_
                    refine r_get hK fl_X9_20 dX9_means_124 tw_obj rfl ?_
                    refine r_iload_1 hK dX9_means_127 ?_
                    refine t_ild hK dX9_means_128 (show _ < 403 by omega) ?_
                    rw [q2 hM2]
                    refine r_bipushN (c := 22) hK dX9_means_129 ?_
                    refine r_icmp_ne 181 hK dX9_means_131 (by omega) (by omega) (fun h131 => ?_) (fun h131 => ?_)
                    · exact absurd h131 (by omega)
                    · refine r_aload_0 hK dX9_means_134 ?_
                      refine r_get hK fl_X9_46 dX9_means_135 tw_obj rfl ?_
                      refine r_iload_2 hK dX9_means_138 ?_
                      refine r_aload_0 hK dX9_means_139 ?_
                      refine r_get hK fl_X9_27 dX9_means_140 tw_obj rfl ?_
                      refine r_iload_1 hK dX9_means_143 ?_
                      refine r_iconstN (c := 1) hK dX9_means_144 ?_
                      first | refine r_iaddN hK dX9_means_145 ?_ | refine r_iadd hK dX9_means_145 ?_
                      refine r_iload_2 hK dX9_means_146 ?_
                      first | refine r_iaddN hK dX9_means_147 ?_ | refine r_iadd hK dX9_means_147 ?_
                      refine t_ild hK dX9_means_148 (show _ < 403 by omega) ?_
                      rw [q4]
                      refine t_ist hK dX9_means_149 (show _ < 4 by omega) ?_
                      refine r_aload_0 hK dX9_means_150 ?_
                      refine r_get hK fl_X9_46 dX9_means_151 tw_obj rfl ?_
                      refine r_iload_2 hK dX9_means_154 ?_
                      refine t_ild hK dX9_means_155 (show _ < 4 by omega) ?_
                      rw [upA_s]
                      refine r_iconstN (c := 1) hK dX9_means_156 ?_
                      refine r_bipushN (c := 99) hK dX9_means_157 ?_
                      refine r_pS3 hK (ct_in hK.rel (by omega) (by omega) (by omega)) lk_X9_237 dX9_means_159 ?_
                      refine r_ifB_ne 175 hK dX9_means_162 (fun h162 => ?_) (fun h162 => ?_)
                      · first | refine r_incN_2 hK dX9_means_175 ?_ | refine r_iinc_2 hK dX9_means_175 ?_
                        refine r_goto 118 hK dX9_means_178 ?_
                        exact ih4 (c + 1) F2 _ (by omega) (by rw [eP, if_pos (by omega)]; exact hM3)
                      · refine r_aload_0 hK dX9_means_165 ?_
                        refine r_iconstN (c := 5) hK dX9_means_166 ?_
                        refine r_iload_1 hK dX9_means_167 ?_
                        refine r_iconstN (c := 1) hK dX9_means_168 ?_
                        first | refine r_iaddN hK dX9_means_169 ?_ | refine r_iadd hK dX9_means_169 ?_
                        refine r_iload_2 hK dX9_means_170 ?_
                        first | refine r_iaddN hK dX9_means_171 ?_ | refine r_iadd hK dX9_means_171 ?_
                        refine r_tvV2 hK (ct_wrong hK.rel (hM3.tp hT) hQ f2f (by omega) (by omega) hM3.1) lk_X9_230 (tw_rcv hK) dX9_means_172 (fun F3 A3 h5 => ?_)
                        obtain ⟨ea, w3, u3⟩ := h5
                        subst A3
                        first | refine r_incN_2 hK dX9_means_175 ?_ | refine r_iinc_2 hK dX9_means_175 ?_
                        refine r_goto 118 hK dX9_means_178 ?_
                        exact ih4 (c + 1) F3 _ (by omega) (by rw [eP, if_neg (by omega)]; exact hM3.wr w3 u3)
              refine r_iload_1 hK dX9_means_62 ?_
              refine r_aload_0 hK dX9_means_63 ?_
              refine r_get hK fl_X9_143 dX9_means_64 tw_obj rfl ?_
              rw [f1N]
              refine r_icmp_ge 203 hK dX9_means_67 (by omega) (by omega) (fun h67 => ?_) (fun h67 => ?_)
              · exact absurd h67 (by omega)
              · refine r_aload_0 hK dX9_means_70 ?_
                refine r_get hK fl_X9_20 dX9_means_71 tw_obj rfl ?_
                refine r_iload_1 hK dX9_means_74 ?_
                refine t_ild hK dX9_means_75 (show _ < 403 by omega) ?_
                rw [q2 hM]
                refine r_bipushN (c := 20) hK dX9_means_76 ?_
                refine r_icmp_ne 100 hK dX9_means_78 (by omega) (by omega) (fun h78 => ?_) (fun h78 => ?_)
                · refine r_aload_0 hK dX9_means_100 ?_
                  refine r_get hK fl_X9_20 dX9_means_101 tw_obj rfl ?_
                  refine r_iload_1 hK dX9_means_104 ?_
                  refine t_ild hK dX9_means_105 (show _ < 403 by omega) ?_
                  rw [q2 hM]
                  refine r_bipushN (c := 21) hK dX9_means_106 ?_
                  refine r_icmp_ne 116 hK dX9_means_108 (by omega) (by omega) (fun h108 => ?_) (fun h108 => ?_)
                  · refine r_iconstN (c := 0) hK dX9_means_116 ?_
                    refine r_istore_2 hK dX9_means_117 ?_
                    exact l4 4 0 F1 A1 rfl hM
                  · exact absurd h108 (by omega)
                · exact absurd h78 (by omega)
            · have c23 : X 2 k = 23 := by have := hO.1; omega
              have eS : smS X N s (X 2 k, k, e) = (tbW X k e s.1, s.2.1, (X 4 (k + 1), X 4 (k + 2), e - (k + 3), fun x => X 4 (k + 3 + x)), s.2.2.2) := by unfold smS; rw [if_neg c20, if_neg c21, if_neg c22]
              rw [eS] at hs'
              have hO1 : lnOK X N 23 k e := by rw [c23] at hO; exact hO
              refine r_iload_1 hK dX9_means_62 ?_
              refine r_aload_0 hK dX9_means_63 ?_
              refine r_get hK fl_X9_143 dX9_means_64 tw_obj rfl ?_
              rw [f1N]
              refine r_icmp_ge 203 hK dX9_means_67 (by omega) (by omega) (fun h67 => ?_) (fun h67 => ?_)
              · exact absurd h67 (by omega)
              · refine r_aload_0 hK dX9_means_70 ?_
                refine r_get hK fl_X9_20 dX9_means_71 tw_obj rfl ?_
                refine r_iload_1 hK dX9_means_74 ?_
                refine t_ild hK dX9_means_75 (show _ < 403 by omega) ?_
                rw [q2 hM]
                refine r_bipushN (c := 20) hK dX9_means_76 ?_
                refine r_icmp_ne 100 hK dX9_means_78 (by omega) (by omega) (fun h78 => ?_) (fun h78 => ?_)
                · refine r_aload_0 hK dX9_means_100 ?_
                  refine r_get hK fl_X9_20 dX9_means_101 tw_obj rfl ?_
                  refine r_iload_1 hK dX9_means_104 ?_
                  refine t_ild hK dX9_means_105 (show _ < 403 by omega) ?_
                  rw [q2 hM]
                  refine r_bipushN (c := 21) hK dX9_means_106 ?_
                  refine r_icmp_ne 116 hK dX9_means_108 (by omega) (by omega) (fun h108 => ?_) (fun h108 => ?_)
                  · refine r_iconstN (c := 0) hK dX9_means_116 ?_
                    refine r_istore_2 hK dX9_means_117 ?_
                    refine r_iload_2 hK dX9_means_118 ?_
                    refine r_iconstN (c := 4) hK dX9_means_119 ?_
                    refine r_icmp_ge 181 hK dX9_means_120 (by omega) (by omega) (fun h120 => ?_) (fun h120 => ?_)
                    · exact absurd h120 (by omega)
                    · refine r_aload_0 hK dX9_means_123 ?_
                      refine r_get hK fl_X9_20 dX9_means_124 tw_obj rfl ?_
                      refine r_iload_1 hK dX9_means_127 ?_
                      refine t_ild hK dX9_means_128 (show _ < 403 by omega) ?_
                      rw [q2 hM]
                      refine r_bipushN (c := 22) hK dX9_means_129 ?_
                      refine r_icmp_ne 181 hK dX9_means_131 (by omega) (by omega) (fun h131 => ?_) (fun h131 => ?_)
                      · refine r_aload_0 hK dX9_means_181 ?_
                        refine r_get hK fl_X9_20 dX9_means_182 tw_obj rfl ?_
                        refine r_iload_1 hK dX9_means_185 ?_
                        refine t_ild hK dX9_means_186 (show _ < 403 by omega) ?_
                        rw [q2 hM]
                        refine r_bipushN (c := 23) hK dX9_means_187 ?_
                        refine r_icmp_ne 197 hK dX9_means_189 (by omega) (by omega) (fun h189 => ?_) (fun h189 => ?_)
                        · exact absurd h189 (by omega)
                        · refine r_aload_0 hK dX9_means_192 ?_
                          refine r_iload_1 hK dX9_means_193 ?_
                          refine r_tvV1 hK (ct_meansTable hK.rel (hM.tp hT) hQ f1f hO1 hM.1) lk_X9_241 (tw_rcv hK) dX9_means_194 (fun F3 A3 h5 => ?_)
                          obtain ⟨w3, h25, h26, h3F, h3A, h3x⟩ := h5
                          refine j197 F3 A3 _ r _ hr ?_ (by show s.2.2.2.length + _ ≤ 16; omega) hs'
                          exact ⟨w3, fun j j1 j2 j3 j4 => by rw [h3F j j1 j2 j3 j4]; exact hM.2.1 j j1 j2 j3 j4, ⟨h25, h26⟩, fun a a1 a2 a3 => by rw [h3A a a2]; exact hM.2.2.2.1 a a1 a2 a3, fun i hi => by rw [h3A 9 (by decide)]; exact hM.2.2.2.2.1 i hi, h3x, by rw [h3A 12 (by decide)]; exact hM.2.2.2.2.2.2⟩
                      · exact absurd h131 (by omega)
                  · exact absurd h108 (by omega)
                · exact absurd h78 (by omega)
  have l0 : ∀ (m k : Nat) (A1 : Nat → Nat → Nat), k + m = 49 → (∀ a, a ≠ 12 → A1 a = A a) → (∀ j, j < k → A1 12 j = 0) → Wx K 2 [some (.ref 358), some (zI (k : Int)), none] [] n (tw f0 F A1) 0 := by
    intro m
    induction m with
    | zero =>
      intro k A1 hk hA hz
      refine r_iload_1 hK dX9_means_2 ?_
      refine r_bipushN (c := 49) hK dX9_means_3 ?_
      refine r_icmp_ge 21 hK dX9_means_5 (by omega) (by omega) (fun h5 => ?_) (fun h5 => ?_)
      · refine r_aload_0 hK dX9_means_21 ?_
        refine r_get hK fl_X9_46 dX9_means_22 tw_obj rfl ?_
        refine r_iconstN (c := 0) hK dX9_means_25 ?_
        refine r_iconstN (c := 1) hK dX9_means_26 ?_
        refine t_ist hK dX9_means_27 (show _ < 4 by omega) ?_
        refine r_aload_0 hK dX9_means_28 ?_
        refine r_get hK fl_X9_46 dX9_means_29 tw_obj rfl ?_
        refine r_iconstN (c := 1) hK dX9_means_32 ?_
        refine r_iconstN (c := 1) hK dX9_means_33 ?_
        refine t_ist hK dX9_means_34 (show _ < 4 by omega) ?_
        refine r_aload_0 hK dX9_means_35 ?_
        refine r_get hK fl_X9_46 dX9_means_36 tw_obj rfl ?_
        refine r_iconstN (c := 2) hK dX9_means_39 ?_
        refine r_iconstN (c := 5) hK dX9_means_40 ?_
        refine t_ist hK dX9_means_41 (show _ < 4 by omega) ?_
        refine r_aload_0 hK dX9_means_42 ?_
        refine r_get hK fl_X9_46 dX9_means_43 tw_obj rfl ?_
        refine r_iconstN (c := 3) hK dX9_means_46 ?_
        refine r_bipushN (c := 13) hK dX9_means_47 ?_
        refine t_ist hK dX9_means_49 (show _ < 4 by omega) ?_
        refine r_aload_0 hK dX9_means_50 ?_
        refine r_iconstN (c := 0) hK dX9_means_51 ?_
        refine t_put hK fl_X9_206 dX9_means_52 ?_
        refine r_aload_0 hK dX9_means_55 ?_
        refine r_iconstN (c := 0) hK dX9_means_56 ?_
        refine t_put hK fl_X9_212 dX9_means_57 ?_
        refine r_iconstN (c := 0) hK dX9_means_60 ?_
        refine r_istore_1 hK dX9_means_61 ?_
        refine lp N 0 ls ms0 _ _ none rfl (by omega) hl ?_ (by show 0 + _ ≤ 16; omega) rfl
        refine ⟨⟨by rw [upF_n (by decide), upF_n (by decide)]; exact hw, by decide, fun h => absurd rfl h⟩, fun j _ _ j3 j4 => by rw [upF_n j4, upF_n j3], ⟨by rw [upF_n (by decide), upF_s]; rfl, by rw [upF_s]; rfl⟩, fun a a1 a2 a3 => by rw [upA_j a1, upA_j a1, upA_j a1, upA_j a1]; exact hA a a3, fun i hi => ?_, fun x hx => absurd hx (Nat.not_lt_zero _), ?_⟩
        · have h4 : i = 0 ∨ i = 1 ∨ i = 2 ∨ i = 3 := by omega
          rcases h4 with q | q | q | q
          · subst q; rw [upA_n (by decide), upA_n (by decide), upA_n (by decide), upA_s]; rfl
          · subst q; rw [upA_n (by decide), upA_n (by decide), upA_s]; rfl
          · subst q; rw [upA_n (by decide), upA_s]; rfl
          · subst q; rw [upA_s]; rfl
        · rw [upA_j (by decide), upA_j (by decide), upA_j (by decide), upA_j (by decide)]
          exact ⟨⟨hz 0 (by omega), by decide, fun g hg => absurd hg (Nat.not_lt_zero _)⟩, fun g _ h2 => ⟨hz _ (by omega), hz _ (by omega), hz _ (by omega)⟩⟩
      · exact absurd h5 (by omega)
    | succ m ih =>
      intro k A1 hk hA hz
      refine r_iload_1 hK dX9_means_2 ?_
      refine r_bipushN (c := 49) hK dX9_means_3 ?_
      refine r_icmp_ge 21 hK dX9_means_5 (by omega) (by omega) (fun h5 => ?_) (fun h5 => ?_)
      · exact absurd h5 (by omega)
      · refine r_aload_0 hK dX9_means_8 ?_
        refine r_get hK fl_X9_55 dX9_means_9 tw_obj rfl ?_
        refine r_iload_1 hK dX9_means_12 ?_
        refine r_iconstN (c := 0) hK dX9_means_13 ?_
        rw [← dz_z]
        refine t_fst hK dX9_means_14 (by omega) ?_
        first | refine r_incN_1 hK dX9_means_15 ?_ | refine r_iinc_1 hK dX9_means_15 ?_
        refine r_goto 2 hK dX9_means_18 ?_
        refine ih (k + 1) _ (by omega) (fun a ha => by rw [upA_j ha]; exact hA a ha) (fun j hj => ?_)
        by_cases cj : j = k
        · rw [cj, upA_s]
        · rw [upA_n cj]; exact hz j (by omega)
  refine r_iconstN (c := 0) hK dX9_means_0 ?_
  refine r_istore_1 hK dX9_means_1 ?_
  exact l0 49 0 A rfl (fun _ _ => rfl) (fun j hj => absurd hj (Nat.not_lt_zero _))
