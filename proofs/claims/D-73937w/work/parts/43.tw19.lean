set_option maxRecDepth 100000
/-! ===== the reference: what lines mean ===== -/
set_option maxHeartbeats 4000000 in
theorem ct_wrong {G : GT} {Rel : Nat → Hp → Hp → Prop} (hR : RelOK Rel) {n : Nat} {f0 : Hp} {F : Nat → Nat} {A X : Nat → Nat → Nat} {N k tok : Nat} {s : Nat × Nat} (hT : TP A X N) (hQ : MQr X N) (hf : F 12 = 0) (hk : 1 ≤ k ∧ k ≤ 6) (ht : tok < N) (hs : WR X N F s) : Ct G Rel yX9_wrong cX9_wrong 4 none (1) (0) [.ref 358, zI (k : Int), zI (tok : Int)] n (tw f0 F A) (Tv n f0 (fun F' A' => A' = A ∧ WR X N F' (tellS s k tok) ∧ uF F F')) := by
  refine ct_intro [some (.ref 358), some (zI (k : Int)), some (zI (tok : Int)), none] hR rfl (Nat.le_of_ble_eq_true rfl) ?_
  intro K hG hRel hK hRt hnm
  obtain ⟨t1, t2, t3, t4, t5, t6, t7, t8⟩ := hT
  obtain ⟨w1, w2, w3⟩ := hs
  have e3 := (t3 tok ht).2.1
  have b3 := t6 tok
  have tri : s.1 = 0 ∨ (s.1 ≠ 0 ∧ F 15 = X 3 s.2 ∧ X 3 s.2 ≤ 2000 ∧ (s.2 < tok ∧ X 3 s.2 < X 3 tok ∨ s.2 = tok ∧ X 3 s.2 = X 3 tok ∨ tok < s.2 ∧ X 3 tok < X 3 s.2)) := by
    by_cases c : s.1 = 0
    · exact Or.inl c
    · obtain ⟨q1, q2⟩ := w3 c
      refine Or.inr ⟨c, q1, t6 _, ?_⟩
      rcases Nat.lt_trichotomy s.2 tok with h | h | h
      · exact Or.inl ⟨h, hQ.1 _ _ h ht⟩
      · exact Or.inr (Or.inl ⟨h, by rw [h]⟩)
      · exact Or.inr (Or.inr ⟨h, hQ.1 _ _ h q2⟩)
  have stay : s.1 ≠ 0 ∧ (s.2 < tok ∨ tok = s.2 ∧ s.1 ≤ k) → WR X N F (tellS s k tok) := fun h => by unfold tellS; rw [if_pos h]; exact ⟨w1, w2, w3⟩
  have j46 : ¬ (s.1 ≠ 0 ∧ (s.2 < tok ∨ tok = s.2 ∧ s.1 ≤ k)) → Wx K 46 [some (.ref 358), some (zI (k : Int)), some (zI (tok : Int)), some (zI ((X 3 tok : Nat) : Int))] [] n (tw f0 F A) 0 := by
    intro h
    refine r_aload_0 hK dX9_wrong_46 ?_
    refine r_iload_1 hK dX9_wrong_47 ?_
    refine t_put hK fl_X9_174 dX9_wrong_48 ?_
    refine r_aload_0 hK dX9_wrong_51 ?_
    refine r_iload_3 hK dX9_wrong_52 ?_
    refine t_put hK fl_X9_177 dX9_wrong_53 ?_
    refine r_vret hK hRt dX9_wrong_56 ⟨rfl, rfl, _, _, rfl, rfl, ?_, fun j j1 j2 => by rw [upF_n j2, upF_n j1]⟩
    unfold tellS
    rw [if_neg h]
    exact ⟨by rw [upF_n (by decide), upF_s], hk.2, fun _ => ⟨by rw [upF_s], ht⟩⟩
  refine r_aload_0 hK dX9_wrong_0 ?_
  refine r_get hK fl_X9_24 dX9_wrong_1 tw_obj rfl ?_
  refine r_iload_2 hK dX9_wrong_4 ?_
  refine t_ild hK dX9_wrong_5 (show _ < 403 by omega) ?_
  rw [e3]
  refine r_istore_3 hK dX9_wrong_6 ?_
  refine r_aload_0 hK dX9_wrong_7 ?_
  refine r_get hK fl_X9_165 dX9_wrong_8 tw_obj rfl ?_
  refine r_if_gt 45 hK dX9_wrong_11 (by omega) (fun h11 => ?_) (fun h11 => ?_)
  · exact absurd h11 (by omega) --!
  · refine r_aload_0 hK dX9_wrong_14 ?_
    refine r_get hK fl_X9_174 dX9_wrong_15 tw_obj rfl ?_
    refine r_if_eq 46 hK dX9_wrong_18 (by omega) (fun h18 => ?_) (fun h18 => ?_)
    · exact j46 (by omega)
    · refine r_iload_3 hK dX9_wrong_21 ?_
      refine r_aload_0 hK dX9_wrong_22 ?_
      refine r_get hK fl_X9_177 dX9_wrong_23 tw_obj rfl ?_
      refine r_icmp_gt 45 hK dX9_wrong_26 (by omega) (by omega) (fun h26 => ?_) (fun h26 => ?_)
      · exact r_vret hK hRt dX9_wrong_45 ⟨rfl, rfl, _, _, rfl, rfl, stay (by omega), uF.rf⟩
      · refine r_iload_3 hK dX9_wrong_29 ?_
        refine r_aload_0 hK dX9_wrong_30 ?_
        refine r_get hK fl_X9_177 dX9_wrong_31 tw_obj rfl ?_
        refine r_icmp_ne 46 hK dX9_wrong_34 (by omega) (by omega) (fun h34 => ?_) (fun h34 => ?_)
        · exact j46 (by omega)
        · refine r_iload_1 hK dX9_wrong_37 ?_
          refine r_aload_0 hK dX9_wrong_38 ?_
          refine r_get hK fl_X9_174 dX9_wrong_39 tw_obj rfl ?_
          refine r_icmp_lt 46 hK dX9_wrong_42 (by omega) (by omega) (fun h42 => ?_) (fun h42 => ?_)
          · exact j46 (by omega)
          · exact r_vret hK hRt dX9_wrong_45 ⟨rfl, rfl, _, _, rfl, rfl, stay (by omega), uF.rf⟩
set_option maxHeartbeats 4000000 in
theorem ct_named {G : GT} {Rel : Nat → Hp → Hp → Prop} (hR : RelOK Rel) {n : Nat} {f0 : Hp} {F : Nat → Nat} {A X : Nat → Nat → Nat} {N tok ahead : Nat} (hT : TP A X N) (hQ : MQr X N) (ht : tok < N) (ha : ahead ≤ N) : Ct G Rel yX9_named cX9_named 5 (some .int) (1) (0) [.ref 358, zI (tok : Int), zI (ahead : Int)] n (tw f0 F A) (Pu (zI (oI (nmd X ahead (X 5 tok)))) n (tw f0 F A)) := by
  refine ct_intro [some (.ref 358), some (zI (tok : Int)), some (zI (ahead : Int)), none, none] hR rfl (Nat.le_of_ble_eq_true rfl) ?_
  intro K hG hRel hK hRt hnm
  obtain ⟨t1, t2, t3, t4, t5, t6, t7, t8⟩ := hT
  have e5 := (t3 tok ht).2.2.2
  have b5 := t8 tok
  have lp : ∀ (m k c : Nat), k + m = ahead → c ≤ k → nmd X ahead (X 5 tok) = nmdF X (X 5 tok) ahead m c → Wx K 5 [some (.ref 358), some (zI (tok : Int)), some (zI (ahead : Int)), some (zI (c : Int)), some (zI (k : Int))] [] n (tw f0 F A) 0 := by
    intro m
    induction m with
    | zero =>
      intro k c hk hc he
      refine r_iload_4 hK dX9_named_5 ?_
      refine r_iload_2 hK dX9_named_7 ?_
      refine r_icmp_ge 56 hK dX9_named_8 (by omega) (by omega) (fun h8 => ?_) (fun h8 => ?_)
      · refine r_iconst hK dX9_named_56 ?_
        exact r_iret hK hRt dX9_named_57 ⟨by rw [he]; rfl, rfl, rfl⟩
      · exact absurd h8 (by omega)
    | succ m ih =>
      intro k c hk hc he
      have e : nmdF X (X 5 tok) ahead (m + 1) c = if X 2 k = 20 then (if X 5 (k + 1) = X 5 tok then some c else nmdF X (X 5 tok) ahead m (c + 1)) else nmdF X (X 5 tok) ahead m c := by
        show (if X 2 (ahead - (m + 1)) = 20 then (if X 5 (ahead - (m + 1) + 1) = X 5 tok then _ else _) else _) = _
        rw [show ahead - (m + 1) = k by omega]
      rw [e] at he
      have e2 := (t3 k (by omega)).1
      have b2 := t5 k
      refine r_iload_4 hK dX9_named_5 ?_
      refine r_iload_2 hK dX9_named_7 ?_
      refine r_icmp_ge 56 hK dX9_named_8 (by omega) (by omega) (fun h8 => ?_) (fun h8 => ?_)
      · exact absurd h8 (by omega)
      · refine r_aload_0 hK dX9_named_11 ?_
        refine r_get hK fl_X9_20 dX9_named_12 tw_obj rfl ?_
        refine r_iload_4 hK dX9_named_15 ?_
        refine t_ild hK dX9_named_17 (show _ < 403 by omega) ?_
        rw [e2]
        refine r_bipushN (c := 20) hK dX9_named_18 ?_
        refine r_icmp_eq 26 hK dX9_named_20 (by omega) (by omega) (fun h20 => ?_) (fun h20 => ?_)
        · have hk1 := hQ.2.1 k (by omega) (by omega)
          have e5' := (t3 (k + 1) hk1).2.2.2
          have b5' := t8 (k + 1)
          refine r_aload_0 hK dX9_named_26 ?_
          refine r_get hK fl_X9_30 dX9_named_27 tw_obj rfl ?_
          refine r_iload_4 hK dX9_named_30 ?_
          refine r_iconstN (c := 1) hK dX9_named_32 ?_
          first | refine r_iaddN hK dX9_named_33 ?_ | refine r_iadd hK dX9_named_33 ?_
          refine t_lld hK dX9_named_34 (show _ < 403 by omega) ?_
          refine r_aload_0 hK dX9_named_35 ?_
          refine r_get hK fl_X9_30 dX9_named_36 tw_obj rfl ?_
          refine r_iload_1 hK dX9_named_39 ?_
          refine t_lld hK dX9_named_40 (show _ < 403 by omega) ?_
          refine r_lcmp hK dX9_named_41 ?_
          refine r_top (lcmpN (by omega) (by omega)) ?_
          rw [e5, e5']
          refine r_if_ne 47 hK dX9_named_42 (by split <;> (try split) <;> decide) (fun h42 => ?_) (fun h42 => ?_)
          · have hne : ¬ X 5 (k + 1) = X 5 tok := fun q => by rw [if_pos q] at h42; exact h42 rfl
            first | refine r_incN_3 hK dX9_named_47 ?_ | refine r_iinc_3 hK dX9_named_47 ?_
            first | refine r_incN_4 hK dX9_named_50 ?_ | refine r_iinc_4 hK dX9_named_50 ?_
            refine r_goto 5 hK dX9_named_53 ?_
            exact ih (k + 1) _ (by omega) (by omega) (by rw [he, if_pos (by omega), if_neg hne])
          · have heq : X 5 (k + 1) = X 5 tok := by
              by_cases q : X 5 (k + 1) = X 5 tok
              · exact q
              · rw [if_neg q] at h42; split at h42 <;> exact absurd h42 (by decide)
            refine r_iload_3 hK dX9_named_45 ?_
            exact r_iret hK hRt dX9_named_46 ⟨by rw [he, if_pos (by omega), if_pos heq]; rfl, rfl, rfl⟩
        · refine r_goto 50 hK dX9_named_23 ?_
          first | refine r_incN_4 hK dX9_named_50 ?_ | refine r_iinc_4 hK dX9_named_50 ?_
          refine r_goto 5 hK dX9_named_53 ?_
          exact ih (k + 1) _ (by omega) (by omega) (by rw [he, if_neg (by omega)])
  refine r_iconstN (c := 0) hK dX9_named_0 ?_
  refine r_istore_3 hK dX9_named_1 ?_
  refine r_iconstN (c := 0) hK dX9_named_2 ?_
  refine r_istore_4 hK dX9_named_3 ?_
  exact lp ahead 0 0 (by omega) (Nat.le_refl _) rfl
theorem oI_r {o : Option Nat} (h : ∀ c, o = some c → c < 4) : inR (oI o) ∧ (oI o < 0 ↔ o = none) := by
  cases o with
  | none => exact ⟨⟨by decide, by decide⟩, ⟨fun _ => rfl, fun _ => by decide⟩⟩
  | some c =>
    have := h c rfl
    refine ⟨⟨?_, ?_⟩, ⟨fun q => ?_, fun q => by cases q⟩⟩
    · show -2147483648 ≤ (c : Int); omega
    · show (c : Int) < 2147483648; omega
    · exact absurd (show (c : Int) < 0 from q) (by omega)
set_option maxHeartbeats 4000000 in
theorem ct_meansGate {G : GT} {Rel : Nat → Hp → Hp → Prop} (hR : RelOK Rel) {n : Nat} {f0 : Hp} {F : Nat → Nat} {A X : Nat → Nat → Nat} {N k e g : Nat} {s : Nat × Nat} (hT : TP A X N) (hQ : MQr X N) (hN : F 10 = N) (hf : F 12 = 0) (hl : lnOK X N 21 k e) (hg : A 12 0 = g) (hg16 : g < 16) (hz1 : A 12 (17 + g) = 0) (hz2 : A 12 (33 + g) = 0) (hs : WR X N F s) : Ct G Rel yX9_meansGate cX9_meansGate 6 none (2) (0) [.ref 358, zI (k : Int)] n (tw f0 F A) (Tv n f0 (fun F' A' => WR X N F' (gsT X N k s (e - (k + 1))).1 ∧ uF F F' ∧ (∀ a, a ≠ 12 → A' a = A a) ∧ A' 12 0 = g + 1 ∧ ge (A' 12) g = (gsT X N k s (e - (k + 1))).2 ∧ ∀ j, j ≠ 0 → j ≠ 1 + g → j ≠ 17 + g → j ≠ 33 + g → A' 12 j = A 12 j)) := by
  refine ct_intro [some (.ref 358), some (zI (k : Int)), none, none, none, none] hR rfl (Nat.le_of_ble_eq_true rfl) ?_
  intro K hG hRel hK hRt hnm
  obtain ⟨t1, t2, t3, t4, t5, t6, t7, t8⟩ := id hT
  obtain ⟨l1, l2, l3, l4, l5, l6, l7, l8, l9⟩ := hl
  obtain ⟨m1, m2, m3⟩ := l7 rfl
  have hcl := gsT_lt (s0 := s) (k := k) hQ.2.2
  have lp : ∀ (d c : Nat) (F1 : Nat → Nat) (A1 : Nat → Nat → Nat) a5, nl a5 = true → k + 1 + c + d = e → WR X N F1 (gsT X N k s c).1 → uF F F1 → (∀ a, a ≠ 12 → A1 a = A a) → A1 12 0 = g → (c ≠ 0 → A1 12 (1 + g) = (gsT X N k s c).2.1) → A1 12 (17 + g) = (gsT X N k s c).2.2.1 → A1 12 (33 + g) = (gsT X N k s c).2.2.2 → (∀ j, j ≠ 0 → j ≠ 1 + g → j ≠ 17 + g → j ≠ 33 + g → A1 12 j = A 12 j) → Wx K 14 [some (.ref 358), some (zI (k : Int)), some (zI (g : Int)), some (zI ((if X 2 (k + c) = 5 then 1 else 0 : Nat) : Int)), some (zI ((k + 1 + c : Nat) : Int)), a5] [] n (tw f0 F1 A1) 0 := by
    intro d
    induction d with
    | zero =>
      intro c F1 A1 a5 hnl hc hW hu hA h0 h1 h2 h3 h4
      have hcne : c ≠ 0 := by omega
      have ee : e - (k + 1) = c := by omega
      have q2 : A1 2 (k + 1 + c) = X 2 (k + 1 + c) := by rw [hA 2 (by decide)]; exact (t3 _ (by omega)).1
      have q4 : X 2 (k + 1 + c) = 4 := by rw [show k + 1 + c = e by omega]; exact l5
      refine r_aload_0 hK dX9_meansGate_14 ?_
      refine r_get hK fl_X9_20 dX9_meansGate_15 tw_obj rfl ?_
      refine r_iload_4 hK dX9_meansGate_18 ?_
      refine t_ild hK dX9_meansGate_20 (show _ < 403 by omega) ?_
      rw [q2, q4]
      refine r_iconstN (c := 4) hK dX9_meansGate_21 ?_
      refine r_icmp_eq 178 hK dX9_meansGate_22 (by omega) (by omega) (fun h22 => ?_) (fun h22 => ?_)
      · refine r_aload_0 hK dX9_meansGate_178 ?_
        refine r_get hK fl_X9_55 dX9_meansGate_179 tw_obj rfl ?_
        refine r_iconstN (c := 0) hK dX9_meansGate_182 ?_
        refine r_dup2 hK dX9_meansGate_183 ?_
        refine t_fld hK dX9_meansGate_184 (by omega) ?_
        rw [h0, dz_n (show g < 999999999 by omega)]
        refine r_iconstN (c := 1) hK dX9_meansGate_185 ?_
        first | refine r_iaddN hK dX9_meansGate_186 ?_ | refine r_iadd hK dX9_meansGate_186 ?_
        rw [← dz_n (show g + 1 < 999999999 by omega)]
        refine t_fst hK dX9_meansGate_187 (by omega) ?_
        refine r_vret hK hRt dX9_meansGate_188 ⟨rfl, rfl, _, _, rfl, by rw [ee]; exact hW, hu, fun a ha => by rw [upA_j ha]; exact hA a ha, by rw [upA_s], ?_, fun j j1 j2 j3 j4 => by rw [upA_n j1]; exact h4 j j1 j2 j3 j4⟩
        rw [ee]
        unfold ge
        rw [upA_n (by omega), upA_n (by omega), upA_n (by omega), h1 hcne, h2, h3]
      · exact absurd rfl h22 --!
    | succ d ih =>
      intro c F1 A1 a5 hnl hc hW hu hA h0 h1 h2 h3 h4
      obtain ⟨i, hi⟩ : ∃ i, i = k + 1 + c := ⟨_, rfl⟩
      have q2 : ∀ j, j < N → A1 2 j = X 2 j := fun j hj => by rw [hA 2 (by decide)]; exact (t3 _ hj).1
      have q5 : ∀ j, j < N → A1 5 j = X 5 j := fun j hj => by rw [hA 5 (by decide)]; exact (t3 _ hj).2.2.2
      have hTA : TP A1 X N := ⟨t1, t2, fun j hj => by rw [hA 2 (by decide), hA 3 (by decide), hA 4 (by decide), hA 5 (by decide)]; exact t3 j hj, t4, t5, t6, t7, t8⟩
      have hiN : i < N := by omega
      have hm3 := m3 i (by omega) (by omega)
      have b5i := t8 i
      have fN : F1 10 = N := by rw [hu 10 (by decide) (by decide)]; exact hN
      have e1 : gsT X N k s (c + 1) = if X 2 i = 5 then gsT X N k s c else (gtW X N k i (gsT X N k s c).1,
        if c = 0 then (nmd X N (X 5 i)).getD 999999999 else (gsT X N k s c).2.1,
        if c = 0 ∨ X 2 (k + c) = 5 then (gsT X N k s c).2.2.1 else orO (gsT X N k s c).2.2.1 (nmd X N (X 5 i)),
        if c = 0 ∨ X 2 (k + c) ≠ 5 then (gsT X N k s c).2.2.2 else orO (gsT X N k s c).2.2.2 (nmd X N (X 5 i))) := by rw [hi]; rfl
      have hk5 : ¬ X 2 k = 5 := by omega
      -- behind the gate's array
      have j170 : X 2 i ≠ 5 → ∀ (F2 : Nat → Nat) (A2 : Nat → Nat → Nat) (z5 z3 : Int), WR X N F2 (gsT X N k s (c + 1)).1 → uF F F2 → (∀ a, a ≠ 12 → A2 a = A a) → A2 12 0 = g → A2 12 (1 + g) = (gsT X N k s (c + 1)).2.1 → A2 12 (17 + g) = (gsT X N k s (c + 1)).2.2.1 → A2 12 (33 + g) = (gsT X N k s (c + 1)).2.2.2 → (∀ j, j ≠ 0 → j ≠ 1 + g → j ≠ 17 + g → j ≠ 33 + g → A2 12 j = A 12 j) → Wx K 170 [some (.ref 358), some (zI (k : Int)), some (zI (g : Int)), some (zI z3), some (zI (i : Int)), some (zI z5)] [] n (tw f0 F2 A2) 0 := by
        intro hx F2 A2 z5 z3 hW2 hu2 hA2 g0 g1 g2 g3 g4
        refine r_iconstN (c := 0) hK dX9_meansGate_170 ?_
        refine r_istore_3 hK dX9_meansGate_171 ?_
        first | refine r_incN_4 hK dX9_meansGate_172 ?_ | refine r_iinc_4 hK dX9_meansGate_172 ?_
        refine r_goto 14 hK dX9_meansGate_175 ?_
        have := ih (c + 1) F2 A2 (some (zI z5)) rfl (by omega) hW2 hu2 hA2 g0 (fun _ => g1) g2 g3 g4
        rw [show k + (c + 1) = i by omega, if_neg hx, show k + 1 + (c + 1) = i + 1 by omega] at this
        exact this
      have j119 : X 2 i ≠ 5 → ∀ (F2 : Nat → Nat), WR X N F2 (gtW X N k i (gsT X N k s c).1) → uF F F2 → Wx K 119 [some (.ref 358), some (zI (k : Int)), some (zI (g : Int)), some (zI ((if X 2 (k + c) = 5 then 1 else 0 : Nat) : Int)), some (zI (i : Int)), some (zI (oI (nmd X N (X 5 i))))] [] n (tw f0 F2 A1) 0 := by
        intro hx F2 hW2 hu2
        rw [if_neg hx] at e1
        have o1 := oI_r (hQ.2.2 (X 5 i))
        have hlt := hcl c
        by_cases c0 : c = 0
        · have e1' : gsT X N k s (c + 1) = (gtW X N k i (gsT X N k s c).1, (nmd X N (X 5 i)).getD 999999999, (gsT X N k s c).2.2.1, (gsT X N k s c).2.2.2) := by rw [e1, if_pos c0, if_pos (Or.inl c0), if_pos (Or.inl c0)]
          refine r_iload_4 hK dX9_meansGate_119 ?_
          refine r_iload_1 hK dX9_meansGate_121 ?_
          refine r_iconstN (c := 1) hK dX9_meansGate_122 ?_
          first | refine r_iaddN hK dX9_meansGate_123 ?_ | refine r_iadd hK dX9_meansGate_123 ?_
          refine r_icmp_ne 140 hK dX9_meansGate_124 (by omega) (by omega) (fun h124 => ?_) (fun h124 => ?_)
          · exact absurd h124 (by omega) --!
          · refine r_aload_0 hK dX9_meansGate_127 ?_
            refine r_get hK fl_X9_55 dX9_meansGate_128 tw_obj rfl ?_
            refine r_iconstN (c := 1) hK dX9_meansGate_131 ?_
            refine r_iload_2 hK dX9_meansGate_132 ?_
            first | refine r_iaddN hK dX9_meansGate_133 ?_ | refine r_iadd hK dX9_meansGate_133 ?_
            refine r_iload_5 hK dX9_meansGate_134 ?_
            rw [← dz_oI _ (hQ.2.2 (X 5 i))]
            refine t_fst hK dX9_meansGate_136 (by omega) ?_
            refine r_goto 170 hK dX9_meansGate_137 ?_
            rw [dz_oI _ (hQ.2.2 (X 5 i))]
            exact j170 hx F2 _ _ _ (by rw [e1']; exact hW2) hu2 (fun a ha => by rw [upA_j ha]; exact hA a ha) (by rw [upA_n (by omega)]; exact h0) (by rw [upA_s, e1']) (by rw [upA_n (by omega), h2, e1']) (by rw [upA_n (by omega), h3, e1']) (fun j a1 a2 a3 a4 => by rw [upA_n a2]; exact h4 j a1 a2 a3 a4)
        · cases ho : nmd X N (X 5 i) with
          | none =>
            have e1' : gsT X N k s (c + 1) = (gtW X N k i (gsT X N k s c).1, (gsT X N k s c).2.1, (gsT X N k s c).2.2.1, (gsT X N k s c).2.2.2) := by
              rw [e1, if_neg c0, ho]
              congr 2
              congr 1
              · exact ite_self _
              · exact ite_self _
            refine r_iload_4 hK dX9_meansGate_119 ?_
            refine r_iload_1 hK dX9_meansGate_121 ?_
            refine r_iconstN (c := 1) hK dX9_meansGate_122 ?_
            first | refine r_iaddN hK dX9_meansGate_123 ?_ | refine r_iadd hK dX9_meansGate_123 ?_
            refine r_icmp_ne 140 hK dX9_meansGate_124 (by omega) (by omega) (fun h124 => ?_) (fun h124 => ?_)
            · refine r_iload_5 hK dX9_meansGate_140 ?_
              refine r_if_lt 170 hK dX9_meansGate_142 (by show inR (-1); exact ⟨by decide, by decide⟩) (fun h142 => ?_) (fun h142 => ?_)
              · exact j170 hx F2 A1 _ _ (by rw [e1']; exact hW2) hu2 hA h0 (by rw [h1 c0, e1']) (by rw [h2, e1']) (by rw [h3, e1']) h4
              · exact absurd (show (0 : Int) ≤ -1 from h142) (by decide) --!
            · exact absurd h124 (by omega) --!
          | some w =>
            have hw4 := hQ.2.2 _ _ ho
            rw [ho] at e1
            show Wx K 119 [some (.ref 358), some (zI (k : Int)), some (zI (g : Int)), some (zI ((if X 2 (k + c) = 5 then 1 else 0 : Nat) : Int)), some (zI (i : Int)), some (zI (w : Int))] [] n (tw f0 F2 A1) 0
            by_cases c5 : X 2 (k + c) = 5
            · rw [if_neg c0, if_pos (Or.inr c5), if_neg (by omega)] at e1
              rw [if_pos c5]
              have hor : orO (gsT X N k s c).2.2.2 (some w) = (gsT X N k s c).2.2.2 ||| (1 <<< w) := rfl
              refine r_iload_4 hK dX9_meansGate_119 ?_
              refine r_iload_1 hK dX9_meansGate_121 ?_
              refine r_iconstN (c := 1) hK dX9_meansGate_122 ?_
              first | refine r_iaddN hK dX9_meansGate_123 ?_ | refine r_iadd hK dX9_meansGate_123 ?_
              refine r_icmp_ne 140 hK dX9_meansGate_124 (by omega) (by omega) (fun h124 => ?_) (fun h124 => ?_)
              · refine r_iload_5 hK dX9_meansGate_140 ?_
                refine r_if_lt 170 hK dX9_meansGate_142 (by omega) (fun h142 => ?_) (fun h142 => ?_)
                · exact absurd h142 (by omega) --!
                · refine r_aload_0 hK dX9_meansGate_145 ?_
                  refine r_get hK fl_X9_55 dX9_meansGate_146 tw_obj rfl ?_
                  refine r_iload_3 hK dX9_meansGate_149 ?_
                  refine r_if_eq 158 hK dX9_meansGate_150 (by omega) (fun h150 => ?_) (fun h150 => ?_)
                  · exact absurd h150 (by omega) --!
                  · refine r_bipushN (c := 33) hK dX9_meansGate_153 ?_
                    refine r_goto 160 hK dX9_meansGate_155 ?_
                    refine r_iload_2 hK dX9_meansGate_160 ?_
                    first | refine r_iaddN hK dX9_meansGate_161 ?_ | refine r_iadd hK dX9_meansGate_161 ?_
                    refine r_dup2 hK dX9_meansGate_162 ?_
                    refine t_fld hK dX9_meansGate_163 (by omega) ?_
                    rw [h3, dz_n (show (gsT X N k s c).2.2.2 < 999999999 by omega)]
                    refine r_iconstN (c := 1) hK dX9_meansGate_164 ?_
                    refine r_iload_5 hK dX9_meansGate_165 ?_
                    refine r_ishl hK dX9_meansGate_167 (by omega) (by first | exact sh1 (by omega) | omega) ?_
                    refine r_ior hK dX9_meansGate_168 ?_
                    rw [← hor, ← dz_n (show orO (gsT X N k s c).2.2.2 (some w) < 999999999 by have := orO_lt (o := some w) hlt.2 (fun c hc => by cases hc; exact hw4); omega)]
                    refine t_fst hK dX9_meansGate_169 (by omega) ?_
                    exact j170 hx F2 _ _ _ (by rw [e1]; exact hW2) hu2 (fun a ha => by rw [upA_j ha]; exact hA a ha) (by rw [upA_n (by omega)]; exact h0) (by rw [upA_n (by omega), h1 c0, e1]) (by rw [upA_n (by omega), h2, e1]) (by rw [upA_s, e1]) (fun j a1 a2 a3 a4 => by rw [upA_n a4]; exact h4 j a1 a2 a3 a4)
              · exact absurd h124 (by omega) --!
            · rw [if_neg c0, if_neg (by omega), if_pos (Or.inr c5)] at e1
              rw [if_neg c5]
              have hor : orO (gsT X N k s c).2.2.1 (some w) = (gsT X N k s c).2.2.1 ||| (1 <<< w) := rfl
              refine r_iload_4 hK dX9_meansGate_119 ?_
              refine r_iload_1 hK dX9_meansGate_121 ?_
              refine r_iconstN (c := 1) hK dX9_meansGate_122 ?_
              first | refine r_iaddN hK dX9_meansGate_123 ?_ | refine r_iadd hK dX9_meansGate_123 ?_
              refine r_icmp_ne 140 hK dX9_meansGate_124 (by omega) (by omega) (fun h124 => ?_) (fun h124 => ?_)
              · refine r_iload_5 hK dX9_meansGate_140 ?_
                refine r_if_lt 170 hK dX9_meansGate_142 (by omega) (fun h142 => ?_) (fun h142 => ?_)
                · exact absurd h142 (by omega) --!
                · refine r_aload_0 hK dX9_meansGate_145 ?_
                  refine r_get hK fl_X9_55 dX9_meansGate_146 tw_obj rfl ?_
                  refine r_iload_3 hK dX9_meansGate_149 ?_
                  refine r_if_eq 158 hK dX9_meansGate_150 (by omega) (fun h150 => ?_) (fun h150 => ?_)
                  · refine r_bipushN (c := 17) hK dX9_meansGate_158 ?_
                    refine r_iload_2 hK dX9_meansGate_160 ?_
                    first | refine r_iaddN hK dX9_meansGate_161 ?_ | refine r_iadd hK dX9_meansGate_161 ?_
                    refine r_dup2 hK dX9_meansGate_162 ?_
                    refine t_fld hK dX9_meansGate_163 (by omega) ?_
                    rw [h2, dz_n (show (gsT X N k s c).2.2.1 < 999999999 by omega)]
                    refine r_iconstN (c := 1) hK dX9_meansGate_164 ?_
                    refine r_iload_5 hK dX9_meansGate_165 ?_
                    refine r_ishl hK dX9_meansGate_167 (by omega) (by first | exact sh1 (by omega) | omega) ?_
                    refine r_ior hK dX9_meansGate_168 ?_
                    rw [← hor, ← dz_n (show orO (gsT X N k s c).2.2.1 (some w) < 999999999 by have := orO_lt (o := some w) hlt.1 (fun c hc => by cases hc; exact hw4); omega)]
                    refine t_fst hK dX9_meansGate_169 (by omega) ?_
                    exact j170 hx F2 _ _ _ (by rw [e1]; exact hW2) hu2 (fun a ha => by rw [upA_j ha]; exact hA a ha) (by rw [upA_n (by omega)]; exact h0) (by rw [upA_n (by omega), h1 c0, e1]) (by rw [upA_s, e1]) (by rw [upA_n (by omega), h3, e1]) (fun j a1 a2 a3 a4 => by rw [upA_n a3]; exact h4 j a1 a2 a3 a4)
                  · exact absurd rfl h150 --!
              · exact absurd h124 (by omega) --!
      have j95 : X 2 i ≠ 5 → ∀ (F2 : Nat → Nat) a5, WR X N F2 (dpF X k i (gsT X N k s c).1 (i - (k + 1))) → uF F F2 → Wx K 95 [some (.ref 358), some (zI (k : Int)), some (zI (g : Int)), some (zI ((if X 2 (k + c) = 5 then 1 else 0 : Nat) : Int)), some (zI (i : Int)), a5] [] n (tw f0 F2 A1) 0 := by
        intro hx F2 a5 hW2 hu2
        have f2N : F2 10 = N := by rw [hu2 10 (by decide) (by decide)]; exact hN
        have f2f : F2 12 = 0 := by rw [hu2 12 (by decide) (by decide)]; exact hf
        have o1 := oI_r (hQ.2.2 (X 5 i))
        refine r_aload_0 hK dX9_meansGate_95 ?_
        refine r_iload_4 hK dX9_meansGate_96 ?_
        refine r_aload_0 hK dX9_meansGate_98 ?_
        refine r_get hK fl_X9_143 dX9_meansGate_99 tw_obj rfl ?_
        rw [f2N]
        refine r_pV2 hK (ct_named hK.rel hTA hQ hiN (Nat.le_refl _)) lk_X9_227 (tw_rcv hK) dX9_meansGate_102 ?_
        refine r_istore_5 hK dX9_meansGate_105 ?_
        refine r_iload_5 hK dX9_meansGate_107 ?_
        refine r_if_ge 119 hK dX9_meansGate_109 o1.1 (fun h109 => ?_) (fun h109 => ?_)
        · refine j119 hx F2 ?_ hu2
          unfold gtW
          cases ho : nmd X N (X 5 i) with
          | none => rw [ho] at h109; exact absurd (show (0 : Int) ≤ -1 from h109) (by decide)
          | some w => exact hW2
        · refine r_aload_0 hK dX9_meansGate_112 ?_
          refine r_iconstN (c := 4) hK dX9_meansGate_113 ?_
          refine r_iload_4 hK dX9_meansGate_114 ?_
          refine r_tvV2 hK (ct_wrong hK.rel hTA hQ f2f (by omega) hiN hW2) lk_X9_230 (tw_rcv hK) dX9_meansGate_116 (fun F3 A3 h5 => ?_)
          obtain ⟨ea, w3, u3⟩ := h5
          subst A3
          refine j119 hx F3 ?_ (hu2.t u3)
          unfold gtW
          rw [o1.2.mp (by omega)]
          exact w3
      have dl : X 2 i ≠ 5 → ∀ (d2 j : Nat) (F2 : Nat → Nat), k + 1 + j + d2 = i → WR X N F2 (dpF X k i (gsT X N k s c).1 j) → uF F F2 → Wx K 46 [some (.ref 358), some (zI (k : Int)), some (zI (g : Int)), some (zI ((if X 2 (k + c) = 5 then 1 else 0 : Nat) : Int)), some (zI (i : Int)), some (zI ((k + 1 + j : Nat) : Int))] [] n (tw f0 F2 A1) 0 := by
        intro hx d2
        induction d2 with
        | zero =>
          intro j F2 hj hW2 hu2
          refine r_iload_5 hK dX9_meansGate_46 ?_
          refine r_iload_4 hK dX9_meansGate_48 ?_
          refine r_icmp_ge 95 hK dX9_meansGate_50 (by omega) (by omega) (fun h50 => ?_) (fun h50 => ?_)
          · exact j95 hx F2 _ (by rw [show i - (k + 1) = j by omega]; exact hW2) hu2
          · exact absurd h50 (by omega)
        | succ d2 ih2 =>
          intro j F2 hj hW2 hu2
          obtain ⟨y, hy⟩ : ∃ y, y = k + 1 + j := ⟨_, rfl⟩
          have e3 : dpF X k i (gsT X N k s c).1 (j + 1) = if X 2 y = 1 ∧ X 5 y = X 5 i then tellS (dpF X k i (gsT X N k s c).1 j) 3 i else dpF X k i (gsT X N k s c).1 j := by rw [hy]; rfl
          have y2 := q2 y (by omega)
          have y5 := q5 y (by omega)
          have i5 := q5 i hiN
          have by2 := t5 y
          have by5 := t8 y
          have f2f : F2 12 = 0 := by rw [hu2 12 (by decide) (by decide)]; exact hf
          have nx : ∀ F3, WR X N F3 (dpF X k i (gsT X N k s c).1 (j + 1)) → uF F F3 → Wx K 89 [some (.ref 358), some (zI (k : Int)), some (zI (g : Int)), some (zI ((if X 2 (k + c) = 5 then 1 else 0 : Nat) : Int)), some (zI (i : Int)), some (zI (y : Int))] [] n (tw f0 F3 A1) 0 := by
            intro F3 hW3 hu3
            first | refine r_incN_5 hK dX9_meansGate_89 ?_ | refine r_iinc_5 hK dX9_meansGate_89 ?_
            refine r_goto 46 hK dX9_meansGate_92 ?_
            have := ih2 (j + 1) F3 (by omega) hW3 hu3
            rw [show k + 1 + (j + 1) = y + 1 by omega] at this
            exact this
          rw [← hy]
          refine r_iload_5 hK dX9_meansGate_46 ?_
          refine r_iload_4 hK dX9_meansGate_48 ?_
          refine r_icmp_ge 95 hK dX9_meansGate_50 (by omega) (by omega) (fun h50 => ?_) (fun h50 => ?_)
          · exact absurd h50 (by omega)
          · refine r_aload_0 hK dX9_meansGate_53 ?_
            refine r_get hK fl_X9_20 dX9_meansGate_54 tw_obj rfl ?_
            refine r_iload_5 hK dX9_meansGate_57 ?_
            refine t_ild hK dX9_meansGate_59 (show _ < 403 by omega) ?_
            rw [y2]
            refine r_iconstN (c := 1) hK dX9_meansGate_60 ?_
            refine r_icmp_ne 89 hK dX9_meansGate_61 (by omega) (by omega) (fun h61 => ?_) (fun h61 => ?_)
            · exact nx F2 (by rw [e3, if_neg (by omega)]; exact hW2) hu2 --!
            · refine r_aload_0 hK dX9_meansGate_64 ?_
              refine r_get hK fl_X9_30 dX9_meansGate_65 tw_obj rfl ?_
              refine r_iload_5 hK dX9_meansGate_68 ?_
              refine t_lld hK dX9_meansGate_70 (show _ < 403 by omega) ?_
              refine r_aload_0 hK dX9_meansGate_71 ?_
              refine r_get hK fl_X9_30 dX9_meansGate_72 tw_obj rfl ?_
              refine r_iload_4 hK dX9_meansGate_75 ?_
              refine t_lld hK dX9_meansGate_77 (show _ < 403 by omega) ?_
              refine r_lcmp hK dX9_meansGate_78 ?_
              refine r_top (lcmpN (by omega) (by omega)) ?_
              rw [y5, i5]
              refine r_if_ne 89 hK dX9_meansGate_79 (by split <;> (try split) <;> decide) (fun h79 => ?_) (fun h79 => ?_)
              · have hne : ¬ X 5 y = X 5 i := fun q => by rw [if_pos q] at h79; exact h79 rfl
                exact nx F2 (by rw [e3, if_neg (by omega)]; exact hW2) hu2 --!
              · have heq : X 5 y = X 5 i := by
                  by_cases q : X 5 y = X 5 i
                  · exact q
                  · rw [if_neg q] at h79; split at h79 <;> exact absurd h79 (by decide)
                refine r_aload_0 hK dX9_meansGate_82 ?_
                refine r_iconstN (c := 3) hK dX9_meansGate_83 ?_
                refine r_iload_4 hK dX9_meansGate_84 ?_
                refine r_tvV2 hK (ct_wrong hK.rel hTA hQ f2f (by omega) hiN hW2) lk_X9_230 (tw_rcv hK) dX9_meansGate_86 (fun F3 A3 h5 => ?_)
                obtain ⟨ea, w3, u3⟩ := h5
                subst A3
                exact nx F3 (by rw [e3, if_pos (by omega)]; exact w3) (hu2.t u3)
      rw [← hi]
      refine r_aload_0 hK dX9_meansGate_14 ?_
      refine r_get hK fl_X9_20 dX9_meansGate_15 tw_obj rfl ?_
      refine r_iload_4 hK dX9_meansGate_18 ?_
      refine t_ild hK dX9_meansGate_20 (show _ < 403 by omega) ?_
      rw [q2 i hiN]
      refine r_iconstN (c := 4) hK dX9_meansGate_21 ?_
      refine r_icmp_eq 178 hK dX9_meansGate_22 (by omega) (by omega) (fun h22 => ?_) (fun h22 => ?_)
      · exact absurd h22 (by omega) --!
      · refine r_aload_0 hK dX9_meansGate_25 ?_
        refine r_get hK fl_X9_20 dX9_meansGate_26 tw_obj rfl ?_
        refine r_iload_4 hK dX9_meansGate_29 ?_
        refine t_ild hK dX9_meansGate_31 (show _ < 403 by omega) ?_
        rw [q2 i hiN]
        refine r_iconstN (c := 5) hK dX9_meansGate_32 ?_
        refine r_icmp_ne 41 hK dX9_meansGate_33 (by omega) (by omega) (fun h33 => ?_) (fun h33 => ?_)
        · refine r_iload_1 hK dX9_meansGate_41 ?_
          refine r_iconstN (c := 1) hK dX9_meansGate_42 ?_
          first | refine r_iaddN hK dX9_meansGate_43 ?_ | refine r_iadd hK dX9_meansGate_43 ?_
          refine r_istore_5 hK dX9_meansGate_44 ?_
          have := dl (by omega) c 0 F1 (by omega) hW hu
          exact this
        · refine r_iconstN (c := 1) hK dX9_meansGate_36 ?_
          refine r_istore_3 hK dX9_meansGate_37 ?_
          refine r_goto 172 hK dX9_meansGate_38 ?_
          rw [if_pos (by omega)] at e1
          first | refine r_incN_4 hK dX9_meansGate_172 ?_ | refine r_iinc_4 hK dX9_meansGate_172 ?_
          refine r_goto 14 hK dX9_meansGate_175 ?_
          have := ih (c + 1) F1 A1 a5 hnl (by omega) (by rw [e1]; exact hW) hu hA h0 (fun _ => ?_) (by rw [e1]; exact h2) (by rw [e1]; exact h3) h4
          · rw [show k + (c + 1) = i by omega, if_pos (by omega), show k + 1 + (c + 1) = i + 1 by omega] at this
            exact this
          · rw [e1]
            by_cases c0 : c = 0
            · rw [c0] at hi; have : X 2 i = 1 := (by rw [hi]; exact m2)
              omega
            · exact h1 c0
  have hk5 : ¬ X 2 k = 5 := by omega
  refine r_aload_0 hK dX9_meansGate_0 ?_
  refine r_get hK fl_X9_55 dX9_meansGate_1 tw_obj rfl ?_
  refine r_iconstN (c := 0) hK dX9_meansGate_4 ?_
  refine t_fld hK dX9_meansGate_5 (by omega) ?_
  rw [hg, dz_n (show g < 999999999 by omega)]
  refine r_istore_2 hK dX9_meansGate_6 ?_
  refine r_iconstN (c := 0) hK dX9_meansGate_7 ?_
  refine r_istore_3 hK dX9_meansGate_8 ?_
  refine r_iload_1 hK dX9_meansGate_9 ?_
  refine r_iconstN (c := 1) hK dX9_meansGate_10 ?_
  first | refine r_iaddN hK dX9_meansGate_11 ?_ | refine r_iadd hK dX9_meansGate_11 ?_
  refine r_istore_4 hK dX9_meansGate_12 ?_
  have := lp (e - (k + 1)) 0 F A none rfl (by omega) hs uF.rf (fun _ _ => rfl) hg (fun h => absurd rfl h) hz1 hz2 (fun _ _ _ _ _ => rfl)
  rw [show k + 0 = k from rfl, if_neg hk5] at this
  exact this
