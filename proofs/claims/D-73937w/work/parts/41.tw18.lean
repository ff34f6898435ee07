set_option maxRecDepth 100000
/-! ===== the reference: lines of a text ===== -/
set_option maxHeartbeats 4000000 in
theorem ct_is {G : GT} {Rel : Nat → Hp → Hp → Prop} (hR : RelOK Rel) {n : Nat} {f0 : Hp} {F : Nat → Nat} {A : Nat → Nat → Nat} {k : Nat} (hf : F 12 < 100) (ht : F 11 < 401) (hk : A 2 (F 11) < 100) (hk2 : k < 100) : Ct G Rel yX9_is cX9_is 2 (some .boolean) (1) (0) [.ref 358, zI (k : Int)] n (tw f0 F A) (Pu (zB (F 12 = 0 ∧ A 2 (F 11) = k)) n (tw f0 F A)) := by
  refine ct_intro [some (.ref 358), some (zI (k : Int))] hR rfl (Nat.le_of_ble_eq_true rfl) ?_
  intro K hG hRel hK hRt hnm
  refine r_aload_0 hK dX9_is_0 ?_
  refine r_get hK fl_X9_165 dX9_is_1 tw_obj rfl ?_
  refine r_if_ne 24 hK dX9_is_4 (by omega) (fun h4 => ?_) (fun h4 => ?_)
  · refine r_iconstN (c := 0) hK dX9_is_24 ?_
    exact r_zret hK hRt dX9_is_25 rfl ⟨by rw [zB_f (by omega)]; rfl, rfl, rfl⟩
  · refine r_aload_0 hK dX9_is_7 ?_
    refine r_get hK fl_X9_20 dX9_is_8 tw_obj rfl ?_
    refine r_aload_0 hK dX9_is_11 ?_
    refine r_get hK fl_X9_168 dX9_is_12 tw_obj rfl ?_
    refine t_ild hK dX9_is_15 (show _ < 403 by omega) ?_
    refine r_iload_1 hK dX9_is_16 ?_
    refine r_icmp_ne 24 hK dX9_is_17 (by omega) (by omega) (fun h17 => ?_) (fun h17 => ?_)
    · refine r_iconstN (c := 0) hK dX9_is_24 ?_
      exact r_zret hK hRt dX9_is_25 rfl ⟨by rw [zB_f (by omega)]; rfl, rfl, rfl⟩
    · refine r_iconstN (c := 1) hK dX9_is_20 ?_
      refine r_goto 25 hK dX9_is_21 ?_
      exact r_zret hK hRt dX9_is_25 rfl ⟨by rw [zB_t (by omega)]; rfl, rfl, rfl⟩
theorem St.f {N : Nat} {F0 F : Nat → Nat} {r : PR} (h : St N F0 r F) : F 12 < 100 := by
  cases r with
  | inl e => have := h.2.2.1; have := h.2.2.2.1.2; omega
  | inr t => have := h.2.2.1; omega
theorem St.inl {N : Nat} {F0 F : Nat → Nat} {e : Nat × Nat} (h : St N F0 (.inl e) F) : 1 ≤ F 12 := by have := h.2.2.1; have := h.2.2.2.1.1; omega
theorem St.inr {N : Nat} {F0 F : Nat → Nat} {t : Nat} (h : St N F0 (.inr t) F) : F 12 = 0 ∧ F 11 = t ∧ t < N := ⟨h.2.2.1, h.2.2.2, by have := h.2.1; have := h.2.2.2; omega⟩
/-- whether a token of kind k is next -/
def isK (X : Nat → Nat → Nat) (k : Nat) (r : PR) : Bool := match r with
  | .inl _ => false
  | .inr t => decide (X 2 t = k)
theorem isK_l {X : Nat → Nat → Nat} {k : Nat} {e : Nat × Nat} : ¬ isK X k (.inl e) = true := fun h => Bool.noConfusion h
theorem isK_r {X : Nat → Nat → Nat} {k t : Nat} : isK X k (.inr t) = true ↔ X 2 t = k := decide_eq_true_iff
set_option maxHeartbeats 4000000 in
theorem ct_isS {G : GT} {Rel : Nat → Hp → Hp → Prop} (hR : RelOK Rel) {n : Nat} {f0 : Hp} {F F0 : Nat → Nat} {A X : Nat → Nat → Nat} {k N : Nat} {r : PR} (hT : TP A X N) (hS : St N F0 r F) (hk2 : k < 100) : Ct G Rel yX9_is cX9_is 2 (some .boolean) (1) (0) [.ref 358, zI (k : Int)] n (tw f0 F A) (Pu (zB (isK X k r = true)) n (tw f0 F A)) := by
  obtain ⟨t1, t2, t3, t4, t5, t6, t7, t8⟩ := hT
  have q := t3 _ hS.2.1
  have q5 := t5 (F 11)
  have e : zB (isK X k r = true) = zB (F 12 = 0 ∧ A 2 (F 11) = k) := by
    cases r with
    | inl e => rw [zB_f isK_l, zB_f (by have := hS.inl; omega)]
    | inr t =>
      obtain ⟨s1, s2, s3⟩ := hS.inr
      refine zB_iff ⟨fun h => ⟨s1, ?_⟩, fun h => ?_⟩
      · rw [q.1, s2]; exact isK_r.mp h
      · apply isK_r.mpr; rw [← s2, ← q.1]; exact h.2
  rw [e]
  exact ct_is hR hS.f (by have := hS.2.1; omega) (by omega) hk2
set_option maxHeartbeats 4000000 in
theorem ct_fail {G : GT} {Rel : Nat → Hp → Hp → Prop} (hR : RelOK Rel) {n : Nat} {f0 : Hp} {F F0 : Nat → Nat} {A X : Nat → Nat → Nat} {k N : Nat} {r : PR} (hT : TP A X N) (hS : St N F0 r F) (hk2 : 1 ≤ k ∧ k ≤ 2) : Ct G Rel yX9_fail cX9_fail 2 none (1) (0) [.ref 358, zI (k : Int)] n (tw f0 F A) (Tv n f0 (fun F' A' => A' = A ∧ St N F0 (bd r (fun t => .inl (k, X 3 t))) F')) := by
  refine ct_intro [some (.ref 358), some (zI (k : Int))] hR rfl (Nat.le_of_ble_eq_true rfl) ?_
  intro K hG hRel hK hRt hnm
  obtain ⟨t1, t2, t3, t4, t5, t6, t7, t8⟩ := hT
  have s2 := hS.2.1
  have sf := hS.f
  refine r_aload_0 hK dX9_fail_0 ?_
  refine r_get hK fl_X9_165 dX9_fail_1 tw_obj rfl ?_
  refine r_if_le 8 hK dX9_fail_4 (by omega) (fun h4 => ?_) (fun h4 => ?_)
  · refine r_aload_0 hK dX9_fail_8 ?_
    refine r_iload_1 hK dX9_fail_9 ?_
    refine t_put hK fl_X9_165 dX9_fail_10 ?_
    refine r_aload_0 hK dX9_fail_13 ?_
    refine r_aload_0 hK dX9_fail_14 ?_
    refine r_get hK fl_X9_24 dX9_fail_15 tw_obj rfl ?_
    refine r_aload_0 hK dX9_fail_18 ?_
    refine r_get hK fl_X9_168 dX9_fail_19 tw_obj rfl ?_
    rw [upF_n (by decide)]
    refine t_ild hK dX9_fail_22 (show _ < 403 by omega) ?_
    refine t_put hK fl_X9_171 dX9_fail_23 ?_
    refine r_vret hK hRt dX9_fail_26 ⟨rfl, rfl, _, _, rfl, rfl, ?_⟩
    cases r with
    | inl e => have := hS.inl; omega
    | inr t =>
      obtain ⟨q1, q2, q3⟩ := hS.inr
      refine ⟨fun j j1 j2 j3 => by rw [upF_n j3, upF_n j2]; exact hS.1 j j1 j2 j3, by rw [upF_n (by decide), upF_n (by decide)]; exact s2, ?_, hk2, ?_, t6 t⟩
      · rw [upF_n (by decide), upF_s]
      · rw [upF_s, (t3 _ s2).2.1, q2]
  · refine r_vret hK hRt dX9_fail_7 ⟨rfl, rfl, _, _, rfl, rfl, ?_⟩
    cases r with
    | inl e => exact hS
    | inr t => have := hS.inr; omega
set_option maxHeartbeats 4000000 in
theorem ct_passes {G : GT} {Rel : Nat → Hp → Hp → Prop} (hR : RelOK Rel) {n : Nat} {f0 : Hp} {F F0 : Nat → Nat} {A X : Nat → Nat → Nat} {N t : Nat} (hT : TP A X N) (hS : St N F0 (.inr t) F) (hk : X 2 t ≠ 0) : Ct G Rel yX9_passes cX9_passes 1 none (2) (0) [.ref 358] n (tw f0 F A) (Tv n f0 (fun F' A' => A' = A ∧ St N F0 (pPass X t) F')) := by
  refine ct_intro [some (.ref 358)] hR rfl (Nat.le_of_ble_eq_true rfl) ?_
  intro K hG hRel hK hRt hnm
  obtain ⟨q1, q2, q3⟩ := hS.inr
  obtain ⟨t1, t2, t3, t4, t5, t6, t7, t8⟩ := id hT
  refine r_aload_0 hK dX9_passes_0 ?_
  refine r_get hK fl_X9_168 dX9_passes_1 tw_obj rfl ?_
  refine r_sipushN (c := 400) hK dX9_passes_4 ?_
  refine r_icmp_ne 18 hK dX9_passes_7 (by omega) (by omega) (fun h7 => ?_) (fun h7 => ?_)
  · refine r_aload_0 hK dX9_passes_18 ?_
    refine r_dup hK dX9_passes_19 ?_
    refine r_get hK fl_X9_168 dX9_passes_20 tw_obj rfl ?_
    refine r_iconstN (c := 1) hK dX9_passes_23 ?_
    first | refine r_iaddN hK dX9_passes_24 ?_ | refine r_iadd hK dX9_passes_24 ?_
    refine t_put hK fl_X9_168 dX9_passes_25 ?_
    refine r_vret hK hRt dX9_passes_28 ⟨rfl, rfl, _, _, rfl, rfl, ?_⟩
    unfold pPass
    rw [if_neg (by omega)]
    refine ⟨fun j j1 j2 j3 => by rw [upF_n j1]; exact hS.1 j j1 j2 j3, ?_, ?_, ?_⟩
    · rw [upF_s]
      rcases t4 with h | h
      · by_cases e : t = N - 1
        · rw [← e] at h; exact absurd h hk
        · omega
      · omega
    · rw [upF_n (by decide)]; exact q1
    · rw [upF_s, q2]
  · refine r_aload_0 hK dX9_passes_10 ?_
    refine r_iconstN (c := 2) hK dX9_passes_11 ?_
    refine r_tvV1 hK (ct_fail hK.rel hT hS (by omega)) lk_X9_180 (tw_rcv hK) dX9_passes_12 (fun F1 A1 h1 => ?_)
    obtain ⟨e1, h2⟩ := h1
    refine r_goto 28 hK dX9_passes_15 ?_
    refine r_vret hK hRt dX9_passes_28 ⟨rfl, rfl, _, _, rfl, e1, ?_⟩
    unfold pPass
    rw [if_pos (by omega)]
    exact h2
set_option maxHeartbeats 4000000 in
theorem ct_must {G : GT} {Rel : Nat → Hp → Hp → Prop} (hR : RelOK Rel) {n : Nat} {f0 : Hp} {F F0 : Nat → Nat} {A X : Nat → Nat → Nat} {k N : Nat} {r : PR} (hT : TP A X N) (hS : St N F0 r F) (hk2 : 1 ≤ k ∧ k < 100) : Ct G Rel yX9_must cX9_must 2 none (3) (0) [.ref 358, zI (k : Int)] n (tw f0 F A) (Tv n f0 (fun F' A' => A' = A ∧ St N F0 (bd r (pMust X k)) F')) := by
  refine ct_intro [some (.ref 358), some (zI (k : Int))] hR rfl (Nat.le_of_ble_eq_true rfl) ?_
  intro K hG hRel hK hRt hnm
  cases r with
  | inl e =>
    refine r_aload_0 hK dX9_must_0 ?_
    refine r_iload_1 hK dX9_must_1 ?_
    refine r_pV1 hK (ct_isS hK.rel hT hS (by omega)) lk_X9_183 (tw_rcv hK) dX9_must_2 ?_
    refine r_ifB_eq 15 hK dX9_must_5 (fun h5 => ?_) (fun h5 => ?_)
    · refine r_aload_0 hK dX9_must_15 ?_
      refine r_iconstN (c := 1) hK dX9_must_16 ?_
      refine r_tvV1 hK (ct_fail hK.rel hT hS (by omega)) lk_X9_180 (tw_rcv hK) dX9_must_17 (fun F1 A1 h1 => ?_)
      exact r_vret hK hRt dX9_must_20 ⟨rfl, rfl, _, _, rfl, h1⟩
    · exact absurd h5 isK_l --!
  | inr t =>
    refine r_aload_0 hK dX9_must_0 ?_
    refine r_iload_1 hK dX9_must_1 ?_
    refine r_pV1 hK (ct_isS hK.rel hT hS (by omega)) lk_X9_183 (tw_rcv hK) dX9_must_2 ?_
    refine r_ifB_eq 15 hK dX9_must_5 (fun h5 => ?_) (fun h5 => ?_)
    · refine r_aload_0 hK dX9_must_15 ?_
      refine r_iconstN (c := 1) hK dX9_must_16 ?_
      refine r_tvV1 hK (ct_fail hK.rel hT hS (by omega)) lk_X9_180 (tw_rcv hK) dX9_must_17 (fun F1 A1 h1 => ?_)
      refine r_vret hK hRt dX9_must_20 ⟨rfl, rfl, _, _, rfl, h1.1, ?_⟩
      show St N F0 (pMust X k t) F1
      unfold pMust
      rw [if_neg (fun h => h5 (isK_r.mpr h))]
      exact h1.2
    · refine r_aload_0 hK dX9_must_8 ?_
      refine r_tvV0 hK (ct_passes hK.rel hT hS (by have : X 2 t = k := isK_r.mp h5; omega)) lk_X9_186 (tw_rcv hK) dX9_must_9 (fun F1 A1 h1 => ?_)
      refine r_goto 20 hK dX9_must_12 ?_
      refine r_vret hK hRt dX9_must_20 ⟨rfl, rfl, _, _, rfl, h1.1, ?_⟩
      show St N F0 (pMust X k t) F1
      unfold pMust
      rw [if_pos (isK_r.mp h5)]
      exact h1.2
set_option maxHeartbeats 4000000 in
theorem ct_controls {G : GT} {Rel : Nat → Hp → Hp → Prop} (hR : RelOK Rel) {n : Nat} {f0 : Hp} {F F0 : Nat → Nat} {A X : Nat → Nat → Nat} {N : Nat} {r : PR} (hT : TP A X N) (hS : St N F0 r F) : Ct G Rel yX9_controls cX9_controls 2 none (4) (0) [.ref 358] n (tw f0 F A) (Tv n f0 (fun F' A' => A' = A ∧ St N F0 (bd r (pCtl X 3)) F')) := by
  refine ct_intro [some (.ref 358), none] hR rfl (Nat.le_of_ble_eq_true rfl) ?_
  intro K hG hRel hK hRt hnm
  have le : ∀ (F1 : Nat → Nat) (e : Nat × Nat) (z : Int), St N F0 (.inl e) F1 → bd r (pCtl X 3) = .inl e → Wx K 2 [some (.ref 358), some (zI z)] [] n (tw f0 F1 A) 0 := by
    intro F1 e z hS1 he
    refine r_aload_0 hK dX9_controls_2 ?_
    refine r_iconstN (c := 5) hK dX9_controls_3 ?_
    refine r_pV1 hK (ct_isS hK.rel hT hS1 (by omega)) lk_X9_183 (tw_rcv hK) dX9_controls_4 ?_
    refine r_ifB_ne 18 hK dX9_controls_7 (fun h7 => ?_) (fun h7 => ?_)
    · exact absurd h7 isK_l --!
    · refine r_aload_0 hK dX9_controls_10 ?_
      refine r_iconstN (c := 1) hK dX9_controls_11 ?_
      refine r_pV1 hK (ct_isS hK.rel hT hS1 (by omega)) lk_X9_183 (tw_rcv hK) dX9_controls_12 ?_
      refine r_ifB_eq 54 hK dX9_controls_15 (fun h15 => ?_) (fun h15 => ?_)
      · exact r_vret hK hRt dX9_controls_54 ⟨rfl, rfl, _, _, rfl, rfl, by rw [he]; exact hS1⟩
      · exact absurd h15 isK_l
  have lp : ∀ (m c : Nat) (F1 : Nat → Nat) (r1 : PR), c + m = 3 → St N F0 r1 F1 → bd r (pCtl X 3) = bd r1 (pCtl X m) → Wx K 2 [some (.ref 358), some (zI (c : Int))] [] n (tw f0 F1 A) 0 := by
    intro m
    induction m with
    | zero =>
      intro c F1 r1 hc hS1 hb
      cases r1 with
      | inl e => exact le F1 e _ hS1 hb
      | inr t =>
        have e2 : bd (.inr t) (pCtl X 0) = if X 2 t = 5 ∨ X 2 t = 1 then .inl (2, X 3 t) else .inr t := rfl
        rw [e2] at hb
        have j18 : X 2 t = 5 ∨ X 2 t = 1 → Wx K 18 [some (.ref 358), some (zI (c : Int))] [] n (tw f0 F1 A) 0 := by
          intro hx
          rw [if_pos hx] at hb
          refine r_iload_1 hK dX9_controls_18 ?_
          refine r_iconstN (c := 3) hK dX9_controls_19 ?_
          refine r_icmp_ne 31 hK dX9_controls_20 (by omega) (by omega) (fun h20 => ?_) (fun h20 => ?_)
          · exact absurd h20 (by omega)
          · refine r_aload_0 hK dX9_controls_23 ?_
            refine r_iconstN (c := 2) hK dX9_controls_24 ?_
            refine r_tvV1 hK (ct_fail hK.rel hT hS1 (by omega)) lk_X9_180 (tw_rcv hK) dX9_controls_25 (fun F2 A2 h2 => ?_)
            obtain ⟨ea, h3⟩ := h2
            subst A2
            refine r_goto 48 hK dX9_controls_28 ?_
            first | refine r_incN_1 hK dX9_controls_48 ?_ | refine r_iinc_1 hK dX9_controls_48 ?_
            refine r_goto 2 hK dX9_controls_51 ?_
            exact le F2 _ _ h3 hb
        refine r_aload_0 hK dX9_controls_2 ?_
        refine r_iconstN (c := 5) hK dX9_controls_3 ?_
        refine r_pV1 hK (ct_isS hK.rel hT hS1 (by omega)) lk_X9_183 (tw_rcv hK) dX9_controls_4 ?_
        refine r_ifB_ne 18 hK dX9_controls_7 (fun h7 => ?_) (fun h7 => ?_)
        · exact j18 (Or.inl (isK_r.mp h7))
        · refine r_aload_0 hK dX9_controls_10 ?_
          refine r_iconstN (c := 1) hK dX9_controls_11 ?_
          refine r_pV1 hK (ct_isS hK.rel hT hS1 (by omega)) lk_X9_183 (tw_rcv hK) dX9_controls_12 ?_
          refine r_ifB_eq 54 hK dX9_controls_15 (fun h15 => ?_) (fun h15 => ?_)
          · exact r_vret hK hRt dX9_controls_54 ⟨rfl, rfl, _, _, rfl, rfl, by rw [hb, if_neg (fun h => h.elim (fun q => h7 (isK_r.mpr q)) (fun q => h15 (isK_r.mpr q)))]; exact hS1⟩
          · exact j18 (Or.inr (isK_r.mp h15))
    | succ m ih =>
      intro c F1 r1 hc hS1 hb
      cases r1 with
      | inl e => exact le F1 e _ hS1 hb
      | inr t =>
        have e2 : bd (.inr t) (pCtl X (m + 1)) = if X 2 t = 5 ∨ X 2 t = 1 then bd (bd (if X 2 t = 5 then pPass X t else .inr t) (pMust X 1)) (pCtl X m) else .inr t := rfl
        rw [e2] at hb
        have j43 : ∀ (F2 : Nat → Nat) (r2 : PR), St N F0 r2 F2 → bd r (pCtl X 3) = bd (bd r2 (pMust X 1)) (pCtl X m) → Wx K 43 [some (.ref 358), some (zI (c : Int))] [] n (tw f0 F2 A) 0 := by
          intro F2 r2 hS2 hb2
          refine r_aload_0 hK dX9_controls_43 ?_
          refine r_iconstN (c := 1) hK dX9_controls_44 ?_
          refine r_tvV1 hK (ct_must hK.rel hT hS2 (by omega)) lk_X9_221 (tw_rcv hK) dX9_controls_45 (fun F3 A3 h3 => ?_)
          obtain ⟨ea, h4⟩ := h3
          subst A3
          first | refine r_incN_1 hK dX9_controls_48 ?_ | refine r_iinc_1 hK dX9_controls_48 ?_
          refine r_goto 2 hK dX9_controls_51 ?_
          exact ih (c + 1) F3 _ (by omega) h4 hb2
        have j18 : X 2 t = 5 ∨ X 2 t = 1 → Wx K 18 [some (.ref 358), some (zI (c : Int))] [] n (tw f0 F1 A) 0 := by
          intro hx
          rw [if_pos hx] at hb
          refine r_iload_1 hK dX9_controls_18 ?_
          refine r_iconstN (c := 3) hK dX9_controls_19 ?_
          refine r_icmp_ne 31 hK dX9_controls_20 (by omega) (by omega) (fun h20 => ?_) (fun h20 => ?_)
          · refine r_aload_0 hK dX9_controls_31 ?_
            refine r_iconstN (c := 5) hK dX9_controls_32 ?_
            refine r_pV1 hK (ct_isS hK.rel hT hS1 (by omega)) lk_X9_183 (tw_rcv hK) dX9_controls_33 ?_
            refine r_ifB_eq 43 hK dX9_controls_36 (fun h36 => ?_) (fun h36 => ?_)
            · rw [if_neg (fun h => h36 (isK_r.mpr h))] at hb
              exact j43 F1 _ hS1 hb
            · refine r_aload_0 hK dX9_controls_39 ?_
              refine r_tvV0 hK (ct_passes hK.rel hT hS1 (by have : X 2 t = 5 := isK_r.mp h36; omega)) lk_X9_186 (tw_rcv hK) dX9_controls_40 (fun F2 A2 h2 => ?_)
              obtain ⟨ea, h3⟩ := h2
              subst A2
              rw [if_pos (isK_r.mp h36)] at hb
              exact j43 F2 _ h3 hb
          · exact absurd h20 (by omega)
        refine r_aload_0 hK dX9_controls_2 ?_
        refine r_iconstN (c := 5) hK dX9_controls_3 ?_
        refine r_pV1 hK (ct_isS hK.rel hT hS1 (by omega)) lk_X9_183 (tw_rcv hK) dX9_controls_4 ?_
        refine r_ifB_ne 18 hK dX9_controls_7 (fun h7 => ?_) (fun h7 => ?_)
        · exact j18 (Or.inl (isK_r.mp h7))
        · refine r_aload_0 hK dX9_controls_10 ?_
          refine r_iconstN (c := 1) hK dX9_controls_11 ?_
          refine r_pV1 hK (ct_isS hK.rel hT hS1 (by omega)) lk_X9_183 (tw_rcv hK) dX9_controls_12 ?_
          refine r_ifB_eq 54 hK dX9_controls_15 (fun h15 => ?_) (fun h15 => ?_)
          · exact r_vret hK hRt dX9_controls_54 ⟨rfl, rfl, _, _, rfl, rfl, by rw [hb, if_neg (fun h => h.elim (fun q => h7 (isK_r.mpr q)) (fun q => h15 (isK_r.mpr q)))]; exact hS1⟩
          · exact j18 (Or.inr (isK_r.mp h15))
  refine r_iconstN (c := 0) hK dX9_controls_0 ?_
  refine r_istore_1 hK dX9_controls_1 ?_
  exact lp 3 0 F r rfl hS rfl
theorem St.fr {N : Nat} {F0 F1 F : Nat → Nat} {r : PR} (h : St N F0 r F) (e : ∀ k, k ≠ 11 → k ≠ 12 → k ≠ 13 → F0 k = F1 k) : St N F1 r F := ⟨fun k a b c => (h.1 k a b c).trans (e k a b c), h.2⟩
theorem St.up {N : Nat} {F0 F : Nat → Nat} {r : PR} {j x : Nat} (h : St N F0 r F) (hj : j ≠ 11 ∧ j ≠ 12 ∧ j ≠ 13) : St N (upF F0 j x) r (upF F j x) := by
  refine ⟨fun k a b c => ?_, by rw [upF_n (by omega)]; exact h.2.1, ?_⟩
  · by_cases e : k = j
    · subst e; rw [upF_s, upF_s]
    · rw [upF_n e, upF_n e]; exact h.1 k a b c
  · have h3 := h.2.2
    cases r with
    | inl e => exact ⟨by rw [upF_n (by omega)]; exact h3.1, h3.2.1, by rw [upF_n (by omega)]; exact h3.2.2.1, h3.2.2.2⟩
    | inr t => exact ⟨by rw [upF_n (by omega)]; exact h3.1, by rw [upF_n (by omega)]; exact h3.2⟩
/-- lines and gates told so far -/
def lnF (F : Nat → Nat) (k : Nat) : Nat → Nat := if k = 20 then upF F 22 (F 22 + 1) else if k = 21 then upF F 23 (F 23 + 1) else F
/-- behind a line that fails by its key nothing is told -/
def lnG (X : Nat → Nat → Nat) (F : Nat → Nat) (t : Nat) : Nat → Nat := if X 2 t < 20 ∨ 23 < X 2 t ∨ X 2 t = 20 ∧ F 22 = 4 ∨ X 2 t = 21 ∧ F 23 = 16 then F else lnF F (X 2 t)
set_option maxHeartbeats 4000000 in
theorem ct_line {G : GT} {Rel : Nat → Hp → Hp → Prop} (hR : RelOK Rel) {n : Nat} {f0 : Hp} {F : Nat → Nat} {A X : Nat → Nat → Nat} {N t : Nat} (hT : TP A X N) (hS : St N F (.inr t) F) (hw : F 22 ≤ 4) (hg : F 23 ≤ 16) : Ct G Rel yX9_line cX9_line 3 none (5) (0) [.ref 358] n (tw f0 F A) (Tv n f0 (fun F' A' => A' = A ∧ St N (lnG X F t) (pLine X t (F 22) (F 23)) F')) := by
  refine ct_intro [some (.ref 358), none, none] hR rfl (Nat.le_of_ble_eq_true rfl) ?_
  intro K hG hRel hK hRt hnm
  obtain ⟨q1, q2, q3⟩ := hS.inr
  obtain ⟨t1, t2, t3, t4, t5, t6, t7, t8⟩ := id hT
  have hA2 := (t3 t q3).1
  have hX := t5 t
  have end_ : ∀ (F0 F2 : Nat → Nat) (r2 : PR) (y1 : Int) x2, St N F0 r2 F2 → F0 = lnG X F t → bd r2 (pMust X 4) = pLine X t (F 22) (F 23) → Wx K 209 [some (.ref 358), some (zI y1), x2] [] n (tw f0 F2 A) 0 := by
    intro F0 F2 r2 y1 x2 hS2 hF0 hb
    subst hF0
    refine r_aload_0 hK dX9_line_209 ?_
    refine r_iconstN (c := 4) hK dX9_line_210 ?_
    refine r_tvV1 hK (ct_must hK.rel hT hS2 (by omega)) lk_X9_221 (tw_rcv hK) dX9_line_211 (fun F3 A3 h3 => ?_)
    exact r_vret hK hRt dX9_line_214 ⟨rfl, rfl, _, _, rfl, h3.1, by rw [← hb]; exact h3.2⟩
  have lp4 : ∀ (m c : Nat) (F2 : Nat → Nat) (r2 : PR) (y1 : Int), c + m = 4 → St N F r2 F2 → F = lnG X F t → bd (pMustN X 2 m r2) (pMust X 4) = pLine X t (F 22) (F 23) → Wx K 138 [some (.ref 358), some (zI y1), some (zI (c : Int))] [] n (tw f0 F2 A) 0 := by
    intro m
    induction m with
    | zero =>
      intro c F2 r2 y1 hc hS2 hF hb
      refine r_iload_2 hK dX9_line_138 ?_
      refine r_iconstN (c := 4) hK dX9_line_139 ?_
      refine r_icmp_ge 154 hK dX9_line_140 (by omega) (by omega) (fun h140 => ?_) (fun h140 => ?_)
      · refine r_goto 209 hK dX9_line_154 ?_
        exact end_ F F2 r2 _ _ hS2 hF hb
      · exact absurd h140 (by omega)
    | succ m ih =>
      intro c F2 r2 y1 hc hS2 hF hb
      refine r_iload_2 hK dX9_line_138 ?_
      refine r_iconstN (c := 4) hK dX9_line_139 ?_
      refine r_icmp_ge 154 hK dX9_line_140 (by omega) (by omega) (fun h140 => ?_) (fun h140 => ?_)
      · exact absurd h140 (by omega)
      · refine r_aload_0 hK dX9_line_143 ?_
        refine r_iconstN (c := 2) hK dX9_line_144 ?_
        refine r_tvV1 hK (ct_must hK.rel hT hS2 (by omega)) lk_X9_221 (tw_rcv hK) dX9_line_145 (fun F3 A3 h3 => ?_)
        obtain ⟨ea, h4⟩ := h3
        subst A3
        first | refine r_incN_2 hK dX9_line_148 ?_ | refine r_iinc_2 hK dX9_line_148 ?_
        refine r_goto 138 hK dX9_line_151 ?_
        exact ih (c + 1) F3 _ _ (by omega) h4 hF hb
  have lvE : ∀ (F2 : Nat → Nat) (e : Nat × Nat) (y1 : Int) x2, St N F (.inl e) F2 → F = lnG X F t → .inl e = pLine X t (F 22) (F 23) → Wx K 177 [some (.ref 358), some (zI y1), x2] [] n (tw f0 F2 A) 0 := by
    intro F2 e y1 x2 hS2 hF hb
    refine r_aload_0 hK dX9_line_177 ?_
    refine r_iconstN (c := 2) hK dX9_line_178 ?_
    refine r_pV1 hK (ct_isS hK.rel hT hS2 (by omega)) lk_X9_183 (tw_rcv hK) dX9_line_179 ?_
    refine r_ifB_eq 209 hK dX9_line_182 (fun h182 => ?_) (fun h182 => ?_)
    · exact end_ F F2 (.inl e) _ _ hS2 hF hb
    · exact absurd h182 isK_l
  have lv : ∀ (m c : Nat) (F2 : Nat → Nat) (r2 : PR) (y1 : Int), c + m = 8 → St N F r2 F2 → F = lnG X F t → bd (bd r2 (pVal X m)) (pMust X 4) = pLine X t (F 22) (F 23) → Wx K 177 [some (.ref 358), some (zI y1), some (zI (c : Int))] [] n (tw f0 F2 A) 0 := by
    intro m
    induction m with
    | zero =>
      intro c F2 r2 y1 hc hS2 hF hb
      cases r2 with
      | inl e => exact lvE F2 e _ _ hS2 hF hb
      | inr t2 =>
        have e2 : bd (.inr t2) (pVal X 0) = if X 2 t2 = 2 then .inl (2, X 3 t2) else .inr t2 := rfl
        rw [e2] at hb
        refine r_aload_0 hK dX9_line_177 ?_
        refine r_iconstN (c := 2) hK dX9_line_178 ?_
        refine r_pV1 hK (ct_isS hK.rel hT hS2 (by omega)) lk_X9_183 (tw_rcv hK) dX9_line_179 ?_
        refine r_ifB_eq 209 hK dX9_line_182 (fun h182 => ?_) (fun h182 => ?_)
        · rw [if_neg (fun h => h182 (isK_r.mpr h))] at hb
          exact end_ F F2 _ _ _ hS2 hF hb
        · refine r_iload_2 hK dX9_line_185 ?_
          refine r_bipushN (c := 8) hK dX9_line_186 ?_
          refine r_icmp_ne 199 hK dX9_line_188 (by omega) (by omega) (fun h188 => ?_) (fun h188 => ?_)
          · exact absurd h188 (by omega)
          · refine r_aload_0 hK dX9_line_191 ?_
            refine r_iconstN (c := 2) hK dX9_line_192 ?_
            refine r_tvV1 hK (ct_fail hK.rel hT hS2 (by omega)) lk_X9_180 (tw_rcv hK) dX9_line_193 (fun F3 A3 h3 => ?_)
            obtain ⟨ea, h4⟩ := h3
            subst A3
            rw [if_pos (isK_r.mp h182)] at hb
            refine r_goto 203 hK dX9_line_196 ?_
            first | refine r_incN_2 hK dX9_line_203 ?_ | refine r_iinc_2 hK dX9_line_203 ?_
            refine r_goto 177 hK dX9_line_206 ?_
            exact lvE F3 _ _ _ h4 hF hb
    | succ m ih =>
      intro c F2 r2 y1 hc hS2 hF hb
      cases r2 with
      | inl e => exact lvE F2 e _ _ hS2 hF hb
      | inr t2 =>
        have e2 : bd (.inr t2) (pVal X (m + 1)) = if X 2 t2 = 2 then bd (pPass X t2) (pVal X m) else .inr t2 := rfl
        rw [e2] at hb
        refine r_aload_0 hK dX9_line_177 ?_
        refine r_iconstN (c := 2) hK dX9_line_178 ?_
        refine r_pV1 hK (ct_isS hK.rel hT hS2 (by omega)) lk_X9_183 (tw_rcv hK) dX9_line_179 ?_
        refine r_ifB_eq 209 hK dX9_line_182 (fun h182 => ?_) (fun h182 => ?_)
        · rw [if_neg (fun h => h182 (isK_r.mpr h))] at hb
          exact end_ F F2 _ _ _ hS2 hF hb
        · refine r_iload_2 hK dX9_line_185 ?_
          refine r_bipushN (c := 8) hK dX9_line_186 ?_
          refine r_icmp_ne 199 hK dX9_line_188 (by omega) (by omega) (fun h188 => ?_) (fun h188 => ?_)
          · refine r_aload_0 hK dX9_line_199 ?_
            refine r_tvV0 hK (ct_passes hK.rel hT hS2 (by have : X 2 t2 = 2 := isK_r.mp h182; omega)) lk_X9_186 (tw_rcv hK) dX9_line_200 (fun F3 A3 h3 => ?_)
            obtain ⟨ea, h4⟩ := h3
            subst A3
            rw [if_pos (isK_r.mp h182)] at hb
            first | refine r_incN_2 hK dX9_line_203 ?_ | refine r_iinc_2 hK dX9_line_203 ?_
            refine r_goto 177 hK dX9_line_206 ?_
            exact ih (c + 1) F3 _ _ (by omega) h4 hF hb
          · exact absurd h188 (by omega)
  have lp3 : ∀ (m c : Nat) (F2 : Nat → Nat) (r2 : PR) (y1 : Int), c + m = 3 → St N F r2 F2 → F = lnG X F t → bd (bd (pMustN X 2 m r2) (pVal X 7)) (pMust X 4) = pLine X t (F 22) (F 23) → Wx K 159 [some (.ref 358), some (zI y1), some (zI (c : Int))] [] n (tw f0 F2 A) 0 := by
    intro m
    induction m with
    | zero =>
      intro c F2 r2 y1 hc hS2 hF hb
      refine r_iload_2 hK dX9_line_159 ?_
      refine r_iconstN (c := 3) hK dX9_line_160 ?_
      refine r_icmp_ge 175 hK dX9_line_161 (by omega) (by omega) (fun h161 => ?_) (fun h161 => ?_)
      · refine r_iconstN (c := 1) hK dX9_line_175 ?_
        refine r_istore_2 hK dX9_line_176 ?_
        exact lv 7 1 F2 r2 _ rfl hS2 hF hb
      · exact absurd h161 (by omega)
    | succ m ih =>
      intro c F2 r2 y1 hc hS2 hF hb
      refine r_iload_2 hK dX9_line_159 ?_
      refine r_iconstN (c := 3) hK dX9_line_160 ?_
      refine r_icmp_ge 175 hK dX9_line_161 (by omega) (by omega) (fun h161 => ?_) (fun h161 => ?_)
      · exact absurd h161 (by omega)
      · refine r_aload_0 hK dX9_line_164 ?_
        refine r_iconstN (c := 2) hK dX9_line_165 ?_
        refine r_tvV1 hK (ct_must hK.rel hT hS2 (by omega)) lk_X9_221 (tw_rcv hK) dX9_line_166 (fun F3 A3 h3 => ?_)
        obtain ⟨ea, h4⟩ := h3
        subst A3
        first | refine r_incN_2 hK dX9_line_169 ?_ | refine r_iinc_2 hK dX9_line_169 ?_
        refine r_goto 159 hK dX9_line_172 ?_
        exact ih (c + 1) F3 _ _ (by omega) h4 hF hb
  have j63 : ∀ z : Int, z = (X 2 t : Int) → 20 ≤ z ∧ z ≤ 23 → ¬ (z = 20 ∧ F 22 = 4) → ¬ (z = 21 ∧ F 23 = 16) → Wx K 63 [some (.ref 358), some (zI z), none] [] n (tw f0 F A) 0 := by
    intro z hz hz1 hz2 hz3
    have hzr : inR z := by omega
    have hG : lnG X F t = lnF F (X 2 t) := by unfold lnG; rw [if_neg (by omega)]
    have hL : pLine X t (F 22) (F 23) = pBody X (X 2 t) (pPass X t) := by unfold pLine; rw [if_neg (by omega), if_neg (by omega)]
    refine r_aload_0 hK dX9_line_63 ?_
    refine r_tvV0 hK (ct_passes hK.rel hT hS (by omega)) lk_X9_186 (tw_rcv hK) dX9_line_64 (fun F1 A1 h1 => ?_)
    obtain ⟨ea, h2⟩ := h1
    subst A1
    have hF22 : F1 22 = F 22 := h2.1 22 (by decide) (by decide) (by decide)
    have hF23 : F1 23 = F 23 := h2.1 23 (by decide) (by decide) (by decide)
    refine r_iload_1 hK dX9_line_67 ?_
    have hsw : z = 20 ∨ z = 21 ∨ z = 22 ∨ (z < 20 ∨ 22 < z) := by omega
    rcases hsw with rfl | rfl | rfl | hsw
    · refine r_tabIn 96 hK dX9_line_68 (by decide) (by decide) (by decide) rfl rfl ?_
      refine r_aload_0 hK dX9_line_96 ?_
      refine r_dup hK dX9_line_97 ?_
      refine r_get hK fl_X9_192 dX9_line_98 tw_obj rfl ?_
      rw [hF22]
      refine r_iconstN (c := 1) hK dX9_line_101 ?_
      first | refine r_iaddN hK dX9_line_102 ?_ | refine r_iadd hK dX9_line_102 ?_
      refine t_put hK fl_X9_192 dX9_line_103 ?_
      have h3 := h2.up (j := 22) (x := F 22 + 1) (by omega)
      refine r_aload_0 hK dX9_line_106 ?_
      refine r_iconstN (c := 1) hK dX9_line_107 ?_
      refine r_tvV1 hK (ct_must hK.rel hT h3 (by omega)) lk_X9_221 (tw_rcv hK) dX9_line_108 (fun F2 A2 h4 => ?_)
      obtain ⟨eb, h5⟩ := h4
      subst A2
      refine r_goto 209 hK dX9_line_111 ?_
      exact end_ _ F2 _ _ _ h5 (by rw [hG]; unfold lnF; rw [if_pos (by omega)]) (by rw [hL]; unfold pBody; rw [if_pos (by omega)])
    · refine r_tabIn 114 hK dX9_line_68 (by decide) (by decide) (by decide) rfl rfl ?_
      refine r_aload_0 hK dX9_line_114 ?_
      refine r_dup hK dX9_line_115 ?_
      refine r_get hK fl_X9_195 dX9_line_116 tw_obj rfl ?_
      rw [hF23]
      refine r_iconstN (c := 1) hK dX9_line_119 ?_
      first | refine r_iaddN hK dX9_line_120 ?_ | refine r_iadd hK dX9_line_120 ?_
      refine t_put hK fl_X9_195 dX9_line_121 ?_
      have h3 := h2.up (j := 23) (x := F 23 + 1) (by omega)
      refine r_aload_0 hK dX9_line_124 ?_
      refine r_iconstN (c := 1) hK dX9_line_125 ?_
      refine r_tvV1 hK (ct_must hK.rel hT h3 (by omega)) lk_X9_221 (tw_rcv hK) dX9_line_126 (fun F2 A2 h4 => ?_)
      obtain ⟨eb, h5⟩ := h4
      subst A2
      refine r_aload_0 hK dX9_line_129 ?_
      refine r_tvV0 hK (ct_controls hK.rel hT h5) lk_X9_224 (tw_rcv hK) dX9_line_130 (fun F3 A3 h6 => ?_)
      obtain ⟨ec, h7⟩ := h6
      subst A3
      refine r_goto 209 hK dX9_line_133 ?_
      exact end_ _ F3 _ _ _ h7 (by rw [hG]; unfold lnF; rw [if_neg (by omega), if_pos (by omega)]) (by rw [hL]; unfold pBody; rw [if_neg (by omega), if_pos (by omega)])
    · refine r_tabIn 136 hK dX9_line_68 (by decide) (by decide) (by decide) rfl rfl ?_
      refine r_iconstN (c := 0) hK dX9_line_136 ?_
      refine r_istore_2 hK dX9_line_137 ?_
      exact lp4 4 0 F1 _ _ rfl h2 (by rw [hG]; unfold lnF; rw [if_neg (by omega), if_neg (by omega)]) (by rw [hL]; unfold pBody; rw [if_neg (by omega), if_neg (by omega), if_pos (by omega)])
    · refine r_tabOut 157 hK dX9_line_68 hzr hsw rfl ?_
      refine r_iconstN (c := 0) hK dX9_line_157 ?_
      refine r_istore_2 hK dX9_line_158 ?_
      exact lp3 3 0 F1 _ _ rfl h2 (by rw [hG]; unfold lnF; rw [if_neg (by omega), if_neg (by omega)]) (by rw [hL]; unfold pBody; rw [if_neg (by omega), if_neg (by omega), if_neg (by omega)])
  refine r_aload_0 hK dX9_line_0 ?_
  refine r_get hK fl_X9_20 dX9_line_1 tw_obj rfl ?_
  refine r_aload_0 hK dX9_line_4 ?_
  refine r_get hK fl_X9_168 dX9_line_5 tw_obj rfl ?_
  rw [q2]
  refine t_ild hK dX9_line_8 (show _ < 403 by omega) ?_
  rw [hA2]
  obtain ⟨z, hz⟩ : ∃ z : Int, z = (X 2 t : Int) := ⟨_, rfl⟩
  rw [← hz]
  refine r_istore_1 hK dX9_line_9 ?_
  refine r_iload_1 hK dX9_line_10 ?_
  refine r_bipushN (c := 20) hK dX9_line_11 ?_
  refine r_icmp_lt 22 hK dX9_line_13 (by omega) (by omega) (fun h13 => ?_) (fun h13 => ?_)
  · refine r_aload_0 hK dX9_line_22 ?_
    refine r_iconstN (c := 1) hK dX9_line_23 ?_
    refine r_tvV1 hK (ct_fail hK.rel hT hS (by omega)) lk_X9_180 (tw_rcv hK) dX9_line_24 (fun F1 A1 h1 => ?_)
    exact r_vret hK hRt dX9_line_27 ⟨rfl, rfl, _, _, rfl, h1.1, by unfold lnG pLine; rw [if_pos (by omega), if_pos (by omega)]; exact h1.2⟩
  · refine r_iload_1 hK dX9_line_16 ?_
    refine r_bipushN (c := 23) hK dX9_line_17 ?_
    refine r_icmp_le 28 hK dX9_line_19 (by omega) (by omega) (fun h19 => ?_) (fun h19 => ?_)
    · refine r_iload_1 hK dX9_line_28 ?_
      refine r_bipushN (c := 20) hK dX9_line_29 ?_
      refine r_icmp_ne 42 hK dX9_line_31 (by omega) (by omega) (fun h31 => ?_) (fun h31 => ?_)
      · refine r_iload_1 hK dX9_line_42 ?_
        refine r_bipushN (c := 21) hK dX9_line_43 ?_
        refine r_icmp_ne 63 hK dX9_line_45 (by omega) (by omega) (fun h45 => ?_) (fun h45 => ?_)
        · exact j63 z hz (by omega) (by omega) (by omega)
        · refine r_aload_0 hK dX9_line_48 ?_
          refine r_get hK fl_X9_195 dX9_line_49 tw_obj rfl ?_
          refine r_bipushN (c := 16) hK dX9_line_52 ?_
          refine r_icmp_ne 63 hK dX9_line_54 (by omega) (by omega) (fun h54 => ?_) (fun h54 => ?_)
          · exact j63 z hz (by omega) (by omega) (by omega)
          · refine r_aload_0 hK dX9_line_57 ?_
            refine r_iconstN (c := 2) hK dX9_line_58 ?_
            refine r_tvV1 hK (ct_fail hK.rel hT hS (by omega)) lk_X9_180 (tw_rcv hK) dX9_line_59 (fun F1 A1 h1 => ?_)
            exact r_vret hK hRt dX9_line_62 ⟨rfl, rfl, _, _, rfl, h1.1, by unfold lnG pLine; rw [if_pos (by omega), if_neg (by omega), if_pos (by omega)]; exact h1.2⟩
      · refine r_aload_0 hK dX9_line_34 ?_
        refine r_get hK fl_X9_192 dX9_line_35 tw_obj rfl ?_
        refine r_iconstN (c := 4) hK dX9_line_38 ?_
        refine r_icmp_eq 57 hK dX9_line_39 (by omega) (by omega) (fun h39 => ?_) (fun h39 => ?_)
        · refine r_aload_0 hK dX9_line_57 ?_
          refine r_iconstN (c := 2) hK dX9_line_58 ?_
          refine r_tvV1 hK (ct_fail hK.rel hT hS (by omega)) lk_X9_180 (tw_rcv hK) dX9_line_59 (fun F1 A1 h1 => ?_)
          exact r_vret hK hRt dX9_line_62 ⟨rfl, rfl, _, _, rfl, h1.1, by unfold lnG pLine; rw [if_pos (by omega), if_neg (by omega), if_pos (by omega)]; exact h1.2⟩
        · refine r_iload_1 hK dX9_line_42 ?_
          refine r_bipushN (c := 21) hK dX9_line_43 ?_
          refine r_icmp_ne 63 hK dX9_line_45 (by omega) (by omega) (fun h45_1 => ?_) (fun h45_1 => ?_)
          · exact j63 z hz (by omega) (by omega) (by omega)
          · refine r_aload_0 hK dX9_line_48 ?_
            refine r_get hK fl_X9_195 dX9_line_49 tw_obj rfl ?_
            refine r_bipushN (c := 16) hK dX9_line_52 ?_
            refine r_icmp_ne 63 hK dX9_line_54 (by omega) (by omega) (fun h54_1 => ?_) (fun h54_1 => ?_)
            · exact j63 z hz (by omega) (by omega) (by omega)
            · refine r_aload_0 hK dX9_line_57 ?_
              refine r_iconstN (c := 2) hK dX9_line_58 ?_
              refine r_tvV1 hK (ct_fail hK.rel hT hS (by omega)) lk_X9_180 (tw_rcv hK) dX9_line_59 (fun F1 A1 h1 => ?_)
              exact r_vret hK hRt dX9_line_62 ⟨rfl, rfl, _, _, rfl, h1.1, by unfold lnG pLine; rw [if_pos (by omega), if_neg (by omega), if_pos (by omega)]; exact h1.2⟩
    · refine r_aload_0 hK dX9_line_22 ?_
      refine r_iconstN (c := 1) hK dX9_line_23 ?_
      refine r_tvV1 hK (ct_fail hK.rel hT hS (by omega)) lk_X9_180 (tw_rcv hK) dX9_line_24 (fun F1 A1 h1 => ?_)
      exact r_vret hK hRt dX9_line_27 ⟨rfl, rfl, _, _, rfl, h1.1, by unfold lnG pLine; rw [if_pos (by omega), if_pos (by omega)]; exact h1.2⟩
