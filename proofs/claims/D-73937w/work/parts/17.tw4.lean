set_option maxRecDepth 100000
/-! ===== the reference: hold, restore, put, take, swap ===== -/
set_option maxHeartbeats 4000000 in
theorem ct_hold {G : GT} {Rel : Nat → Hp → Hp → Prop} (hR : RelOK Rel) {n : Nat} {f0 : Hp} {F : Nat → Nat} {A : Nat → Nat → Nat} {gs : List Gt} {sl : Nat → Option (List Gt)} {z : Int} (hz : inR z) (hg : GA (A 11) gs) (hh : HeldR A sl) : Ct G Rel yX9_hold cX9_hold 3 (some .boolean) (2) (0) [.ref 358, zI z] n (tw f0 F A) (Ti n f0 (fun r F' A' => r = (if 0 ≤ z ∧ z ≤ 2 then 1 else 0) ∧ F' = F ∧ HeldR A' (fun s => if (s : Int) = z then some gs else sl s) ∧ ∀ a, a ≠ 14 → a ≠ 15 → A' a = A a)) := by
  refine ct_intro [some (.ref 358), some (zI z), none] hR rfl (Nat.le_of_ble_eq_true rfl) ?_
  intro K hG hRel hK hRt hnm
  have lp : ∀ m k s : Nat, z = (s : Int) → s < 3 → m = 49 - k → k ≤ 49 → Wx K 13 [some (.ref 358), some (zI (s : Int)), some (zI (k : Int))] [] n (tw f0 F (cpA A 14 (49 * s) (A 11) k)) 0 := by
    intro m
    induction m using Nat.strongRecOn with
    | _ m ih =>
      intro k s hs h3 hm hk
      refine r_iload_2 hK dX9_hold_13 ?_
      refine r_bipushN (c := 49) hK dX9_hold_14 ?_
      refine r_icmp_ge 42 hK dX9_hold_16 (by omega) (by omega) (fun h16 => ?_) (fun h16 => ?_)
      · have e : k = 49 := by omega
        subst e
        refine r_aload_0 hK dX9_hold_42 ?_
        refine r_get hK fl_X9_64 dX9_hold_43 tw_obj rfl ?_
        refine r_iload_1 hK dX9_hold_46 ?_
        refine r_iconstN (c := 1) hK dX9_hold_47 ?_
        refine t_zst hK dX9_hold_48 h3 (by decide) ?_
        refine r_iconstN (c := 1) hK dX9_hold_49 ?_
        refine r_zret hK hRt dX9_hold_50 rfl ⟨1, rfl, rfl, _, _, rfl, by rw [if_pos (by omega)], rfl, ?_, fun a h1 h2 => by rw [upA_j h2, cpA_j h1]⟩
        intro s' hs'
        by_cases e : s' = s
        · subst e
          refine Or.inr ⟨gs, by simp only [if_pos hs.symm], upA_s _ _ _ _, ?_⟩
          rw [upA_j (by decide)]
          exact hg.copy (fun k hk => cpA_in hk)
        · simp only [if_neg (show ¬ (s' : Int) = z by omega)]
          rw [upA_n e, cpA_j (by decide), upA_j (by decide)]
          rcases hh s' hs' with h | ⟨gs', h1, h2, h3⟩
          · exact Or.inl h
          · exact Or.inr ⟨gs', h1, h2, h3.copy (fun k hk => cpA_out (by omega))⟩
      · refine r_aload_0 hK dX9_hold_19 ?_
        refine r_get hK fl_X9_61 dX9_hold_20 tw_obj rfl ?_
        refine r_bipushN (c := 49) hK dX9_hold_23 ?_
        refine r_iload_1 hK dX9_hold_25 ?_
        first | refine r_imulN hK dX9_hold_26 ?_ | refine r_imul hK dX9_hold_26 ?_
        refine r_iload_2 hK dX9_hold_27 ?_
        first | refine r_iaddN hK dX9_hold_28 ?_ | refine r_iadd hK dX9_hold_28 ?_
        refine r_aload_0 hK dX9_hold_29 ?_
        refine r_get hK fl_X9_52 dX9_hold_30 tw_obj rfl ?_
        refine r_iload_2 hK dX9_hold_33 ?_
        refine t_ild hK dX9_hold_34 (show _ < 49 by omega) ?_
        refine t_ist hK dX9_hold_35 (show _ < 147 by omega) ?_
        rw [show cpA A 14 (49 * s) (A 11) k 11 k = A 11 k by rw [cpA_j (by decide)], cpA_s]
        first | refine r_incN_2 hK dX9_hold_36 ?_ | refine r_iinc_2 hK dX9_hold_36 ?_
        refine r_goto 13 hK dX9_hold_39 ?_
        exact ih (49 - (k + 1)) (by omega) (k + 1) s hs h3 rfl (by omega)
  refine r_iload_1 hK dX9_hold_0 ?_
  refine r_iconstN (c := 0) hK dX9_hold_1 ?_
  refine r_iconstN (c := 2) hK dX9_hold_2 ?_
  refine r_pS3 hK (ct_in hK.rel hz (by omega) (by omega)) lk_X9_237 dX9_hold_3 ?_
  refine r_ifB_ne 11 hK dX9_hold_6 (fun h6 => ?_) (fun h6 => ?_)
  · refine r_iconstN (c := 0) hK dX9_hold_11 ?_
    refine r_istore_2 hK dX9_hold_12 ?_
    obtain ⟨s, rfl⟩ : ∃ s : Nat, z = (s : Int) := ⟨z.toNat, by omega⟩
    have := lp 49 0 s rfl (by omega) rfl (by omega)
    rw [cpA_0] at this
    exact this
  · refine r_iconstN (c := 0) hK dX9_hold_9 ?_
    refine r_zret hK hRt dX9_hold_10 rfl ⟨0, rfl, rfl, _, _, rfl, by rw [if_neg (by omega)], rfl, ?_, fun a h1 h2 => rfl⟩
    intro s hs
    simp only [if_neg (show ¬ (s : Int) = z by omega)]
    exact hh s hs
set_option maxHeartbeats 4000000 in
theorem ct_restore {G : GT} {Rel : Nat → Hp → Hp → Prop} (hR : RelOK Rel) {n : Nat} {f0 : Hp} {F : Nat → Nat} {A : Nat → Nat → Nat} {gs : List Gt} {sl : Nat → Option (List Gt)} {past : List (List Gt)} {z : Int} (hz : inR z) (hg : GA (A 11) gs) (hh : HeldR A sl) (hp : PastR F A past) : Ct G Rel yX9_restore cX9_restore 3 (some .boolean) (2) (0) [.ref 358, zI z] n (tw f0 F A) (Ti n f0 (fun r F' A' => (∀ a, a ≠ 11 → A' a = A a) ∧ (∀ k, k ≠ 32 → F' k = F k) ∧ ((∃ gs' s, z = ((s : Nat) : Int) ∧ s < 3 ∧ sl s = some gs' ∧ r = 1 ∧ GA (A' 11) gs' ∧ PastR F' A' []) ∨ ((¬ ∃ gs' s, z = ((s : Nat) : Int) ∧ s < 3 ∧ sl s = some gs') ∧ r = 0 ∧ F' = F ∧ A' = A)))) := by
  refine ct_intro [some (.ref 358), some (zI z), none] hR rfl (Nat.le_of_ble_eq_true rfl) ?_
  intro K hG hRel hK hRt hnm
  have lp : ∀ (m k s : Nat) (gs' : List Gt), z = (s : Int) → s < 3 → sl s = some gs' → GA (fun k => A 14 (49 * s + k)) gs' → m = 49 - k → k ≤ 49 → Wx K 22 [some (.ref 358), some (zI (s : Int)), some (zI (k : Int))] [] n (tw f0 F (cpA A 11 0 (fun k => A 14 (49 * s + k)) k)) 0 := by
    intro m
    induction m using Nat.strongRecOn with
    | _ m ih =>
      intro k s gs' hs h3 hsl hga hm hk
      have e1 : cpA A 11 0 (fun k => A 14 (49 * s + k)) k 14 (49 * s + k) = (fun k => A 14 (49 * s + k)) k := by rw [cpA_j (by decide)]
      have e2 : upA (cpA A 11 0 (fun k => A 14 (49 * s + k)) k) 11 k ((fun k => A 14 (49 * s + k)) k) = cpA A 11 0 (fun k => A 14 (49 * s + k)) (k + 1) := by
        have := cpA_s A 11 0 (fun k => A 14 (49 * s + k)) k
        rw [Nat.zero_add] at this; exact this
      refine r_iload_2 hK dX9_restore_22 ?_
      refine r_bipushN (c := 49) hK dX9_restore_23 ?_
      refine r_icmp_ge 51 hK dX9_restore_25 (by omega) (by omega) (fun h25 => ?_) (fun h25 => ?_)
      · have e : k = 49 := by omega
        subst e
        refine r_aload_0 hK dX9_restore_51 ?_
        refine r_iconstN (c := 0) hK dX9_restore_52 ?_
        refine t_put hK fl_X9_218 dX9_restore_53 ?_
        refine r_iconstN (c := 1) hK dX9_restore_56 ?_
        refine r_zret hK hRt dX9_restore_57 rfl ⟨1, rfl, rfl, _, _, rfl, fun a h1 => cpA_j h1, fun k h => upF_n h, Or.inl ⟨gs', s, hs, h3, hsl, rfl, hga.copy (fun k hk => ?_), upF_s _ _ _, by simp, by rw [upF_n (by decide)]; exact hp.2.2.1, fun i hi => absurd hi (by simp)⟩⟩
        have := cpA_in (A := A) (j := 11) (i0 := 0) (src := fun k => A 14 (49 * s + k)) hk
        rw [Nat.zero_add] at this
        exact this
      · refine r_aload_0 hK dX9_restore_28 ?_
        refine r_get hK fl_X9_52 dX9_restore_29 tw_obj rfl ?_
        refine r_iload_2 hK dX9_restore_32 ?_
        refine r_aload_0 hK dX9_restore_33 ?_
        refine r_get hK fl_X9_61 dX9_restore_34 tw_obj rfl ?_
        refine r_bipushN (c := 49) hK dX9_restore_37 ?_
        refine r_iload_1 hK dX9_restore_39 ?_
        first | refine r_imulN hK dX9_restore_40 ?_ | refine r_imul hK dX9_restore_40 ?_
        refine r_iload_2 hK dX9_restore_41 ?_
        first | refine r_iaddN hK dX9_restore_42 ?_ | refine r_iadd hK dX9_restore_42 ?_
        refine t_ild hK dX9_restore_43 (show _ < 147 by omega) ?_
        refine t_ist hK dX9_restore_44 (show _ < 49 by omega) ?_
        rw [e1, e2]
        first | refine r_incN_2 hK dX9_restore_45 ?_ | refine r_iinc_2 hK dX9_restore_45 ?_
        refine r_goto 22 hK dX9_restore_48 ?_
        exact ih (49 - (k + 1)) (by omega) (k + 1) s gs' hs h3 hsl hga rfl (by omega)
  refine r_iload_1 hK dX9_restore_0 ?_
  refine r_iconstN (c := 0) hK dX9_restore_1 ?_
  refine r_iconstN (c := 2) hK dX9_restore_2 ?_
  refine r_pS3 hK (ct_in hK.rel hz (by omega) (by omega)) lk_X9_237 dX9_restore_3 ?_
  refine r_ifB_eq 18 hK dX9_restore_6 (fun h6 => ?_) (fun h6 => ?_)
  · refine r_iconstN (c := 0) hK dX9_restore_18 ?_
    refine r_zret hK hRt dX9_restore_19 rfl ⟨0, rfl, rfl, _, _, rfl, fun a h1 => rfl, fun k h => rfl, Or.inr ⟨fun ⟨gs', s, e1, e2, e3⟩ => ?_, rfl, rfl, rfl⟩⟩
    omega
  · obtain ⟨s, rfl⟩ : ∃ s : Nat, z = (s : Int) := ⟨z.toNat, by omega⟩
    have h3 : s < 3 := by omega
    have hs3 := hh s h3
    have hA15 : A 15 s < 2 := by rcases hs3 with h | ⟨_, _, h, _⟩ <;> omega
    refine r_aload_0 hK dX9_restore_9 ?_
    refine r_get hK fl_X9_64 dX9_restore_10 tw_obj rfl ?_
    refine r_iload_1 hK dX9_restore_13 ?_
    refine t_zld hK dX9_restore_14 h3 ?_
    refine r_if_ne 20 hK dX9_restore_15 (by omega) (fun h15 => ?_) (fun h15 => ?_)
    · rcases hs3 with h | ⟨gs', h1, h2, h4⟩
      · omega
      refine r_iconstN (c := 0) hK dX9_restore_20 ?_
      refine r_istore_2 hK dX9_restore_21 ?_
      have := lp 49 0 s gs' rfl h3 h1 h4 rfl (by omega)
      rw [cpA_0] at this
      exact this
    · refine r_iconstN (c := 0) hK dX9_restore_18 ?_
      refine r_zret hK hRt dX9_restore_19 rfl ⟨0, rfl, rfl, _, _, rfl, fun a h1 => rfl, fun k h => rfl, Or.inr ⟨fun ⟨gs', s', e1, e2, e3⟩ => ?_, rfl, rfl, rfl⟩⟩
      have e : s' = s := by omega
      subst e
      rcases hs3 with h | ⟨_, _, h, _⟩
      · rw [h.1] at e3; cases e3
      · omega
set_option maxHeartbeats 4000000 in
theorem ct_take {G : GT} {Rel : Nat → Hp → Hp → Prop} (hR : RelOK Rel) {n : Nat} {f0 : Hp} {F : Nat → Nat} {A : Nat → Nat → Nat} {gs : List Gt} {past : List (List Gt)} {z : Int} (hz : inR z) (hg : GA (A 11) gs) (ho : ∀ g ∈ gs, gok 4 g) (hp : PastR F A past) : Ct G Rel yX9_take cX9_take 2 (some .boolean) (3) (0) [.ref 358, zI z] n (tw f0 F A) (Ti n f0 (fun r F' A' => (∀ a, a ≠ 11 → a ≠ 13 → A' a = A a) ∧ (∀ k, k ≠ 31 → k ≠ 32 → F' k = F k) ∧ ((∃ k, z = ((k : Nat) : Int) ∧ k < gs.length ∧ r = 1 ∧ GA (A' 11) (gs.eraseIdx k) ∧ PastR F' A' (pushP past gs)) ∨ (¬ (0 ≤ z ∧ z < gs.length) ∧ r = 0 ∧ F' = F ∧ A' = A)))) := by
  refine ct_intro [some (.ref 358), some (zI z)] hR rfl (Nat.le_of_ble_eq_true rfl) ?_
  intro K hG hRel hK hRt hnm
  have h0 := hg.1
  have hl := hg.2.1
  refine r_aload_0 hK dX9_take_0 ?_
  refine r_iload_1 hK dX9_take_1 ?_
  refine r_pV1 hK (ct_isGate hK.rel hz (by omega)) lk_X9_272 (tw_rcv hK) dX9_take_2 ?_
  refine r_ifB_ne 10 hK dX9_take_5 (fun h5 => ?_) (fun h5 => ?_)
  · refine r_aload_0 hK dX9_take_10 ?_
    refine r_tvV0 hK (ct_marks hK.rel hg hp) lk_X9_265 (tw_rcv hK) dX9_take_11 (fun F1 A1 h1 => ?_)
    obtain ⟨k, rfl⟩ : ∃ s : Nat, z = (s : Int) := ⟨z.toNat, by omega⟩
    obtain ⟨m1, m2, m3⟩ := h1
    refine r_aload_0 hK dX9_take_14 ?_
    refine r_get hK fl_X9_52 dX9_take_15 tw_obj rfl ?_
    refine r_iload_1 hK dX9_take_18 ?_
    refine r_tvS2 hK (ct_takesOff (j := 11) (gs := gs) hK.rel (Or.inl rfl) (by rw [m2 11 (by decide)]; exact hg) ho (by omega)) lk_X9_275 dX9_take_19 (fun F2 A2 h2 => ?_)
    obtain ⟨t1, t2, t3⟩ := h2
    subst t1
    refine r_iconstN (c := 1) hK dX9_take_22 ?_
    refine r_zret hK hRt dX9_take_23 rfl ⟨1, rfl, rfl, _, _, rfl, fun a h1 h2 => by rw [t3 a h1, m2 a h2], m3, Or.inl ⟨k, rfl, by omega, rfl, t2, ?_⟩⟩
    obtain ⟨p1, p2, p3, p4⟩ := m1
    exact ⟨p1, p2, p3, fun i hi => by rw [t3 13 (by decide)]; exact p4 i hi⟩
  · refine r_iconstN (c := 0) hK dX9_take_8 ?_
    exact r_zret hK hRt dX9_take_9 rfl ⟨0, rfl, rfl, _, _, rfl, fun a h1 h2 => rfl, fun k h1 h2 => rfl, Or.inr ⟨by omega, rfl, rfl, rfl⟩⟩
