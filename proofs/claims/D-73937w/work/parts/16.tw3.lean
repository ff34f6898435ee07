set_option maxRecDepth 100000
/-! ===== the reference: by hand, undone, held ===== -/
set_option maxHeartbeats 4000000 in
theorem ct_takesOff {G : GT} {Rel : Nat → Hp → Hp → Prop} (hR : RelOK Rel) {n : Nat} {f0 : Hp} {F : Nat → Nat} {A : Nat → Nat → Nat} {j k : Nat} {gs : List Gt} (hj : j = 11 ∨ j = 18) (hg : GA (A j) gs) (ho : ∀ g ∈ gs, gok 4 g) (hk : k < gs.length) : Ct G Rel yX9_takesOff cX9_takesOff 3 none (2) (0) [.ref (j + 359), zI (k : Int)] n (tw f0 F A) (Tv n f0 (fun F' A' => F' = F ∧ GA (A' j) (gs.eraseIdx k) ∧ ∀ a, a ≠ j → A' a = A a)) := by
  refine ct_intro [some (.ref (j + 359)), some (zI (k : Int)), none] hR rfl (Nat.le_of_ble_eq_true rfl) ?_
  intro K hG hRel hK hRt hnm
  have hj1 : isIa j = true := by rcases hj with e | e <;> subst e <;> rfl
  have hj2 : twl j = 49 := by rcases hj with e | e <;> subst e <;> rfl
  have hl := hg.2.1
  have h0 := hg.1
  have lp : ∀ m i A', m = gs.length - i → k ≤ i → i < gs.length → A' j 0 = gs.length - 1 → (∀ g, g < i → (gs.eraseIdx k)[g]? = some (ge (A' j) g)) → (∀ g, i ≤ g → g < gs.length → ge (A' j) g = ge (A j) g) → (∀ a, a ≠ j → A' a = A a) → Wx K 9 [some (.ref (j + 359)), some (zI (k : Int)), some (zI (i : Int))] [] n (tw f0 F A') 0 := by
    intro m
    induction m using Nat.strongRecOn with
    | _ m ih =>
      intro i A' hm hki hi hz h1 h2 h3
      refine r_iload_2 hK dX9_takesOff_9 ?_
      refine r_aload_0 hK dX9_takesOff_10 ?_
      refine r_iconstN (c := 0) hK dX9_takesOff_11 ?_
      refine t_ild hK dX9_takesOff_12 (by rw [hj2]; omega) ?_ hj1
      rw [hz]
      refine r_icmp_ge 31 hK dX9_takesOff_13 (by omega) (by omega) (fun h13 => ?_) (fun h13 => ?_)
      · have e : i = gs.length - 1 := by omega
        exact r_vret hK hRt dX9_takesOff_31 ⟨rfl, rfl, F, A', rfl, rfl, ⟨by rw [hz, List.length_eraseIdx_of_lt hk], by rw [List.length_eraseIdx_of_lt hk]; omega, fun g hg' => h1 g (by rw [List.length_eraseIdx_of_lt hk] at hg'; omega)⟩, h3⟩
      · refine r_aload_0 hK dX9_takesOff_16 ?_
        refine r_iload_2 hK dX9_takesOff_17 ?_
        refine r_iconstN (c := 1) hK dX9_takesOff_18 ?_
        first | refine r_iaddN hK dX9_takesOff_19 ?_ | refine r_iadd hK dX9_takesOff_19 ?_
        refine r_aload_0 hK dX9_takesOff_20 ?_
        refine r_iload_2 hK dX9_takesOff_21 ?_
        refine r_vS4 hK (ct_copiesGate (i := j) (j := j) (a := i + 1) (k := i) hK.rel (by omega) (by omega) (by omega) (by omega) (by rw [h2 (i + 1) (by omega) (by omega)]; exact hg.ok ho (by omega))) lk_X9_254 dX9_takesOff_22 ?_
        first | refine r_incN_2 hK dX9_takesOff_25 ?_ | refine r_iinc_2 hK dX9_takesOff_25 ?_
        refine r_goto 9 hK dX9_takesOff_28 ?_
        refine ih (gs.length - (i + 1)) (by omega) (i + 1) _ rfl (by omega) (by omega) (by rw [upG_0]; exact hz) (fun g hgi => ?_) (fun g g1 g2 => ?_) (fun a ha => by rw [upG_j ha]; exact h3 a ha)
        · by_cases e : g = i
          · subst e
            rw [ge_upG_s (by omega), h2 (g + 1) (by omega) (by omega), List.getElem?_eraseIdx, if_neg (by omega)]
            exact hg.2.2 (g + 1) (by omega)
          · rw [ge_upG_n (by omega) (by omega) e]
            exact h1 g (by omega)
        · rw [ge_upG_n (by omega) (by omega) (by omega)]
          exact h2 g (by omega) g2
  refine r_aload_0 hK dX9_takesOff_0 ?_
  refine r_iconstN (c := 0) hK dX9_takesOff_1 ?_
  refine r_dup2 hK dX9_takesOff_2 ?_
  refine t_ild hK dX9_takesOff_3 (by rw [hj2]; omega) ?_ hj1
  rw [h0]
  refine r_iconstN (c := 1) hK dX9_takesOff_4 ?_
  first | refine r_isubN hK dX9_takesOff_5 (by omega) ?_ | refine r_isub hK dX9_takesOff_5 ?_
  refine t_ist hK dX9_takesOff_6 (by rw [hj2]; omega) ?_ hj1
  refine r_iload_1 hK dX9_takesOff_7 ?_
  refine r_istore_2 hK dX9_takesOff_8 ?_
  refine lp (gs.length - k) k _ rfl (Nat.le_refl _) hk (upA_s _ _ _ _) (fun g hgk => ?_) (fun g g1 g2 => ?_) (fun a ha => upA_j ha)
  · rw [List.getElem?_eraseIdx, if_pos hgk, hg.2.2 g (by omega)]
    unfold ge
    rw [upA_n (by omega), upA_n (by omega), upA_n (by omega)]
  · unfold ge
    rw [upA_n (by omega), upA_n (by omega), upA_n (by omega)]
/-- what was there earlier, in a ring of 40 -/
def PastR (F : Nat → Nat) (A : Nat → Nat → Nat) (past : List (List Gt)) : Prop := F 32 = past.length ∧ past.length ≤ 40 ∧ F 31 < 40 ∧ ∀ i, i < past.length → ∃ gs, past[i]? = some gs ∧ GA (fun k => A 13 (49 * ((F 31 + i) % 40) + k)) gs
def pushP (past : List (List Gt)) (gs : List Gt) : List (List Gt) := (if past.length = 40 then past.drop 1 else past) ++ [gs]
def HeldR (A : Nat → Nat → Nat) (sl : Nat → Option (List Gt)) : Prop := ∀ s, s < 3 → (sl s = none ∧ A 15 s = 0) ∨ ∃ gs, sl s = some gs ∧ A 15 s = 1 ∧ GA (fun k => A 14 (49 * s + k)) gs
set_option maxHeartbeats 4000000 in
theorem ct_marks {G : GT} {Rel : Nat → Hp → Hp → Prop} (hR : RelOK Rel) {n : Nat} {f0 : Hp} {F : Nat → Nat} {A : Nat → Nat → Nat} {gs : List Gt} {past : List (List Gt)} (hg : GA (A 11) gs) (hp : PastR F A past) : Ct G Rel yX9_marks cX9_marks 3 none (1) (0) [.ref 358] n (tw f0 F A) (Tv n f0 (fun F' A' => PastR F' A' (pushP past gs) ∧ (∀ a, a ≠ 13 → A' a = A a) ∧ ∀ k, k ≠ 31 → k ≠ 32 → F' k = F k)) := by
  refine ct_intro [some (.ref 358), none, none] hR rfl (Nat.le_of_ble_eq_true rfl) ?_
  intro K hG hRel hK hRt hnm
  have j32 : ∀ F1 ps, PastR F1 A ps → ps.length < 40 → pushP past gs = ps ++ [gs] → (∀ k, k ≠ 31 → k ≠ 32 → F1 k = F k) → Wx K 32 [some (.ref 358), none, none] [] n (tw f0 F1 A) 0 := by
    intro F1 ps hps hl hpu hF
    obtain ⟨p1, p2, p3, p4⟩ := hps
    have lp : ∀ m k : Nat, m = 49 - k → k ≤ 49 → Wx K 50 [some (.ref 358), some (zI ((49 * ((F1 31 + F1 32) % 40) : Nat) : Int)), some (zI (k : Int))] [] n (tw f0 F1 (cpA A 13 (49 * ((F1 31 + F1 32) % 40)) (A 11) k)) 0 := by
      intro m
      induction m using Nat.strongRecOn with
      | _ m ih =>
        intro k hm hk
        refine r_iload_2 hK dX9_marks_50 ?_
        refine r_bipushN (c := 49) hK dX9_marks_51 ?_
        refine r_icmp_ge 76 hK dX9_marks_53 (by omega) (by omega) (fun h53 => ?_) (fun h53 => ?_)
        · have e : k = 49 := by omega
          subst e
          refine r_aload_0 hK dX9_marks_76 ?_
          refine r_dup hK dX9_marks_77 ?_
          refine r_get hK fl_X9_218 dX9_marks_78 tw_obj rfl ?_
          refine r_iconstN (c := 1) hK dX9_marks_81 ?_
          first | refine r_iaddN hK dX9_marks_82 ?_ | refine r_iadd hK dX9_marks_82 ?_
          refine t_put hK fl_X9_218 dX9_marks_83 ?_
          refine r_vret hK hRt dX9_marks_86 ⟨rfl, rfl, _, _, rfl, ?_, fun a ha => cpA_j ha, fun k h1 h2 => by rw [upF_n h2]; exact hF k h1 h2⟩
          rw [hpu]
          refine ⟨by rw [upF_s, p1]; simp, by simp; omega, by rw [upF_n (by decide)]; exact p3, fun i hi => ?_⟩
          rw [upF_n (by decide)]
          by_cases hi2 : i < ps.length
          · obtain ⟨gs', q1, q2⟩ := p4 i hi2
            refine ⟨gs', by rw [List.getElem?_append_left hi2]; exact q1, q2.copy (fun k hk => ?_)⟩
            have : (F1 31 + i) % 40 ≠ (F1 31 + F1 32) % 40 := by omega
            exact cpA_out (by omega)
          · have e : i = ps.length := by simp at hi; omega
            subst e
            refine ⟨gs, by simp, hg.copy (fun k hk => ?_)⟩
            rw [← p1]
            exact cpA_in hk
        · refine r_aload_0 hK dX9_marks_56 ?_
          refine r_get hK fl_X9_58 dX9_marks_57 tw_obj rfl ?_
          refine r_iload_1 hK dX9_marks_60 ?_
          refine r_iload_2 hK dX9_marks_61 ?_
          first | refine r_iaddN hK dX9_marks_62 ?_ | refine r_iadd hK dX9_marks_62 ?_
          refine r_aload_0 hK dX9_marks_63 ?_
          refine r_get hK fl_X9_52 dX9_marks_64 tw_obj rfl ?_
          refine r_iload_2 hK dX9_marks_67 ?_
          refine t_ild hK dX9_marks_68 (show _ < 49 by omega) ?_
          refine t_ist hK dX9_marks_69 (show _ < 1960 by omega) ?_
          rw [show cpA A 13 (49 * ((F1 31 + F1 32) % 40)) (A 11) k 11 k = A 11 k by rw [cpA_j (by decide)], cpA_s]
          first | refine r_incN_2 hK dX9_marks_70 ?_ | refine r_iinc_2 hK dX9_marks_70 ?_
          refine r_goto 50 hK dX9_marks_73 ?_
          exact ih (49 - (k + 1)) (by omega) (k + 1) rfl (by omega)
    refine r_bipushN (c := 49) hK dX9_marks_32 ?_
    refine r_aload_0 hK dX9_marks_34 ?_
    refine r_get hK fl_X9_251 dX9_marks_35 tw_obj rfl ?_
    refine r_aload_0 hK dX9_marks_38 ?_
    refine r_get hK fl_X9_218 dX9_marks_39 tw_obj rfl ?_
    first | refine r_iaddN hK dX9_marks_42 ?_ | refine r_iadd hK dX9_marks_42 ?_
    refine r_bipushN (c := 40) hK dX9_marks_43 ?_
    refine r_irem hK dX9_marks_45 (by omega) (by omega) (by omega) ?_
    first | refine r_imulN hK dX9_marks_46 ?_ | refine r_imul hK dX9_marks_46 ?_
    refine r_istore_1 hK dX9_marks_47 ?_
    refine r_iconstN (c := 0) hK dX9_marks_48 ?_
    refine r_istore_2 hK dX9_marks_49 ?_
    have := lp 49 0 rfl (by omega)
    rw [cpA_0] at this
    exact this
  obtain ⟨p1, p2, p3, p4⟩ := id hp
  refine r_aload_0 hK dX9_marks_0 ?_
  refine r_get hK fl_X9_218 dX9_marks_1 tw_obj rfl ?_
  refine r_bipushN (c := 40) hK dX9_marks_4 ?_
  refine r_icmp_ne 32 hK dX9_marks_6 (by omega) (by omega) (fun h6 => ?_) (fun h6 => ?_)
  · exact j32 F past hp (by omega) (by unfold pushP; rw [if_neg (by omega)]) (fun _ _ _ => rfl) --!
  · refine r_aload_0 hK dX9_marks_9 ?_
    refine r_aload_0 hK dX9_marks_10 ?_
    refine r_get hK fl_X9_251 dX9_marks_11 tw_obj rfl ?_
    refine r_iconstN (c := 1) hK dX9_marks_14 ?_
    first | refine r_iaddN hK dX9_marks_15 ?_ | refine r_iadd hK dX9_marks_15 ?_
    refine r_bipushN (c := 40) hK dX9_marks_16 ?_
    refine r_irem hK dX9_marks_18 (by omega) (by omega) (by omega) ?_
    refine t_put hK fl_X9_251 dX9_marks_19 ?_
    refine r_aload_0 hK dX9_marks_22 ?_
    refine r_dup hK dX9_marks_23 ?_
    refine r_get hK fl_X9_218 dX9_marks_24 tw_obj rfl ?_
    rw [upF_n (by decide)]
    refine r_iconstN (c := 1) hK dX9_marks_27 ?_
    first | refine r_isubN hK dX9_marks_28 (by omega) ?_ | refine r_isub hK dX9_marks_28 ?_
    refine t_put hK fl_X9_218 dX9_marks_29 ?_
    refine j32 _ (past.drop 1) ⟨by rw [upF_s, p1]; simp, by simp; omega, by rw [upF_n (by decide), upF_s]; omega, fun i hi => ?_⟩ (by simp; omega) (by unfold pushP; rw [if_pos (by omega)]) (fun k h1 h2 => by rw [upF_n h2, upF_n h1])
    have hi' : i + 1 < past.length := by simp at hi; omega
    obtain ⟨gs', q1, q2⟩ := p4 (i + 1) hi'
    refine ⟨gs', by rw [List.getElem?_drop, Nat.add_comm]; exact q1, ?_⟩
    rw [upF_n (by decide), upF_s, show (((F 31 + 1) % 40 + i) % 40) = (F 31 + (i + 1)) % 40 by omega]
    exact q2
set_option maxHeartbeats 4000000 in
theorem ct_undo {G : GT} {Rel : Nat → Hp → Hp → Prop} (hR : RelOK Rel) {n : Nat} {f0 : Hp} {F : Nat → Nat} {A : Nat → Nat → Nat} {gs : List Gt} {past : List (List Gt)} (hg : GA (A 11) gs) (hp : PastR F A past) : Ct G Rel yX9_undo cX9_undo 3 (some .boolean) (1) (0) [.ref 358] n (tw f0 F A) (Ti n f0 (fun z F' A' => z = (if past = [] then 0 else 1) ∧ PastR F' A' past.dropLast ∧ GA (A' 11) (past.getLast?.getD gs) ∧ (∀ a, a ≠ 11 → A' a = A a) ∧ ∀ k, k ≠ 32 → F' k = F k)) := by
  refine ct_intro [some (.ref 358), none, none] hR rfl (Nat.le_of_ble_eq_true rfl) ?_
  intro K hG hRel hK hRt hnm
  obtain ⟨p1, p2, p3, p4⟩ := id hp
  have lp : ∀ m k : Nat, 0 < past.length → m = 49 - k → k ≤ 49 → Wx K 37 [some (.ref 358), some (zI ((49 * ((F 31 + (past.length - 1)) % 40) : Nat) : Int)), some (zI (k : Int))] [] n (tw f0 (upF F 32 (past.length - 1)) (cpA A 11 0 (fun k => A 13 (49 * ((F 31 + (past.length - 1)) % 40) + k)) k)) 0 := by
    intro m
    induction m using Nat.strongRecOn with
    | _ m ih =>
      intro k h0 hm hk
      refine r_iload_2 hK dX9_undo_37 ?_
      refine r_bipushN (c := 49) hK dX9_undo_38 ?_
      refine r_icmp_ge 63 hK dX9_undo_40 (by omega) (by omega) (fun h40 => ?_) (fun h40 => ?_)
      · have e : k = 49 := by omega
        subst e
        refine r_iconstN (c := 1) hK dX9_undo_63 ?_
        refine r_zret hK hRt dX9_undo_64 rfl ⟨1, rfl, rfl, _, _, rfl, ?_, ?_, ?_, fun a ha => cpA_j ha, fun k h => upF_n h⟩
        · rw [if_neg (fun e => by rw [e] at h0; exact absurd h0 (by decide))]
        · refine ⟨by rw [upF_s]; simp, by simp; omega, by rw [upF_n (by decide)]; exact p3, fun i hi => ?_⟩
          rw [upF_n (by decide)]
          have hi' : i < past.length - 1 := by simpa using hi
          obtain ⟨gs', q1, q2⟩ := p4 i (by omega)
          refine ⟨gs', by rw [List.getElem?_dropLast, if_pos hi']; exact q1, q2.copy (fun k hk => ?_)⟩
          rw [cpA_j (by decide)]
        · obtain ⟨gs', q1, q2⟩ := p4 (past.length - 1) (by omega)
          rw [List.getLast?_eq_getElem?, q1]
          refine q2.copy (fun k hk => ?_)
          have := cpA_in (A := A) (j := 11) (i0 := 0) (src := fun k => A 13 (49 * ((F 31 + (past.length - 1)) % 40) + k)) hk
          rw [Nat.zero_add] at this
          exact this
      · refine r_aload_0 hK dX9_undo_43 ?_
        refine r_get hK fl_X9_52 dX9_undo_44 tw_obj rfl ?_
        refine r_iload_2 hK dX9_undo_47 ?_
        refine r_aload_0 hK dX9_undo_48 ?_
        refine r_get hK fl_X9_58 dX9_undo_49 tw_obj rfl ?_
        refine r_iload_1 hK dX9_undo_52 ?_
        refine r_iload_2 hK dX9_undo_53 ?_
        first | refine r_iaddN hK dX9_undo_54 ?_ | refine r_iadd hK dX9_undo_54 ?_
        refine t_ild hK dX9_undo_55 (show _ < 1960 by omega) ?_
        refine t_ist hK dX9_undo_56 (show _ < 49 by omega) ?_
        rw [show cpA A 11 0 (fun k => A 13 (49 * ((F 31 + (past.length - 1)) % 40) + k)) k 13 (49 * ((F 31 + (past.length - 1)) % 40) + k) = (fun k => A 13 (49 * ((F 31 + (past.length - 1)) % 40) + k)) k by rw [cpA_j (by decide)], show upA (cpA A 11 0 (fun k => A 13 (49 * ((F 31 + (past.length - 1)) % 40) + k)) k) 11 k ((fun k => A 13 (49 * ((F 31 + (past.length - 1)) % 40) + k)) k) = cpA A 11 0 (fun k => A 13 (49 * ((F 31 + (past.length - 1)) % 40) + k)) (k + 1) by have := cpA_s A 11 0 (fun k => A 13 (49 * ((F 31 + (past.length - 1)) % 40) + k)) k; rw [Nat.zero_add] at this; exact this]
        first | refine r_incN_2 hK dX9_undo_57 ?_ | refine r_iinc_2 hK dX9_undo_57 ?_
        refine r_goto 37 hK dX9_undo_60 ?_
        exact ih (49 - (k + 1)) (by omega) (k + 1) h0 rfl (by omega)
  refine r_aload_0 hK dX9_undo_0 ?_
  refine r_get hK fl_X9_218 dX9_undo_1 tw_obj rfl ?_
  refine r_if_ne 9 hK dX9_undo_4 (by omega) (fun h4 => ?_) (fun h4 => ?_)
  · have h0 : 0 < past.length := by omega
    refine r_aload_0 hK dX9_undo_9 ?_
    refine r_dup hK dX9_undo_10 ?_
    refine r_get hK fl_X9_218 dX9_undo_11 tw_obj rfl ?_
    refine r_iconstN (c := 1) hK dX9_undo_14 ?_
    first | refine r_isubN hK dX9_undo_15 (by omega) ?_ | refine r_isub hK dX9_undo_15 ?_
    refine t_put hK fl_X9_218 dX9_undo_16 ?_
    rw [p1]
    refine r_bipushN (c := 49) hK dX9_undo_19 ?_
    refine r_aload_0 hK dX9_undo_21 ?_
    refine r_get hK fl_X9_251 dX9_undo_22 tw_obj rfl ?_
    refine r_aload_0 hK dX9_undo_25 ?_
    refine r_get hK fl_X9_218 dX9_undo_26 tw_obj rfl ?_
    first | refine r_iaddN hK dX9_undo_29 ?_ | refine r_iadd hK dX9_undo_29 ?_
    rw [upF_n (by decide), upF_s]
    refine r_bipushN (c := 40) hK dX9_undo_30 ?_
    refine r_irem hK dX9_undo_32 (by omega) (by omega) (by omega) ?_
    first | refine r_imulN hK dX9_undo_33 ?_ | refine r_imul hK dX9_undo_33 ?_
    refine r_istore_1 hK dX9_undo_34 ?_
    refine r_iconstN (c := 0) hK dX9_undo_35 ?_
    refine r_istore_2 hK dX9_undo_36 ?_
    have := lp 49 0 h0 rfl (by omega)
    rw [cpA_0] at this
    exact this
  · refine r_iconstN (c := 0) hK dX9_undo_7 ?_
    refine r_zret hK hRt dX9_undo_8 rfl ⟨0, rfl, rfl, _, _, rfl, ?_, ?_, ?_, fun a ha => rfl, fun k h => rfl⟩
    · have e : past = [] := List.eq_nil_of_length_eq_zero (by omega)
      rw [if_pos e]
    · have e : past = [] := List.eq_nil_of_length_eq_zero (by omega)
      rw [e] at hp ⊢
      exact hp
    · have e : past = [] := List.eq_nil_of_length_eq_zero (by omega)
      rw [e]
      exact hg
