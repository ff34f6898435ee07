set_option maxRecDepth 100000
/-! ===== the reference: what gates make, agreeing, levels ===== -/
set_option maxHeartbeats 4000000 in
theorem ct_made {G : GT} {Rel : Nat → Hp → Hp → Prop} (hR : RelOK Rel) {n : Nat} {f0 : Hp} {F : Nat → Nat} {A : Nat → Nat → Nat} {gs : List Gt} {z zn : Int} (hz : inR z) (hzn : inR zn) (hw : F 17 ≤ 4) (hg : GA (A 11) gs) (ho : ∀ g ∈ gs, gok 4 g) : Ct G Rel yX9_made cX9_made 3 (some .int) (4) (0) [.ref 358, zI z, zI zn] n (tw f0 F A) (Pu (zI (if (0 ≤ z ∧ z < rN (F 17)) ∧ 0 ≤ zn ∧ zn ≤ gs.length then ((run (gs.take zn.toNat) z.toNat : Nat) : Int) else -1)) n (tw f0 F A)) := by
  refine ct_intro [some (.ref 358), some (zI z), some (zI zn)] hR rfl (Nat.le_of_ble_eq_true rfl) ?_
  intro K hG hRel hK hRt hnm
  have h0 := hg.1
  have hl := hg.2.1
  have hr4 := rN4 hw
  refine r_aload_0 hK dX9_made_0 ?_
  refine r_iload_1 hK dX9_made_1 ?_
  refine r_pV1 hK (ct_isRow hK.rel hz hw) lk_X9_258 (tw_rcv hK) dX9_made_2 ?_
  refine r_ifB_eq 30 hK dX9_made_5 (fun h5 => ?_) (fun h5 => ?_)
  · refine r_iconst hK dX9_made_30 ?_
    exact r_iret hK hRt dX9_made_31 ⟨by rw [if_neg (by omega)], rfl, rfl⟩
  · refine r_iload_2 hK dX9_made_8 ?_
    refine r_iconstN (c := 0) hK dX9_made_9 ?_
    refine r_aload_0 hK dX9_made_10 ?_
    refine r_pV0 hK (ct_gates hK.rel) lk_X9_244 (tw_rcv hK) dX9_made_11 ?_
    refine r_pS3 hK (ct_in hK.rel hzn (by omega) (by omega)) lk_X9_237 dX9_made_14 ?_
    refine r_ifB_eq 30 hK dX9_made_17 (fun h17 => ?_) (fun h17 => ?_)
    · refine r_iconst hK dX9_made_30 ?_
      exact r_iret hK hRt dX9_made_31 ⟨by rw [if_neg (by omega)], rfl, rfl⟩
    · obtain ⟨k, rfl⟩ : ∃ s : Nat, z = (s : Int) := ⟨z.toNat, by omega⟩
      obtain ⟨j, rfl⟩ : ∃ s : Nat, zn = (s : Int) := ⟨zn.toNat, by omega⟩
      refine r_aload_0 hK dX9_made_20 ?_
      refine r_iload_1 hK dX9_made_21 ?_
      refine r_iconstN (c := 0) hK dX9_made_22 ?_
      refine r_iload_2 hK dX9_made_23 ?_
      refine r_pV3 hK (ct_madeBy hK.rel hg ho (by omega) (by omega) (by omega)) lk_X9_307 (tw_rcv hK) dX9_made_24 ?_
      refine r_goto 31 hK dX9_made_27 ?_
      exact r_iret hK hRt dX9_made_31 ⟨by rw [if_pos (by omega)]; simp, rfl, rfl⟩
set_option maxHeartbeats 4000000 in
theorem ct_undone {G : GT} {Rel : Nat → Hp → Hp → Prop} (hR : RelOK Rel) {n : Nat} {f0 : Hp} {F : Nat → Nat} {A : Nat → Nat → Nat} {gs : List Gt} {z : Int} (hz : inR z) (hw : F 17 ≤ 4) (hg : GA (A 11) gs) (ho : ∀ g ∈ gs, gok 4 g) : Ct G Rel yX9_undone cX9_undone 4 (some .int) (3) (0) [.ref 358, zI z] n (tw f0 F A) (Pu (zI (if 0 ≤ z ∧ z < rN (F 17) then ((run gs.reverse z.toNat : Nat) : Int) else -1)) n (tw f0 F A)) := by
  refine ct_intro [some (.ref 358), some (zI z), none, none] hR rfl (Nat.le_of_ble_eq_true rfl) ?_
  intro K hG hRel hK hRt hnm
  have h0 := hg.1
  have hl := hg.2.1
  have hr4 := rN4 hw
  have lp : ∀ (i x y : Nat), z = (x : Int) → x < rN (F 17) → y < 16 → i ≤ gs.length → run (gs.take i).reverse y = run gs.reverse x → Wx K 19 [some (.ref 358), some (zI (x : Int)), some (zI (y : Int)), some (zI ((i : Int) - 1))] [] n (tw f0 F A) 0 := by
    intro i
    induction i with
    | zero =>
      intro x y e hx hy hi hr
      refine r_iload_3 hK dX9_undone_19 ?_
      refine r_if_lt 39 hK dX9_undone_20 (by omega) (fun h20 => ?_) (fun h20 => ?_)
      · refine r_iload_2 hK dX9_undone_39 ?_
        exact r_iret hK hRt dX9_undone_40 ⟨by rw [if_pos (by omega), e, Int.toNat_natCast, ← hr]; rfl, rfl, rfl⟩
      · exact absurd h20 (by omega)
    | succ i ih =>
      intro x y e hx hy hi hr
      rw [show ((i + 1 : Nat) : Int) - 1 = (i : Int) by omega]
      have hgi := hg.ok ho (show i < gs.length by omega)
      refine r_iload_3 hK dX9_undone_19 ?_
      refine r_if_lt 39 hK dX9_undone_20 (by omega) (fun h20 => ?_) (fun h20 => ?_)
      · exact absurd h20 (by omega)
      · refine r_aload_0 hK dX9_undone_23 ?_
        refine r_get hK fl_X9_52 dX9_undone_24 tw_obj rfl ?_
        refine r_iload_3 hK dX9_undone_27 ?_
        refine r_iload_2 hK dX9_undone_28 ?_
        refine r_pS3 hK (ct_by (j := 11) hK.rel (Or.inl rfl) (by omega) (by omega) hgi) lk_X9_303 dX9_undone_29 ?_
        refine r_istore_2 hK dX9_undone_32 ?_
        first | refine r_decN_3 hK dX9_undone_33 ?_ | refine r_iinc_3 hK dX9_undone_33 ?_
        refine r_goto 19 hK dX9_undone_36 ?_
        refine ih x _ e hx (mk_lt (w := 4) hgi.1 hy) (by omega) ?_
        rw [← hr, List.take_succ_eq_append_getElem (by omega), List.reverse_append, run_app, hg.at (by omega)]
        rfl
  refine r_aload_0 hK dX9_undone_0 ?_
  refine r_iload_1 hK dX9_undone_1 ?_
  refine r_pV1 hK (ct_isRow hK.rel hz hw) lk_X9_258 (tw_rcv hK) dX9_undone_2 ?_
  refine r_ifB_ne 10 hK dX9_undone_5 (fun h5 => ?_) (fun h5 => ?_)
  · obtain ⟨k, rfl⟩ : ∃ s : Nat, z = (s : Int) := ⟨z.toNat, by omega⟩
    refine r_iload_1 hK dX9_undone_10 ?_
    refine r_istore_2 hK dX9_undone_11 ?_
    refine r_aload_0 hK dX9_undone_12 ?_
    refine r_pV0 hK (ct_gates hK.rel) lk_X9_244 (tw_rcv hK) dX9_undone_13 ?_
    rw [h0]
    refine r_iconstN (c := 1) hK dX9_undone_16 ?_
    refine r_isub hK dX9_undone_17 ?_
    refine r_istore_3 hK dX9_undone_18 ?_
    exact lp gs.length k k rfl (by omega) (by omega) (Nat.le_refl _) (by rw [List.take_length])
  · refine r_iconst hK dX9_undone_8 ?_
    exact r_iret hK hRt dX9_undone_9 ⟨by rw [if_neg (by omega)], rfl, rfl⟩
set_option maxHeartbeats 4000000 in
theorem ct_laysOrder {G : GT} {Rel : Nat → Hp → Hp → Prop} (hR : RelOK Rel) {n : Nat} {f0 : Hp} {F : Nat → Nat} {A : Nat → Nat → Nat} {j : Nat} {gs : List Gt} (hj : j = 11 ∨ j = 18) (hw : F 17 ≤ 4) (hg : GA (A j) gs) (ho : ∀ g ∈ gs, gok 4 g) : Ct G Rel yX9_laysOrder cX9_laysOrder 4 none (3) (0) [.ref 358, .ref (j + 359)] n (tw f0 F A) (Tv n f0 (fun F' A' => F' = F ∧ (∀ a, a ≠ 16 → A' a = A a) ∧ ∀ r, r < rN (F 17) → A' 16 r = run gs r)) := by
  refine ct_intro [some (.ref 358), some (.ref (j + 359)), none, none] hR rfl (Nat.le_of_ble_eq_true rfl) ?_
  intro K hG hRel hK hRt hnm
  have hj1 : isIa j = true := by rcases hj with e | e <;> subst e <;> rfl
  have hj2 : twl j = 49 := by rcases hj with e | e <;> subst e <;> rfl
  have hl := hg.2.1
  have h0 := hg.1
  have hr4 := rN4 hw
  have lp : ∀ m r A', m = rN (F 17) - r → r ≤ rN (F 17) → (∀ a, a ≠ 16 → A' a = A a) → (∀ q, q < r → A' 16 q = run gs q) → Wx K 2 [some (.ref 358), some (.ref (j + 359)), some (zI (r : Int)), none] [] n (tw f0 F A') 0 := by
    intro m
    induction m using Nat.strongRecOn with
    | _ m ih =>
      intro r A' hm hr h1 h2
      have ip : ∀ i A'', i ≤ gs.length → r < rN (F 17) → (∀ a, a ≠ 16 → A'' a = A a) → (∀ q, q < r → A'' 16 q = run gs q) → A'' 16 r = run (gs.take i) r → Wx K 19 [some (.ref 358), some (.ref (j + 359)), some (zI (r : Int)), some (zI (i : Int))] [] n (tw f0 F A'') 0 := by
        intro i
        generalize hd : gs.length - i = dd
        induction dd using Nat.strongRecOn generalizing i with
        | _ dd ih2 =>
          intro A'' hi hr2 g1 g2 g3
          have gj := g1 j (by omega)
          have hb : run (gs.take i) r < 16 := run_lt (w := 4) (fun g h => (ho g (List.mem_of_mem_take h)).1) (show r < rN 4 by show r < 16; omega)
          refine r_iload_3 hK dX9_laysOrder_19 ?_
          refine r_aload_1 hK dX9_laysOrder_20 ?_
          refine r_iconstN (c := 0) hK dX9_laysOrder_21 ?_
          refine t_ild hK dX9_laysOrder_22 (by rw [hj2]; omega) ?_ hj1
          rw [gj, h0]
          refine r_icmp_ge 49 hK dX9_laysOrder_23 (by omega) (by omega) (fun h23 => ?_) (fun h23 => ?_)
          · have e : i = gs.length := by omega
            subst e
            first | refine r_incN_2 hK dX9_laysOrder_49 ?_ | refine r_iinc_2 hK dX9_laysOrder_49 ?_
            refine r_goto 2 hK dX9_laysOrder_52 ?_
            refine r_forget_3 ?_
            refine ih (rN (F 17) - (r + 1)) (by omega) (r + 1) A'' rfl (by omega) g1 (fun q hq => ?_)
            by_cases e : q = r
            · subst e; rw [g3, List.take_length]
            · exact g2 q (by omega)
          · refine r_aload_0 hK dX9_laysOrder_26 ?_
            refine r_get hK fl_X9_68 dX9_laysOrder_27 tw_obj rfl ?_
            refine r_iload_2 hK dX9_laysOrder_30 ?_
            refine r_aload_1 hK dX9_laysOrder_31 ?_
            refine r_iload_3 hK dX9_laysOrder_32 ?_
            refine r_aload_0 hK dX9_laysOrder_33 ?_
            refine r_get hK fl_X9_68 dX9_laysOrder_34 tw_obj rfl ?_
            refine r_iload_2 hK dX9_laysOrder_37 ?_
            refine t_ild hK dX9_laysOrder_38 (show _ < 64 by omega) ?_
            rw [g3]
            refine r_pS3 hK (ct_by hK.rel hj (by omega) (by omega) (by rw [gj]; exact hg.ok ho (by omega))) lk_X9_303 dX9_laysOrder_39 ?_
            refine t_ist hK dX9_laysOrder_42 (show _ < 64 by omega) ?_
            first | refine r_incN_3 hK dX9_laysOrder_43 ?_ | refine r_iinc_3 hK dX9_laysOrder_43 ?_
            refine r_goto 19 hK dX9_laysOrder_46 ?_
            refine ih2 (gs.length - (i + 1)) (by omega) (i + 1) rfl _ (by omega) hr2 (fun a ha => by rw [upA_j ha]; exact g1 a ha) (fun q hq => by rw [upA_n (by omega)]; exact g2 q hq) ?_
            rw [upA_s, run_take_succ (by omega), gj, hg.at (by omega)]
      refine r_iload_2 hK dX9_laysOrder_2 ?_
      refine r_aload_0 hK dX9_laysOrder_3 ?_
      refine r_pV0 hK (ct_rows hK.rel hw) lk_X9_248 (tw_rcv hK) dX9_laysOrder_4 ?_
      refine r_icmp_ge 55 hK dX9_laysOrder_7 (by omega) (by omega) (fun h7 => ?_) (fun h7 => ?_)
      · exact r_vret hK hRt dX9_laysOrder_55 ⟨rfl, rfl, F, A', rfl, rfl, h1, fun q hq => h2 q (by omega)⟩
      · refine r_aload_0 hK dX9_laysOrder_10 ?_
        refine r_get hK fl_X9_68 dX9_laysOrder_11 tw_obj rfl ?_
        refine r_iload_2 hK dX9_laysOrder_14 ?_
        refine r_iload_2 hK dX9_laysOrder_15 ?_
        refine t_ist hK dX9_laysOrder_16 (show _ < 64 by omega) ?_
        refine r_iconstN (c := 0) hK dX9_laysOrder_17 ?_
        refine r_istore_3 hK dX9_laysOrder_18 ?_
        exact ip 0 _ (by omega) (by omega) (fun a ha => by rw [upA_j ha]; exact h1 a ha) (fun q hq => by rw [upA_n (by omega)]; exact h2 q hq) (upA_s _ _ _ _)
  refine r_iconstN (c := 0) hK dX9_laysOrder_0 ?_
  refine r_istore_2 hK dX9_laysOrder_1 ?_
  exact lp (rN (F 17)) 0 A rfl (by omega) (fun _ _ => rfl) (fun q hq => by omega)
set_option maxHeartbeats 4000000 in
theorem ct_doAgree {G : GT} {Rel : Nat → Hp → Hp → Prop} (hR : RelOK Rel) {n : Nat} {f0 : Hp} {F : Nat → Nat} {A : Nat → Nat → Nat} {j a b : Nat} (hj : j = 11 ∨ j = 18) (hw : F 17 ≤ 4) (ha : a < 16) (hb : b < 16) (hga : gok 4 (ge (A j) a)) (hgb : gok 4 (ge (A j) b)) : Ct G Rel yX9_doAgree cX9_doAgree 5 (some .boolean) (3) (0) [.ref 358, .ref (j + 359), zI (a : Int), zI (b : Int)] n (tw f0 F A) (Pu (zB (agr (F 17) (ge (A j) a) (ge (A j) b) = true)) n (tw f0 F A)) := by
  refine ct_intro [some (.ref 358), some (.ref (j + 359)), some (zI (a : Int)), some (zI (b : Int)), none] hR rfl (Nat.le_of_ble_eq_true rfl) ?_
  intro K hG hRel hK hRt hnm
  have hr4 := rN4 hw
  have lp : ∀ m x : Nat, m = rN (F 17) - x → x ≤ rN (F 17) → (∀ q, q < x → mk (ge (A j) a) (mk (ge (A j) b) q) = mk (ge (A j) b) (mk (ge (A j) a) q)) → Wx K 3 [some (.ref 358), some (.ref (j + 359)), some (zI (a : Int)), some (zI (b : Int)), some (zI (x : Int))] [] n (tw f0 F A) 0 := by
    intro m
    induction m using Nat.strongRecOn with
    | _ m ih =>
      intro x hm hx h1
      have k1 : x < 16 → mk (ge (A j) a) x < 16 := fun h => mk_lt (w := 4) hga.1 h
      have k2 : x < 16 → mk (ge (A j) b) x < 16 := fun h => mk_lt (w := 4) hgb.1 h
      have k3 : x < 16 → mk (ge (A j) b) (mk (ge (A j) a) x) < 16 := fun h => mk_lt (w := 4) hgb.1 (k1 h)
      have k4 : x < 16 → mk (ge (A j) a) (mk (ge (A j) b) x) < 16 := fun h => mk_lt (w := 4) hga.1 (k2 h)
      refine r_iload_4 hK dX9_doAgree_3 ?_
      refine r_aload_0 hK dX9_doAgree_5 ?_
      refine r_pV0 hK (ct_rows hK.rel hw) lk_X9_248 (tw_rcv hK) dX9_doAgree_6 ?_
      refine r_icmp_ge 47 hK dX9_doAgree_9 (by omega) (by omega) (fun h9 => ?_) (fun h9 => ?_)
      · refine r_iconstN (c := 1) hK dX9_doAgree_47 ?_
        exact r_zret hK hRt dX9_doAgree_48 rfl ⟨by rw [zB_t (agr_iff.mpr (fun q hq => h1 q (by omega)))]; rfl, rfl, rfl⟩
      · refine r_aload_1 hK dX9_doAgree_12 ?_
        refine r_iload_2 hK dX9_doAgree_13 ?_
        refine r_aload_1 hK dX9_doAgree_14 ?_
        refine r_iload_3 hK dX9_doAgree_15 ?_
        refine r_iload_4 hK dX9_doAgree_16 ?_
        refine r_pS3 hK (ct_by hK.rel hj hb (by omega) hgb) lk_X9_303 dX9_doAgree_18 ?_
        refine r_pS3 hK (ct_by hK.rel hj ha (by have := k2 (by omega); omega) hga) lk_X9_303 dX9_doAgree_21 ?_
        refine r_aload_1 hK dX9_doAgree_24 ?_
        refine r_iload_3 hK dX9_doAgree_25 ?_
        refine r_aload_1 hK dX9_doAgree_26 ?_
        refine r_iload_2 hK dX9_doAgree_27 ?_
        refine r_iload_4 hK dX9_doAgree_28 ?_
        refine r_pS3 hK (ct_by hK.rel hj ha (by omega) hga) lk_X9_303 dX9_doAgree_30 ?_
        refine r_pS3 hK (ct_by hK.rel hj hb (by have := k1 (by omega); omega) hgb) lk_X9_303 dX9_doAgree_33 ?_
        refine r_icmp_eq 41 hK dX9_doAgree_36 (by have := k4 (by omega); omega) (by have := k3 (by omega); omega) (fun h36 => ?_) (fun h36 => ?_)
        · first | refine r_incN_4 hK dX9_doAgree_41 ?_ | refine r_iinc_4 hK dX9_doAgree_41 ?_
          refine r_goto 3 hK dX9_doAgree_44 ?_
          refine ih (rN (F 17) - (x + 1)) (by omega) (x + 1) rfl (by omega) (fun q hq => ?_)
          by_cases e : q = x
          · subst e; omega
          · exact h1 q (by omega)
        · refine r_iconstN (c := 0) hK dX9_doAgree_39 ?_
          exact r_zret hK hRt dX9_doAgree_40 rfl ⟨by rw [zB_f (fun h => by have := agr_iff.mp h x (by omega); omega)]; rfl, rfl, rfl⟩
  refine r_iconstN (c := 0) hK dX9_doAgree_0 ?_
  refine r_istore_4 hK dX9_doAgree_1 ?_
  exact lp (rN (F 17)) 0 rfl (by omega) (fun q hq => by omega)
set_option maxHeartbeats 4000000 in
theorem ct_agree {G : GT} {Rel : Nat → Hp → Hp → Prop} (hR : RelOK Rel) {n : Nat} {f0 : Hp} {F : Nat → Nat} {A : Nat → Nat → Nat} {gs : List Gt} {y z : Int} (hy : inR y) (hz : inR z) (hw : F 17 ≤ 4) (hg : GA (A 11) gs) (ho : ∀ g ∈ gs, gok 4 g) : Ct G Rel yX9_agree cX9_agree 3 (some .int) (4) (0) [.ref 358, zI y, zI z] n (tw f0 F A) (Pu (zI (if (0 ≤ y ∧ y < gs.length) ∧ 0 ≤ z ∧ z < gs.length then (if agr (F 17) (gt gs y.toNat) (gt gs z.toNat) then 1 else 0) else -1)) n (tw f0 F A)) := by
  refine ct_intro [some (.ref 358), some (zI y), some (zI z)] hR rfl (Nat.le_of_ble_eq_true rfl) ?_
  intro K hG hRel hK hRt hnm
  have h0 := hg.1
  have hl := hg.2.1
  refine r_aload_0 hK dX9_agree_0 ?_
  refine r_iload_1 hK dX9_agree_1 ?_
  refine r_pV1 hK (ct_isGate hK.rel hy (by omega)) lk_X9_272 (tw_rcv hK) dX9_agree_2 ?_
  refine r_ifB_eq 37 hK dX9_agree_5 (fun h5 => ?_) (fun h5 => ?_)
  · refine r_iconst hK dX9_agree_37 ?_
    exact r_iret hK hRt dX9_agree_38 ⟨by rw [if_neg (by omega)], rfl, rfl⟩
  · refine r_aload_0 hK dX9_agree_8 ?_
    refine r_iload_2 hK dX9_agree_9 ?_
    refine r_pV1 hK (ct_isGate hK.rel hz (by omega)) lk_X9_272 (tw_rcv hK) dX9_agree_10 ?_
    refine r_ifB_eq 37 hK dX9_agree_13 (fun h13 => ?_) (fun h13 => ?_)
    · refine r_iconst hK dX9_agree_37 ?_
      exact r_iret hK hRt dX9_agree_38 ⟨by rw [if_neg (by omega)], rfl, rfl⟩
    · obtain ⟨a, rfl⟩ : ∃ s : Nat, y = (s : Int) := ⟨y.toNat, by omega⟩
      obtain ⟨b, rfl⟩ : ∃ s : Nat, z = (s : Int) := ⟨z.toNat, by omega⟩
      have ha : a < gs.length := by omega
      have hb : b < gs.length := by omega
      refine r_aload_0 hK dX9_agree_16 ?_
      refine r_aload_0 hK dX9_agree_17 ?_
      refine r_get hK fl_X9_52 dX9_agree_18 tw_obj rfl ?_
      refine r_iload_1 hK dX9_agree_21 ?_
      refine r_iload_2 hK dX9_agree_22 ?_
      refine r_pV3 hK (ct_doAgree (j := 11) hK.rel (Or.inl rfl) hw (by omega) (by omega) (hg.ok ho ha) (hg.ok ho hb)) lk_X9_314 (tw_rcv hK) dX9_agree_23 ?_
      rw [hg.gt ha, hg.gt hb]
      refine r_ifB_eq 33 hK dX9_agree_26 (fun h26 => ?_) (fun h26 => ?_)
      · refine r_iconstN (c := 0) hK dX9_agree_33 ?_
        refine r_goto 38 hK dX9_agree_34 ?_
        exact r_iret hK hRt dX9_agree_38 ⟨by rw [if_pos (by omega), Int.toNat_natCast, Int.toNat_natCast, if_neg h26]; rfl, rfl, rfl⟩
      · refine r_iconstN (c := 1) hK dX9_agree_29 ?_
        refine r_goto 38 hK dX9_agree_30 ?_
        exact r_iret hK hRt dX9_agree_38 ⟨by rw [if_pos (by omega), Int.toNat_natCast, Int.toNat_natCast, if_pos h26]; rfl, rfl, rfl⟩
