set_option maxRecDepth 100000
/-! ===== the reference: stuck, seen, terms, idle, found, shrunk ===== -/
set_option maxHeartbeats 4000000 in
theorem ct_stuckBy {G : GT} {Rel : Nat → Hp → Hp → Prop} (hR : RelOK Rel) {n : Nat} {f0 : Hp} {F : Nat → Nat} {A : Nat → Nat → Nat} {gs : List Gt} {x w o : Nat} (hg : GA (A 11) gs) (ho : ∀ g ∈ gs, gok 4 g) (hx : x < 16) (hw : w < 4) (h2 : o < 2) : Ct G Rel yX9_stuckBy cX9_stuckBy 6 (some .int) (3) (0) [.ref 358, zI (x : Int), zI (w : Int), zI (o : Int)] n (tw f0 F A) (Pu (zI ((stkRun gs w o x : Nat) : Int)) n (tw f0 F A)) := by
  refine ct_intro [some (.ref 358), some (zI (x : Int)), some (zI (w : Int)), some (zI (o : Int)), none, none] hR rfl (Nat.le_of_ble_eq_true rfl) ?_
  intro K hG hRel hK hRt hnm
  have hl := hg.2.1
  have h0 := hg.1
  have ol : o <<< w < 16 := o_lt (k := 4) h2 hw
  have lp : ∀ m i y : Nat, m = gs.length - i → i ≤ gs.length → y = stkRun (gs.take i) w o x → Wx K 16 [some (.ref 358), some (zI (x : Int)), some (zI (w : Int)), some (zI (o : Int)), some (zI (y : Int)), some (zI (i : Int))] [] n (tw f0 F A) 0 := by
    intro m
    induction m using Nat.strongRecOn with
    | _ m ih =>
      intro i y hm hi hy
      have hy16 : y < 16 := by
        rw [hy]
        exact stkRun_lt (k := 4) h2 hw (fun g h => (ho g (List.mem_of_mem_take h)).1) hx
      refine r_iload_5 hK dX9_stuckBy_16 ?_
      refine r_aload_0 hK dX9_stuckBy_18 ?_
      refine r_pV0 hK (ct_gates hK.rel) lk_X9_244 (tw_rcv hK) dX9_stuckBy_19 ?_
      rw [h0]
      refine r_icmp_ge 54 hK dX9_stuckBy_22 (by omega) (by omega) (fun h22 => ?_) (fun h22 => ?_)
      · have e : i = gs.length := by omega
        refine r_iload_4 hK dX9_stuckBy_54 ?_
        exact r_iret hK hRt dX9_stuckBy_56 ⟨by rw [hy, e, List.take_length], rfl, rfl⟩
      · refine r_aload_0 hK dX9_stuckBy_25 ?_
        refine r_get hK fl_X9_52 dX9_stuckBy_26 tw_obj rfl ?_
        refine r_iload_5 hK dX9_stuckBy_29 ?_
        refine r_iload_4 hK dX9_stuckBy_31 ?_
        refine r_pS3 hK (ct_by (j := 11) hK.rel (Or.inl rfl) (by omega) (by omega) (hg.ok ho (by omega))) lk_X9_303 dX9_stuckBy_33 ?_
        have hb : mk (ge (A 11) i) y < 16 := mk_lt (w := 4) (hg.ok ho (by omega)).1 hy16
        refine r_iconstN (c := 1) hK dX9_stuckBy_36 ?_
        refine r_iload_2 hK dX9_stuckBy_37 ?_
        refine r_ishl hK dX9_stuckBy_38 (by omega) (by first | exact sh1 (by omega) | omega) ?_
        refine r_iconst hK dX9_stuckBy_39 ?_
        first | refine r_ixor hK dX9_stuckBy_40 ?_ | refine r_not hK dX9_stuckBy_40 ?_
        first | refine r_iand hK dX9_stuckBy_41 ?_ | refine r_andnot hK dX9_stuckBy_41 (by omega) ?_
        refine r_iload_3 hK dX9_stuckBy_42 ?_
        refine r_iload_2 hK dX9_stuckBy_43 ?_
        refine r_ishl hK dX9_stuckBy_44 (by omega) (by omega) ?_
        refine r_ior hK dX9_stuckBy_45 ?_
        refine r_istore_4 hK dX9_stuckBy_46 ?_
        first | refine r_incN_5 hK dX9_stuckBy_48 ?_ | refine r_iinc_5 hK dX9_stuckBy_48 ?_
        refine r_goto 16 hK dX9_stuckBy_51 ?_
        exact ih (gs.length - (i + 1)) (by omega) (i + 1) _ rfl (by omega) (by rw [stkRun_take (by omega), ← hy, hg.at (by omega)]; rfl)
  refine r_iload_1 hK dX9_stuckBy_0 ?_
  refine r_iconstN (c := 1) hK dX9_stuckBy_1 ?_
  refine r_iload_2 hK dX9_stuckBy_2 ?_
  refine r_ishl hK dX9_stuckBy_3 (by omega) (by first | exact sh1 (by omega) | omega) ?_
  refine r_iconst hK dX9_stuckBy_4 ?_
  first | refine r_ixor hK dX9_stuckBy_5 ?_ | refine r_not hK dX9_stuckBy_5 ?_
  first | refine r_iand hK dX9_stuckBy_6 ?_ | refine r_andnot hK dX9_stuckBy_6 (by omega) ?_
  refine r_iload_3 hK dX9_stuckBy_7 ?_
  refine r_iload_2 hK dX9_stuckBy_8 ?_
  refine r_ishl hK dX9_stuckBy_9 (by omega) (by omega) ?_
  refine r_ior hK dX9_stuckBy_10 ?_
  refine r_istore_4 hK dX9_stuckBy_11 ?_
  refine r_iconstN (c := 0) hK dX9_stuckBy_13 ?_
  refine r_istore_5 hK dX9_stuckBy_14 ?_
  exact lp gs.length 0 _ rfl (by omega) rfl
set_option maxHeartbeats 4000000 in
theorem ct_stuck {G : GT} {Rel : Nat → Hp → Hp → Prop} (hR : RelOK Rel) {n : Nat} {f0 : Hp} {F : Nat → Nat} {A : Nat → Nat → Nat} {gs : List Gt} {y z : Int} {o : Bool} (hy : inR y) (hz : inR z) (hw : F 17 ≤ 4) (hg : GA (A 11) gs) (ho : ∀ g ∈ gs, gok 4 g) : Ct G Rel yX9_stuck cX9_stuck 4 (some .int) (4) (0) [.ref 358, zI y, zI z, zI (if o then 1 else 0)] n (tw f0 F A) (Pu (zI (if (0 ≤ y ∧ y < rN (F 17)) ∧ 0 ≤ z ∧ z < F 17 then ((stkRun gs z.toNat (if o then 1 else 0) y.toNat : Nat) : Int) else -1)) n (tw f0 F A)) := by
  refine ct_intro [some (.ref 358), some (zI y), some (zI z), some (zI (if o then 1 else 0))] hR rfl (Nat.le_of_ble_eq_true rfl) ?_
  intro K hG hRel hK hRt hnm
  have hr4 := rN4 hw
  refine r_aload_0 hK dX9_stuck_0 ?_
  refine r_iload_1 hK dX9_stuck_1 ?_
  refine r_pV1 hK (ct_isRow hK.rel hy hw) lk_X9_258 (tw_rcv hK) dX9_stuck_2 ?_
  refine r_ifB_eq 40 hK dX9_stuck_5 (fun h5 => ?_) (fun h5 => ?_)
  · refine r_iconst hK dX9_stuck_40 ?_
    exact r_iret hK hRt dX9_stuck_41 ⟨by rw [if_neg (by omega)], rfl, rfl⟩
  · refine r_iload_2 hK dX9_stuck_8 ?_
    refine r_iconstN (c := 0) hK dX9_stuck_9 ?_
    refine r_aload_0 hK dX9_stuck_10 ?_
    refine r_get hK fl_X9_203 dX9_stuck_11 tw_obj rfl ?_
    refine r_iconstN (c := 1) hK dX9_stuck_14 ?_
    refine r_isub hK dX9_stuck_15 ?_
    refine r_pS3 hK (ct_in hK.rel hz (by omega) (by omega)) lk_X9_237 dX9_stuck_16 ?_
    refine r_ifB_eq 40 hK dX9_stuck_19 (fun h19 => ?_) (fun h19 => ?_)
    · refine r_iconst hK dX9_stuck_40 ?_
      exact r_iret hK hRt dX9_stuck_41 ⟨by rw [if_neg (by omega)], rfl, rfl⟩
    · obtain ⟨a, rfl⟩ : ∃ s : Nat, y = (s : Int) := ⟨y.toNat, by omega⟩
      obtain ⟨b, rfl⟩ : ∃ s : Nat, z = (s : Int) := ⟨z.toNat, by omega⟩
      refine r_aload_0 hK dX9_stuck_22 ?_
      refine r_iload_1 hK dX9_stuck_23 ?_
      refine r_iload_2 hK dX9_stuck_24 ?_
      refine r_iload_3 hK dX9_stuck_25 ?_
      refine r_if_eq 33 hK dX9_stuck_26 (by split <;> decide) (fun h26 => ?_) (fun h26 => ?_)
      · refine r_iconstN (c := 0) hK dX9_stuck_33 ?_
        refine r_pV3 hK (ct_stuckBy hK.rel hg ho (by omega) (by omega) (by decide)) lk_X9_385 (tw_rcv hK) dX9_stuck_34 ?_
        refine r_goto 41 hK dX9_stuck_37 ?_
        exact r_iret hK hRt dX9_stuck_41 ⟨by rw [if_pos (by omega), Int.toNat_natCast, Int.toNat_natCast]; cases o <;> first | rfl | exact absurd h26 (by decide), rfl, rfl⟩
      · refine r_iconstN (c := 1) hK dX9_stuck_29 ?_
        refine r_goto 34 hK dX9_stuck_30 ?_
        refine r_pV3 hK (ct_stuckBy hK.rel hg ho (by omega) (by omega) (by decide)) lk_X9_385 (tw_rcv hK) dX9_stuck_34 ?_
        refine r_goto 41 hK dX9_stuck_37 ?_
        exact r_iret hK hRt dX9_stuck_41 ⟨by rw [if_pos (by omega), Int.toNat_natCast, Int.toNat_natCast]; cases o <;> first | rfl | exact absurd rfl h26, rfl, rfl⟩
set_option maxHeartbeats 4000000 in
theorem ct_seenBy {G : GT} {Rel : Nat → Hp → Hp → Prop} (hR : RelOK Rel) {n : Nat} {f0 : Hp} {F : Nat → Nat} {A : Nat → Nat → Nat} {gs : List Gt} {x : Nat} (hw : F 17 ≤ 4) (hg : GA (A 11) gs) (ho : ∀ g ∈ gs, gok 4 g) (hx : x < 16) : Ct G Rel yX9_seenBy cX9_seenBy 4 (some .int) (4) (0) [.ref 358, zI (x : Int)] n (tw f0 F A) (Pu (zI ((senF gs x (2 * F 17) : Nat) : Int)) n (tw f0 F A)) := by
  refine ct_intro [some (.ref 358), some (zI (x : Int)), none, none] hR rfl (Nat.le_of_ble_eq_true rfl) ?_
  intro K hG hRel hK hRt hnm
  have h0 := hg.1
  have hrun : run gs x < 16 := run_lt (w := 4) (fun g h => (ho g h).1) hx
  have lp : ∀ m f : Nat, m = 2 * F 17 - f → f ≤ 2 * F 17 → Wx K 4 [some (.ref 358), some (zI (x : Int)), some (zI ((senF gs x f : Nat) : Int)), some (zI (f : Int))] [] n (tw f0 F A) 0 := by
    intro m
    induction m using Nat.strongRecOn with
    | _ m ih =>
      intro f hm hf
      have hs8 : senF gs x f < 256 := Nat.lt_of_lt_of_le (senF_lt gs x f) (rN_le (k := 8) (by omega))
      have e : senF gs x (f + 1) = if stkRun gs (f / 2) (f % 2) x = run gs x then senF gs x f else senF gs x f ||| (1 <<< f) := rfl
      refine r_iload_3 hK dX9_seenBy_4 ?_
      refine r_iconstN (c := 2) hK dX9_seenBy_5 ?_
      refine r_aload_0 hK dX9_seenBy_6 ?_
      refine r_get hK fl_X9_203 dX9_seenBy_7 tw_obj rfl ?_
      first | refine r_imulN hK dX9_seenBy_10 ?_ | refine r_imul hK dX9_seenBy_10 ?_
      refine r_icmp_ge 50 hK dX9_seenBy_11 (by omega) (by omega) (fun h11 => ?_) (fun h11 => ?_)
      · have e2 : f = 2 * F 17 := by omega
        refine r_iload_2 hK dX9_seenBy_50 ?_
        exact r_iret hK hRt dX9_seenBy_51 ⟨by rw [e2], rfl, rfl⟩
      · refine r_aload_0 hK dX9_seenBy_14 ?_
        refine r_iload_1 hK dX9_seenBy_15 ?_
        refine r_iload_3 hK dX9_seenBy_16 ?_
        refine r_iconstN (c := 2) hK dX9_seenBy_17 ?_
        refine r_idiv hK dX9_seenBy_18 (by omega) (by omega) (by omega) ?_
        refine r_iload_3 hK dX9_seenBy_19 ?_
        refine r_iconstN (c := 2) hK dX9_seenBy_20 ?_
        refine r_irem hK dX9_seenBy_21 (by omega) (by omega) (by omega) ?_
        have hst : stkRun gs (f / 2) (f % 2) x < 16 := stkRun_lt (k := 4) (by omega) (by omega) (fun g h => (ho g h).1) hx
        refine r_pV3 hK (ct_stuckBy hK.rel hg ho hx (by omega) (by omega)) lk_X9_385 (tw_rcv hK) dX9_seenBy_22 ?_
        refine r_aload_0 hK dX9_seenBy_25 ?_
        refine r_iload_1 hK dX9_seenBy_26 ?_
        refine r_iconstN (c := 0) hK dX9_seenBy_27 ?_
        refine r_aload_0 hK dX9_seenBy_28 ?_
        refine r_pV0 hK (ct_gates hK.rel) lk_X9_244 (tw_rcv hK) dX9_seenBy_29 ?_
        rw [h0]
        refine r_pV3 hK (ct_madeBy (a := 0) hK.rel hg ho hx (by omega) (Nat.le_refl _)) lk_X9_307 (tw_rcv hK) dX9_seenBy_32 ?_
        rw [List.take_length, List.drop_zero]
        refine r_icmp_eq 44 hK dX9_seenBy_35 (by omega) (by omega) (fun h35 => ?_) (fun h35 => ?_)
        · rw [if_pos (by omega)] at e
          first | refine r_incN_3 hK dX9_seenBy_44 ?_ | refine r_iinc_3 hK dX9_seenBy_44 ?_
          refine r_goto 4 hK dX9_seenBy_47 ?_
          have := ih (2 * F 17 - (f + 1)) (by omega) (f + 1) rfl (by omega)
          rw [e] at this
          exact this
        · refine r_iload_2 hK dX9_seenBy_38 ?_
          refine r_iconstN (c := 1) hK dX9_seenBy_39 ?_
          refine r_iload_3 hK dX9_seenBy_40 ?_
          refine r_ishl hK dX9_seenBy_41 (by omega) (by first | exact sh1 (by omega) | omega) ?_
          refine r_ior hK dX9_seenBy_42 ?_
          refine r_istore_2 hK dX9_seenBy_43 ?_
          rw [if_neg (by omega)] at e
          first | refine r_incN_3 hK dX9_seenBy_44 ?_ | refine r_iinc_3 hK dX9_seenBy_44 ?_
          refine r_goto 4 hK dX9_seenBy_47 ?_
          have := ih (2 * F 17 - (f + 1)) (by omega) (f + 1) rfl (by omega)
          rw [e] at this
          exact this
  refine r_iconstN (c := 0) hK dX9_seenBy_0 ?_
  refine r_istore_2 hK dX9_seenBy_1 ?_
  refine r_iconstN (c := 0) hK dX9_seenBy_2 ?_
  refine r_istore_3 hK dX9_seenBy_3 ?_
  exact lp (2 * F 17) 0 rfl (by omega)
set_option maxHeartbeats 4000000 in
theorem ct_termsOf {G : GT} {Rel : Nat → Hp → Hp → Prop} (hR : RelOK Rel) {n : Nat} {f0 : Hp} {F : Nat → Nat} {A : Nat → Nat → Nat} {gs : List Gt} {w : Nat} (hw : F 17 ≤ 4) (hg : GA (A 11) gs) (ho : ∀ g ∈ gs, gok 4 g) (hx : w < 4) : Ct G Rel yX9_termsOf cX9_termsOf 6 (some .int) (4) (0) [.ref 358, zI (w : Int)] n (tw f0 F A) (Pu (zI ((trF gs w (rN (F 17)) (rN (F 17)) : Nat) : Int)) n (tw f0 F A)) := by
  refine ct_intro [some (.ref 358), some (zI (w : Int)), none, none, none, none] hR rfl (Nat.le_of_ble_eq_true rfl) ?_
  intro K hG hRel hK hRt hnm
  have h0 := hg.1
  have hr4 := rN4 hw
  have lp : ∀ m s a4 a5, m = rN (F 17) - s → s ≤ rN (F 17) → Wx K 4 [some (.ref 358), some (zI (w : Int)), some (zI ((trF gs w (rN (F 17)) s : Nat) : Int)), some (zI (s : Int)), a4, a5] [] n (tw f0 F A) 0 := by
    intro m
    induction m using Nat.strongRecOn with
    | _ m ih =>
      intro s a4 a5 hm hs
      have ip : ∀ dd r, dd = rN (F 17) - r → r ≤ rN (F 17) → s < rN (F 17) → Wx K 18 [some (.ref 358), some (zI (w : Int)), some (zI ((trF gs w (rN (F 17)) s : Nat) : Int)), some (zI (s : Int)), some (zI ((trI gs w s r : Nat) : Int)), some (zI (r : Int))] [] n (tw f0 F A) 0 := by
        intro dd
        induction dd using Nat.strongRecOn with
        | _ dd ih2 =>
          intro r hdd hr hsl
          have e : trI gs w s (r + 1) = if clr r s = 0 then trI gs w s r ^^^ (run gs r >>> w &&& 1) else trI gs w s r := rfl
          have hcl : r < 16 → clr r s < 16 := fun h => clr_lt (w := 4) h
          have ht2 := trI_lt gs w s (rN (F 17))
          have hsh : trI gs w s (rN (F 17)) <<< s < 65536 := Nat.lt_of_lt_of_le (o_lt (k := s + 1) ht2 (by omega)) (rN_le (k := 16) (by omega))
          refine r_iload_5 hK dX9_termsOf_18 ?_
          refine r_aload_0 hK dX9_termsOf_20 ?_
          refine r_pV0 hK (ct_rows hK.rel hw) lk_X9_248 (tw_rcv hK) dX9_termsOf_21 ?_
          refine r_icmp_ge 62 hK dX9_termsOf_24 (by omega) (by omega) (fun h24 => ?_) (fun h24 => ?_)
          · have e2 : r = rN (F 17) := by omega
            subst e2
            refine r_iload_2 hK dX9_termsOf_62 ?_
            refine r_iload_4 hK dX9_termsOf_63 ?_
            refine r_iload_3 hK dX9_termsOf_65 ?_
            refine r_ishl hK dX9_termsOf_66 (by omega) (by omega) ?_
            refine r_ior hK dX9_termsOf_67 ?_
            refine r_istore_2 hK dX9_termsOf_68 ?_
            first | refine r_incN_3 hK dX9_termsOf_69 ?_ | refine r_iinc_3 hK dX9_termsOf_69 ?_
            refine r_goto 4 hK dX9_termsOf_72 ?_
            exact ih (rN (F 17) - (s + 1)) (by omega) (s + 1) _ _ rfl (by omega)
          · refine r_iload_5 hK dX9_termsOf_27 ?_
            refine r_iload_3 hK dX9_termsOf_29 ?_
            refine r_iconst hK dX9_termsOf_30 ?_
            first | refine r_ixor hK dX9_termsOf_31 ?_ | refine r_not hK dX9_termsOf_31 ?_
            first | refine r_iand hK dX9_termsOf_32 ?_ | refine r_andnot hK dX9_termsOf_32 (by omega) ?_
            refine r_if_ne 56 hK dX9_termsOf_33 (by have := hcl (by omega); omega) (fun h33 => ?_) (fun h33 => ?_)
            · rw [if_neg (by omega)] at e
              first | refine r_incN_5 hK dX9_termsOf_56 ?_ | refine r_iinc_5 hK dX9_termsOf_56 ?_
              refine r_goto 18 hK dX9_termsOf_59 ?_
              have := ih2 (rN (F 17) - (r + 1)) (by omega) (r + 1) rfl (by omega) hsl
              rw [e] at this
              exact this
            · refine r_iload_4 hK dX9_termsOf_36 ?_
              refine r_aload_0 hK dX9_termsOf_38 ?_
              refine r_iload_5 hK dX9_termsOf_39 ?_
              refine r_iconstN (c := 0) hK dX9_termsOf_41 ?_
              refine r_aload_0 hK dX9_termsOf_42 ?_
              refine r_pV0 hK (ct_gates hK.rel) lk_X9_244 (tw_rcv hK) dX9_termsOf_43 ?_
              rw [h0]
              have hrn : run gs r < 16 := run_lt (w := 4) (fun g h => (ho g h).1) (show r < 16 by omega)
              rw [if_pos (by omega)] at e
              refine r_pV3 hK (ct_madeBy (a := 0) hK.rel hg ho (by omega) (by omega) (Nat.le_refl _)) lk_X9_307 (tw_rcv hK) dX9_termsOf_46 ?_
              rw [List.take_length, List.drop_zero]
              refine r_iload_1 hK dX9_termsOf_49 ?_
              refine r_ishr hK dX9_termsOf_50 (by omega) (by omega) ?_
              refine r_iconstN (c := 1) hK dX9_termsOf_51 ?_
              first | refine r_iand hK dX9_termsOf_52 ?_ | refine r_andnot hK dX9_termsOf_52 (by omega) ?_
              first | refine r_ixor hK dX9_termsOf_53 ?_ | refine r_not hK dX9_termsOf_53 ?_
              refine r_istore_4 hK dX9_termsOf_54 ?_
              first | refine r_incN_5 hK dX9_termsOf_56 ?_ | refine r_iinc_5 hK dX9_termsOf_56 ?_
              refine r_goto 18 hK dX9_termsOf_59 ?_
              have := ih2 (rN (F 17) - (r + 1)) (by omega) (r + 1) rfl (by omega) hsl
              rw [e] at this
              exact this
      refine r_iload_3 hK dX9_termsOf_4 ?_
      refine r_aload_0 hK dX9_termsOf_5 ?_
      refine r_pV0 hK (ct_rows hK.rel hw) lk_X9_248 (tw_rcv hK) dX9_termsOf_6 ?_
      refine r_icmp_ge 75 hK dX9_termsOf_9 (by omega) (by omega) (fun h9 => ?_) (fun h9 => ?_)
      · have e2 : s = rN (F 17) := by omega
        refine r_iload_2 hK dX9_termsOf_75 ?_
        exact r_iret hK hRt dX9_termsOf_76 ⟨by rw [e2], rfl, rfl⟩
      · refine r_iconstN (c := 0) hK dX9_termsOf_12 ?_
        refine r_istore_4 hK dX9_termsOf_13 ?_
        refine r_iconstN (c := 0) hK dX9_termsOf_15 ?_
        refine r_istore_5 hK dX9_termsOf_16 ?_
        exact ip (rN (F 17)) 0 rfl (by omega) (by omega)
  refine r_iconstN (c := 0) hK dX9_termsOf_0 ?_
  refine r_istore_2 hK dX9_termsOf_1 ?_
  refine r_iconstN (c := 0) hK dX9_termsOf_2 ?_
  refine r_istore_3 hK dX9_termsOf_3 ?_
  exact lp (rN (F 17)) 0 _ _ rfl (by omega)
set_option maxHeartbeats 4000000 in
theorem ct_terms {G : GT} {Rel : Nat → Hp → Hp → Prop} (hR : RelOK Rel) {n : Nat} {f0 : Hp} {F : Nat → Nat} {A : Nat → Nat → Nat} {gs : List Gt} {z : Int} (hz : inR z) (hw : F 17 ≤ 4) (hg : GA (A 11) gs) (ho : ∀ g ∈ gs, gok 4 g) : Ct G Rel yX9_terms cX9_terms 2 (some .int) (5) (0) [.ref 358, zI z] n (tw f0 F A) (Pu (zI (if 0 ≤ z ∧ z < F 17 then ((trF gs z.toNat (rN (F 17)) (rN (F 17)) : Nat) : Int) else -1)) n (tw f0 F A)) := by
  refine ct_intro [some (.ref 358), some (zI z)] hR rfl (Nat.le_of_ble_eq_true rfl) ?_
  intro K hG hRel hK hRt hnm
  refine r_iload_1 hK dX9_terms_0 ?_
  refine r_iconstN (c := 0) hK dX9_terms_1 ?_
  refine r_aload_0 hK dX9_terms_2 ?_
  refine r_get hK fl_X9_203 dX9_terms_3 tw_obj rfl ?_
  refine r_iconstN (c := 1) hK dX9_terms_6 ?_
  refine r_isub hK dX9_terms_7 ?_
  refine r_pS3 hK (ct_in hK.rel hz (by omega) (by omega)) lk_X9_237 dX9_terms_8 ?_
  refine r_ifB_eq 22 hK dX9_terms_11 (fun h11 => ?_) (fun h11 => ?_)
  · refine r_iconst hK dX9_terms_22 ?_
    exact r_iret hK hRt dX9_terms_23 ⟨by rw [if_neg (by omega)], rfl, rfl⟩
  · obtain ⟨a, rfl⟩ : ∃ s : Nat, z = (s : Int) := ⟨z.toNat, by omega⟩
    refine r_aload_0 hK dX9_terms_14 ?_
    refine r_iload_1 hK dX9_terms_15 ?_
    refine r_pV1 hK (ct_termsOf hK.rel hw hg ho (by omega)) lk_X9_397 (tw_rcv hK) dX9_terms_16 ?_
    refine r_goto 23 hK dX9_terms_19 ?_
    exact r_iret hK hRt dX9_terms_23 ⟨by rw [if_pos (by omega), Int.toNat_natCast], rfl, rfl⟩
set_option maxHeartbeats 4000000 in
theorem ct_degree {G : GT} {Rel : Nat → Hp → Hp → Prop} (hR : RelOK Rel) {n : Nat} {f0 : Hp} {F : Nat → Nat} {A : Nat → Nat → Nat} {gs : List Gt} (hw : F 17 ≤ 4) (hg : GA (A 11) gs) (ho : ∀ g ∈ gs, gok 4 g) : Ct G Rel yX9_degree cX9_degree 5 (some .int) (5) (0) [.ref 358] n (tw f0 F A) (Pu (zI ((dgW gs (rN (F 17)) (F 17) : Nat) : Int)) n (tw f0 F A)) := by
  refine ct_intro [some (.ref 358), none, none, none, none] hR rfl (Nat.le_of_ble_eq_true rfl) ?_
  intro K hG hRel hK hRt hnm
  have hr4 := rN4 hw
  have lp : ∀ m w a3 a4, m = F 17 - w → w ≤ F 17 → Wx K 4 [some (.ref 358), some (zI ((dgW gs (rN (F 17)) w : Nat) : Int)), some (zI (w : Int)), a3, a4] [] n (tw f0 F A) 0 := by
    intro m
    induction m using Nat.strongRecOn with
    | _ m ih =>
      intro w a3 a4 hm hwl
      have hd := dgW_le gs (rN (F 17)) w
      have hT : trF gs w (rN (F 17)) (rN (F 17)) < 65536 := Nat.lt_of_lt_of_le (trF_lt gs w (rN (F 17)) (rN (F 17))) (rN_le (k := 16) hr4.2)
      have ip : ∀ dd s, dd = rN (F 17) - s → s ≤ rN (F 17) → w < F 17 → Wx K 21 [some (.ref 358), some (zI ((dgS (trF gs w (rN (F 17)) (rN (F 17))) (dgW gs (rN (F 17)) w) s : Nat) : Int)), some (zI (w : Int)), some (zI ((trF gs w (rN (F 17)) (rN (F 17)) : Nat) : Int)), some (zI (s : Int))] [] n (tw f0 F A) 0 := by
        intro dd
        induction dd using Nat.strongRecOn with
        | _ dd ih2 =>
          intro s hdd hs hwF
          have e : dgS (trF gs w (rN (F 17)) (rN (F 17))) (dgW gs (rN (F 17)) w) (s + 1) = if (trF gs w (rN (F 17)) (rN (F 17))).testBit s = true ∧ dgS (trF gs w (rN (F 17)) (rN (F 17))) (dgW gs (rN (F 17)) w) s < bits s then bits s else dgS (trF gs w (rN (F 17)) (rN (F 17))) (dgW gs (rN (F 17)) w) s := rfl
          have hdS := dgS_le (trF gs w (rN (F 17)) (rN (F 17))) (dgW gs (rN (F 17)) w) s
          have hbs := bits_le s
          have nx : ∀ v, s < rN (F 17) → v = dgS (trF gs w (rN (F 17)) (rN (F 17))) (dgW gs (rN (F 17)) w) (s + 1) → Wx K 54 [some (.ref 358), some (zI (v : Int)), some (zI (w : Int)), some (zI ((trF gs w (rN (F 17)) (rN (F 17)) : Nat) : Int)), some (zI (s : Int))] [] n (tw f0 F A) 0 := by
            intro v hsl hv
            subst hv
            first | refine r_incN_4 hK dX9_degree_54 ?_ | refine r_iinc_4 hK dX9_degree_54 ?_
            refine r_goto 21 hK dX9_degree_57 ?_
            exact ih2 (rN (F 17) - (s + 1)) (by omega) (s + 1) rfl (by omega) hwF
          refine r_iload_4 hK dX9_degree_21 ?_
          refine r_aload_0 hK dX9_degree_23 ?_
          refine r_pV0 hK (ct_rows hK.rel hw) lk_X9_248 (tw_rcv hK) dX9_degree_24 ?_
          refine r_icmp_ge 60 hK dX9_degree_27 (by omega) (by omega) (fun h27 => ?_) (fun h27 => ?_)
          · have e2 : s = rN (F 17) := by omega
            subst e2
            first | refine r_incN_2 hK dX9_degree_60 ?_ | refine r_iinc_2 hK dX9_degree_60 ?_
            refine r_goto 4 hK dX9_degree_63 ?_
            exact ih (F 17 - (w + 1)) (by omega) (w + 1) _ _ rfl (by omega)
          · refine r_iload_3 hK dX9_degree_30 ?_
            refine r_iload_4 hK dX9_degree_31 ?_
            refine r_pS2 hK (ct_has hK.rel (by omega) (by omega)) lk_X9_261 dX9_degree_33 ?_
            refine r_ifB_eq 54 hK dX9_degree_36 (fun h36 => ?_) (fun h36 => ?_)
            · rw [if_neg (fun h => h36 h.1)] at e
              exact nx _ (by omega) e.symm --!
            · refine r_iload_4 hK dX9_degree_39 ?_
              refine r_pS1 hK (ct_bitsOf hK.rel (by omega)) lk_X9_322 dX9_degree_41 ?_
              refine r_iload_1 hK dX9_degree_44 ?_
              refine r_icmp_le 54 hK dX9_degree_45 (by omega) (by omega) (fun h45 => ?_) (fun h45 => ?_)
              · rw [if_neg (fun h => by omega)] at e
                exact nx _ (by omega) e.symm --!
              · refine r_iload_4 hK dX9_degree_48 ?_
                refine r_pS1 hK (ct_bitsOf hK.rel (by omega)) lk_X9_322 dX9_degree_50 ?_
                refine r_istore_1 hK dX9_degree_53 ?_
                rw [if_pos ⟨h36, by omega⟩] at e
                exact nx _ (by omega) e.symm
      refine r_iload_2 hK dX9_degree_4 ?_
      refine r_aload_0 hK dX9_degree_5 ?_
      refine r_get hK fl_X9_203 dX9_degree_6 tw_obj rfl ?_
      refine r_icmp_ge 66 hK dX9_degree_9 (by omega) (by omega) (fun h9 => ?_) (fun h9 => ?_)
      · have e2 : w = F 17 := by omega
        refine r_iload_1 hK dX9_degree_66 ?_
        exact r_iret hK hRt dX9_degree_67 ⟨by rw [e2], rfl, rfl⟩
      · refine r_aload_0 hK dX9_degree_12 ?_
        refine r_iload_2 hK dX9_degree_13 ?_
        refine r_pV1 hK (ct_termsOf hK.rel hw hg ho (by omega)) lk_X9_397 (tw_rcv hK) dX9_degree_14 ?_
        refine r_istore_3 hK dX9_degree_17 ?_
        refine r_iconstN (c := 0) hK dX9_degree_18 ?_
        refine r_istore_4 hK dX9_degree_19 ?_
        exact ip (rN (F 17)) 0 rfl (by omega) (by omega)
  refine r_iconstN (c := 0) hK dX9_degree_0 ?_
  refine r_istore_1 hK dX9_degree_1 ?_
  refine r_iconstN (c := 0) hK dX9_degree_2 ?_
  refine r_istore_2 hK dX9_degree_3 ?_
  exact lp (F 17) 0 _ _ rfl (by omega)
set_option maxHeartbeats 4000000 in
theorem ct_isIdle {G : GT} {Rel : Nat → Hp → Hp → Prop} (hR : RelOK Rel) {n : Nat} {f0 : Hp} {F : Nat → Nat} {A : Nat → Nat → Nat} {gs : List Gt} {a b : Nat} (hw : F 17 ≤ 4) (hg : GA (A 11) gs) (ho : ∀ g ∈ gs, gok 4 g) (hab : a ≤ b) (hb : b < gs.length) : Ct G Rel yX9_isIdle cX9_isIdle 4 (some .boolean) (4) (0) [.ref 358, zI (a : Int), zI (b : Int)] n (tw f0 F A) (Pu (zB (idl (F 17) gs a (b + 1) = true)) n (tw f0 F A)) := by
  refine ct_intro [some (.ref 358), some (zI (a : Int)), some (zI (b : Int)), none] hR rfl (Nat.le_of_ble_eq_true rfl) ?_
  intro K hG hRel hK hRt hnm
  have hr4 := rN4 hw
  have lp : ∀ m x : Nat, m = rN (F 17) - x → x ≤ rN (F 17) → (∀ q, q < x → run ((gs.take (b + 1)).drop a) q = q) → Wx K 2 [some (.ref 358), some (zI (a : Int)), some (zI (b : Int)), some (zI (x : Int))] [] n (tw f0 F A) 0 := by
    intro m
    induction m using Nat.strongRecOn with
    | _ m ih =>
      intro x hm hx h1
      refine r_iload_3 hK dX9_isIdle_2 ?_
      refine r_aload_0 hK dX9_isIdle_3 ?_
      refine r_pV0 hK (ct_rows hK.rel hw) lk_X9_248 (tw_rcv hK) dX9_isIdle_4 ?_
      refine r_icmp_ge 31 hK dX9_isIdle_7 (by omega) (by omega) (fun h7 => ?_) (fun h7 => ?_)
      · refine r_iconstN (c := 1) hK dX9_isIdle_31 ?_
        exact r_zret hK hRt dX9_isIdle_32 rfl ⟨by rw [zB_t (idl_iff.mpr (fun q hq => h1 q (by omega)))]; rfl, rfl, rfl⟩
      · refine r_aload_0 hK dX9_isIdle_10 ?_
        refine r_iload_3 hK dX9_isIdle_11 ?_
        refine r_iload_1 hK dX9_isIdle_12 ?_
        refine r_iload_2 hK dX9_isIdle_13 ?_
        refine r_iconstN (c := 1) hK dX9_isIdle_14 ?_
        first | refine r_iaddN hK dX9_isIdle_15 ?_ | refine r_iadd hK dX9_isIdle_15 ?_
        refine r_pV3 hK (ct_madeBy hK.rel hg ho (by omega) (by omega) (by omega)) lk_X9_307 (tw_rcv hK) dX9_isIdle_16 ?_
        have hrn : run ((gs.take (b + 1)).drop a) x < 16 := run_lt (w := 4) (fun g h => (ho g (List.mem_of_mem_take (List.mem_of_mem_drop h))).1) (show x < 16 by omega)
        refine r_iload_3 hK dX9_isIdle_19 ?_
        refine r_icmp_eq 25 hK dX9_isIdle_20 (by omega) (by omega) (fun h20 => ?_) (fun h20 => ?_)
        · first | refine r_incN_3 hK dX9_isIdle_25 ?_ | refine r_iinc_3 hK dX9_isIdle_25 ?_
          refine r_goto 2 hK dX9_isIdle_28 ?_
          refine ih (rN (F 17) - (x + 1)) (by omega) (x + 1) rfl (by omega) (fun q hq => ?_)
          by_cases e : q = x
          · subst e; omega
          · exact h1 q (by omega)
        · refine r_iconstN (c := 0) hK dX9_isIdle_23 ?_
          exact r_zret hK hRt dX9_isIdle_24 rfl ⟨by rw [zB_f (fun h => by have := idl_iff.mp h x (by omega); omega)]; rfl, rfl, rfl⟩
  refine r_iconstN (c := 0) hK dX9_isIdle_0 ?_
  refine r_istore_3 hK dX9_isIdle_1 ?_
  exact lp (rN (F 17)) 0 rfl (by omega) (fun q hq => by omega)
set_option maxHeartbeats 4000000 in
theorem ct_idle {G : GT} {Rel : Nat → Hp → Hp → Prop} (hR : RelOK Rel) {n : Nat} {f0 : Hp} {F : Nat → Nat} {A : Nat → Nat → Nat} {gs : List Gt} {z : Int} (hz : inR z) (hw : F 17 ≤ 4) (hg : GA (A 11) gs) (ho : ∀ g ∈ gs, gok 4 g) : Ct G Rel yX9_idle cX9_idle 4 (some .int) (5) (0) [.ref 358, zI z] n (tw f0 F A) (Pu (zI (if 0 ≤ z ∧ z ≤ 1 then (match idA (F 17) gs with | none => -2 | some p => if z = 0 then (p.1 : Int) else ((p.1 + p.2 - 1 : Nat) : Int)) else -1)) n (tw f0 F A)) := by
  refine ct_intro [some (.ref 358), some (zI z), none, none] hR rfl (Nat.le_of_ble_eq_true rfl) ?_
  intro K hG hRel hK hRt hnm
  have h0 := hg.1
  have hl := hg.2.1
  have lp : ∀ m k a3, k + m = gs.length + 1 → 1 ≤ k → 0 ≤ z ∧ z ≤ 1 → idA (F 17) gs = idN (F 17) gs m → Wx K 13 [some (.ref 358), some (zI z), some (zI (k : Int)), a3] [] n (tw f0 F A) 0 := by
    intro m
    induction m with
    | zero =>
      intro k a3 hk hk1 hz2 hid
      refine r_iload_2 hK dX9_idle_13 ?_
      refine r_aload_0 hK dX9_idle_14 ?_
      refine r_pV0 hK (ct_gates hK.rel) lk_X9_244 (tw_rcv hK) dX9_idle_15 ?_
      rw [h0]
      refine r_icmp_gt 72 hK dX9_idle_18 (by omega) (by omega) (fun h18 => ?_) (fun h18 => ?_)
      · refine r_bipush hK dX9_idle_72 ?_
        exact r_iret hK hRt dX9_idle_74 ⟨by rw [if_pos hz2, hid]; rfl, rfl, rfl⟩
      · exact absurd h18 (by omega)
    | succ m ih =>
      intro k a3 hk hk1 hz2 hid
      have e : idN (F 17) gs (m + 1) = ((idI (F 17) gs k (m + 1)).map (fun i => (i, k))).or (idN (F 17) gs m) := by show ((idI (F 17) gs (gs.length - m) (m + 1)).map (fun i => (i, gs.length - m))).or _ = _; rw [show gs.length - m = k by omega]
      rw [e] at hid
      have ip : ∀ q i : Nat, i + q = gs.length + 1 - k → idA (F 17) gs = ((idI (F 17) gs k q).map (fun i => (i, k))).or (idN (F 17) gs m) → Wx K 23 [some (.ref 358), some (zI z), some (zI (k : Int)), some (zI (i : Int))] [] n (tw f0 F A) 0 := by
        intro q
        induction q with
        | zero =>
          intro i hi hid2
          refine r_iload_3 hK dX9_idle_23 ?_
          refine r_iload_2 hK dX9_idle_24 ?_
          first | refine r_iaddN hK dX9_idle_25 ?_ | refine r_iadd hK dX9_idle_25 ?_
          refine r_aload_0 hK dX9_idle_26 ?_
          refine r_pV0 hK (ct_gates hK.rel) lk_X9_244 (tw_rcv hK) dX9_idle_27 ?_
          rw [h0]
          refine r_icmp_gt 66 hK dX9_idle_30 (by omega) (by omega) (fun h30 => ?_) (fun h30 => ?_)
          · first | refine r_incN_2 hK dX9_idle_66 ?_ | refine r_iinc_2 hK dX9_idle_66 ?_
            refine r_goto 13 hK dX9_idle_69 ?_
            exact ih (k + 1) _ (by omega) (by omega) hz2 hid2
          · exact absurd h30 (by omega)
        | succ q ih2 =>
          intro i hi hid2
          have e2 : idI (F 17) gs k (q + 1) = if idl (F 17) gs i (i + k) then some i else idI (F 17) gs k q := by show (if idl (F 17) gs (gs.length + 1 - k - (q + 1)) (gs.length + 1 - k - (q + 1) + k) then some (gs.length + 1 - k - (q + 1)) else _) = _; rw [show gs.length + 1 - k - (q + 1) = i by omega]
          rw [e2] at hid2
          refine r_iload_3 hK dX9_idle_23 ?_
          refine r_iload_2 hK dX9_idle_24 ?_
          first | refine r_iaddN hK dX9_idle_25 ?_ | refine r_iadd hK dX9_idle_25 ?_
          refine r_aload_0 hK dX9_idle_26 ?_
          refine r_pV0 hK (ct_gates hK.rel) lk_X9_244 (tw_rcv hK) dX9_idle_27 ?_
          rw [h0]
          refine r_icmp_gt 66 hK dX9_idle_30 (by omega) (by omega) (fun h30 => ?_) (fun h30 => ?_)
          · exact absurd h30 (by omega)
          · refine r_aload_0 hK dX9_idle_33 ?_
            refine r_iload_3 hK dX9_idle_34 ?_
            refine r_iload_3 hK dX9_idle_35 ?_
            refine r_iload_2 hK dX9_idle_36 ?_
            first | refine r_iaddN hK dX9_idle_37 ?_ | refine r_iadd hK dX9_idle_37 ?_
            refine r_iconstN (c := 1) hK dX9_idle_38 ?_
            first | refine r_isubN hK dX9_idle_39 (by omega) ?_ | refine r_isub hK dX9_idle_39 ?_
            refine r_pV2 hK (ct_isIdle (b := i + k - 1) hK.rel hw hg ho (by omega) (by omega)) lk_X9_400 (tw_rcv hK) dX9_idle_40 ?_
            rw [show i + k - 1 + 1 = i + k by omega]
            refine r_ifB_eq 60 hK dX9_idle_43 (fun h43 => ?_) (fun h43 => ?_)
            · rw [if_neg h43] at hid2
              first | refine r_incN_3 hK dX9_idle_60 ?_ | refine r_iinc_3 hK dX9_idle_60 ?_
              refine r_goto 23 hK dX9_idle_63 ?_
              exact ih2 (i + 1) (by omega) hid2
            · rw [if_pos h43] at hid2
              refine r_iload_1 hK dX9_idle_46 ?_
              refine r_if_ne 54 hK dX9_idle_47 (by omega) (fun h47 => ?_) (fun h47 => ?_)
              · refine r_iload_3 hK dX9_idle_54 ?_
                refine r_iload_2 hK dX9_idle_55 ?_
                first | refine r_iaddN hK dX9_idle_56 ?_ | refine r_iadd hK dX9_idle_56 ?_
                refine r_iconstN (c := 1) hK dX9_idle_57 ?_
                first | refine r_isubN hK dX9_idle_58 (by omega) ?_ | refine r_isub hK dX9_idle_58 ?_
                exact r_iret hK hRt dX9_idle_59 ⟨by rw [if_pos hz2, hid2]; show _ = some (zI (if z = 0 then (i : Int) else ((i + k - 1 : Nat) : Int))); rw [if_neg h47], rfl, rfl⟩
              · refine r_iload_3 hK dX9_idle_50 ?_
                refine r_goto 59 hK dX9_idle_51 ?_
                exact r_iret hK hRt dX9_idle_59 ⟨by rw [if_pos hz2, hid2]; show _ = some (zI (if z = 0 then (i : Int) else ((i + k - 1 : Nat) : Int))); rw [if_pos h47], rfl, rfl⟩
      refine r_iload_2 hK dX9_idle_13 ?_
      refine r_aload_0 hK dX9_idle_14 ?_
      refine r_pV0 hK (ct_gates hK.rel) lk_X9_244 (tw_rcv hK) dX9_idle_15 ?_
      rw [h0]
      refine r_icmp_gt 72 hK dX9_idle_18 (by omega) (by omega) (fun h18 => ?_) (fun h18 => ?_)
      · exact absurd h18 (by omega)
      · refine r_iconstN (c := 0) hK dX9_idle_21 ?_
        refine r_istore_3 hK dX9_idle_22 ?_
        exact ip (m + 1) 0 (by omega) hid
  refine r_iload_1 hK dX9_idle_0 ?_
  refine r_iconstN (c := 0) hK dX9_idle_1 ?_
  refine r_iconstN (c := 1) hK dX9_idle_2 ?_
  refine r_pS3 hK (ct_in hK.rel hz (by omega) (by omega)) lk_X9_237 dX9_idle_3 ?_
  refine r_ifB_ne 11 hK dX9_idle_6 (fun h6 => ?_) (fun h6 => ?_)
  · refine r_iconstN (c := 1) hK dX9_idle_11 ?_
    refine r_istore_2 hK dX9_idle_12 ?_
    exact lp gs.length 1 _ (by omega) (by omega) (by omega) rfl
  · refine r_iconst hK dX9_idle_9 ?_
    exact r_iret hK hRt dX9_idle_10 ⟨by rw [if_neg (by omega)], rfl, rfl⟩
