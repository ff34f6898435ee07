set_option maxRecDepth 100000
/-! ===== cascades in the picture: levels, who agrees, shrinking ===== -/
section RM
variable {K : KT} {own : String} {cc : ByteArray} {nL d U pc : Nat} {L : List (Option Value)} {st rest : List Value} {n : Nat} {f : Hp} {u : Nat}
theorem r_mmax {idx x y : Nat} (hK : Gd K own cc nL d U) (hl : LkS own idx yJ22_max cJ22_max 2 (some .int) 2) (hd : decode cc pc = .ok (.invokestatic idx, 3)) (hx : x < 2147483648) (hy : y < 2147483648) (kk : Wx K (pc + 3) L (zI ((max x y : Nat) : Int) :: rest) n f u) (hL : L.length = nL := by rfl) (hdp : 1 ≤ d := by decide) (hu : u ≤ U := by omega) (hcat : catS rest ≤ 8 := by exact Nat.le_of_ble_eq_true rfl) : Wx K pc L (zI (y : Int) :: zI (x : Int) :: rest) n f u := by
  intro H locs ls hH hS hls
  obtain ⟨-, h1, h2, h3, h4⟩ := hl
  have hts := hK.2.2.2.2.1
  have hr := hK.2.2.2.2.2.2.1
  refine va_mmax (rest := rest.map (cv (kG K))) hK.1 hK.2.1 (by rw [hK.2.2.1, hls.1]; exact hL.symm) hK.2.2.2.1 (hts _ h1) (hts _ h2) (hts _ h3) (hts _ h4) (by omega) (by rw [cat_map]; omega) (by omega) (by omega) hd ?_
  have e : (if Int32.ofInt (x : Int) < Int32.ofInt (y : Int) then Int32.ofInt (y : Int) else Int32.ofInt (x : Int)) = Int32.ofInt ((max x y : Nat) : Int) := by
    have hlt := i_lt (a := (x : Int)) (b := (y : Int)) ⟨by omega, by omega⟩ ⟨by omega, by omega⟩
    by_cases c : x < y
    · rw [if_pos (hlt.mpr (by omega)), Nat.max_eq_right (by omega)]
    · rw [if_neg (fun q => c (by have := hlt.mp q; omega)), Nat.max_eq_left (by omega)]
  rw [e]
  exact kk H locs ls hH hS hls
end RM
theorem cmF_iff {w : Nat} {gs : List Gt} {i k : Nat} : ∀ m, m ≤ k → (cmF w gs i k m = true ↔ ∀ j, k - m ≤ j → j < k → agr w (gt gs i) (gt gs j) = true)
  | 0, _ => ⟨fun _ j a b => by omega, fun _ => rfl⟩
  | m + 1, h => by
    have ih := cmF_iff (w := w) (gs := gs) (i := i) (k := k) m (by omega)
    show (agr w (gt gs i) (gt gs (k - (m + 1))) && cmF w gs i k m) = true ↔ _
    rw [Bool.and_eq_true, ih]
    constructor
    · intro q j a b
      by_cases c : j = k - (m + 1)
      · rw [c]; exact q.1
      · exact q.2 j (by omega) b
    · intro q
      exact ⟨q _ (Nat.le_refl _) (by omega), fun j a b => q j (by omega) b⟩
theorem cm_iff {w : Nat} {gs : List Gt} {i k : Nat} (h : i < k) : cm w gs i k = true ↔ ∀ j, i < j → j < k → agr w (gt gs i) (gt gs j) = true := by
  unfold cm
  rw [cmF_iff (k - (i + 1)) (by omega), show k - (k - (i + 1)) = i + 1 by omega]
  exact ⟨fun q j a b => q j a b, fun q j a b => q j a b⟩
set_option maxHeartbeats 4000000 in
theorem ct_cFree {G : GT} {Rel : Nat → Hp → Hp → Prop} (hR : RelOK Rel) (hP : Rel = RelP) (hX : GX G) {n : Nat} {f : Hp} {c ll k w : Nat} {l : List Nat} {gs : List Gt} (h : CC f c ll l gs) (hk : k < gs.length) (hl16 : gs.length ≤ 16) (hw : w ≤ 4) (ho : ∀ g ∈ gs, gok w g) : Ct G Rel yX4_free cX4_free 4 (some .int) (5) (0) [.ref c, zI (k : Int), zI ((rN w : Nat) : Int)] n (f) (Pu (zI ((frB w gs k k : Nat) : Int)) n f) := by
  refine ct_intro [some (.ref c), some (zI (k : Int)), some (zI ((rN w : Nat) : Int)), none] hR rfl (Nat.le_of_ble_eq_true rfl) ?_
  intro K hG hRel hK hRt hnm
  have hQ : kRel K = RelP := by rw [hRel]; exact hP
  have hXK : GX (kG K) := by rw [hG]; exact hX
  have hg : ∀ i, i < gs.length → f (l.getD i 0) = some (cG (gt gs i)) := fun i hi => h.2.2.1.2 i (by rw [h.2.2.1.1]; exact hi)
  have og : ∀ i, i < gs.length → gok w (gt gs i) := fun i hi => ho _ (gt_mem hi)
  have lp : ∀ (m i : Nat), i + m = k → frB w gs k k = i + frB w gs k m → Wx K 2 [some (.ref c), some (zI (k : Int)), some (zI ((rN w : Nat) : Int)), some (zI (i : Int))] [] n f 0 := by
    intro m
    induction m with
    | zero =>
      intro i hi he
      refine r_iload_3 hK dX4_free_2 ?_
      refine r_iload_1 hK dX4_free_3 ?_
      refine r_icmp_ge 34 hK dX4_free_4 (by omega) (by omega) (fun h4 => ?_) (fun h4 => ?_)
      · refine r_iload_3 hK dX4_free_34 ?_
        exact r_iret hK hRt dX4_free_35 ⟨by rw [he]; rfl, rfl, rfl⟩
      · exact absurd h4 (by omega)
    | succ m ih =>
      intro i hi he
      have e1 : frB w gs k (m + 1) = if agr w (gt gs k) (gt gs m) then frB w gs k m + 1 else 0 := rfl
      rw [e1] at he
      refine r_iload_3 hK dX4_free_2 ?_
      refine r_iload_1 hK dX4_free_3 ?_
      refine r_icmp_ge 34 hK dX4_free_4 (by omega) (by omega) (fun h4 => ?_) (fun h4 => ?_)
      · exact absurd h4 (by omega)
      · refine r_aload_0 hK dX4_free_7 ?_
        refine r_iload_1 hK dX4_free_8 ?_
        refine r_pV1 hK (ct_cAt hK.rel hQ hXK h hk) lk_X4_82 (Rcv.raw hK.rel h.1 rfl) dX4_free_9 ?_
        refine r_aload_0 hK dX4_free_12 ?_
        refine r_iload_1 hK dX4_free_13 ?_
        refine r_iconstN (c := 1) hK dX4_free_14 ?_
        first | refine r_isubN hK dX4_free_15 (by omega) ?_ | refine r_isub hK dX4_free_15 ?_
        refine r_iload_3 hK dX4_free_16 ?_
        first | refine r_isubN hK dX4_free_17 (by omega) ?_ | refine r_isub hK dX4_free_17 ?_
        rw [show k - 1 - i = m by omega]
        refine r_pV1 hK (ct_cAt hK.rel hQ hXK h (show m < gs.length by omega)) lk_X4_82 (Rcv.raw hK.rel h.1 rfl) dX4_free_18 ?_
        refine r_iload_2 hK dX4_free_21 ?_
        refine r_pV2 hK (ct_gAgrees hK.rel (hg k hk) (hg m (by omega)) hw (og k hk) (og m (by omega))) lk_X4_94 (Rcv.raw hK.rel (hg k hk) rfl) dX4_free_22 ?_
        refine r_ifB_eq 34 hK dX4_free_25 (fun h25 => ?_) (fun h25 => ?_)
        · refine r_iload_3 hK dX4_free_34 ?_
          exact r_iret hK hRt dX4_free_35 ⟨by rw [he, if_neg h25]; rfl, rfl, rfl⟩
        · first | refine r_incN_3 hK dX4_free_28 ?_ | refine r_iinc_3 hK dX4_free_28 ?_
          refine r_goto 2 hK dX4_free_31 ?_
          exact ih (i + 1) (by omega) (by rw [he, if_pos h25]; omega)
  refine r_iconstN (c := 0) hK dX4_free_0 ?_
  refine r_istore_3 hK dX4_free_1 ?_
  exact lp k 0 (by omega) (by omega)
set_option maxHeartbeats 4000000 in
theorem ct_cFreeB {G : GT} {Rel : Nat → Hp → Hp → Prop} (hR : RelOK Rel) (hP : Rel = RelP) (hX : GX G) {n : Nat} {f : Hp} {c ll k w : Nat} {l : List Nat} {gs : List Gt} (h : CC f c ll l gs) (hk : k < gs.length) (hl16 : gs.length ≤ 16) (hw : w ≤ 4) (ho : ∀ g ∈ gs, gok w g) : Ct G Rel yX4_freeBehind cX4_freeBehind 4 (some .int) (5) (0) [.ref c, zI (k : Int), zI ((rN w : Nat) : Int)] n (f) (Pu (zI ((frA w gs k (gs.length - (k + 1)) : Nat) : Int)) n f) := by
  refine ct_intro [some (.ref c), some (zI (k : Int)), some (zI ((rN w : Nat) : Int)), none] hR rfl (Nat.le_of_ble_eq_true rfl) ?_
  intro K hG hRel hK hRt hnm
  have hQ : kRel K = RelP := by rw [hRel]; exact hP
  have hXK : GX (kG K) := by rw [hG]; exact hX
  obtain ⟨c1, c2, c3, c4⟩ := id h
  have hg : ∀ i, i < gs.length → f (l.getD i 0) = some (cG (gt gs i)) := fun i hi => h.2.2.1.2 i (by rw [h.2.2.1.1]; exact hi)
  have og : ∀ i, i < gs.length → gok w (gt gs i) := fun i hi => ho _ (gt_mem hi)
  have lp : ∀ (m i : Nat), k + 1 + i + m = gs.length → frA w gs k (gs.length - (k + 1)) = i + frA w gs k m → Wx K 2 [some (.ref c), some (zI (k : Int)), some (zI ((rN w : Nat) : Int)), some (zI (i : Int))] [] n f 0 := by
    intro m
    induction m with
    | zero =>
      intro i hi he
      refine r_iload_1 hK dX4_freeBehind_2 ?_
      refine r_iconstN (c := 1) hK dX4_freeBehind_3 ?_
      first | refine r_iaddN hK dX4_freeBehind_4 ?_ | refine r_iadd hK dX4_freeBehind_4 ?_
      refine r_iload_3 hK dX4_freeBehind_5 ?_
      first | refine r_iaddN hK dX4_freeBehind_6 ?_ | refine r_iadd hK dX4_freeBehind_6 ?_
      refine r_aload_0 hK dX4_freeBehind_7 ?_
      refine r_get hK fl_X4_10 dX4_freeBehind_8 (c1) rfl ?_
      refine r_pV0 hK (pl_size hQ c2) lk_X4_44 (rcv_ll hQ c2) dX4_freeBehind_11 ?_
      rw [c3.1]
      refine r_icmp_ge 44 hK dX4_freeBehind_14 (by omega) (by omega) (fun h14 => ?_) (fun h14 => ?_)
      · refine r_iload_3 hK dX4_freeBehind_44 ?_
        exact r_iret hK hRt dX4_freeBehind_45 ⟨by rw [he]; rfl, rfl, rfl⟩
      · exact absurd h14 (by omega)
    | succ m ih =>
      intro i hi he
      obtain ⟨y, hy⟩ : ∃ y, y = k + 1 + i := ⟨_, rfl⟩
      have e1 : frA w gs k (m + 1) = if agr w (gt gs k) (gt gs (gs.length - (m + 1))) then frA w gs k m + 1 else 0 := rfl
      rw [e1, show gs.length - (m + 1) = y by omega] at he
      refine r_iload_1 hK dX4_freeBehind_2 ?_
      refine r_iconstN (c := 1) hK dX4_freeBehind_3 ?_
      first | refine r_iaddN hK dX4_freeBehind_4 ?_ | refine r_iadd hK dX4_freeBehind_4 ?_
      refine r_iload_3 hK dX4_freeBehind_5 ?_
      first | refine r_iaddN hK dX4_freeBehind_6 ?_ | refine r_iadd hK dX4_freeBehind_6 ?_
      rw [← hy]
      refine r_aload_0 hK dX4_freeBehind_7 ?_
      refine r_get hK fl_X4_10 dX4_freeBehind_8 (c1) rfl ?_
      refine r_pV0 hK (pl_size hQ c2) lk_X4_44 (rcv_ll hQ c2) dX4_freeBehind_11 ?_
      rw [c3.1]
      refine r_icmp_ge 44 hK dX4_freeBehind_14 (by omega) (by omega) (fun h14 => ?_) (fun h14 => ?_)
      · exact absurd h14 (by omega)
      · refine r_aload_0 hK dX4_freeBehind_17 ?_
        refine r_iload_1 hK dX4_freeBehind_18 ?_
        refine r_pV1 hK (ct_cAt hK.rel hQ hXK h hk) lk_X4_82 (Rcv.raw hK.rel h.1 rfl) dX4_freeBehind_19 ?_
        refine r_aload_0 hK dX4_freeBehind_22 ?_
        refine r_iload_1 hK dX4_freeBehind_23 ?_
        refine r_iconstN (c := 1) hK dX4_freeBehind_24 ?_
        first | refine r_iaddN hK dX4_freeBehind_25 ?_ | refine r_iadd hK dX4_freeBehind_25 ?_
        refine r_iload_3 hK dX4_freeBehind_26 ?_
        first | refine r_iaddN hK dX4_freeBehind_27 ?_ | refine r_iadd hK dX4_freeBehind_27 ?_
        rw [← hy]
        refine r_pV1 hK (ct_cAt hK.rel hQ hXK h (show y < gs.length by omega)) lk_X4_82 (Rcv.raw hK.rel h.1 rfl) dX4_freeBehind_28 ?_
        refine r_iload_2 hK dX4_freeBehind_31 ?_
        refine r_pV2 hK (ct_gAgrees hK.rel (hg k hk) (hg y (by omega)) hw (og k hk) (og y (by omega))) lk_X4_94 (Rcv.raw hK.rel (hg k hk) rfl) dX4_freeBehind_32 ?_
        refine r_ifB_eq 44 hK dX4_freeBehind_35 (fun h35 => ?_) (fun h35 => ?_)
        · refine r_iload_3 hK dX4_freeBehind_44 ?_
          exact r_iret hK hRt dX4_freeBehind_45 ⟨by rw [he, if_neg h35]; rfl, rfl, rfl⟩
        · first | refine r_incN_3 hK dX4_freeBehind_38 ?_ | refine r_iinc_3 hK dX4_freeBehind_38 ?_
          refine r_goto 2 hK dX4_freeBehind_41 ?_
          exact ih (i + 1) (by omega) (by rw [he, if_pos h35]; omega)
  refine r_iconstN (c := 0) hK dX4_freeBehind_0 ?_
  refine r_istore_3 hK dX4_freeBehind_1 ?_
  exact lp (gs.length - (k + 1)) 0 (by omega) (by omega)
set_option maxHeartbeats 4000000 in
theorem ct_cCanCome {G : GT} {Rel : Nat → Hp → Hp → Prop} (hR : RelOK Rel) (hP : Rel = RelP) (hX : GX G) {n : Nat} {f : Hp} {c ll i k w : Nat} {l : List Nat} {gs : List Gt} (h : CC f c ll l gs) (hik : i < k) (hk : k < gs.length) (hl16 : gs.length ≤ 16) (hw : w ≤ 4) (ho : ∀ g ∈ gs, gok w g) : Ct G Rel yX4_canCome cX4_canCome 5 (some .boolean) (5) (0) [.ref c, zI (i : Int), zI (k : Int), zI ((rN w : Nat) : Int)] n (f) (Pu (zB (cm w gs i k = true)) n f) := by
  refine ct_intro [some (.ref c), some (zI (i : Int)), some (zI (k : Int)), some (zI ((rN w : Nat) : Int)), none] hR rfl (Nat.le_of_ble_eq_true rfl) ?_
  intro K hG hRel hK hRt hnm
  have hQ : kRel K = RelP := by rw [hRel]; exact hP
  have hXK : GX (kG K) := by rw [hG]; exact hX
  have hg : ∀ i, i < gs.length → f (l.getD i 0) = some (cG (gt gs i)) := fun i hi => h.2.2.1.2 i (by rw [h.2.2.1.1]; exact hi)
  have og : ∀ i, i < gs.length → gok w (gt gs i) := fun i hi => ho _ (gt_mem hi)
  have ce : cm w gs i k = true ↔ ∀ j, i < j → j < k → agr w (gt gs i) (gt gs j) = true := cm_iff hik
  have lp : ∀ (m j : Nat), j + m = k → i < j → (∀ y, i < y → y < j → agr w (gt gs i) (gt gs y) = true) → Wx K 5 [some (.ref c), some (zI (i : Int)), some (zI (k : Int)), some (zI ((rN w : Nat) : Int)), some (zI (j : Int))] [] n f 0 := by
    intro m
    induction m with
    | zero =>
      intro j hj hij hy
      refine r_iload_4 hK dX4_canCome_5 ?_
      refine r_iload_2 hK dX4_canCome_7 ?_
      refine r_icmp_ge 37 hK dX4_canCome_8 (by omega) (by omega) (fun h8 => ?_) (fun h8 => ?_)
      · refine r_iconstN (c := 1) hK dX4_canCome_37 ?_
        exact r_zret hK hRt dX4_canCome_38 rfl ⟨by rw [zB_t (ce.mpr (fun y q1 q2 => hy y q1 (by omega)))]; rfl, rfl, rfl⟩
      · exact absurd h8 (by omega)
    | succ m ih =>
      intro j hj hij hy
      refine r_iload_4 hK dX4_canCome_5 ?_
      refine r_iload_2 hK dX4_canCome_7 ?_
      refine r_icmp_ge 37 hK dX4_canCome_8 (by omega) (by omega) (fun h8 => ?_) (fun h8 => ?_)
      · exact absurd h8 (by omega)
      · refine r_aload_0 hK dX4_canCome_11 ?_
        refine r_iload_1 hK dX4_canCome_12 ?_
        refine r_pV1 hK (ct_cAt hK.rel hQ hXK h (show i < gs.length by omega)) lk_X4_82 (Rcv.raw hK.rel h.1 rfl) dX4_canCome_13 ?_
        refine r_aload_0 hK dX4_canCome_16 ?_
        refine r_iload_4 hK dX4_canCome_17 ?_
        refine r_pV1 hK (ct_cAt hK.rel hQ hXK h (show j < gs.length by omega)) lk_X4_82 (Rcv.raw hK.rel h.1 rfl) dX4_canCome_19 ?_
        refine r_iload_3 hK dX4_canCome_22 ?_
        refine r_pV2 hK (ct_gAgrees hK.rel (hg i (by omega)) (hg j (by omega)) hw (og i (by omega)) (og j (by omega))) lk_X4_94 (Rcv.raw hK.rel (hg i (by omega)) rfl) dX4_canCome_23 ?_
        refine r_ifB_ne 31 hK dX4_canCome_26 (fun h26 => ?_) (fun h26 => ?_)
        · first | refine r_incN_4 hK dX4_canCome_31 ?_ | refine r_iinc_4 hK dX4_canCome_31 ?_
          refine r_goto 5 hK dX4_canCome_34 ?_
          exact ih (j + 1) (by omega) (by omega) (fun y q1 q2 => by
            by_cases q : y = j
            · rw [q]; exact h26
            · exact hy y q1 (by omega))
        · refine r_iconstN (c := 0) hK dX4_canCome_29 ?_
          exact r_zret hK hRt dX4_canCome_30 rfl ⟨by rw [zB_f (fun q => h26 (ce.mp q j hij (by omega)))]; rfl, rfl, rfl⟩
  refine r_iload_1 hK dX4_canCome_0 ?_
  refine r_iconstN (c := 1) hK dX4_canCome_1 ?_
  first | refine r_iaddN hK dX4_canCome_2 ?_ | refine r_iadd hK dX4_canCome_2 ?_
  refine r_istore_4 hK dX4_canCome_3 ?_
  exact lp (k - (i + 1)) (i + 1) (by omega) (by omega) (fun y q1 q2 => by omega)
set_option maxHeartbeats 4000000 in
theorem ct_cSwaps {G : GT} {Rel : Nat → Hp → Hp → Prop} (hR : RelOK Rel) (hP : Rel = RelP) (hX : GX G) {n : Nat} {f : Hp} {c ll k : Nat} {l : List Nat} {gs : List Gt} (h : CC f c ll l gs) (hk : k + 1 < gs.length) : Ct G Rel yX4_swaps cX4_swaps 3 none (4) (1) [.ref c, zI (k : Int)] n (f) (fun r n' f' => r = none ∧ n ≤ n' ∧ f' = up f ll (cLL ((l.eraseIdx k).take (k + 1) ++ l.getD k 0 :: (l.eraseIdx k).drop (k + 1)))) := by
  refine ct_intro [some (.ref c), some (zI (k : Int)), none] hR rfl (Nat.le_of_ble_eq_true rfl) ?_
  intro K hG hRel hK hRt hnm
  have hQ : kRel K = RelP := by rw [hRel]; exact hP
  have hXK : GX (kG K) := by rw [hG]; exact hX
  obtain ⟨c1, c2, c3, c4⟩ := id h
  have hl := c3.1
  have hcl : c ≠ ll := fun q => by rw [q, c2] at c1; cases c1
  have hg := c3.2 k (by omega)
  have hgl : l.getD k 0 ≠ ll := fun q => by rw [q, c2] at hg; cases hg
  have le : (l.eraseIdx k).length = l.length - 1 := List.length_eraseIdx_of_lt (by omega)
  refine r_aload_0 hK dX4_swaps_0 ?_
  refine r_get hK fl_X4_10 dX4_swaps_1 (c1) rfl ?_
  refine r_iload_1 hK dX4_swaps_4 ?_
  refine r_callV1 hK (pl_remove hQ c2 (by omega) c4) lk_X4_75 (rcv_ll hQ c2) dX4_swaps_5 (fun r n1 f1 hp => ?_)
  obtain ⟨rfl, rfl, rfl⟩ := hp
  refine r_cast hK cl_X4_38 (Rcv.raw hK.rel ((up_n hgl).trans hg) rfl) dX4_swaps_8 ?_
  refine r_astore_2 hK dX4_swaps_11 ?_
  refine r_aload_0 hK dX4_swaps_12 ?_
  refine r_get hK fl_X4_10 dX4_swaps_13 ((up_n hcl).trans c1) rfl ?_
  refine r_iload_1 hK dX4_swaps_16 ?_
  refine r_iconstN (c := 1) hK dX4_swaps_17 ?_
  first | refine r_iaddN hK dX4_swaps_18 ?_ | refine r_iadd hK dX4_swaps_18 ?_
  refine r_aload_2 hK dX4_swaps_19 ?_
  refine r_callV2 hK (pl_add hQ (up_s _ _ _) (by rw [le]; omega) (by rw [le]; omega)) lk_X4_78 (rcv_ll hQ (up_s _ _ _)) dX4_swaps_20 (fun r n1 f1 hp => ?_)
  obtain ⟨rfl, hle, rfl⟩ := hp
  rw [up_up]
  exact r_vret hK hRt dX4_swaps_23 ⟨rfl, hle, rfl⟩
set_option maxHeartbeats 4000000 in
theorem ct_cUnlike {G : GT} {Rel : Nat → Hp → Hp → Prop} (hR : RelOK Rel) (hP : Rel = RelP) (hX : GX G) {n : Nat} {f : Hp} {c ll : Nat} {l : List Nat} {gs : List Gt} (h : CC f c ll l gs) (hl16 : gs.length ≤ 16) (hb : ∀ g ∈ gs, gB g) : Ct G Rel yX4_unlike cX4_unlike 5 (some .int) (5) (0) [.ref c] n (f) (Pu (zI ((soF gs gs.length : Nat) : Int)) n f) := by
  refine ct_intro [some (.ref c), none, none, none, none] hR rfl (Nat.le_of_ble_eq_true rfl) ?_
  intro K hG hRel hK hRt hnm
  have hQ : kRel K = RelP := by rw [hRel]; exact hP
  have hXK : GX (kG K) := by rw [hG]; exact hX
  obtain ⟨c1, c2, c3, c4⟩ := id h
  have hg : ∀ i, i < gs.length → f (l.getD i 0) = some (cG (gt gs i)) := fun i hi => h.2.2.1.2 i (by rw [h.2.2.1.1]; exact hi)
  have hB : ∀ i, i < gs.length → gB (gt gs i) := fun i hi => hb _ (gt_mem hi)
  have lp : ∀ (m k : Nat) a3 a4, nl a3 = true → nl a4 = true → k + m = gs.length → Wx K 4 [some (.ref c), some (zI ((soF gs k : Nat) : Int)), some (zI (k : Int)), a3, a4] [] n f 0 := by
    intro m
    induction m with
    | zero =>
      intro k a3 a4 n3 n4 hk
      refine r_iload_2 hK dX4_unlike_4 ?_
      refine r_aload_0 hK dX4_unlike_5 ?_
      refine r_get hK fl_X4_10 dX4_unlike_6 (c1) rfl ?_
      refine r_pV0 hK (pl_size hQ c2) lk_X4_44 (rcv_ll hQ c2) dX4_unlike_9 ?_
      rw [c3.1]
      refine r_icmp_ge 77 hK dX4_unlike_12 (by omega) (by omega) (fun h12 => ?_) (fun h12 => ?_)
      · refine r_iload_1 hK dX4_unlike_77 ?_
        exact r_iret hK hRt dX4_unlike_78 ⟨by rw [show k = gs.length by omega], rfl, rfl⟩
      · exact absurd h12 (by omega)
    | succ m ih =>
      intro k a3 a4 n3 n4 hk
      have e1 : soF gs (k + 1) = if soA gs k k = true then soF gs k + 1 else soF gs k := rfl
      have hsl := soF_le gs k
      have lj : ∀ (m2 j : Nat), j + m2 = k → Wx K 20 [some (.ref c), some (zI ((soF gs k : Nat) : Int)), some (zI (k : Int)), some (zI ((if soA gs k j = true then 1 else 0 : Nat) : Int)), some (zI (j : Int))] [] n f 0 := by
        intro m2
        induction m2 with
        | zero =>
          intro j hj
          have ej : j = k := hj
          subst ej
          by_cases cs : soA gs j j = true
          · rw [if_pos cs] at e1 ⊢
            refine r_iload_4 hK dX4_unlike_20 ?_
            refine r_iload_2 hK dX4_unlike_22 ?_
            refine r_icmp_ge 59 hK dX4_unlike_23 (by omega) (by omega) (fun h23 => ?_) (fun h23 => ?_)
            · refine r_iload_1 hK dX4_unlike_59 ?_
              refine r_iload_3 hK dX4_unlike_60 ?_
              refine r_if_eq 68 hK dX4_unlike_61 (by omega) (fun h61 => ?_) (fun h61 => ?_)
              · exact absurd h61 (by omega) --!
              · refine r_iconstN (c := 1) hK dX4_unlike_64 ?_
                refine r_goto 69 hK dX4_unlike_65 ?_
                first | refine r_iaddN hK dX4_unlike_69 ?_ | refine r_iadd hK dX4_unlike_69 ?_
                refine r_istore_1 hK dX4_unlike_70 ?_
                first | refine r_incN_2 hK dX4_unlike_71 ?_ | refine r_iinc_2 hK dX4_unlike_71 ?_
                refine r_goto 4 hK dX4_unlike_74 ?_
                have := ih (j + 1) (some (zI ((1 : Nat) : Int))) (some (zI (j : Int))) rfl rfl (by omega)
                rw [e1] at this
                exact this
            · exact absurd h23 (by omega)
          · rw [if_neg cs] at e1 ⊢
            refine r_iload_4 hK dX4_unlike_20 ?_
            refine r_iload_2 hK dX4_unlike_22 ?_
            refine r_icmp_ge 59 hK dX4_unlike_23 (by omega) (by omega) (fun h23 => ?_) (fun h23 => ?_)
            · refine r_iload_1 hK dX4_unlike_59 ?_
              refine r_iload_3 hK dX4_unlike_60 ?_
              refine r_if_eq 68 hK dX4_unlike_61 (by omega) (fun h61 => ?_) (fun h61 => ?_)
              · refine r_iconstN (c := 0) hK dX4_unlike_68 ?_
                first | refine r_iaddN hK dX4_unlike_69 ?_ | refine r_iadd hK dX4_unlike_69 ?_
                refine r_istore_1 hK dX4_unlike_70 ?_
                first | refine r_incN_2 hK dX4_unlike_71 ?_ | refine r_iinc_2 hK dX4_unlike_71 ?_
                refine r_goto 4 hK dX4_unlike_74 ?_
                have := ih (j + 1) (some (zI ((0 : Nat) : Int))) (some (zI (j : Int))) rfl rfl (by omega)
                rw [e1] at this
                exact this
              · exact absurd rfl h61
            · exact absurd h23 (by omega)
        | succ m2 ih2 =>
          intro j hj
          have e2 : soA gs k (j + 1) = (soA gs k j && decide (gt gs j ≠ gt gs k)) := rfl
          by_cases cs : soA gs k j = true
          · rw [if_pos cs]
            rw [cs, Bool.true_and] at e2
            refine r_iload_4 hK dX4_unlike_20 ?_
            refine r_iload_2 hK dX4_unlike_22 ?_
            refine r_icmp_ge 59 hK dX4_unlike_23 (by omega) (by omega) (fun h23 => ?_) (fun h23 => ?_)
            · exact absurd h23 (by omega)
            · refine r_iload_3 hK dX4_unlike_26 ?_
              refine r_if_eq 51 hK dX4_unlike_27 (by omega) (fun h27 => ?_) (fun h27 => ?_)
              · exact absurd h27 (by omega)
              · refine r_aload_0 hK dX4_unlike_30 ?_
                refine r_iload_4 hK dX4_unlike_31 ?_
                refine r_pV1 hK (ct_cAt hK.rel hQ hXK h (show j < gs.length by omega)) lk_X4_82 (Rcv.raw hK.rel h.1 rfl) dX4_unlike_33 ?_
                refine r_aload_0 hK dX4_unlike_36 ?_
                refine r_iload_2 hK dX4_unlike_37 ?_
                refine r_pV1 hK (ct_cAt hK.rel hQ hXK h (show k < gs.length by omega)) lk_X4_82 (Rcv.raw hK.rel h.1 rfl) dX4_unlike_38 ?_
                refine r_pV1 hK (ct_gAlike hK.rel (hg j (by omega)) (hg k (by omega)) (hB j (by omega)) (hB k (by omega))) lk_X4_98 (Rcv.raw hK.rel (hg j (by omega)) rfl) dX4_unlike_41 ?_
                refine r_ifB_ne 51 hK dX4_unlike_44 (fun h44 => ?_) (fun h44 => ?_)
                · refine r_iconstN (c := 0) hK dX4_unlike_51 ?_
                  refine r_istore_3 hK dX4_unlike_52 ?_
                  first | refine r_incN_4 hK dX4_unlike_53 ?_ | refine r_iinc_4 hK dX4_unlike_53 ?_
                  refine r_goto 20 hK dX4_unlike_56 ?_
                  have := ih2 (j + 1) (by omega)
                  rw [e2, if_neg (by rw [decide_eq_true_eq]; exact fun q => q h44)] at this
                  exact this
                · refine r_iconstN (c := 1) hK dX4_unlike_47 ?_
                  refine r_goto 52 hK dX4_unlike_48 ?_
                  refine r_istore_3 hK dX4_unlike_52 ?_
                  first | refine r_incN_4 hK dX4_unlike_53 ?_ | refine r_iinc_4 hK dX4_unlike_53 ?_
                  refine r_goto 20 hK dX4_unlike_56 ?_
                  have := ih2 (j + 1) (by omega)
                  rw [e2, if_pos (by rw [decide_eq_true_eq]; exact h44)] at this
                  exact this
          · rw [if_neg cs]
            rw [Bool.eq_false_iff.mpr cs, Bool.false_and] at e2
            refine r_iload_4 hK dX4_unlike_20 ?_
            refine r_iload_2 hK dX4_unlike_22 ?_
            refine r_icmp_ge 59 hK dX4_unlike_23 (by omega) (by omega) (fun h23 => ?_) (fun h23 => ?_)
            · exact absurd h23 (by omega)
            · refine r_iload_3 hK dX4_unlike_26 ?_
              refine r_if_eq 51 hK dX4_unlike_27 (by omega) (fun h27 => ?_) (fun h27 => ?_)
              · refine r_iconstN (c := 0) hK dX4_unlike_51 ?_
                refine r_istore_3 hK dX4_unlike_52 ?_
                first | refine r_incN_4 hK dX4_unlike_53 ?_ | refine r_iinc_4 hK dX4_unlike_53 ?_
                refine r_goto 20 hK dX4_unlike_56 ?_
                have := ih2 (j + 1) (by omega)
                rw [e2, if_neg (by decide)] at this
                exact this
              · exact absurd rfl h27
      refine r_iload_2 hK dX4_unlike_4 ?_
      refine r_aload_0 hK dX4_unlike_5 ?_
      refine r_get hK fl_X4_10 dX4_unlike_6 (c1) rfl ?_
      refine r_pV0 hK (pl_size hQ c2) lk_X4_44 (rcv_ll hQ c2) dX4_unlike_9 ?_
      rw [c3.1]
      refine r_icmp_ge 77 hK dX4_unlike_12 (by omega) (by omega) (fun h12 => ?_) (fun h12 => ?_)
      · exact absurd h12 (by omega)
      · refine r_iconstN (c := 1) hK dX4_unlike_15 ?_
        refine r_istore_3 hK dX4_unlike_16 ?_
        refine r_iconstN (c := 0) hK dX4_unlike_17 ?_
        refine r_istore_4 hK dX4_unlike_18 ?_
        have := lj k 0 (by omega)
        exact this
  refine r_iconstN (c := 0) hK dX4_unlike_0 ?_
  refine r_istore_1 hK dX4_unlike_1 ?_
  refine r_iconstN (c := 0) hK dX4_unlike_2 ?_
  refine r_istore_2 hK dX4_unlike_3 ?_
  exact lp gs.length 0 none none rfl rfl (by omega)
theorem updV_updV (h : Nat → Value) (i : Nat) (a b : Value) : updV (updV h i a) i b = updV h i b := by
  funext j; unfold updV; by_cases q : j = i
  · rw [if_pos q, if_pos q]
  · rw [if_neg q, if_neg q, if_neg q]
set_option maxHeartbeats 4000000 in
theorem ct_cLevels {G : GT} {Rel : Nat → Hp → Hp → Prop} (hR : RelOK Rel) (hP : Rel = RelP) (hX : GX G) {n : Nat} {f : Hp} {c ll a N : Nat} {l : List Nat} {gs : List Gt} {h0 : Nat → Value} (h : CC f c ll l gs) (hl16 : gs.length ≤ 16) (ho : ∀ g ∈ gs, gok 4 g) (ha : f a = some (.inr (0, N, h0))) (hN : 16 ≤ N) (hN2 : N < 2147483648) : Ct G Rel yX4_levels cX4_levels 5 (some .int) (5) (0) [.ref c, .ref a] n (f) (fun r n' f' => r = some (zI ((lvM gs gs.length : Nat) : Int)) ∧ n' = n ∧ f' = up f a (.inr (0, N, oA gs.length (lvT gs gs.length) h0))) := by
  refine ct_intro [some (.ref c), some (.ref a), none, none, none] hR rfl (Nat.le_of_ble_eq_true rfl) ?_
  intro K hG hRel hK hRt hnm
  have hQ : kRel K = RelP := by rw [hRel]; exact hP
  have hXK : GX (kG K) := by rw [hG]; exact hX
  have hB : ∀ i, i < gs.length → (gt gs i).1 < 6 := fun i hi => by have := (ho _ (gt_mem hi)).1; omega
  have hW : ∀ i, i < gs.length → wir (gt gs i) < 16 := fun i hi => wir_lt (ho _ (gt_mem hi))
  have hT : ∀ k j, j < k → k ≤ gs.length → lvT gs k j ≤ k := fun k j hj hk => lvT_le gs k j
  have lp : ∀ (m k : Nat) a4, nl a4 = true → k + m = gs.length → Wx K 4 [some (.ref c), some (.ref a), some (zI ((lvM gs k : Nat) : Int)), some (zI (k : Int)), a4] [] n (up f a (.inr (0, N, oA k (lvT gs k) h0))) 0 := by
    intro m
    induction m with
    | zero =>
      intro k a4 n4 hk
      have ek : k = gs.length := hk
      have h' := h.arr (e' := .inr (0, N, oA k (lvT gs k) h0)) ha ⟨_, _, _, rfl⟩
      refine r_iload_3 hK dX4_levels_4 ?_
      refine r_aload_0 hK dX4_levels_5 ?_
      refine r_get hK fl_X4_10 dX4_levels_6 (h'.1) rfl ?_
      refine r_pV0 hK (pl_size hQ h'.2.1) lk_X4_44 (rcv_ll hQ h'.2.1) dX4_levels_9 ?_
      rw [h.2.2.1.1]
      refine r_icmp_ge 86 hK dX4_levels_12 (by omega) (by omega) (fun h12 => ?_) (fun h12 => ?_)
      · refine r_iload_2 hK dX4_levels_86 ?_
        exact r_iret hK hRt dX4_levels_87 ⟨by rw [ek], rfl, by rw [ek]⟩
      · exact absurd h12 (by omega)
    | succ m ih =>
      intro k a4 n4 hk
      have hkl : k < gs.length := by omega
      have h' := h.arr (e' := .inr (0, N, oA k (lvT gs k) h0)) ha ⟨_, _, _, rfl⟩
      have eT : lvT gs (k + 1) = fun j => if j = k then lvIn gs (lvT gs k) k k else lvT gs k j := rfl
      have eM : lvM gs (k + 1) = max (lvM gs k) (lvT gs (k + 1) k + 1) := rfl
      have eTk : lvT gs (k + 1) k = lvIn gs (lvT gs k) k k := by rw [eT]; simp
      have bIn : ∀ j, j ≤ k → lvIn gs (lvT gs k) k j ≤ k + 1 := fun j hj => lvIn_le j (fun y hy => by have := hT k y (by omega) (by omega); omega)
      have bM : lvM gs k ≤ k + 1 := lvM_le gs k
      have lj : ∀ (m2 j : Nat), j + m2 = k → Wx K 22 [some (.ref c), some (.ref a), some (zI ((lvM gs k : Nat) : Int)), some (zI (k : Int)), some (zI (j : Int))] [] n (up f a (.inr (0, N, updV (oA k (lvT gs k) h0) k (zI ((lvIn gs (lvT gs k) k j : Nat) : Int))))) 0 := by
        intro m2
        induction m2 with
        | zero =>
          intro j hj
          have ej : j = k := hj
          subst ej
          have hf1 : updV (oA j (lvT gs j) h0) j (zI ((lvIn gs (lvT gs j) j j : Nat) : Int)) = oA (j + 1) (lvT gs (j + 1)) h0 := by
            funext i
            unfold updV oA
            rw [eT]
            by_cases q : i = j
            · simp [q]
            · by_cases q2 : i < j
              · simp [q, q2, show i < j + 1 by omega]
              · simp [q, q2, show ¬ i < j + 1 by omega]
          have bj := bIn j (Nat.le_refl _)
          rw [hf1]
          have rd : oA (j + 1) (lvT gs (j + 1)) h0 j = zI ((lvIn gs (lvT gs j) j j : Nat) : Int) := by unfold oA; rw [if_pos (by omega), eTk]
          refine r_iload_4 hK dX4_levels_22 ?_
          refine r_iload_3 hK dX4_levels_24 ?_
          refine r_icmp_ge 70 hK dX4_levels_25 (by omega) (by omega) (fun h25 => ?_) (fun h25 => ?_)
          · refine r_iload_2 hK dX4_levels_70 ?_
            refine r_aload_1 hK dX4_levels_71 ?_
            refine r_iload_3 hK dX4_levels_72 ?_
            refine r_iald hK dX4_levels_73 (up_s _ _ _) (by omega) ?_ hN2
            rw [rd]
            refine r_iconstN (c := 1) hK dX4_levels_74 ?_
            first | refine r_iaddN hK dX4_levels_75 ?_ | refine r_iadd hK dX4_levels_75 ?_
            refine r_mmax hK lk_X4_89 dX4_levels_76 (by omega) (by omega) ?_
            rw [← eTk, ← eM]
            refine r_istore_2 hK dX4_levels_79 ?_
            first | refine r_incN_3 hK dX4_levels_80 ?_ | refine r_iinc_3 hK dX4_levels_80 ?_
            refine r_goto 4 hK dX4_levels_83 ?_
            exact ih (j + 1) _ rfl (by omega)
          · exact absurd h25 (by omega)
        | succ m2 ih2 =>
          intro j hj
          have hjl : j < gs.length := by omega
          have e2 : lvIn gs (lvT gs k) k (j + 1) = if wir (gt gs k) &&& wir (gt gs j) ≠ 0 then max (lvIn gs (lvT gs k) k j) (lvT gs k j + 1) else lvIn gs (lvT gs k) k j := rfl
          obtain ⟨hv, hhv⟩ : ∃ hv, hv = updV (oA k (lvT gs k) h0) k (zI ((lvIn gs (lvT gs k) k j : Nat) : Int)) := ⟨_, rfl⟩
          have h2 := h.arr (e' := .inr (0, N, hv)) ha ⟨_, _, _, rfl⟩
          have hg2 : ∀ i, i < gs.length → (up f a (.inr (0, N, hv))) (l.getD i 0) = some (cG (gt gs i)) := fun i hi => h2.2.2.1.2 i (by rw [h.2.2.1.1]; exact hi)
          have w1 := hW j hjl
          have w2 := hW k hkl
          have wa : wir (gt gs j) &&& wir (gt gs k) < 16 := and_lt w1
          have wc : wir (gt gs j) &&& wir (gt gs k) = wir (gt gs k) &&& wir (gt gs j) := Nat.and_comm _ _
          have bj := bIn j (by omega)
          have bt := hT k j (by omega) (by omega)
          have rk : hv k = zI ((lvIn gs (lvT gs k) k j : Nat) : Int) := by rw [hhv]; unfold updV; rw [if_pos rfl]
          have rj : hv j = zI ((lvT gs k j : Nat) : Int) := by rw [hhv]; unfold updV oA; rw [if_neg (by omega), if_pos (by omega)]
          rw [← hhv]
          refine r_iload_4 hK dX4_levels_22 ?_
          refine r_iload_3 hK dX4_levels_24 ?_
          refine r_icmp_ge 70 hK dX4_levels_25 (by omega) (by omega) (fun h25 => ?_) (fun h25 => ?_)
          · exact absurd h25 (by omega)
          · refine r_aload_0 hK dX4_levels_28 ?_
            refine r_iload_4 hK dX4_levels_29 ?_
            refine r_pV1 hK (ct_cAt hK.rel hQ hXK h2 hjl) lk_X4_82 (Rcv.raw hK.rel h2.1 rfl) dX4_levels_31 ?_
            refine r_pV0 hK (ct_gWir hK.rel (hg2 j hjl) (hB j hjl)) lk_X4_86 (Rcv.raw hK.rel (hg2 j hjl) rfl) dX4_levels_34 ?_
            refine r_aload_0 hK dX4_levels_37 ?_
            refine r_iload_3 hK dX4_levels_38 ?_
            refine r_pV1 hK (ct_cAt hK.rel hQ hXK h2 hkl) lk_X4_82 (Rcv.raw hK.rel h2.1 rfl) dX4_levels_39 ?_
            refine r_pV0 hK (ct_gWir hK.rel (hg2 k hkl) (hB k hkl)) lk_X4_86 (Rcv.raw hK.rel (hg2 k hkl) rfl) dX4_levels_42 ?_
            first | refine r_iand hK dX4_levels_45 ?_ | refine r_andnot hK dX4_levels_45 (by omega) ?_
            refine r_if_eq 64 hK dX4_levels_46 (by omega) (fun h46 => ?_) (fun h46 => ?_)
            · first | refine r_incN_4 hK dX4_levels_64 ?_ | refine r_iinc_4 hK dX4_levels_64 ?_
              refine r_goto 22 hK dX4_levels_67 ?_
              have := ih2 (j + 1) (by omega)
              rw [e2, if_neg (by rw [← wc]; omega), ← hhv] at this
              exact this
            · refine r_aload_1 hK dX4_levels_49 ?_
              refine r_iload_3 hK dX4_levels_50 ?_
              refine r_aload_1 hK dX4_levels_51 ?_
              refine r_iload_3 hK dX4_levels_52 ?_
              refine r_iald hK dX4_levels_53 (up_s _ _ _) (by omega) ?_ hN2
              rw [rk]
              refine r_aload_1 hK dX4_levels_54 ?_
              refine r_iload_4 hK dX4_levels_55 ?_
              refine r_iald hK dX4_levels_57 (up_s _ _ _) (by omega) ?_ hN2
              rw [rj]
              refine r_iconstN (c := 1) hK dX4_levels_58 ?_
              first | refine r_iaddN hK dX4_levels_59 ?_ | refine r_iadd hK dX4_levels_59 ?_
              refine r_mmax hK lk_X4_89 dX4_levels_60 (by omega) (by omega) ?_
              refine r_iast hK dX4_levels_63 (up_s _ _ _) (by omega) ?_ hN2
              first | refine r_incN_4 hK dX4_levels_64 ?_ | refine r_iinc_4 hK dX4_levels_64 ?_
              refine r_goto 22 hK dX4_levels_67 ?_
              have := ih2 (j + 1) (by omega)
              rw [e2, if_pos (by rw [← wc]; omega)] at this
              rw [up_up, hhv, updV_updV]
              exact this
      refine r_iload_3 hK dX4_levels_4 ?_
      refine r_aload_0 hK dX4_levels_5 ?_
      refine r_get hK fl_X4_10 dX4_levels_6 (h'.1) rfl ?_
      refine r_pV0 hK (pl_size hQ h'.2.1) lk_X4_44 (rcv_ll hQ h'.2.1) dX4_levels_9 ?_
      rw [h.2.2.1.1]
      refine r_icmp_ge 86 hK dX4_levels_12 (by omega) (by omega) (fun h12 => ?_) (fun h12 => ?_)
      · exact absurd h12 (by omega)
      · refine r_aload_1 hK dX4_levels_15 ?_
        refine r_iload_3 hK dX4_levels_16 ?_
        refine r_iconstN (c := 0) hK dX4_levels_17 ?_
        refine r_iast hK dX4_levels_18 (up_s _ _ _) (by omega) ?_ hN2
        rw [up_up]
        refine r_iconstN (c := 0) hK dX4_levels_19 ?_
        refine r_istore_4 hK dX4_levels_20 ?_
        exact lj k 0 (by omega)
  refine r_iconstN (c := 0) hK dX4_levels_0 ?_
  refine r_istore_2 hK dX4_levels_1 ?_
  refine r_iconstN (c := 0) hK dX4_levels_2 ?_
  refine r_istore_3 hK dX4_levels_3 ?_
  have := lp gs.length 0 none rfl (by omega)
  rw [oA_0, show up f a (.inr (0, N, h0)) = f from by funext j; unfold up; by_cases q : j = a; rw [if_pos q, q]; exact ha.symm; rw [if_neg q]] at this
  exact this
