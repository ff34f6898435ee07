set_option maxRecDepth 100000
/-! ===== BackLogic: rows, what is made ===== -/
set_option maxHeartbeats 4000000 in
theorem ct_xRows {G : GT} {Rel : Nat → Hp → Hp → Prop} (hR : RelOK Rel) {n : Nat} {f : Hp} {pl : Int} {w : Nat} (h0 : f 300 = some (x0C pl w)) (hw : w ≤ 4) : Ct G Rel yX0_rows cX0_rows 1 (some .int) (1) (0) [.ref 300] n (f) (Pu (zI ((rN w : Nat) : Int)) n f) := by
  refine ct_intro [some (.ref 300)] hR rfl (Nat.le_of_ble_eq_true rfl) ?_
  intro K hG hRel hK hRt hnm
  refine r_iconstN (c := 1) hK dX0_rows_0 ?_
  refine r_aload_0 hK dX0_rows_1 ?_
  refine r_get hK fl_X0_131 dX0_rows_2 (h0) rfl ?_
  refine r_ishl hK dX0_rows_5 (by omega) (sh1 (by omega)) ?_
  show Wx K _ _ (zI ((rN w : Nat) : Int) :: _) _ _ _
  exact r_iret hK hRt dX0_rows_6 ⟨rfl, rfl, rfl⟩
set_option maxHeartbeats 4000000 in
theorem ct_xIsRow {G : GT} {Rel : Nat → Hp → Hp → Prop} (hR : RelOK Rel) {n : Nat} {f : Hp} {pl z : Int} {w : Nat} (h0 : f 300 = some (x0C pl w)) (hw : w ≤ 4) (hz : inR z) : Ct G Rel yX0_isRow cX0_isRow 2 (some .boolean) (2) (0) [.ref 300, zI z] n (f) (Pu (zB (0 ≤ z ∧ z < ((rN w : Nat) : Int))) n f) := by
  refine ct_intro [some (.ref 300), some (zI z)] hR rfl (Nat.le_of_ble_eq_true rfl) ?_
  intro K hG hRel hK hRt hnm
  have h4 := rN4 hw
  refine r_iload_1 hK dX0_isRow_0 ?_
  refine r_iconstN (c := 0) hK dX0_isRow_1 ?_
  refine r_aload_0 hK dX0_isRow_2 ?_
  refine r_pV0 hK (ct_xRows hK.rel h0 hw) lk_X0_151 (Rcv.raw hK.rel h0 rfl) dX0_isRow_3 ?_
  refine r_iconstN (c := 1) hK dX0_isRow_6 ?_
  refine r_isub hK dX0_isRow_7 ?_
  refine r_pS3 hK (ct_isIn0 hK.rel hz (by omega) (by omega)) lk_X0_155 dX0_isRow_8 ?_
  exact r_bret hK hRt dX0_isRow_11 ⟨congrArg some (zB_iff (by omega)), rfl, rfl⟩
set_option maxHeartbeats 4000000 in
theorem ct_xIsWire {G : GT} {Rel : Nat → Hp → Hp → Prop} (hR : RelOK Rel) {n : Nat} {f : Hp} {pl z : Int} {w : Nat} (h0 : f 300 = some (x0C pl w)) (hw : w ≤ 4) (hz : inR z) : Ct G Rel yX0_isWire cX0_isWire 2 (some .boolean) (2) (0) [.ref 300, zI z] n (f) (Pu (zB (0 ≤ z ∧ z < ((w : Nat) : Int))) n f) := by
  refine ct_intro [some (.ref 300), some (zI z)] hR rfl (Nat.le_of_ble_eq_true rfl) ?_
  intro K hG hRel hK hRt hnm
  refine r_iload_1 hK dX0_isWire_0 ?_
  refine r_iconstN (c := 0) hK dX0_isWire_1 ?_
  refine r_aload_0 hK dX0_isWire_2 ?_
  refine r_get hK fl_X0_131 dX0_isWire_3 (h0) rfl ?_
  refine r_iconstN (c := 1) hK dX0_isWire_6 ?_
  refine r_isub hK dX0_isWire_7 ?_
  refine r_pS3 hK (ct_isIn0 hK.rel hz (by omega) (by omega)) lk_X0_155 dX0_isWire_8 ?_
  exact r_bret hK hRt dX0_isWire_11 ⟨congrArg some (zB_iff (by omega)), rfl, rfl⟩
set_option maxHeartbeats 4000000 in
theorem ct_xPlace {G : GT} {Rel : Nat → Hp → Hp → Prop} (hR : RelOK Rel) {n : Nat} {f : Hp} {pl : Int} {w : Nat} (h0 : f 300 = some (x0C pl w)) : Ct G Rel yX0_place cX0_place 1 (some .int) (1) (0) [.ref 300] n (f) (Pu (zI pl) n f) := by
  refine ct_intro [some (.ref 300)] hR rfl (Nat.le_of_ble_eq_true rfl) ?_
  intro K hG hRel hK hRt hnm
  refine r_aload_0 hK dX0_place_0 ?_
  refine r_get hK fl_X0_100 dX0_place_1 (h0) rfl ?_
  exact r_iret hK hRt dX0_place_4 ⟨rfl, rfl, rfl⟩
set_option maxHeartbeats 4000000 in
theorem ct_xMade {G : GT} {Rel : Nat → Hp → Hp → Prop} (hR : RelOK Rel) (hP : Rel = RelP) (hX : GX G) {n : Nat} {f : Hp} {pl z zn : Int} {w : Nat} {l : List Nat} {gs : List Gt} (h0 : f 300 = some (x0C pl w)) (hw : w ≤ 4) (hc : CC f 318 319 l gs) (hl16 : gs.length ≤ 16) (hb : ∀ q ∈ gs, gB q) (hz : inR z) (hzn : inR zn) : Ct G Rel yX0_made cX0_made 3 (some .int) (8) (1) [.ref 300, zI z, zI zn] n (f) (Pg (zI (if (0 ≤ z ∧ z < rN w) ∧ 0 ≤ zn ∧ zn ≤ gs.length then ((run (gs.take zn.toNat) z.toNat : Nat) : Int) else -1)) n f) := by
  refine ct_intro [some (.ref 300), some (zI z), some (zI zn)] hR rfl (Nat.le_of_ble_eq_true rfl) ?_
  intro K hG hRel hK hRt hnm
  have hQ : kRel K = RelP := by rw [hRel]; exact hP
  have hXK : GX (kG K) := by rw [hG]; exact hX
  have h4 := rN4 hw
  refine r_aload_0 hK dX0_made_0 ?_
  refine r_iload_1 hK dX0_made_1 ?_
  refine r_pV1 hK (ct_xIsRow hK.rel h0 hw hz) lk_X0_179 (Rcv.raw hK.rel h0 rfl) dX0_made_2 ?_
  refine r_ifB_eq 35 hK dX0_made_5 (fun h5 => ?_) (fun h5 => ?_)
  · refine r_iconst hK dX0_made_35 ?_
    exact r_iret hK hRt dX0_made_36 ⟨by rw [if_neg (by omega)], Nat.le_refl _, rfl⟩
  · refine r_iload_2 hK dX0_made_8 ?_
    refine r_iconstN (c := 0) hK dX0_made_9 ?_
    refine r_aload_0 hK dX0_made_10 ?_
    refine r_get hK fl_X0_41 dX0_made_11 (h0) rfl ?_
    refine r_pV0 hK (ct_cSize hK.rel hQ hXK hc) lk_X0_174 (Rcv.raw hK.rel hc.1 rfl) dX0_made_14 ?_
    refine r_pS3 hK (ct_isIn0 hK.rel hzn (by omega) (by omega)) lk_X0_155 dX0_made_17 ?_
    refine r_ifB_eq 35 hK dX0_made_20 (fun h20 => ?_) (fun h20 => ?_)
    · refine r_iconst hK dX0_made_35 ?_
      exact r_iret hK hRt dX0_made_36 ⟨by rw [if_neg (by omega)], Nat.le_refl _, rfl⟩
    · obtain ⟨k, rfl⟩ : ∃ s : Nat, z = (s : Int) := ⟨z.toNat, by omega⟩
      obtain ⟨j, rfl⟩ : ∃ s : Nat, zn = (s : Int) := ⟨zn.toNat, by omega⟩
      refine r_aload_0 hK dX0_made_23 ?_
      refine r_get hK fl_X0_41 dX0_made_24 (h0) rfl ?_
      refine r_iload_1 hK dX0_made_27 ?_
      refine r_iload_2 hK dX0_made_28 ?_
      refine r_callV2 hK (pc_made2 hQ hXK hc hb (x := k) (m := j) (by omega) (by omega)) lk_X0_268 (Rcv.raw hK.rel hc.1 rfl) dX0_made_29 (fun r n1 f1 hp => ?_)
      obtain ⟨rfl, hn1, rfl⟩ := hp
      refine r_goto 36 hK dX0_made_32 ?_
      exact r_iret hK hRt dX0_made_36 ⟨by rw [if_pos (by omega)]; simp, hn1, rfl⟩
theorem run_rv {w : Nat} {gs : List Gt} (ho : ∀ g ∈ gs, gok w g) {x : Nat} (hx : x < rN w) : run gs (run gs.reverse x) = x ∧ run gs.reverse (run gs x) = x ∧ run gs.reverse x < rN w := by
  have h1 : ∀ g ∈ gs.reverse, gok w g := fun g hg => ho g (List.mem_reverse.mp hg)
  have hl : run gs.reverse x < rN w := run_lt (fun g hg => (h1 g hg).1) hx
  have key : ∀ (l : List Gt), (∀ g ∈ l, gok w g) → ∀ y, y < rN w → run l.reverse (run l y) = y := by
    intro l
    induction l with
    | nil => intro _ y _; rfl
    | cons g l ih =>
      intro hl y hy
      have hg := hl g List.mem_cons_self
      rw [List.reverse_cons]
      show (l.reverse ++ [g]).foldl (fun x g => mk g x) (l.foldl (fun x g => mk g x) (mk g y)) = y
      rw [List.foldl_append]
      have := ih (fun q hq => hl q (List.mem_cons_of_mem _ hq)) (mk g y) (mk_lt hg.1 hy)
      show mk g (run l.reverse (run l (mk g y))) = y
      rw [this]
      exact hg.mm y
  refine ⟨?_, key gs ho x hx, hl⟩
  have := key gs.reverse h1 x hx
  rw [List.reverse_reverse] at this
  exact this
set_option maxHeartbeats 4000000 in
theorem ct_xUndone {G : GT} {Rel : Nat → Hp → Hp → Prop} (hR : RelOK Rel) (hP : Rel = RelP) (hX : GX G) {n : Nat} {f : Hp} {pl z : Int} {w : Nat} {l : List Nat} {gs : List Gt} (h0 : f 300 = some (x0C pl w)) (hw : w ≤ 4) (hc : CC f 318 319 l gs) (ho : ∀ q ∈ gs, gok w q) (hz : inR z) : Ct G Rel yX0_undone cX0_undone 3 (some .int) (8) (17) [.ref 300, zI z] n (f) (Pg (zI (if 0 ≤ z ∧ z < rN w then ((run gs.reverse z.toNat : Nat) : Int) else -1)) n f) := by
  refine ct_intro [some (.ref 300), some (zI z), none] hR rfl (Nat.le_of_ble_eq_true rfl) ?_
  intro K hG hRel hK hRt hnm
  have hQ : kRel K = RelP := by rw [hRel]; exact hP
  have hXK : GX (kG K) := by rw [hG]; exact hX
  have h4 := rN4 hw
  have hb : ∀ q ∈ gs, gB q := fun q hq => (ho q hq).gB (by omega)
  have lp : ∀ (d x y n1 u : Nat), n ≤ n1 → z = ((y : Nat) : Int) → y < rN w → x + d = run gs.reverse y → u ≤ x → Wx K 12 [some (.ref 300), some (zI z), some (zI (x : Int))] [] n1 f u := by
    intro d
    induction d with
    | zero =>
      intro x y n1 u hn hzy hy hx hu
      obtain ⟨r1, r2, r3⟩ := run_rv ho hy
      have hx' : x = run gs.reverse y := hx
      refine r_aload_0 hK dX0_undone_12 ?_
      refine r_get hK fl_X0_41 dX0_undone_13 (h0) rfl ?_
      refine r_iload_2 hK dX0_undone_16 ?_
      refine r_callV1 hK (ct_cMade hK.rel hQ hXK hc hb (x := x) (by omega)) lk_X0_271 (Rcv.raw hK.rel hc.1 rfl) dX0_undone_17 (fun r n2 f2 hp => ?_) (hu := by omega)
      obtain ⟨rfl, hn2, rfl⟩ := hp
      have e : run gs x = y := by rw [hx']; exact r1
      refine r_iload_1 hK dX0_undone_20 ?_
      refine r_icmp_eq 30 hK dX0_undone_21 (by omega) (by omega) (fun h21 => ?_) (fun h21 => ?_)
      · refine r_iload_2 hK dX0_undone_30 ?_
        refine r_iret hK hRt dX0_undone_31 ⟨?_, by omega, rfl⟩ (by omega)
        rw [if_pos (by omega), hzy, hx']; rfl
      · exact absurd (by omega) h21 --!
    | succ d ih =>
      intro x y n1 u hn hzy hy hx hu
      obtain ⟨r1, r2, r3⟩ := run_rv ho hy
      have hxw : x < rN w := by omega
      have hrx : run gs x < rN w := run_lt (fun g hg => (ho g hg).1) hxw
      refine r_aload_0 hK dX0_undone_12 ?_
      refine r_get hK fl_X0_41 dX0_undone_13 (h0) rfl ?_
      refine r_iload_2 hK dX0_undone_16 ?_
      refine r_callV1 hK (ct_cMade hK.rel hQ hXK hc hb (x := x) (by omega)) lk_X0_271 (Rcv.raw hK.rel hc.1 rfl) dX0_undone_17 (fun r n2 f2 hp => ?_) (hu := by omega)
      obtain ⟨rfl, hn2, rfl⟩ := hp
      refine r_iload_1 hK dX0_undone_20 ?_
      refine r_icmp_eq 30 hK dX0_undone_21 (by omega) (by omega) (fun h21 => ?_) (fun h21 => ?_)
      · exfalso
        have e : run gs x = y := by omega
        have := (run_rv ho hxw).2.1
        rw [e] at this
        omega --!
      · first | refine r_incN_2 hK dX0_undone_24 ?_ | refine r_iinc_2 hK dX0_undone_24 ?_
        refine r_goto 12 hK dX0_undone_27 ?_
        exact ih (x + 1) y n2 (u + 1) (by omega) hzy hy (by omega) (by omega)
  refine r_aload_0 hK dX0_undone_0 ?_
  refine r_iload_1 hK dX0_undone_1 ?_
  refine r_pV1 hK (ct_xIsRow hK.rel h0 hw hz) lk_X0_179 (Rcv.raw hK.rel h0 rfl) dX0_undone_2 ?_
  refine r_ifB_ne 10 hK dX0_undone_5 (fun h5 => ?_) (fun h5 => ?_)
  · refine r_iconstN (c := 0) hK dX0_undone_10 ?_
    refine r_istore_2 hK dX0_undone_11 ?_
    obtain ⟨y, hy⟩ : ∃ s : Nat, z = (s : Int) := ⟨z.toNat, by omega⟩
    exact lp (run gs.reverse y) 0 y n 0 (Nat.le_refl _) hy (by omega) (by omega) (by omega)
  · refine r_iconst hK dX0_undone_8 ?_
    exact r_iret hK hRt dX0_undone_9 ⟨by rw [if_neg (by omega)], Nat.le_refl _, rfl⟩
set_option maxHeartbeats 4000000 in
theorem ct_xAgree {G : GT} {Rel : Nat → Hp → Hp → Prop} (hR : RelOK Rel) (hP : Rel = RelP) (hX : GX G) {n : Nat} {f : Hp} {pl y z : Int} {w : Nat} {l : List Nat} {gs : List Gt} (h0 : f 300 = some (x0C pl w)) (hw : w ≤ 4) (hc : CC f 318 319 l gs) (ho : ∀ q ∈ gs, gok w q) (hy : inR y) (hz : inR z) : Ct G Rel yX0_agree cX0_agree 3 (some .int) (5) (0) [.ref 300, zI y, zI z] n (f) (Pu (zI (if (0 ≤ y ∧ y < gs.length) ∧ 0 ≤ z ∧ z < gs.length then (if agr w (gt gs y.toNat) (gt gs z.toNat) then 1 else 0) else -1)) n f) := by
  refine ct_intro [some (.ref 300), some (zI y), some (zI z)] hR rfl (Nat.le_of_ble_eq_true rfl) ?_
  intro K hG hRel hK hRt hnm
  have hQ : kRel K = RelP := by rw [hRel]; exact hP
  have hXK : GX (kG K) := by rw [hG]; exact hX
  obtain ⟨c1, c2, c3, c4⟩ := id hc
  refine r_aload_0 hK dX0_agree_0 ?_
  refine r_get hK fl_X0_41 dX0_agree_1 (h0) rfl ?_
  refine r_iload_1 hK dX0_agree_4 ?_
  refine r_pV1 hK (ct_cIsGate hK.rel hQ hXK hc hy) lk_X0_204 (Rcv.raw hK.rel hc.1 rfl) dX0_agree_5 ?_
  refine r_ifB_eq 56 hK dX0_agree_8 (fun h8 => ?_) (fun h8 => ?_)
  · refine r_iconst hK dX0_agree_56 ?_
    exact r_iret hK hRt dX0_agree_57 ⟨by rw [if_neg (by omega)], rfl, rfl⟩
  · refine r_aload_0 hK dX0_agree_11 ?_
    refine r_get hK fl_X0_41 dX0_agree_12 (h0) rfl ?_
    refine r_iload_2 hK dX0_agree_15 ?_
    refine r_pV1 hK (ct_cIsGate hK.rel hQ hXK hc hz) lk_X0_204 (Rcv.raw hK.rel hc.1 rfl) dX0_agree_16 ?_
    refine r_ifB_eq 56 hK dX0_agree_19 (fun h19 => ?_) (fun h19 => ?_)
    · refine r_iconst hK dX0_agree_56 ?_
      exact r_iret hK hRt dX0_agree_57 ⟨by rw [if_neg (by omega)], rfl, rfl⟩
    · obtain ⟨k, rfl⟩ : ∃ s : Nat, y = (s : Int) := ⟨y.toNat, by omega⟩
      obtain ⟨j, rfl⟩ : ∃ s : Nat, z = (s : Int) := ⟨z.toNat, by omega⟩
      have gk := c3.2 k (by rw [c3.1]; omega)
      have gj := c3.2 j (by rw [c3.1]; omega)
      have e1 : ((k : Nat) : Int).toNat = k := rfl
      have e2 : ((j : Nat) : Int).toNat = j := rfl
      refine r_aload_0 hK dX0_agree_22 ?_
      refine r_get hK fl_X0_41 dX0_agree_23 (h0) rfl ?_
      refine r_iload_1 hK dX0_agree_26 ?_
      refine r_pV1 hK (ct_cAt hK.rel hQ hXK hc (k := k) (by omega)) lk_X0_247 (Rcv.raw hK.rel hc.1 rfl) dX0_agree_27 ?_
      refine r_aload_0 hK dX0_agree_30 ?_
      refine r_get hK fl_X0_41 dX0_agree_31 (h0) rfl ?_
      refine r_iload_2 hK dX0_agree_34 ?_
      refine r_pV1 hK (ct_cAt hK.rel hQ hXK hc (k := j) (by omega)) lk_X0_247 (Rcv.raw hK.rel hc.1 rfl) dX0_agree_35 ?_
      refine r_aload_0 hK dX0_agree_38 ?_
      refine r_pV0 hK (ct_xRows hK.rel h0 hw) lk_X0_151 (Rcv.raw hK.rel h0 rfl) dX0_agree_39 ?_
      refine r_pV2 hK (ct_gAgrees hK.rel gk gj hw (ho _ (gt_mem (by omega))) (ho _ (gt_mem (by omega)))) lk_X0_285 (Rcv.raw hK.rel gk rfl) dX0_agree_42 ?_
      refine r_ifB_eq 52 hK dX0_agree_45 (fun h45 => ?_) (fun h45 => ?_)
      · refine r_iconstN (c := 0) hK dX0_agree_52 ?_
        refine r_goto 57 hK dX0_agree_53 ?_
        exact r_iret hK hRt dX0_agree_57 ⟨by rw [if_pos (by omega), e1, e2, if_neg h45]; rfl, rfl, rfl⟩
      · refine r_iconstN (c := 1) hK dX0_agree_48 ?_
        refine r_goto 57 hK dX0_agree_49 ?_
        exact r_iret hK hRt dX0_agree_57 ⟨by rw [if_pos (by omega), e1, e2, if_pos h45]; rfl, rfl, rfl⟩
