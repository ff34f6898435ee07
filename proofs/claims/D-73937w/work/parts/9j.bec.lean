set_option maxRecDepth 100000
/-! ===== BackLogic: become, shrunk, off ===== -/
def SB : List Nat := [319, 320, 321, 324, 325, 326, 327, 328, 329, 331, 333, 335, 337, 339, 341, 342, 343, 344, 345, 346, 350, 354]
theorem SC_B : ∀ x ∈ SC, x ∈ SB := fun x hx => by unfold SC at hx; unfold SB; simp at hx ⊢; omega
set_option maxHeartbeats 4000000 in
theorem ct_xBecome {G : GT} {Rel : Nat → Hp → Hp → Prop} (hR : RelOK Rel) (hP : Rel = RelP) (hX : GX G) {n : Nat} {f : Hp} {w : Nat} {gs : List Gt} {pa : List (List Gt)} {sl : Nat → Option (List Gt)} {ni no : Nat} {v p : Nat → Nat} {tp : Nat} {T TT : Nat → Nat} {pl z : Int} (hz : inR z) (h : WO f w gs pa sl ni no v p tp T pl) (hw : w ≤ 4) (hl16 : gs.length ≤ 16) (hpa : pa.length ≤ 40) (hD : w ≤ 3 → D8 w) (hT : w ≤ 3 → TabR w TT) (ho : ∀ q ∈ gs, gok w q) (hn0 : 392 ≤ n) : Ct G Rel yX0_become cX0_become 3 (some .int) (12) (7541) [.ref 300, zI z] n (f) (fun r n' f' => n ≤ n' ∧ KE SB f f' ∧ ((∃ l, (0 ≤ z ∧ z ≤ 4 ∧ (z = 4 → w ≤ 3)) ∧ BecR w gs z l ∧ l.length ≤ 16 ∧ r = some (zI ((l.length : Nat) : Int)) ∧ WO f' w l (pushP pa gs) sl ni no v p tp T pl) ∨ ((¬ (0 ≤ z ∧ z ≤ 4 ∧ (z = 4 → w ≤ 3)) ∨ ∃ l, (0 ≤ z ∧ z ≤ 4 ∧ (z = 4 → w ≤ 3)) ∧ BecR w gs z l ∧ 16 < l.length) ∧ r = some (zI (-1)) ∧ WO f' w gs pa sl ni no v p tp T pl))) := by
  refine ct_intro [some (.ref 300), some (zI z), none] hR rfl (Nat.le_of_ble_eq_true rfl) ?_
  intro K hG hRel hK hRt hnm
  have hQ : kRel K = RelP := by rw [hRel]; exact hP
  have hXK : GX (kG K) := by rw [hG]; exact hX
  refine r_aload_0 hK dX0_become_0 ?_
  refine r_iload_1 hK dX0_become_1 ?_
  refine r_callV1 hK (ct_xTries hK.rel hQ hXK hz h hw hl16 hD hT ho hn0) lk_X0_240 (Rcv.raw hK.rel h.1 rfl) dX0_become_2 (fun r n1 f1 hp => ?_)
  obtain ⟨hn1, hk1, hW1, hp⟩ := hp
  have hk1' := hk1.mono SC_B
  rcases hp with ⟨lb, lt, hv, hB, hlb, rfl, hct⟩ | ⟨hv, rfl⟩
  · refine r_istore_2 hK dX0_become_5 ?_
    refine r_iload_2 hK dX0_become_6 ?_
    refine r_if_lt 16 hK dX0_become_7 (by omega) (fun q => by omega) (fun _ => ?_)
    refine r_iload_2 hK dX0_become_10 ?_
    refine r_bipushN (c := 16) hK dX0_become_11 ?_
    refine r_icmp_le 18 hK dX0_become_13 (by omega) (by omega) (fun hle => ?_) (fun hgt => ?_)
    · refine r_aload_0 hK dX0_become_18 ?_
      refine r_callV0 hK (ct_xKeeps hK.rel hQ hXK hW1 hl16 hpa (by omega)) lk_X0_186 (Rcv.raw hK.rel hW1.1 rfl) dX0_become_19 (fun r n2 f2 hp => ?_)
      obtain ⟨rfl, hn2, hk2, hW2⟩ := hp
      have hct2 : CC f2 320 321 lt lb := hct.ke hk2 (fun _ => by decide) (fun _ => by decide)
      obtain ⟨e0, -, ⟨l2, hc2⟩, -⟩ := id hW2
      refine r_aload_0 hK dX0_become_22 ?_
      refine r_get hK fl_X0_41 dX0_become_23 e0 rfl ?_
      refine r_aload_0 hK dX0_become_26 ?_
      refine r_get hK fl_X0_45 dX0_become_27 e0 rfl ?_
      refine r_callV1 hK (pc_becomes hQ hXK hc2.1 hc2.2.1 hct2 (by decide) (by rw [hct2.2.2.1.1]; omega)) lk_X0_133 (Rcv.raw hK.rel hc2.1 rfl) dX0_become_30 (fun r n3 f3 hp => ?_)
      obtain ⟨rfl, hn3, rfl⟩ := hp
      have hfin := hW2.cas hct2.2.2.1 hct2.2.2.2
      refine r_iload_2 hK dX0_become_33 ?_
      exact r_iret hK hRt dX0_become_34 ⟨by omega, (hk1'.tr (hk2.mono (fun x hx => by rw [List.mem_singleton.mp hx]; decide))).tr (hfin.1.mono (fun x hx => by rw [List.mem_singleton.mp hx]; decide)), Or.inl ⟨lb, hv, hB, by omega, rfl, hfin.2⟩⟩
    · refine r_iconst hK dX0_become_16 ?_
      exact r_iret hK hRt dX0_become_17 ⟨hn1, hk1', Or.inr ⟨Or.inr ⟨lb, hv, hB, by omega⟩, rfl, hW1⟩⟩
  · refine r_istore_2 hK dX0_become_5 ?_
    refine r_iload_2 hK dX0_become_6 ?_
    refine r_if_lt 16 hK dX0_become_7 (by decide) (fun _ => ?_) (fun q => absurd q (by decide))
    refine r_iconst hK dX0_become_16 ?_
    exact r_iret hK hRt dX0_become_17 ⟨hn1, hk1', Or.inr ⟨Or.inl hv, rfl, hW1⟩⟩
set_option maxHeartbeats 4000000 in
theorem ct_xShrunk {G : GT} {Rel : Nat → Hp → Hp → Prop} (hR : RelOK Rel) (hP : Rel = RelP) (hX : GX G) {n : Nat} {f : Hp} {w : Nat} {gs : List Gt} {pa : List (List Gt)} {sl : Nat → Option (List Gt)} {ni no : Nat} {v p : Nat → Nat} {tp : Nat} {T TT : Nat → Nat} {pl y z : Int} (hy : inR y) (hz : inR z) (h : WO f w gs pa sl ni no v p tp T pl) (hw : w ≤ 4) (hl16 : gs.length ≤ 16) (hD : w ≤ 3 → D8 w) (hT : w ≤ 3 → TabR w TT) (ho : ∀ q ∈ gs, gok w q) (hn0 : 392 ≤ n) : Ct G Rel yX0_shrunk cX0_shrunk 4 (some .int) (12) (7497) [.ref 300, zI y, zI z] n (f) (Qw (zI (askG (shrAll w 17 gs) y z)) SC n f (fun f' => WO f' w gs pa sl ni no v p tp T pl)) := by
  refine ct_intro [some (.ref 300), some (zI y), some (zI z), none] hR rfl (Nat.le_of_ble_eq_true rfl) ?_
  intro K hG hRel hK hRt hnm
  have hQ : kRel K = RelP := by rw [hRel]; exact hP
  have hXK : GX (kG K) := by rw [hG]; exact hX
  refine r_aload_0 hK dX0_shrunk_0 ?_
  refine r_iconstN (c := 0) hK dX0_shrunk_1 ?_
  refine r_callV1 hK (ct_xTries hK.rel hQ hXK (z := ((0 : Nat) : Int)) (by decide) h hw hl16 hD hT ho hn0) lk_X0_240 (Rcv.raw hK.rel h.1 rfl) dX0_shrunk_2 (fun r n1 f1 hp => ?_)
  obtain ⟨hn1, hk1, hW1, hp⟩ := hp
  obtain ⟨lb, lt, hB, hlb, rfl, hct⟩ : ∃ lb lt, lb = shrAll w 17 gs ∧ lb.length ≤ 1000 ∧ r = some (zI ((lb.length : Nat) : Int)) ∧ CC f1 320 321 lt lb := by
    rcases hp with ⟨lb, lt, hv, hB, hlb, hr, hct⟩ | ⟨hv, hr⟩
    · refine ⟨lb, lt, ?_, hlb, hr, hct⟩
      rcases hB with ⟨q1, q2⟩ | ⟨q1, q2⟩ | ⟨q1, q2⟩ | ⟨q1, q2⟩ | ⟨q1, q2⟩
      · exact q2
      · exact absurd q1 (by decide)
      · exact absurd q1 (by decide)
      · exact absurd q1 (by decide)
      · exact absurd q1 (by decide)
    · exact absurd ⟨by decide, by decide, fun q => absurd q (by decide)⟩ hv
  rw [← hB] at hRt
  have hlen := hct.2.2.1.1
  refine r_istore_3 hK dX0_shrunk_5 ?_
  refine r_iload_1 hK dX0_shrunk_6 ?_
  refine r_iconst hK dX0_shrunk_7 ?_
  refine r_icmp_ne 15 hK dX0_shrunk_8 (by omega) (by omega) (fun h8 => ?_) (fun h8 => ?_)
  · refine r_iload_1 hK dX0_shrunk_15 ?_
    refine r_iconstN (c := 0) hK dX0_shrunk_16 ?_
    refine r_iload_3 hK dX0_shrunk_17 ?_
    refine r_iconstN (c := 1) hK dX0_shrunk_18 ?_
    refine r_isub hK dX0_shrunk_19 ?_
    refine r_pS3 hK (ct_isIn0 hK.rel hy (by omega) (by omega)) lk_X0_155 dX0_shrunk_20 ?_
    refine r_ifB_eq 50 hK dX0_shrunk_23 (fun h23 => ?_) (fun h23 => ?_)
    · refine r_iconst hK dX0_shrunk_50 ?_
      exact r_iret hK hRt dX0_shrunk_51 ⟨by unfold askG; rw [if_neg (by omega), if_neg (by omega)], hn1, hk1, hW1⟩
    · refine r_iload_2 hK dX0_shrunk_26 ?_
      refine r_iconstN (c := 0) hK dX0_shrunk_27 ?_
      refine r_iconstN (c := 2) hK dX0_shrunk_28 ?_
      refine r_pS3 hK (ct_isIn0 hK.rel hz (by decide) (by decide)) lk_X0_155 dX0_shrunk_29 ?_
      refine r_ifB_eq 50 hK dX0_shrunk_32 (fun h32 => ?_) (fun h32 => ?_)
      · refine r_iconst hK dX0_shrunk_50 ?_
        exact r_iret hK hRt dX0_shrunk_51 ⟨by unfold askG; rw [if_neg (by omega), if_neg (by omega)], hn1, hk1, hW1⟩
      · obtain ⟨k, rfl⟩ : ∃ s : Nat, y = (s : Int) := ⟨y.toNat, by omega⟩
        have hkl : k < lb.length := by omega
        have gk := hct.2.2.1.2 k (by omega)
        refine r_aload_0 hK dX0_shrunk_35 ?_
        refine r_get hK fl_X0_45 dX0_shrunk_36 (hW1.1) rfl ?_
        refine r_iload_1 hK dX0_shrunk_39 ?_
        refine r_pV1 hK (ct_cAt hK.rel hQ hXK hct hkl) lk_X0_247 (Rcv.raw hK.rel hct.1 rfl) dX0_shrunk_40 ?_
        refine r_iload_2 hK dX0_shrunk_43 ?_
        refine r_pV1 hK (ct_gTold hK.rel gk hz) lk_X0_248 (Rcv.raw hK.rel gk rfl) dX0_shrunk_44 ?_
        refine r_goto 51 hK dX0_shrunk_47 ?_
        exact r_iret hK hRt dX0_shrunk_51 ⟨by unfold askG; rw [if_neg (by omega), if_pos (by omega)]; rfl, hn1, hk1, hW1⟩
  · refine r_iload_3 hK dX0_shrunk_11 ?_
    refine r_goto 51 hK dX0_shrunk_12 ?_
    exact r_iret hK hRt dX0_shrunk_51 ⟨by unfold askG; rw [if_pos (by omega)], hn1, hk1, hW1⟩
set_option maxHeartbeats 4000000 in
theorem ct_xOff {G : GT} {Rel : Nat → Hp → Hp → Prop} (hR : RelOK Rel) (hP : Rel = RelP) (hX : GX G) {n : Nat} {f : Hp} {w : Nat} {gs : List Gt} {pa : List (List Gt)} {sl : Nat → Option (List Gt)} {ni no : Nat} {v p : Nat → Nat} {tp : Nat} {T TT : Nat → Nat} {pl z : Int} (hz : inR z) (h : WO f w gs pa sl ni no v p tp T pl) (hw : w ≤ 4) (hD : w ≤ 3 → D8 w) (hT : w ≤ 3 → TabR w TT) (ho : ∀ q ∈ gs, gok w q) (hso : ∀ s hs, s < 3 → sl s = some hs → ∀ g ∈ hs, gok w g) (hn0 : 392 ≤ n) : Ct G Rel yX0_off cX0_off 3 (some .int) (10) (6416) [.ref 300, zI z] n (f) (fun r n' f' => n ≤ n' ∧ KE SQ f f' ∧ WO f' w gs pa sl ni no v p tp T pl ∧ ((∃ s hs, z = ((s : Nat) : Int) ∧ s < 3 ∧ sl s = some hs ∧ w ≤ 3 ∧ ∃ d, r = some (zI ((d : Nat) : Int)) ∧ IsD w (run (gs.reverse ++ hs)) d) ∨ ((¬ ∃ s hs, z = ((s : Nat) : Int) ∧ s < 3 ∧ sl s = some hs ∧ w ≤ 3) ∧ r = some (zI (-1))))) := by
  refine ct_intro [some (.ref 300), some (zI z), none] hR rfl (Nat.le_of_ble_eq_true rfl) ?_
  intro K hG hRel hK hRt hnm
  have hQ : kRel K = RelP := by rw [hRel]; exact hP
  have hXK : GX (kG K) := by rw [hG]; exact hX
  have h4 := rN4 hw
  have ho4 : ∀ g ∈ gs, gok 4 g := fun g hg => gok4 (by omega) (ho g hg)
  have hb : ∀ q ∈ gs, gB q := fun q hq => (ho4 q hq).gB (by omega)
  obtain ⟨h0, hPW, ⟨l, hc⟩, hCT, hWp, hs, hWpr, hWt, hWf, hWsh, hWte, ⟨or0, hor⟩, hWa⟩ := id h
  have hmS : ∀ x ∈ SS, x ∈ SQ := fun x hx => by unfold SS at hx; unfold SQ; simp at hx ⊢; omega
  refine r_aload_0 hK dX0_off_0 ?_
  refine r_iload_1 hK dX0_off_1 ?_
  refine r_callV1 hK (ct_xIsHeld hK.rel hz h0 hs) lk_X0_363 (Rcv.raw hK.rel h0 rfl) dX0_off_2 (fun r n1 f1 hp => ?_)
  obtain ⟨rfl, rfl, hp⟩ := hp
  rcases hp with ⟨s, hg, c, hv, z1, z2, z3, z4, z5, ⟨z6, ll, l2, hll, hcc⟩, rfl⟩ | ⟨z1, rfl⟩
  · subst z1
    refine r_if_eq 16 hK dX0_off_5 (by decide) (fun q => absurd q (by decide)) (fun _ => ?_)
    refine r_aload_0 hK dX0_off_8 ?_
    refine r_get hK fl_X0_131 dX0_off_9 h0 rfl ?_
    refine r_iconstN (c := 3) hK dX0_off_12 ?_
    refine r_icmp_le 18 hK dX0_off_13 (by omega) (by decide) (fun hle => ?_) (fun hgt => ?_)
    · have hw3 : w ≤ 3 := by omega
      have h8 : rN w ≤ 8 := rN_le8 hw3
      have hog := hso s hg z2 z3
      have hbg : ∀ q ∈ hg, gB q := fun q hq => (hog q hq).gB (by omega)
      have hall : ∀ g ∈ gs.reverse ++ hg, gok w g := fun g hq => by
        rcases List.mem_append.mp hq with y | y
        · exact ho g (List.mem_reverse.mp y)
        · exact hog g y
      have hrq : ∀ y, run (gs.reverse ++ hg) y = run hg (run gs.reverse y) := fun y => by unfold run; rw [List.foldl_append]
      refine r_iconstN (c := 0) hK dX0_off_18 ?_
      refine r_istore_2 hK dX0_off_19 ?_
      have lp : ∀ (d x n2 u : Nat) (hh : Nat → Value), x + d = rN w → n1 ≤ n2 → u ≤ 2 * x → (∀ y, y < x → hh (run gs y) = zI ((run hg y : Nat) : Int)) → Wx K 20 [some (.ref 300), some (zI ((s : Nat) : Int)), some (zI (x : Int))] [] n2 (up f1 354 (.inr (0, 64, hh))) u := by
        intro d
        induction d with
        | zero =>
          intro x n2 u hh hx hn2 hu hhv
          have ex : x = rN w := hx
          have hW1 := h.ord hh
          obtain ⟨f2, hf2⟩ : ∃ f2, f2 = up f1 354 (.inr (0, 64, hh)) := ⟨_, rfl⟩
          rw [← hf2] at hW1
          rw [← hf2]
          have hA1 : f2 354 = some (.inr (0, 64, hh)) := by rw [hf2]; exact up_s _ _ _
          obtain ⟨g0, -, -, -, -, -, -, -, -, ⟨⟨w0, R0, q1, q2, q3⟩, -⟩, -⟩ := id hW1.2
          have hval : ∀ y, y < rN w → hh y = zI ((run (gs.reverse ++ hg) y : Nat) : Int) := fun y hy => by
            obtain ⟨r1, r2, r3⟩ := run_rv ho hy
            have := hhv (run gs.reverse y) (by omega)
            rw [r1] at this
            rw [this, hrq]
          have hpm := pm_run hall
          have hTd := (hT hw3 _ hpm).2
          refine r_iload_2 hK dX0_off_20 ?_
          refine r_aload_0 hK dX0_off_21 ?_
          refine r_pV0 hK (ct_xRows hK.rel g0 hw) lk_X0_151 (Rcv.raw hK.rel g0 rfl) dX0_off_22 ?_ (hu := by omega)
          refine r_icmp_ge 57 hK dX0_off_25 (by omega) (by omega) (fun _ => ?_) (fun q => by omega)
          refine r_aload_0 hK dX0_off_57 ?_
          refine r_get hK fl_X0_65 dX0_off_58 g0 rfl ?_
          refine r_aload_0 hK dX0_off_61 ?_
          refine r_get hK fl_X0_131 dX0_off_62 g0 rfl ?_
          refine r_fact hK (fun _ hno => ?_)
          refine r_callV1 hK (ct_sLays hK.rel hQ hXK (w := w) hw3 (hD hw3) (by omega) q2 q1 q3) lk_X0_292 (Rcv.raw hK.rel q2.1 rfl) dX0_off_65 (fun r n3 f3 hp => ?_) (hu := by omega)
          obtain ⟨rfl, hn3, hSH, hKS⟩ := hp
          obtain ⟨k2, -, hW2⟩ := sh_lays hW1.2 hno (by omega) hSH hKS
          obtain ⟨e0, -, -, -, -, -, -, -, -, ⟨-, y1, y2, hy1, hy2⟩, -⟩ := id hW2
          have hA2 : f3 354 = some (.inr (0, 64, hh)) := (hKS 354 (by omega) (by omega)).trans hA1
          refine r_aload_0 hK dX0_off_68 ?_
          refine r_get hK fl_X0_65 dX0_off_69 e0 rfl ?_
          refine r_aload_0 hK dX0_off_72 ?_
          refine r_get hK fl_X0_91 dX0_off_73 e0 rfl ?_
          refine r_callV1 hK (ct_sMany hK.rel hQ hXK (hD hw3) hSH hA2 (by decide) (by omega) (by decide) hpm hval hTd) lk_X0_299 (Rcv.raw hK.rel hSH.x.1 rfl) dX0_off_76 (fun r n4 f4 hp => ?_) (hu := by omega)
          obtain ⟨rfl, rfl, hx, rfl⟩ := hp
          have k3 : KE SS f3 (up f3 345 (.inr (0, 8, hx))) := (KE.up1 (by decide) (fun q => hW2.ng (by decide) q)).mono (fun x hx => by rw [List.mem_singleton.mp hx]; decide)
          have hS3 : SHL (up f3 345 (.inr (0, 8, hx))) w := hSH.up3 (Or.inr (Or.inr (Or.inl ⟨rfl, hx, rfl⟩)))
          have hW3 := hW2.sho k3 ⟨⟨w, rN w, hw3, hS3.x, Or.inr ⟨rfl, hS3⟩⟩, y1, y2, (up_n (by decide)).trans hy1, (up_n (by decide)).trans hy2⟩
          exact r_iret hK hRt dX0_off_79 ⟨by omega, ((hW1.1.mono (fun x hx => by rw [List.mem_singleton.mp hx]; decide)).tr (k2.mono hmS)).tr (k3.mono hmS), hW3, Or.inl ⟨s, hg, rfl, z2, z3, hw3, _, rfl, hTd⟩⟩ (by omega)
        | succ d ih =>
          intro x n2 u hh hx hn2 hu hhv
          have hxw : x < rN w := by omega
          have hW1 := h.ord hh
          obtain ⟨g0, -, ⟨l1, hc1⟩, -⟩ := id hW1.2
          have hcc1 : CC (up f1 354 (.inr (0, 64, hh))) c ll l2 hg := hcc.ke hW1.1 (fun q => by omega) (fun q => by omega)
          have z4' : up f1 354 (.inr (0, 64, hh)) 352 = some (.inr (7, 3, hv)) := (up_n (by decide)).trans z4
          have hrl : run gs x < rN w := run_lt (fun g hq => (ho g hq).1) hxw
          refine r_iload_2 hK dX0_off_20 ?_
          refine r_aload_0 hK dX0_off_21 ?_
          refine r_pV0 hK (ct_xRows hK.rel g0 hw) lk_X0_151 (Rcv.raw hK.rel g0 rfl) dX0_off_22 ?_ (hu := by omega)
          refine r_icmp_ge 57 hK dX0_off_25 (by omega) (by omega) (fun q => by omega) (fun _ => ?_)
          refine r_aload_0 hK dX0_off_28 ?_
          refine r_get hK fl_X0_91 dX0_off_29 g0 rfl ?_
          refine r_aload_0 hK dX0_off_32 ?_
          refine r_get hK fl_X0_41 dX0_off_33 g0 rfl ?_
          refine r_iload_2 hK dX0_off_36 ?_
          refine r_callV1 hK (ct_cMade hK.rel hQ hXK hc1 hb (x := x) (by omega)) lk_X0_271 (Rcv.raw hK.rel hc1.1 rfl) dX0_off_37 (fun r n3 f3 hp => ?_) (hu := by omega)
          obtain ⟨rfl, hn3, rfl⟩ := hp
          refine r_aload_0 hK dX0_off_40 ?_
          refine r_get hK fl_X0_83 dX0_off_41 g0 rfl ?_
          refine r_iload_1 hK dX0_off_44 ?_
          refine r_aald hK dX0_off_45 z4' z2 ?_
          rw [z5]
          refine r_iload_2 hK dX0_off_46 ?_
          refine r_callV1 hK (ct_cMade hK.rel hQ hXK hcc1 hbg (x := x) (by omega)) lk_X0_271 (Rcv.raw hK.rel hcc1.1 rfl) dX0_off_47 (fun r n4 f4 hp => ?_) (hu := by omega)
          obtain ⟨rfl, hn4, rfl⟩ := hp
          refine r_iast hK dX0_off_50 (up_s _ _ _) (by omega) ?_
          rw [up_up]
          refine r_incN_2 hK dX0_off_51 ?_
          refine r_goto 20 hK dX0_off_54 ?_
          refine ih (x + 1) n4 _ _ (by omega) (by omega) (by omega) (fun y hy => ?_)
          unfold updV
          by_cases e : y = x
          · rw [e, if_pos rfl]
          · rw [if_neg (fun q => e ?_)]
            · exact hhv y (by omega)
            · have a1 := (run_rv ho (show y < rN w by omega)).2.1
              have a2 := (run_rv ho hxw).2.1
              rw [q, a2] at a1; omega
      have := lp (rN w) 0 n1 0 or0 (by omega) (Nat.le_refl _) (by omega) (fun y hy => absurd hy (Nat.not_lt_zero _))
      rw [up_self hor] at this
      exact this
    · refine r_iconst hK dX0_off_16 ?_
      exact r_iret hK hRt dX0_off_17 ⟨Nat.le_refl _, KE.rf _ f1, h, Or.inr ⟨fun ⟨s', hs', a1, a2, a3, a4⟩ => by omega, rfl⟩⟩
  · refine r_if_eq 16 hK dX0_off_5 (by decide) (fun _ => ?_) (fun q => absurd rfl q)
    refine r_iconst hK dX0_off_16 ?_
    exact r_iret hK hRt dX0_off_17 ⟨Nat.le_refl _, KE.rf _ f1, h, Or.inr ⟨fun ⟨s', hs', a1, a2, a3, a4⟩ => z1 ⟨hs', s', a1, a2, a3⟩, rfl⟩⟩
