set_option maxRecDepth 100000
/-! ===== Shortest: many, steps, first, next, isNearer ===== -/
theorem SHL.kp {f f' : Hp} {w : Nat} (h : SHL f w) (hk : ∀ id e, f id = some e → id ≠ 343 → id ≠ 344 → id ≠ 345 → (329 ≤ id ∧ id ≤ 346 ∨ 392 ≤ id ∧ rawE e = true) → f' id = some e) (h5 : ∃ hx : Nat → Value, f' 345 = some (.inr (0, 8, hx))) : SHL f' w := by
  obtain ⟨hw, s, l1, l2, l3, N2, N3, hx, mv, a1, a2, a3, a4, a5, a6, a7, a8, a9, a10⟩ := h
  obtain ⟨hx', h5⟩ := h5
  refine ⟨hw, s, l1, l2, l3, N2, N3, hx', mv, a1, a2, hk _ _ a3 (by decide) (by decide) (by decide) (Or.inl (by decide)), ⟨hk _ _ a4.1 (by decide) (by decide) (by decide) (Or.inl (by decide)), fun k hk' => hk _ _ (a4.2 k hk') (by omega) (by omega) (by omega) (Or.inl (by omega))⟩, ⟨hk _ _ a5.1 (by decide) (by decide) (by decide) (Or.inl (by decide)), a5.2.1, fun j hj => ?_⟩, ⟨hk _ _ a6.1 (by decide) (by decide) (by decide) (Or.inl (by decide)), a6.2.1, ⟨a6.2.2.1.1, fun i hi => ?_⟩, a6.2.2.2⟩, a7, ⟨hk _ _ a8.1 (by decide) (by decide) (by decide) (Or.inl (by decide)), a8.2.1, a8.2.2.1, fun t ht => ?_⟩, a9, h5⟩
  · obtain ⟨z1, h', z2, z3⟩ := a5.2.2 j hj
    exact ⟨z1, h', hk _ _ z2 (by omega) (by omega) (by omega) (Or.inr ⟨z1, rfl⟩), z3⟩
  · have := a6.2.2.2 i hi
    exact hk _ _ (a6.2.2.1.2 i hi) (by omega) (by omega) (by omega) (Or.inr ⟨this, rfl⟩)
  · rcases a8.2.2.2 t ht with z | ⟨z1, z2⟩
    · exact Or.inl z
    · exact Or.inr ⟨z1, hk _ _ z2 (by omega) (by omega) (by omega) (Or.inr ⟨z1, rfl⟩)⟩
theorem SHL.up3 {f : Hp} {w k : Nat} {e : E_} (h : SHL f w) (hk : k = 343 ∨ k = 344 ∨ (k = 345 ∧ ∃ hx : Nat → Value, e = .inr (0, 8, hx)) ∨ f k = none ∨ k < 329 ∨ (346 < k ∧ k < 392) ∨ (346 < k ∧ ∃ e0, f k = some e0 ∧ rawE e0 = false)) : SHL (up f k e) w := by
  refine h.kp (fun id e' h1 h2 h3 h4 h5 => ?_) ?_
  · rw [up_n (fun q => ?_)]; exact h1
    rcases hk with z | z | z | z | z | z | z
    · omega
    · omega
    · omega
    · rw [← q, h1] at z; cases z
    · omega
    · omega
    · obtain ⟨z1, e0, z2, z3⟩ := z
      rw [← q, h1] at z2
      cases z2
      rcases h5 with z | z
      · omega
      · rw [z.2] at z3; cases z3
  · by_cases c : k = 345
    · subst c
      rcases hk with z | z | z | z | z | z | z
      · omega
      · omega
      · obtain ⟨-, hx, e1⟩ := z; subst e1; exact ⟨hx, up_s _ _ _⟩
      · obtain ⟨hw, s, l1, l2, l3, N2, N3, hx, mv, a1, a2, a3, a4, a5, a6, a7, a8, a9, a10⟩ := h
        rw [a10] at z; cases z
      · omega
      · omega
      · omega
    · obtain ⟨hw, s, l1, l2, l3, N2, N3, hx, mv, a1, a2, a3, a4, a5, a6, a7, a8, a9, a10⟩ := h
      exact ⟨hx, (up_n (Ne.symm c)).trans a10⟩
set_option maxHeartbeats 4000000 in
theorem ct_sSteps {G : GT} {Rel : Nat → Hp → Hp → Prop} (hR : RelOK Rel) (hP : Rel = RelP) (hX : GX G) {n : Nat} {f : Hp} {w R N2 j ej m : Nat} {l2 : List Nat} {mv : Nat → Nat} (hO : SHo f w R) (hM : SM f N2 l2 5 mv) (hm : m ≤ 100000) (hmv : ∀ t, t < 5 → mv t ≤ m ∧ (j < mv t ↔ ej ≤ t)) (hj : j < m) (he : ej ≤ 4) : Ct G Rel yX7_steps cX7_steps 3 (some .int) (4) (0) [.ref 329, zI (j : Int)] n (f) (Pu (zI (ej : Int)) n f) := by
  refine ct_intro [some (.ref 329), some (zI (j : Int)), none] hR rfl (Nat.le_of_ble_eq_true rfl) ?_
  intro K hG hRel hK hRt hnm
  have hQ : kRel K = RelP := by rw [hRel]; exact hP
  have hXK : GX (kG K) := by rw [hG]; exact hX
  have hN2 := hM.2.1
  have hl2 := hM.2.2.1
  have lp : ∀ (d k : Nat), d = ej - k → k ≤ ej → Wx K 2 [some (.ref 329), some (zI (j : Int)), some (zI (k : Int))] [] n f 0 := by
    intro d
    induction d using Nat.strongRecOn with
    | _ d ih =>
      intro k hd hk
      have hI := hM.2.2.2 k (by omega)
      obtain ⟨hm1, hm2⟩ := hmv k (by omega)
      have hrc : RcH K RJ33 n f (l2.getD k 0) := by
        rcases hI with ⟨z1, z2⟩ | ⟨z1, z2⟩
        · refine p_rcv (k := l2.getD k 0) ?_
          have := (hK.px hXK).2.2.2.2.2.1.1 (128 + mv k) (by omega)
          rw [z2, show 148 + mv k = 20 + (128 + mv k) by omega]; exact this
        · exact Rcv.H hK (Rcv.raw (ci := 20) hK.rel z2 rfl)
      refine r_iload_1 hK dX7_steps_2 ?_
      refine r_aload_0 hK dX7_steps_3 ?_
      refine r_get hK fl_X7_26 dX7_steps_4 (hO) rfl ?_
      refine r_iload_2 hK dX7_steps_7 ?_
      refine r_pV1 hK (pa_get hQ (by omega) hM.1 (i := k) (by omega)) lk_X7_89 (rcv_al hQ (by omega) hM.1) dX7_steps_8 ?_
      refine r_castH hK cl_X7_84 hrc dX7_steps_11 ?_
      refine r_callVH0 hK (ct_intValue hK.rel hXK hI) lk_X7_120 hrc dX7_steps_14 (fun r m1 g1 hp => ?_)
      obtain ⟨rfl, rfl, rfl⟩ := hp
      refine r_icmp_lt 26 hK dX7_steps_17 (by omega) (by omega) (fun h17 => ?_) (fun h17 => ?_)
      · refine r_iload_2 hK dX7_steps_26 ?_
        exact r_iret hK hRt dX7_steps_27 ⟨by rw [show k = ej by have := hm2.mp (by omega); omega], rfl, rfl⟩ --!
      · first | refine r_incN_2 hK dX7_steps_20 ?_ | refine r_iinc_2 hK dX7_steps_20 ?_
        refine r_goto 2 hK dX7_steps_23 ?_
        exact ih (ej - (k + 1)) (by omega) (k + 1) rfl (by
          by_cases c : k = ej
          · have := hm2.mpr (by omega); omega
          · omega)
  refine r_iconstN (c := 0) hK dX7_steps_0 ?_
  refine r_istore_2 hK dX7_steps_1 ?_
  exact lp ej 0 rfl (Nat.zero_le _)
/-- an order behind another one -/
def inv1 (p r : Nat → Nat) : Nat → Nat := fun y => p (fst1 r y)
theorem inv1_ok {R : Nat} (hR : R ≤ 64) {p r : Nat → Nat} (hp : Pm R p) (hr : Pm R r) : Pm R (inv1 p r) ∧ ∀ x, x < R → inv1 p r (r x) = p x := by
  have hf : ∀ y, y < R → r (fst1 r y) = y ∧ fst1 r y < R := fun y hy => ⟨(fst1_spec hR hr.onto hy).1, fst1_lt hR hr.onto hy⟩
  refine ⟨⟨fun y hy => hp.1 _ (hf y hy).2, fun i j h1 h2 e => ?_⟩, fun x hx => ?_⟩
  · have := hp.inj (hf i (by omega)).2 (hf j h2).2 e
    have e2 := congrArg r this
    rw [(hf i (by omega)).1, (hf j h2).1] at e2
    omega
  · show p (fst1 r (r x)) = p x
    have hrx := hr.1 x hx
    rw [hr.inj (hf (r x) hrx).2 hx (hf (r x) hrx).1]
set_option maxHeartbeats 4000000 in
theorem ct_sMany {G : GT} {Rel : Nat → Hp → Hp → Prop} (hR : RelOK Rel) (hP : Rel = RelP) (hX : GX G) {n : Nat} {f : Hp} {w a N d : Nat} {h : Nat → Value} {p : Nat → Nat} (hD : D8 w) (hS : SHL f w) (ha : f a = some (.inr (0, N, h))) (ha5 : a ≠ 345) (hRN : rN w ≤ N) (hN : N < 1000) (hp : Pm (rN w) p) (hh : ∀ x, x < rN w → h x = zI ((p x : Nat) : Int)) (hd : IsD w p d) : Ct G Rel yX7_many cX7_many 6 (some .int) (6) (0) [.ref 329, .ref a] n (f) (fun r n' f' => r = some (zI (d : Int)) ∧ n' = n ∧ ∃ hx : Nat → Value, f' = up f 345 (.inr (0, 8, hx))) := by
  refine ct_intro [some (.ref 329), some (.ref a), none, none, none, none] hR rfl (Nat.le_of_ble_eq_true rfl) ?_
  intro K hG hRel hK hRt hnm
  have hQ : kRel K = RelP := by rw [hRel]; exact hP
  have hXK : GX (kG K) := by rw [hG]; exact hX
  have hd8 := hd.le8 hD
  obtain ⟨hw, s, l1, l2, l3, N2, N3, hx0, mv, a1, a2, a3, a4, a5, a6, a7, a8, a9, a10⟩ := hS
  have hr8 : rN w ≤ 8 := rN_le (k := 3) hw
  have hm := cn4_le hw a1.1 a1.2.1
  have hTp := a1.tab hw hd
  have lp : ∀ (dd j : Nat) (hx : Nat → Value) (b4 b5 : Option Value), dd = s.1 - j → j ≤ s.1 → 4 < d → (∀ i, i < j → ¬ IsD w (inv1 p (s.2.1 i)) 4) → nl b4 = true → Wx K 14 [some (.ref 329), some (.ref a), some (zI (-1)), some (zI (j : Int)), b4, b5] [] n (up f 345 (.inr (0, 8, hx))) 0 := by
    intro dd
    induction dd using Nat.strongRecOn with
    | _ dd ih =>
      intro j hx b4 b5 hdd hj h4 hno hnl
      obtain ⟨js, js1, js2, js3⟩ := far_ex a1 hd h4 hd8
      have hpjs := (a1.1.2.2.1 js js1).2.2.1.pm
      have hjs : j ≤ js := by
        by_cases c : j ≤ js
        · exact c
        · exact absurd (js3 _ (inv1_ok (by omega) hp hpjs).2) (hno js (by omega))
      have hpj := (a1.1.2.2.1 j (by omega)).2.2
      have hpjm := hpj.1.pm
      obtain ⟨q1, q2⟩ := inv1_ok (R := rN w) (by omega) hp hpjm
      obtain ⟨dq, dq8, hdq⟩ := hD.isD q1
      have hTq := a1.tab hw hdq
      obtain ⟨ho392, ho, hoA, hoV⟩ := a5.2.2 j (by omega)
      obtain ⟨oid, hoid⟩ : ∃ oid, oid = l1.getD j 0 := ⟨_, rfl⟩
      rw [← hoid] at ho392 hoA
      have SC : ∀ (d x : Nat) (hz : Nat → Value), d = rN w - x → x ≤ rN w → (∀ i, i < x → hz (s.2.1 j i) = zI ((p i : Nat) : Int)) → Wx K 41 [some (.ref 329), some (.ref a), some (zI (-1)), some (zI (j : Int)), some (.ref oid), some (zI (x : Int))] [] n (up f 345 (.inr (0, 8, hz))) 0 := by
        intro d2
        induction d2 using Nat.strongRecOn with
        | _ d2 ih2 =>
          intro x hz hd2 hx2 hzV
          have b3 : SHo (up f 345 (.inr (0, 8, hz))) w (rN w) := a3.up (by decide)
          refine r_iload_5 hK dX7_many_41 ?_
          refine r_aload_0 hK dX7_many_43 ?_
          refine r_get hK fl_X7_52 dX7_many_44 (b3) rfl ?_
          refine r_icmp_ge 70 hK dX7_many_47 (by omega) (by omega) (fun h47 => ?_) (fun h47 => ?_)
          · have hxe : x = rN w := by omega
            subst hxe
            have hzq : ∀ y, y < rN w → hz y = zI ((inv1 p (s.2.1 j) y : Nat) : Int) := fun y hy => by
              obtain ⟨z, z1, z2⟩ := hpjm.onto.2 y hy
              rw [← z2, hzV z z1, q2 z z1]
            refine r_aload_0 hK dX7_many_70 ?_
            refine r_aload_0 hK dX7_many_71 ?_
            refine r_get hK fl_X7_36 dX7_many_72 (b3) rfl ?_
            refine r_pV1 hK (ct_sWithin hK.rel hQ hXK b3 (a4.up (by decide)) (up_s _ _ _) hr8 hr8 (by omega) q1 hzq) lk_X7_102 (Rcv.raw hK.rel b3 rfl) dX7_many_75 ?_
            rw [hTq]
            obtain ⟨rs, hrs⟩ : ∃ rs : Int, rs = (if (if dq ≤ 4 then dq else 99) ≤ 4 then (((if dq ≤ 4 then dq else 99) : Nat) : Int) else -1) := ⟨_, rfl⟩
            have hrs2 : (dq ≤ 4 ∧ rs = (dq : Int)) ∨ (4 < dq ∧ rs = -1) := by
              by_cases c : dq ≤ 4
              · left; rw [if_pos c, if_pos c] at hrs; exact ⟨c, hrs⟩
              · right; rw [if_neg c, if_neg (by omega)] at hrs; exact ⟨by omega, hrs⟩
            rw [← hrs]
            refine r_istore_5 hK dX7_many_78 ?_
            refine r_iload_5 hK dX7_many_80 ?_
            refine r_iconstN (c := 4) hK dX7_many_82 ?_
            refine r_icmp_ne 94 hK dX7_many_83 (by omega) (by omega) (fun h83 => ?_) (fun h83 => ?_)
            · refine r_incN_3 hK dX7_many_94 ?_
              refine r_goto 14 hK dX7_many_97 ?_
              exact ih (s.1 - (j + 1)) (by omega) (j + 1) hz _ _ rfl (by omega) h4 (fun i hi => by
                by_cases c : i = j
                · rw [c]; intro z; have := z.uni hdq; omega
                · exact hno i (by omega)) rfl --!
            · have e4 : dq = 4 := by omega
              rw [e4] at hdq
              have f1 := far_le hd hdq.1 hpj.1 q2
              have f2 := a1.1.2.2.2.2.1 j js hjs js1
              refine r_iconstN (c := 4) hK dX7_many_86 ?_
              refine r_aload_0 hK dX7_many_87 ?_
              refine r_iload_3 hK dX7_many_88 ?_
              refine r_pV1 hK (ct_sSteps hK.rel hQ hXK b3 (a8.up (Or.inl (by decide))) (m := s.1) (by omega) (fun t ht => ⟨(a9 t ht).1, (a9 t ht).2 j (by omega)⟩) (by omega) (a1.2.1 j (by omega))) lk_X7_117 (Rcv.raw hK.rel b3 rfl) dX7_many_89 ?_
              first | refine r_iaddN hK dX7_many_92 ?_ | refine r_iadd hK dX7_many_92 ?_
              exact r_iret hK hRt dX7_many_93 ⟨by rw [show 4 + s.2.2.1 j = d by omega], rfl, _, rfl⟩
          · refine r_aload_0 hK dX7_many_50 ?_
            refine r_get hK fl_X7_36 dX7_many_51 (b3) rfl ?_
            refine r_aload_4 hK dX7_many_54 ?_
            refine r_iload_5 hK dX7_many_56 ?_
            refine r_iald hK dX7_many_58 ((up_n (by omega)).trans hoA) (by omega) ?_ (by omega)
            rw [hoV x (by omega)]
            have hpx := hpjm.1 x (by omega)
            refine r_aload_1 hK dX7_many_59 ?_
            refine r_iload_5 hK dX7_many_60 ?_
            refine r_iald hK dX7_many_62 ((up_n ha5).trans ha) (by omega) ?_ (by omega)
            rw [hh x (by omega)]
            refine r_iast hK dX7_many_63 (up_s _ _ _) (by omega) ?_
            rw [up_up]
            first | refine r_incN_5 hK dX7_many_64 ?_ | refine r_iinc_5 hK dX7_many_64 ?_
            refine r_goto 41 hK dX7_many_67 ?_
            refine ih2 (rN w - (x + 1)) (by omega) (x + 1) _ rfl (by omega) (fun i hi => ?_)
            unfold updV
            by_cases c : i = x
            · rw [c, if_pos rfl]
            · rw [if_neg (fun q => c (hpjm.inj (by omega) (by omega) q))]; exact hzV i (by omega)
      have b3 : SHo (up f 345 (.inr (0, 8, hx))) w (rN w) := a3.up (by decide)
      have b5' : up f 345 (.inr (0, 8, hx)) 341 = some (cAL s.2.2.2.2.2 l1) := (up_n (by decide)).trans a5.1
      refine r_iload_3 hK dX7_many_14 ?_
      refine r_aload_0 hK dX7_many_15 ?_
      refine r_get hK fl_X7_22 dX7_many_16 (b3) rfl ?_
      refine r_pV0 hK (pa_size hQ (by omega) b5') lk_X7_79 (rcv_al hQ (by omega) b5') dX7_many_19 ?_
      rw [a5.2.1]
      refine r_icmp_ge 100 hK dX7_many_22 (by omega) (by omega) (fun h22 => ?_) (fun h22 => ?_)
      · omega --!
      · refine r_aload_0 hK dX7_many_25 ?_
        refine r_get hK fl_X7_22 dX7_many_26 (b3) rfl ?_
        refine r_iload_3 hK dX7_many_29 ?_
        refine r_pV1 hK (pa_get hQ (by omega) b5' (i := j) (by rw [a5.2.1]; omega)) lk_X7_89 (rcv_al hQ (by omega) b5') dX7_many_30 ?_
        rw [← hoid]
        refine r_castH hK cl_X7_93 (rch_I hK ((up_n (by omega)).trans hoA)) dX7_many_33 ?_
        refine r_astore_4 hK dX7_many_36 ?_
        refine r_iconstN (c := 0) hK dX7_many_38 ?_
        refine r_istore_5 hK dX7_many_39 ?_
        exact SC (rN w) 0 hx rfl (Nat.zero_le _) (fun i hi => absurd hi (Nat.not_lt_zero _))
  refine r_aload_0 hK dX7_many_0 ?_
  refine r_aload_1 hK dX7_many_1 ?_
  refine r_pV1 hK (ct_sWithin hK.rel hQ hXK a3 a4 ha hr8 hRN hN hp hh) lk_X7_102 (Rcv.raw hK.rel a3 rfl) dX7_many_2 ?_
  rw [hTp]
  obtain ⟨rs, hrs⟩ : ∃ rs : Int, rs = (if (if d ≤ 4 then d else 99) ≤ 4 then (((if d ≤ 4 then d else 99) : Nat) : Int) else -1) := ⟨_, rfl⟩
  have hrs2 : (d ≤ 4 ∧ rs = (d : Int)) ∨ (4 < d ∧ rs = -1) := by
    by_cases c : d ≤ 4
    · left; rw [if_pos c, if_pos c] at hrs; exact ⟨c, hrs⟩
    · right; rw [if_neg c, if_neg (by omega)] at hrs; exact ⟨by omega, hrs⟩
  rw [← hrs]
  refine r_istore_2 hK dX7_many_5 ?_
  refine r_iload_2 hK dX7_many_6 ?_
  refine r_if_lt 12 hK dX7_many_7 (by omega) (fun h7 => ?_) (fun h7 => ?_)
  · have e1 : rs = -1 := by omega
    rw [e1]
    refine r_iconstN (c := 0) hK dX7_many_12 ?_
    refine r_istore_3 hK dX7_many_13 ?_
    have := lp s.1 0 hx0 none none rfl (Nat.zero_le _) (by omega) (fun i hi => absurd hi (Nat.not_lt_zero _)) rfl
    rw [up_self a10] at this
    exact this
  · refine r_iload_2 hK dX7_many_10 ?_
    exact r_iret hK hRt dX7_many_11 ⟨by rw [show rs = (d : Int) by omega], rfl, hx0, (up_self a10).symm⟩
set_option maxHeartbeats 4000000 in
theorem ct_sNearer {G : GT} {Rel : Nat → Hp → Hp → Prop} (hR : RelOK Rel) (hP : Rel = RelP) (hX : GX G) {n : Nat} {f : Hp} {w d g left : Nat} {q : Gt} {h1 h2 : Nat → Value} {p : Nat → Nat} (hD : D8 w) (hS : SHL f w) (hg : f g = some (cG q)) (hg9 : 392 ≤ g) (hq : gq w q) (hO1 : f 343 = some (.inr (0, 8, h1))) (hO2 : f 344 = some (.inr (0, 8, h2))) (hp : Pm (rN w) p) (hh : ∀ x, x < rN w → h1 x = zI ((p x : Nat) : Int)) (hd : IsD w (fun r => p (mk q r)) d) (hl : left < 100) : Ct G Rel yX7_isNearer cX7_isNearer 4 (some .boolean) (7) (0) [.ref 329, .ref g, zI (left : Int)] n (f) (fun r n' f' => r = some (zB (d < left)) ∧ n' = n ∧ ∃ hx : Nat → Value, f' = up (up f 344 (.inr (0, 8, oA (rN w) (fun r => p (mk q r)) h2))) 345 (.inr (0, 8, hx))) := by
  refine ct_intro [some (.ref 329), some (.ref g), some (zI (left : Int)), none] hR rfl (Nat.le_of_ble_eq_true rfl) ?_
  intro K hG hRel hK hRt hnm
  have hQ : kRel K = RelP := by rw [hRel]; exact hP
  have hXK : GX (kG K) := by rw [hG]; exact hX
  have hd8 := hd.le8 hD
  have hw := hS.1
  have hr8 : rN w ≤ 8 := rN_le (k := 3) hw
  have hqB := hq.ok.gB (show w ≤ 6 by omega)
  obtain ⟨pq, hpq⟩ : ∃ pq : Nat → Nat, pq = fun r => p (mk q r) := ⟨_, rfl⟩
  rw [← hpq] at hd hRt
  have hpm : Pm (rN w) pq := by rw [hpq]; exact hp.pre hq.ok
  have lp : ∀ (dd x : Nat), dd = rN w - x → x ≤ rN w → Wx K 2 [some (.ref 329), some (.ref g), some (zI (left : Int)), some (zI (x : Int))] [] n (up f 344 (.inr (0, 8, oA x pq h2))) 0 := by
    intro dd
    induction dd using Nat.strongRecOn with
    | _ dd ih =>
      intro x hdd hx
      have hS' : SHL (up f 344 (.inr (0, 8, oA x pq h2))) w := hS.up3 (Or.inr (Or.inl rfl))
      have b3 := hS'.x.1
      have hg' : up f 344 (.inr (0, 8, oA x pq h2)) g = some (cG q) := (up_n (by omega)).trans hg
      refine r_iload_3 hK dX7_isNearer_2 ?_
      refine r_aload_0 hK dX7_isNearer_3 ?_
      refine r_get hK fl_X7_52 dX7_isNearer_4 (b3) rfl ?_
      refine r_icmp_ge 32 hK dX7_isNearer_7 (by omega) (by omega) (fun h7 => ?_) (fun h7 => ?_)
      · have hxe : x = rN w := by omega
        subst hxe
        refine r_aload_0 hK dX7_isNearer_32 ?_
        refine r_aload_0 hK dX7_isNearer_33 ?_
        refine r_get hK fl_X7_33 dX7_isNearer_34 (b3) rfl ?_
        refine r_callV1 hK (ct_sMany hK.rel hQ hXK hD hS' (up_s _ _ _) (by decide) hr8 (by omega) hpm (fun x hx => by unfold oA; rw [if_pos hx]) hd) lk_X7_126 (Rcv.raw hK.rel b3 rfl) dX7_isNearer_37 (fun r m1 g1 hp => ?_)
        obtain ⟨rfl, rfl, hx', rfl⟩ := hp
        refine r_iload_2 hK dX7_isNearer_40 ?_
        refine r_icmp_ge 48 hK dX7_isNearer_41 (by omega) (by omega) (fun h41 => ?_) (fun h41 => ?_)
        · refine r_iconstN (c := 0) hK dX7_isNearer_48 ?_
          exact r_zret hK hRt dX7_isNearer_49 rfl ⟨by rw [zB_f (by omega)]; rfl, rfl, hx', rfl⟩
        · refine r_iconstN (c := 1) hK dX7_isNearer_44 ?_
          refine r_goto 49 hK dX7_isNearer_45 ?_
          exact r_zret hK hRt dX7_isNearer_49 rfl ⟨by rw [zB_t (by omega)]; rfl, rfl, hx', rfl⟩
      · refine r_aload_0 hK dX7_isNearer_10 ?_
        refine r_get hK fl_X7_33 dX7_isNearer_11 (b3) rfl ?_
        refine r_iload_3 hK dX7_isNearer_14 ?_
        refine r_aload_0 hK dX7_isNearer_15 ?_
        refine r_get hK fl_X7_29 dX7_isNearer_16 (b3) rfl ?_
        refine r_aload_1 hK dX7_isNearer_19 ?_
        refine r_iload_3 hK dX7_isNearer_20 ?_
        refine r_pV1 hK (ct_gMade hK.rel hg' hqB (by omega)) lk_X7_98 (Rcv.raw hK.rel hg' rfl) dX7_isNearer_21 ?_
        have hmx : mk q x < rN w := mk_lt hq.1 (by omega)
        refine r_iald hK dX7_isNearer_24 ((up_n (by decide)).trans hO1) (by omega) ?_
        rw [hh _ hmx, show p (mk q x) = pq x from by rw [hpq]]
        refine r_iast hK dX7_isNearer_25 (up_s _ _ _) (by omega) ?_
        rw [up_up, oA_s]
        first | refine r_incN_3 hK dX7_isNearer_26 ?_ | refine r_iinc_3 hK dX7_isNearer_26 ?_
        refine r_goto 2 hK dX7_isNearer_29 ?_
        exact ih (rN w - (x + 1)) (by omega) (x + 1) rfl (by omega)
  refine r_iconstN (c := 0) hK dX7_isNearer_0 ?_
  refine r_istore_3 hK dX7_isNearer_1 ?_
  have := lp (rN w) 0 rfl (Nat.zero_le _)
  rw [oA_0, up_self hO2] at this
  exact this
set_option maxHeartbeats 4000000 in
theorem ct_sNext {G : GT} {Rel : Nat → Hp → Hp → Prop} (hR : RelOK Rel) (hP : Rel = RelP) (hX : GX G) {n : Nat} {f : Hp} {w d : Nat} {h1 h2 : Nat → Value} {p T : Nat → Nat} (hD : D8 w) (hT : TabR w T) (hS : SHL f w) (hO1 : f 343 = some (.inr (0, 8, h1))) (hO2 : f 344 = some (.inr (0, 8, h2))) (hp : Pm (rN w) p) (hh : ∀ x, x < rN w → h1 x = zI ((p x : Nat) : Int)) (hd : IsD w p (d + 1)) : Ct G Rel yX7_next cX7_next 3 (some (.object "BackLogic$Gate")) (8) (0) [.ref 329, zI ((d + 1 : Nat) : Int)] n (f) (fun r n' f' => n' = n ∧ ∃ (gid : Nat) (q : Gt) (h1' h2' hx : Nat → Value), r = some (.ref gid) ∧ 392 ≤ gid ∧ f gid = some (cG q) ∧ gq w q ∧ (gl w).find? (fun g => decide (T (plc (fun r => p (mk g r)) (rN w)) = d)) = some q ∧ IsD w (fun r => p (mk q r)) d ∧ (∀ x, x < rN w → h1' x = zI ((p (mk q x) : Nat) : Int)) ∧ f' = up (up (up f 344 (.inr (0, 8, h2'))) 345 (.inr (0, 8, hx))) 343 (.inr (0, 8, h1'))) := by
  refine ct_intro [some (.ref 329), some (zI ((d + 1 : Nat) : Int)), none] hR rfl (Nat.le_of_ble_eq_true rfl) ?_
  intro K hG hRel hK hRt hnm
  have hQ : kRel K = RelP := by rw [hRel]; exact hP
  have hXK : GX (kG K) := by rw [hG]; exact hX
  have hd8 := hd.le8 hD
  have hw := hS.1
  have hr8 : rN w ≤ 8 := rN_le (k := 3) hw
  obtain ⟨-, s, l1, l2, l3, N2, N3, hx0, mv, a1, a2, a3, a4, a5, a6, a7, a8, a9, a10⟩ := id hS
  have hgl := gl_len w (by omega)
  have hl3 : l3.length = (gl w).length := a6.2.2.1.1
  have lp : ∀ (gs : List Gt) (i : Nat) (h2 hx : Nat → Value), (gl w).drop i = gs → (gl w).find? (fun g => decide (T (plc (fun r => p (mk g r)) (rN w)) = d)) = gs.find? (fun g => decide (T (plc (fun r => p (mk g r)) (rN w)) = d)) → (∃ g, g ∈ gs ∧ IsD w (fun r => p (mk g r)) d) → Wx K 2 [some (.ref 329), some (zI ((d + 1 : Nat) : Int)), some (zI (i : Int))] [] n (up (up f 344 (.inr (0, 8, h2))) 345 (.inr (0, 8, hx))) 0 := by
    intro gs
    induction gs with
    | nil => intro i h2 hx _ _ hex; obtain ⟨g, hg, -⟩ := hex; cases hg
    | cons g gs ih =>
      intro i h2 hx hdr hfi hex
      have hil : i < (gl w).length := by
        by_cases c : i < (gl w).length
        · exact c
        · rw [List.drop_eq_nil_of_le (by omega)] at hdr; cases hdr
      have hgi : gt (gl w) i = g := by
        have := List.getElem_cons_drop hil
        rw [hdr] at this
        rw [gt_at hil]
        exact (List.cons.inj this).1
      have hdr' : (gl w).drop (i + 1) = gs := by
        have := List.drop_drop (i := 1) (j := i) (l := gl w)
        rw [hdr] at this
        rw [← this]; rfl
      obtain ⟨hgq, hgB⟩ := gl_B hw hil
      rw [hgi] at hgq hgB
      obtain ⟨F, hF⟩ : ∃ F, F = up (up f 344 (.inr (0, 8, h2))) 345 (.inr (0, 8, hx)) := ⟨_, rfl⟩
      rw [← hF]
      have hSF : SHL F w := by rw [hF]; exact (hS.up3 (Or.inr (Or.inl rfl))).up3 (Or.inr (Or.inr (Or.inl ⟨rfl, hx, rfl⟩)))
      have k : ∀ id e, f id = some e → id ≠ 344 → id ≠ 345 → F id = some e := fun id e z1 z2 z3 => by rw [hF, up_n z3, up_n z2]; exact z1
      have k4 : F 344 = some (.inr (0, 8, h2)) := by rw [hF, up_n (by decide), up_s]
      have b3 := k _ _ a3 (by decide) (by decide)
      have b6 := k _ _ a6.1 (by decide) (by decide)
      have hg9 := a6.2.2.2 i (by omega)
      have hcg0 : f (l3.getD i 0) = some (cG g) := by rw [← hgi]; exact a6.2.2.1.2 i (by omega)
      have hcg := k _ _ hcg0 (by omega) (by omega)
      obtain ⟨dq, dq8, hdq⟩ := hD.isD (hp.pre hgq.ok)
      have hge := near_ge hgq hd hdq
      have hTq : T (plc (fun r => p (mk g r)) (rN w)) = dq := (hT _ (hp.pre hgq.ok)).2.uni hdq
      refine r_aload_0 hK dX7_next_2 ?_
      refine r_aload_0 hK dX7_next_3 ?_
      refine r_get hK fl_X7_39 dX7_next_4 (b3) rfl ?_
      refine r_iload_2 hK dX7_next_7 ?_
      refine r_pV1 hK (pa_get hQ (by omega) b6 (i := i) (by omega)) lk_X7_89 (rcv_al hQ (by omega) b6) dX7_next_8 ?_
      refine r_cast hK cl_X7_62 (Rcv.raw hK.rel hcg rfl) dX7_next_11 ?_
      refine r_iload_1 hK dX7_next_14 ?_
      refine r_callV2 hK (ct_sNearer hK.rel hQ hXK hD hSF hcg hg9 hgq (k _ _ hO1 (by decide) (by decide)) k4 hp hh hdq (by omega)) lk_X7_135 (Rcv.raw hK.rel b3 rfl) dX7_next_15 (fun r m1 g1 hp1 => ?_)
      obtain ⟨rfl, e2, hx', e3⟩ := hp1
      rw [e2, e3]
      have e4 : up (up F 344 (.inr (0, 8, oA (rN w) (fun r => p (mk g r)) h2))) 345 (.inr (0, 8, hx')) = up (up f 344 (.inr (0, 8, oA (rN w) (fun r => p (mk g r)) h2))) 345 (.inr (0, 8, hx')) := by rw [hF, up_comm (j := 344) (k := 345) (by decide), up_up, up_comm (j := 345) (k := 344) (by decide), up_up]
      rw [e4]
      refine r_ifB_ne 27 hK dX7_next_18 (fun h18 => ?_) (fun h18 => ?_)
      rotate_left
      · have hno : ¬ dq = d := by omega
        refine r_incN_2 hK dX7_next_21 ?_
        refine r_goto 2 hK dX7_next_24 ?_
        refine ih (i + 1) _ hx' hdr' (by rw [hfi, List.find?_cons_of_neg (by simp [hTq, hno])]) ?_
        obtain ⟨g', z1, z2⟩ := hex
        rcases List.mem_cons.mp z1 with z | z
        · subst z; exact absurd (z2.uni hdq).symm hno
        · exact ⟨g', z, z2⟩
      have hyes : dq = d := by omega
      obtain ⟨F2, hF2⟩ : ∃ F2, F2 = up (up f 344 (.inr (0, 8, oA (rN w) (fun r => p (mk g r)) h2))) 345 (.inr (0, 8, hx')) := ⟨_, rfl⟩
      rw [← hF2]
      have k' : ∀ id e, f id = some e → id ≠ 344 → id ≠ 345 → F2 id = some e := fun id e z1 z2 z3 => by rw [hF2, up_n z3, up_n z2]; exact z1
      have k4' : F2 344 = some (.inr (0, 8, oA (rN w) (fun r => p (mk g r)) h2)) := by rw [hF2, up_n (by decide), up_s]
      have c3 := k' _ _ a3 (by decide) (by decide)
      have c6 := k' _ _ a6.1 (by decide) (by decide)
      have c1 := k' _ _ hO1 (by decide) (by decide)
      refine r_aload_0 hK dX7_next_27 ?_
      refine r_get hK fl_X7_33 dX7_next_28 c3 rfl ?_
      refine r_iconstN (c := 0) hK dX7_next_31 ?_
      refine r_aload_0 hK dX7_next_32 ?_
      refine r_get hK fl_X7_29 dX7_next_33 c3 rfl ?_
      refine r_iconstN (c := 0) hK dX7_next_36 ?_
      refine r_aload_0 hK dX7_next_37 ?_
      refine r_get hK fl_X7_52 dX7_next_38 c3 rfl ?_
      refine r_acpyI hK q1798 dX7_next_41 k4' c1 (by omega) (by omega) (fun j hj => ⟨_, by rw [Nat.zero_add]; unfold oA; rw [if_pos hj]⟩) ?_
      refine r_aload_0 hK dX7_next_44 ?_
      refine r_get hK fl_X7_39 dX7_next_45 ((up_n (by decide)).trans c3) rfl ?_
      refine r_iload_2 hK dX7_next_48 ?_
      refine r_pV1 hK (pa_get hQ (N := N3) (by omega) ((up_n (by decide)).trans c6) (i := i) (by omega)) lk_X7_89 (rcv_al hQ (N := N3) (l := l3) (by omega) ((up_n (by decide)).trans c6)) dX7_next_49 ?_
      have hcg2 := k' _ _ hcg0 (by omega) (by omega)
      refine r_cast hK cl_X7_62 (Rcv.raw hK.rel ((up_n (by omega)).trans hcg2) rfl) dX7_next_52 ?_
      refine r_aret hK hRt dX7_next_55 ⟨rfl, l3.getD i 0, g, _, _, hx', rfl, hg9, hcg0, hgq, by rw [hfi, List.find?_cons_of_pos (by simp [hTq, hyes])], by rw [← hyes]; exact hdq, fun x hx => ?_, by rw [hF2]⟩
      unfold va_cpy
      rw [if_pos (by omega), Nat.zero_add, Nat.sub_zero]
      unfold oA
      rw [if_pos hx]
  refine r_iconstN (c := 0) hK dX7_next_0 ?_
  refine r_istore_2 hK dX7_next_1 ?_
  obtain ⟨g, z1, z2⟩ := near_ex hd
  have := lp (gl w) 0 h2 hx0 rfl rfl ⟨g, z1, z2⟩
  rw [up_self hO2, up_self a10] at this
  exact this
theorem fstL_s {T : Nat → Nat} {w d : Nat} {p : Nat → Nat} {q : Gt} (hq : gq w q) (h : (gl w).find? (fun g => decide (T (plc (fun r => p (mk g r)) (rN w)) = d)) = some q) : (fstL T w (d + 1) p).map gz = q :: (fstL T w d (fun r => p (mk q r))).map gz := by
  have e : fsI T (rN w) p d (w * rN w) 0 = some (q.1, q.2.1) := by
    rw [fsI_find]
    show ((gl w).find? _).map _ = _
    rw [h]; rfl
  have eq : (q.1, q.2.1, 0) = q := by rw [← hq.2.2.2]
  show (match fsI T (rN w) p d (w * rN w) 0 with | some g => g :: fstL T w d (fun r => p (mk (g.1, g.2, 0) r)) | none => fstL T w d p).map gz = _
  rw [e]
  show gz (q.1, q.2.1) :: (fstL T w d (fun r => p (mk (q.1, q.2.1, 0) r))).map gz = _
  rw [eq]
  show (q.1, q.2.1, 0) :: _ = _
  rw [eq]
theorem fstL_len {T : Nat → Nat} {w : Nat} (hT : TabR w T) : ∀ d p, Pm (rN w) p → IsD w p d → (fstL T w d p).length = d
  | 0, p, _, _ => rfl
  | d + 1, p, hp, hd => by
    obtain ⟨g, z1, z2⟩ := near_ex hd
    have hgq := gl_q g z1
    cases hf : (gl w).find? (fun g => decide (T (plc (fun r => p (mk g r)) (rN w)) = d)) with
    | none =>
      have := List.find?_eq_none.mp hf g z1
      exact absurd (decide_eq_true ((hT _ (hp.pre hgq.ok)).2.uni z2)) this
    | some q =>
      have hqm := List.mem_of_find?_eq_some hf
      have hqq := gl_q q hqm
      have hq0 := List.find?_some hf
      have hqT : T (plc (fun r => p (mk q r)) (rN w)) = d := of_decide_eq_true hq0
      have hqd : IsD w (fun r => p (mk q r)) d := by rw [← hqT]; exact (hT _ (hp.pre hqq.ok)).2
      have e := congrArg List.length (fstL_s hqq hf)
      rw [List.length_map, List.length_cons, List.length_map, fstL_len hT d _ (hp.pre hqq.ok) hqd] at e
      exact e
set_option maxHeartbeats 4000000 in
theorem ct_sFirst {G : GT} {Rel : Nat → Hp → Hp → Prop} (hR : RelOK Rel) (hP : Rel = RelP) (hX : GX G) {n : Nat} {f : Hp} {w d a N : Nat} {h h1 h2 : Nat → Value} {p T : Nat → Nat} (hD : D8 w) (hT : TabR w T) (hn0 : 392 ≤ n) (hS : SHL f w) (ha : f a = some (.inr (0, N, h))) (ha5 : a < 329 ∨ 346 < a) (hRN : rN w ≤ N) (hN : N < 1000) (hO1 : f 343 = some (.inr (0, 8, h1))) (hO2 : f 344 = some (.inr (0, 8, h2))) (hp : Pm (rN w) p) (hh : ∀ x, x < rN w → h x = zI ((p x : Nat) : Int)) (hd : IsD w p d) : Ct G Rel yX7_first cX7_first 4 (some (.object "java/util/LinkedList")) (9) (10) [.ref 329, .ref a] n (f) (fun r n' f' => r = some (.ref n) ∧ n < n' ∧ (∃ l, f' n = some (cLL l) ∧ GL f' l ((fstL T w d p).map gz) ∧ ∀ x ∈ l, 392 ≤ x ∧ x < n) ∧ SHL f' w ∧ (∃ h1' h2' : Nat → Value, f' 343 = some (.inr (0, 8, h1')) ∧ f' 344 = some (.inr (0, 8, h2'))) ∧ ∀ id, id < n → id ≠ 343 → id ≠ 344 → id ≠ 345 → f' id = f id) := by
  refine ct_intro [some (.ref 329), some (.ref a), none, none] hR rfl (Nat.le_of_ble_eq_true rfl) ?_
  intro K hG hRel hK hRt hnm
  have hQ : kRel K = RelP := by rw [hRel]; exact hP
  have hXK : GX (kG K) := by rw [hG]; exact hX
  have hd8 := hd.le8 hD
  have hw := hS.1
  have hr8 : rN w ≤ 8 := rN_le (k := 3) hw
  refine r_fact hK (fun _ hno => ?_)
  have lp : ∀ (k m1 u : Nat) (f1 : Hp) (p1 : Nat → Nat) (h1 h2 : Nat → Value) (l : List Nat) (gs : List Gt), IsD w p1 k → Pm (rN w) p1 → n < m1 → u ≤ 9 - k → SHL f1 w → f1 343 = some (.inr (0, 8, h1)) → f1 344 = some (.inr (0, 8, h2)) → (∀ x, x < rN w → h1 x = zI ((p1 x : Nat) : Int)) → f1 n = some (cLL l) → GL f1 l gs → (∀ x ∈ l, 392 ≤ x ∧ x < n) → gs ++ (fstL T w k p1).map gz = (fstL T w d p).map gz → (∀ id, id < n → id ≠ 343 → id ≠ 344 → id ≠ 345 → f1 id = f id) → (∀ id, n < id → f1 id = none) → Wx K 31 [some (.ref 329), some (.ref a), some (.ref n), some (zI (k : Int))] [] m1 f1 u := by
    intro k
    induction k with
    | zero =>
      intro m1 u f1 p1 h1 h2 l gs hk hp1 hm1 hu hS1 hO1 hO2 hV hLL hGL h392 he hfr hz
      refine r_iload_3 hK dX7_first_31 ?_
      refine r_if_le 50 hK dX7_first_32 (by omega) (fun h32 => ?_) (fun h32 => ?_)
      · refine r_aload_2 hK dX7_first_50 ?_
        refine r_aret hK hRt dX7_first_51 ⟨rfl, hm1, ⟨l, hLL, ?_, h392⟩, hS1, ⟨h1, h2, hO1, hO2⟩, hfr⟩ (by omega)
        rw [← he]
        show GL f1 l (gs ++ [])
        rw [List.append_nil]; exact hGL
      · omega --!
    | succ k ih =>
      intro m1 u f1 p1 h1 h2 l gs hk hp1 hm1 hu hS1 hO1 hO2 hV hLL hGL h392 he hfr hz
      have hk8 := hk.le8 hD
      have b3 := hS1.x.1
      refine r_iload_3 hK dX7_first_31 ?_
      refine r_if_le 50 hK dX7_first_32 (by omega) (fun h32 => ?_) (fun h32 => ?_)
      · omega --!
      · refine r_aload_2 hK dX7_first_35 ?_
        refine r_aload_0 hK dX7_first_36 ?_
        refine r_iload_3 hK dX7_first_37 ?_
        refine r_callV1 hK (ct_sNext hK.rel hQ hXK hD hT hS1 hO1 hO2 hp1 hV hk) lk_X7_128 (Rcv.raw hK.rel b3 rfl) dX7_first_38 (fun r m2 g2 hp2 => ?_) (hu := by omega)
        obtain ⟨e1, gid, q, h1', h2', hx', rfl, z1, z2, z3, z4, z5, z6, e2⟩ := hp2
        rw [e1, e2]
        have hgn : gid < n := by
          by_cases c : gid < n
          · exact c
          · by_cases c2 : gid = n
            · rw [c2, hLL] at z2; cases z2
            · rw [hz gid (by omega)] at z2; cases z2
        obtain ⟨F2, hF2⟩ : ∃ F2, F2 = up (up (up f1 344 (.inr (0, 8, h2'))) 345 (.inr (0, 8, hx'))) 343 (.inr (0, 8, h1')) := ⟨_, rfl⟩
        rw [← hF2]
        have k2 : ∀ id, id ≠ 343 → id ≠ 344 → id ≠ 345 → F2 id = f1 id := fun id q1 q2 q3 => by rw [hF2, up_n q1, up_n q3, up_n q2]
        have hS2 : SHL F2 w := by rw [hF2]; exact ((hS1.up3 (Or.inr (Or.inl rfl))).up3 (Or.inr (Or.inr (Or.inl ⟨rfl, hx', rfl⟩)))).up3 (Or.inl rfl)
        have hLL2 : F2 n = some (cLL l) := by rw [k2 n (by omega) (by omega) (by omega)]; exact hLL
        refine r_callV1 hK (pl_addLast hQ hLL2) lk_X7_131 (rcv_ll hQ hLL2) dX7_first_41 (fun r m3 g3 hp3 => ?_) (hu := by omega)
        obtain ⟨rfl, hle, rfl⟩ := hp3
        refine r_decN_3 hK dX7_first_44 ?_
        refine r_goto 31 hK dX7_first_47 ?_
        refine ih m3 _ _ (fun r => p1 (mk q r)) h1' h2' (l ++ [gid]) (gs ++ [q]) z5 (hp1.pre z3.ok) (by omega) (by omega) (hS2.up3 (Or.inr (Or.inr (Or.inr (Or.inr (Or.inr (Or.inr ⟨by omega, _, hLL2, rfl⟩))))))) ?_ ?_ z6 (up_s _ _ _) ?_ (fun x hx => ?_) ?_ (fun id q1 q2 q3 q4 => ?_) (fun id hid => ?_)
        · rw [up_n (by omega), hF2, up_s]
        · rw [up_n (by omega), hF2, up_n (by decide), up_n (by decide), up_s]
        · have c1 : GL (up F2 n (cLL (l ++ [gid]))) l gs := hGL.kp (fun i hi => by
            have := h392 (l.getD i 0) (by rw [List.getD_eq_getElem?_getD, List.getElem?_eq_getElem hi]; exact List.getElem_mem _)
            rw [up_n (by omega), k2 _ (by omega) (by omega) (by omega)])
          exact c1.app (by rw [up_n (by omega), k2 _ (by omega) (by omega) (by omega)]; exact z2)
        · rcases List.mem_append.mp hx with q | q
          · exact h392 x q
          · rw [List.mem_singleton.mp q]; exact ⟨z1, hgn⟩
        · rw [← he, fstL_s z3 z4, List.append_assoc]; rfl
        · rw [up_n (by omega), k2 id q2 q3 q4]; exact hfr id q1 q2 q3 q4
        · rw [up_n (by omega), k2 id (by omega) (by omega) (by omega)]; exact hz id hid
  refine r_new (fs := [zI 0, zI 0, .null, .null]) 1 hK nw_X7_123 dX7_first_0 (by decide) ?_ (hw := new12)
  refine r_dup hK dX7_first_3 ?_
  refine r_callI0 hK (pl_init hQ (up_s _ _ _)) lk_X7_125 dX7_first_4 (fun r m1 g1 hp1 => ?_)
  obtain ⟨rfl, e1, e2⟩ := hp1
  rw [e1, e2, up_up]
  have hnn : f n = none := hno n (Nat.le_refl _)
  have hS1 : SHL (up f n (cLL [])) w := hS.up3 (Or.inr (Or.inr (Or.inr (Or.inl hnn))))
  have hS2 : ∀ h1', SHL (up (up f n (cLL [])) 343 (.inr (0, 8, h1'))) w := fun h1' => hS1.up3 (Or.inl rfl)
  have han : a ≠ n := fun q => by rw [q, hnn] at ha; cases ha
  obtain ⟨hz0, hhz0⟩ : ∃ hz0, hz0 = va_cpy h h1 0 0 (rN w) := ⟨_, rfl⟩
  have hz0V : ∀ x, x < rN w → hz0 x = zI ((p x : Nat) : Int) := fun x hx => by rw [hhz0]; unfold va_cpy; rw [if_pos (by omega), Nat.zero_add, Nat.sub_zero]; exact hh x hx
  refine r_astore_2 hK dX7_first_7 ?_
  refine r_aload_1 hK dX7_first_8 ?_
  refine r_iconstN (c := 0) hK dX7_first_9 ?_
  refine r_aload_0 hK dX7_first_10 ?_
  refine r_get hK fl_X7_29 dX7_first_11 (hS1.x.1) rfl ?_
  refine r_iconstN (c := 0) hK dX7_first_14 ?_
  refine r_aload_0 hK dX7_first_15 ?_
  refine r_get hK fl_X7_52 dX7_first_16 (hS1.x.1) rfl ?_
  refine r_acpyI hK q1798 dX7_first_19 ((up_n han).trans ha) ((up_n (by omega)).trans hO1) (by omega) (by omega) (fun j hj => ⟨_, by rw [Nat.zero_add]; exact hh j hj⟩) ?_ (by omega)
  rw [← hhz0]
  refine r_aload_0 hK dX7_first_22 ?_
  refine r_aload_0 hK dX7_first_23 ?_
  refine r_get hK fl_X7_29 dX7_first_24 ((hS2 hz0).x.1) rfl ?_
  refine r_callV1 hK (ct_sMany hK.rel hQ hXK hD (hS2 hz0) (up_s _ _ _) (by decide) hr8 (by decide) hp hz0V hd) lk_X7_126 (Rcv.raw hK.rel (hS2 hz0).x.1 rfl) dX7_first_27 (fun r m2 g2 hp2 => ?_)
  obtain ⟨rfl, e3, hx', e4⟩ := hp2
  rw [e3, e4]
  refine r_istore_3 hK dX7_first_30 ?_
  refine lp d _ _ _ p hz0 h2 [] [] hd hp (by omega) (by omega) ((hS2 hz0).up3 (Or.inr (Or.inr (Or.inl ⟨rfl, hx', rfl⟩)))) ?_ ?_ hz0V ?_ ⟨rfl, fun i hi => absurd hi (Nat.not_lt_zero _)⟩ (fun x hx => by cases hx) rfl (fun id q1 q2 q3 q4 => ?_) (fun id hid => ?_)
  · rw [up_n (by decide), up_s]
  · rw [up_n (by decide), up_n (by decide), up_n (by omega)]; exact hO2
  · rw [up_n (by omega), up_n (by omega), up_s]
  · rw [up_n q4, up_n q2, up_n (by omega)]
  · rw [up_n (by omega), up_n (by omega), up_n (by omega)]; exact hno id (by omega)
