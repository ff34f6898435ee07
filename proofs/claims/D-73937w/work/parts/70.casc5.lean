set_option maxRecDepth 100000
/-! ===== cascades in the picture: shrinking all ===== -/
theorem CC.kp {n : Nat} {f f1 : Hp} {c ll : Nat} {l : List Nat} {gs : List Gt} (h : CC f c ll l gs) (hn : ∀ j e, f j = some e → j < n) (hk : Kp n f ll f1) (hl : f1 ll = some (cLL l)) : CC f1 c ll l gs := by
  obtain ⟨c1, c2, c3, c4⟩ := h
  refine ⟨?_, hl, ⟨c3.1, fun i hi => ?_⟩, c4⟩
  · rw [hk _ (hn _ _ c1) (fun q => by rw [q, c2] at c1; cases c1)]; exact c1
  · have := c3.2 i hi
    rw [hk _ (hn _ _ this) (fun q => by rw [q, c2] at this; cases this)]; exact this
theorem Kp.tr {n n1 : Nat} {f f1 f2 : Hp} {ll : Nat} (h : Kp n f ll f1) (h' : Kp n1 f1 ll f2) (hn : n ≤ n1) : Kp n f ll f2 := fun id a b => by rw [h' id (by omega) b]; exact h id a b
theorem uq {u a Q M : Nat} (h : u ≤ a * Q) (h2 : Q + 1 ≤ M) : u + a ≤ a * M ∧ u + a ≤ a * (Q + 1) := by
  have h3 := Nat.mul_le_mul_left a h2
  rw [Nat.mul_add, Nat.mul_one] at h3 ⊢
  omega
set_option maxHeartbeats 4000000 in
theorem ct_cShrBy {G : GT} {Rel : Nat → Hp → Hp → Prop} (hR : RelOK Rel) (hP : Rel = RelP) (hX : GX G) {n : Nat} {f : Hp} {c ll r w : Nat} {l : List Nat} {gs : List Gt} (hr : r = 1 ∨ r = 2 ∨ r = 3) (h : CC f c ll l gs) (hl16 : gs.length ≤ 16) (hw : w ≤ 4) (ho : ∀ g ∈ gs, gok w g) : Ct G Rel yX4_shrinksBy cX4_shrinksBy 5 (some .boolean) (7) (uR r * (gs.length * gs.length)) [.ref c, zI (r : Int), zI ((rN w : Nat) : Int)] n (f) (ShP n f c ll l (shr w r gs)) := by
  refine ct_intro [some (.ref c), some (zI (r : Int)), some (zI ((rN w : Nat) : Int)), none, none] hR rfl (Nat.le_of_ble_eq_true rfl) ?_
  intro K hG hRel hK hRt hnm
  have hQ : kRel K = RelP := by rw [hRel]; exact hP
  have hXK : GX (kG K) := by rw [hG]; exact hX
  have hr3 : r < 4 := by omega
  have lpI : ∀ (m i n1 u Q : Nat) (f1 : Hp) a4, nl a4 = true → i + m = gs.length → n ≤ n1 → Kp n f ll f1 → CC f1 c ll l gs → shI w r gs gs.length = shI w r gs m → u ≤ uR r * Q → Q ≤ i * gs.length → Wx K 2 [some (.ref c), some (zI (r : Int)), some (zI ((rN w : Nat) : Int)), some (zI (i : Int)), a4] [] n1 f1 u := by
    intro m
    induction m with
    | zero =>
      intro i n1 u Q f1 a4 n4 hi hn1 hk1 hC hs hu hQQ
      have hul : u ≤ uR r * (gs.length * gs.length) := Nat.le_trans hu (Nat.mul_le_mul_left _ (Nat.le_trans hQQ (Nat.mul_le_mul_right _ (by omega))))
      refine r_iload_3 hK dX4_shrinksBy_2 ?_
      refine r_aload_0 hK dX4_shrinksBy_3 ?_
      refine r_get hK fl_X4_10 dX4_shrinksBy_4 (hC.1) rfl ?_
      refine r_callV0 hK (pl_size hQ hC.2.1) lk_X4_44 (rcv_ll hQ hC.2.1) dX4_shrinksBy_7 (fun r1 n2 f2 hp => ?_) (hu := by omega)
      obtain ⟨rfl, rfl, rfl⟩ := hp
      rw [hC.2.2.1.1]
      refine r_icmp_ge 56 hK dX4_shrinksBy_10 (by omega) (by omega) (fun h10 => ?_) (fun h10 => ?_)
      · refine r_iconstN (c := 0) hK dX4_shrinksBy_56 ?_
        refine r_zret hK hRt dX4_shrinksBy_57 rfl ?_ (by omega)
        unfold shr
        rw [hs]
        exact ⟨hn1, hk1, rfl, hC.2.1⟩
      · exact absurd h10 (by omega)
    | succ m ih =>
      intro i n1 u Q f1 a4 n4 hi hn1 hk1 hC hs hu hQQ
      have hil : i < gs.length := by omega
      have e1 : shI w r gs (m + 1) = (shK w r gs i m).or (shI w r gs m) := by
        show (shK w r gs (gs.length - (m + 1)) m).or (shI w r gs m) = _
        rw [show gs.length - (m + 1) = i by omega]
      rw [e1] at hs
      have i1 : (i + 1) * gs.length = i * gs.length + gs.length := by rw [Nat.add_mul, Nat.one_mul]
      have i2 : (i + 1) * gs.length ≤ gs.length * gs.length := Nat.mul_le_mul_right _ hil
      have t39 : ∀ (k n2 u : Nat) (f2 : Hp), u ≤ uR r * (gs.length * gs.length) → ShP n f c ll l (shr w r gs) (some (zI ((1 : Nat) : Int))) n2 f2 → Wx K 39 [some (.ref c), some (zI (r : Int)), some (zI ((rN w : Nat) : Int)), some (zI (i : Int)), some (zI (k : Int))] [zI ((1 : Nat) : Int)] n2 f2 u := by
        intro k n2 u f2 hu hp
        refine r_if_eq 44 hK dX4_shrinksBy_39 (by omega) (fun h39 => ?_) (fun h39 => ?_)
        · exact absurd h39 (by omega)
        · refine r_iconstN (c := 1) hK dX4_shrinksBy_42 ?_
          exact r_zret hK hRt dX4_shrinksBy_43 rfl hp hu
      have t44 : ∀ (k n2 u : Nat) (f2 : Hp), k < gs.length → Wx K 18 [some (.ref c), some (zI (r : Int)), some (zI ((rN w : Nat) : Int)), some (zI (i : Int)), some (zI ((k + 1 : Nat) : Int))] [] n2 f2 u → Wx K 39 [some (.ref c), some (zI (r : Int)), some (zI ((rN w : Nat) : Int)), some (zI (i : Int)), some (zI (k : Int))] [zI ((0 : Nat) : Int)] n2 f2 u := by
        intro k n2 u f2 hk hw
        refine r_if_eq 44 hK dX4_shrinksBy_39 (by omega) (fun h39 => ?_) (fun h39 => ?_)
        · first | refine r_incN_4 hK dX4_shrinksBy_44 ?_ | refine r_iinc_4 hK dX4_shrinksBy_44 ?_
          refine r_goto 18 hK dX4_shrinksBy_47 ?_
          exact hw
        · exact absurd rfl h39
      have lpK : ∀ (p k n1 u Q : Nat) (f1 : Hp), k + p = gs.length → i < k → n ≤ n1 → Kp n f ll f1 → CC f1 c ll l gs → shI w r gs gs.length = (shK w r gs i p).or (shI w r gs m) → u ≤ uR r * Q → Q ≤ i * gs.length + k → Wx K 18 [some (.ref c), some (zI (r : Int)), some (zI ((rN w : Nat) : Int)), some (zI (i : Int)), some (zI (k : Int))] [] n1 f1 u := by
        intro p
        induction p with
        | zero =>
          intro k n1 u Q f1 hk hik hn1 hk1 hC hs hu hQQ
          have hul : u ≤ uR r * (gs.length * gs.length) := Nat.le_trans hu (Nat.mul_le_mul_left _ (by omega))
          refine r_iload_4 hK dX4_shrinksBy_18 ?_
          refine r_aload_0 hK dX4_shrinksBy_20 ?_
          refine r_get hK fl_X4_10 dX4_shrinksBy_21 (hC.1) rfl ?_
          refine r_callV0 hK (pl_size hQ hC.2.1) lk_X4_44 (rcv_ll hQ hC.2.1) dX4_shrinksBy_24 (fun r1 n2 f2 hp => ?_) (hu := by omega)
          obtain ⟨rfl, rfl, rfl⟩ := hp
          rw [hC.2.2.1.1]
          refine r_icmp_ge 50 hK dX4_shrinksBy_27 (by omega) (by omega) (fun h27 => ?_) (fun h27 => ?_)
          · first | refine r_incN_3 hK dX4_shrinksBy_50 ?_ | refine r_iinc_3 hK dX4_shrinksBy_50 ?_
            refine r_goto 2 hK dX4_shrinksBy_53 ?_
            exact ih (i + 1) _ _ Q _ _ rfl (by omega) hn1 hk1 hC (by rw [hs]; exact Option.none_or) hu (by omega)
          · exact absurd h27 (by omega)
        | succ p ihk =>
          intro k n1 u Q f1 hk hik hn1 hk1 hC hs hu hQQ
          have hul : u ≤ uR r * (gs.length * gs.length) := Nat.le_trans hu (Nat.mul_le_mul_left _ (by omega))
          have e2 : shK w r gs i (p + 1) = if good w r gs i k = true then some (i, k) else shK w r gs i p := by
            show (if good w r gs i (gs.length - (p + 1)) = true then some (i, gs.length - (p + 1)) else _) = _
            rw [show gs.length - (p + 1) = k by omega]
          rw [e2] at hs
          obtain ⟨u1, u2⟩ := uq (M := gs.length * gs.length) hu (by omega)
          refine r_fact hK (fun _ hno => ?_)
          have hlt : ∀ j e, f1 j = some e → j < n1 := fun j e q => by
            by_cases z : j < n1
            · exact z
            · rw [hno j (by omega)] at q; cases q
          refine r_iload_4 hK dX4_shrinksBy_18 ?_
          refine r_aload_0 hK dX4_shrinksBy_20 ?_
          refine r_get hK fl_X4_10 dX4_shrinksBy_21 (hC.1) rfl ?_
          refine r_callV0 hK (pl_size hQ hC.2.1) lk_X4_44 (rcv_ll hQ hC.2.1) dX4_shrinksBy_24 (fun r1 n2 f2 hp => ?_) (hu := by omega)
          obtain ⟨rfl, rfl, rfl⟩ := hp
          rw [hC.2.2.1.1]
          refine r_icmp_ge 50 hK dX4_shrinksBy_27 (by omega) (by omega) (fun h27 => ?_) (fun h27 => ?_)
          · exact absurd h27 (by omega)
          · refine r_aload_0 hK dX4_shrinksBy_30 ?_
            refine r_iload_1 hK dX4_shrinksBy_31 ?_
            refine r_iload_3 hK dX4_shrinksBy_32 ?_
            refine r_iload_4 hK dX4_shrinksBy_33 ?_
            refine r_iload_2 hK dX4_shrinksBy_35 ?_
            refine r_callV4 hK (ct_cIsDone hK.rel hQ hXK hr hC hik (by omega) hl16 hw ho) lk_X4_106 (Rcv.raw hK.rel hC.1 rfl) dX4_shrinksBy_36 (fun r1 n2 f2 hp => ?_) (hu := u1)
            obtain ⟨p1, p2, p3⟩ := hp
            by_cases cg : good w r gs i k = true
            · rw [if_pos cg, Option.some_or] at hs
              unfold dnS at p3
              rw [if_pos cg] at p3
              obtain ⟨rfl, l', p4⟩ := p3
              exact t39 _ _ _ _ (by omega) (by unfold shr; rw [hs]; exact ⟨by omega, hk1.tr p2 hn1, rfl, l', p4⟩)
            · rw [if_neg cg] at hs
              unfold dnS at p3
              rw [if_neg cg] at p3
              obtain ⟨rfl, p4⟩ := p3
              exact t44 k _ _ _ (by omega) (ihk (k + 1) n2 _ (Q + 1) f2 (by omega) (by omega) (by omega) (hk1.tr p2 hn1) (hC.kp hlt p2 p4) hs u2 (by omega))
      refine r_iload_3 hK dX4_shrinksBy_2 ?_
      refine r_aload_0 hK dX4_shrinksBy_3 ?_
      refine r_get hK fl_X4_10 dX4_shrinksBy_4 (hC.1) rfl ?_
      refine r_callV0 hK (pl_size hQ hC.2.1) lk_X4_44 (rcv_ll hQ hC.2.1) dX4_shrinksBy_7 (fun r1 n2 f2 hp => ?_) (hu := by have := Nat.le_trans hu (Nat.mul_le_mul_left _ (Nat.le_trans hQQ (show i * gs.length ≤ gs.length * gs.length by omega))); omega)
      obtain ⟨rfl, rfl, rfl⟩ := hp
      rw [hC.2.2.1.1]
      refine r_icmp_ge 56 hK dX4_shrinksBy_10 (by omega) (by omega) (fun h10 => ?_) (fun h10 => ?_)
      · exact absurd h10 (by omega)
      · refine r_iload_3 hK dX4_shrinksBy_13 ?_
        refine r_iconstN (c := 1) hK dX4_shrinksBy_14 ?_
        first | refine r_iaddN hK dX4_shrinksBy_15 ?_ | refine r_iadd hK dX4_shrinksBy_15 ?_
        refine r_istore_4 hK dX4_shrinksBy_16 ?_
        exact lpK m (i + 1) _ _ Q _ (by omega) (by omega) hn1 hk1 hC hs hu (by omega)
  refine r_iconstN (c := 0) hK dX4_shrinksBy_0 ?_
  refine r_istore_3 hK dX4_shrinksBy_1 ?_
  exact lpI gs.length 0 n 0 0 f none rfl (by omega) (Nat.le_refl _) (fun _ _ _ => rfl) h rfl (Nat.zero_le _) (Nat.zero_le _)
/-- at most so many units for m gates -/
def tS : Nat → Nat
  | 0 => 0
  | m + 1 => 5 * ((m + 1) * (m + 1)) + tS m
theorem tS_mono : ∀ d m, tS m ≤ tS (m + d)
  | 0, m => Nat.le_refl _
  | d + 1, m => by
    have := tS_mono d m
    show tS m ≤ 5 * ((m + d + 1) * (m + d + 1)) + tS (m + d)
    omega
theorem tS_le : ∀ m, m < 17 → tS m ≤ 7480 := by decide
theorem tS_step {a m : Nat} (h : a < m) : tS a + 5 * (m * m) ≤ tS m := by
  obtain ⟨d, rfl⟩ : ∃ d, m = a + d + 1 := ⟨m - a - 1, by omega⟩
  have := tS_mono d a
  show tS a + 5 * ((a + d + 1) * (a + d + 1)) ≤ 5 * ((a + d + 1) * (a + d + 1)) + tS (a + d)
  omega
set_option maxHeartbeats 4000000 in
theorem ct_cShrinks {G : GT} {Rel : Nat → Hp → Hp → Prop} (hR : RelOK Rel) (hP : Rel = RelP) (hX : GX G) {n : Nat} {f : Hp} {c ll w : Nat} {l : List Nat} {gs : List Gt} (h : CC f c ll l gs) (hl16 : gs.length ≤ 16) (hw : w ≤ 4) (ho : ∀ g ∈ gs, gok w g) : Ct G Rel yX4_shrinks cX4_shrinks 4 none (8) (7480) [.ref c, zI ((rN w : Nat) : Int)] n (f) (fun r n' f' => r = none ∧ n ≤ n' ∧ Kp n f ll f' ∧ ∃ l', CC f' c ll l' (shrAll w 17 gs)) := by
  refine ct_intro [some (.ref c), some (zI ((rN w : Nat) : Int)), none, none] hR rfl (Nat.le_of_ble_eq_true rfl) ?_
  intro K hG hRel hK hRt hnm
  have hQ : kRel K = RelP := by rw [hRel]; exact hP
  have hXK : GX (kG K) := by rw [hG]; exact hX
  have t25 : ∀ (b kd n3 u3 : Nat) (f3 : Hp), kd < 4 → Wx K 10 [some (.ref c), some (zI ((rN w : Nat) : Int)), some (zI (b : Int)), some (zI ((kd + 1 : Nat) : Int))] [] n3 f3 u3 → ∀ x : Int, Wx K 25 [some (.ref c), some (zI ((rN w : Nat) : Int)), some (zI x), some (zI (kd : Int))] [zI (b : Int)] n3 f3 u3 := by
    intro b kd n3 u3 f3 hkd hw2 x
    refine r_istore_2 hK dX4_shrinks_25 ?_
    first | refine r_incN_3 hK dX4_shrinks_26 ?_ | refine r_iinc_3 hK dX4_shrinks_26 ?_
    refine r_goto 10 hK dX4_shrinks_29 ?_
    exact hw2
  have lp : ∀ (m : Nat) (gs1 : List Gt) (l1 : List Nat) (n1 u : Nat) (f1 : Hp) a3, nl a3 = true → gs1.length < m → gs1.length ≤ 16 → (∀ g ∈ gs1, gok w g) → CC f1 c ll l1 gs1 → n ≤ n1 → Kp n f ll f1 → shrAll w m gs1 = shrAll w 17 gs → u + tS gs1.length ≤ 7480 → Wx K 2 [some (.ref c), some (zI ((rN w : Nat) : Int)), some (zI ((1 : Nat) : Int)), a3] [] n1 f1 u := by
    intro m
    induction m with
    | zero => intro gs1 l1 n1 u f1 a3 n3 hm; omega
    | succ m ih =>
      intro gs1 l1 n1 u f1 a3 n3 hm hle16 ho1 hC hn1 hk1 hs hu
      have e1 : shrAll w (m + 1) gs1 = match shrA w gs1 with | none => gs1 | some gs' => shrAll w m gs' := rfl
      obtain ⟨M, hM⟩ : ∃ M, M = gs1.length * gs1.length := ⟨_, rfl⟩
      have hT : gs1.length = 0 ∧ M = 0 ∨ ∃ a, gs1.length = a + 1 ∧ tS gs1.length = 5 * M + tS a := by
        cases hl : gs1.length with
        | zero => exact Or.inl ⟨rfl, by rw [hM, hl]⟩
        | succ a => exact Or.inr ⟨a, rfl, by rw [hM, hl]; rfl⟩
      have hT5 : 5 * M ≤ tS gs1.length := by
        rcases hT with q | ⟨a, q1, q2⟩
        · omega
        · omega
      -- the loop's head behind a try
      have done : ∀ (kd n2 u2 : Nat) (f2 : Hp) (gs' : List Gt) (l' : List Nat), kd < 4 → shrA w gs1 = some gs' → n1 ≤ n2 → Kp n1 f1 ll f2 → CC f2 c ll l' gs' → u2 ≤ u + 5 * M → Wx K 10 [some (.ref c), some (zI ((rN w : Nat) : Int)), some (zI ((1 : Nat) : Int)), some (zI ((kd + 1 : Nat) : Int))] [] n2 f2 u2 := by
        intro kd n2 u2 f2 gs' l' hkd hsA hn2 hk2 hC2 hu2
        obtain ⟨o1, o2⟩ := shrA_ok hw ho1 hsA
        have st := tS_step o2
        rw [← hM] at st
        have go : Wx K 32 [some (.ref c), some (zI ((rN w : Nat) : Int)), some (zI ((1 : Nat) : Int)), some (zI ((kd + 1 : Nat) : Int))] [] n2 f2 u2 := by
          refine r_goto 2 hK dX4_shrinks_32 ?_
          refine ih gs' l' n2 u2 f2 _ rfl (by omega) (by omega) o1 hC2 (by omega) (hk1.tr hk2 hn1) ?_ (by omega)
          rw [← hs, e1, hsA]
        refine r_iload_3 hK dX4_shrinks_10 ?_
        refine r_iconstN (c := 3) hK dX4_shrinks_11 ?_
        refine r_icmp_gt 32 hK dX4_shrinks_12 (by omega) (by omega) (fun h12 => ?_) (fun h12 => ?_)
        · exact go
        · refine r_iload_2 hK dX4_shrinks_15 ?_
          refine r_if_ne 32 hK dX4_shrinks_16 (by omega) (fun h16 => ?_) (fun h16 => ?_)
          · exact go
          · exact absurd h16 (by omega)
      have hA : shrA w gs1 = (shr w 1 gs1).or ((shr w 2 gs1).or (shr w 3 gs1)) := rfl
      -- kinds one by one
      have kind : ∀ (p kd n2 u2 : Nat) (f2 : Hp), kd + p = 4 → 1 ≤ kd → n1 ≤ n2 → Kp n1 f1 ll f2 → CC f2 c ll l1 gs1 → u2 + (if kd ≤ 2 then 2 * M else 0) + (if kd ≤ 3 then 3 * M else 0) ≤ u + 5 * M → (∀ j, 1 ≤ j → j < kd → shr w j gs1 = none) → Wx K 10 [some (.ref c), some (zI ((rN w : Nat) : Int)), some (zI ((0 : Nat) : Int)), some (zI (kd : Int))] [] n2 f2 u2 := by
        intro p
        induction p with
        | zero =>
          intro kd n2 u2 f2 hkd h1 hn2 hk2 hC2 hu2 hno
          have ek : kd = 4 := hkd
          subst ek
          have hN : shrA w gs1 = none := by rw [hA, hno 1 (by omega) (by omega), hno 2 (by omega) (by omega), hno 3 (by omega) (by omega)]; rfl
          have hul : u2 ≤ 7480 := by omega
          refine r_iload_3 hK dX4_shrinks_10 ?_
          refine r_iconstN (c := 3) hK dX4_shrinks_11 ?_
          refine r_icmp_gt 32 hK dX4_shrinks_12 (by omega) (by omega) (fun h12 => ?_) (fun h12 => ?_)
          · refine r_goto 2 hK dX4_shrinks_32 ?_
            refine r_iload_2 hK dX4_shrinks_2 ?_
            refine r_if_eq 35 hK dX4_shrinks_3 (by omega) (fun h3 => ?_) (fun h3 => ?_)
            · refine r_vret hK hRt dX4_shrinks_35 ⟨rfl, by omega, hk1.tr hk2 hn1, l1, ?_⟩ hul
              rw [← hs, e1, hN]
              exact hC2
            · exact absurd rfl h3
          · exact absurd h12 (by omega)
        | succ p ihp =>
          intro kd n2 u2 f2 hkd h1 hn2 hk2 hC2 hu2 hno
          have hkr : kd = 1 ∨ kd = 2 ∨ kd = 3 := by omega
          have hUr : uR kd * M + u2 + (if kd + 1 ≤ 2 then 2 * M else 0) + (if kd + 1 ≤ 3 then 3 * M else 0) ≤ u + 5 * M := by
            rcases hkr with q | q | q <;> subst q <;> simp [uR] at hu2 ⊢ <;> omega
          have hul : u2 + uR kd * (gs1.length * gs1.length) ≤ 7480 := by rw [← hM]; omega
          refine r_fact hK (fun _ hno2 => ?_)
          have hlt : ∀ j e, f2 j = some e → j < n2 := fun j e q => by
            by_cases z : j < n2
            · exact z
            · rw [hno2 j (by omega)] at q; cases q
          refine r_iload_3 hK dX4_shrinks_10 ?_
          refine r_iconstN (c := 3) hK dX4_shrinks_11 ?_
          refine r_icmp_gt 32 hK dX4_shrinks_12 (by omega) (by omega) (fun h12 => ?_) (fun h12 => ?_)
          · exact absurd h12 (by omega)
          · refine r_iload_2 hK dX4_shrinks_15 ?_
            refine r_if_ne 32 hK dX4_shrinks_16 (by omega) (fun h16 => ?_) (fun h16 => ?_)
            · exact absurd rfl h16
            · refine r_aload_0 hK dX4_shrinks_19 ?_
              refine r_iload_3 hK dX4_shrinks_20 ?_
              refine r_iload_1 hK dX4_shrinks_21 ?_
              refine r_callV2 hK (ct_cShrBy hK.rel hQ hXK hkr hC2 hle16 hw ho1) lk_X4_102 (Rcv.raw hK.rel hC2.1 rfl) dX4_shrinks_22 (fun r1 n3 f3 hp => ?_) (hu := hul)
              obtain ⟨p1, p2, p3⟩ := hp
              cases hsr : shr w kd gs1 with
              | none =>
                rw [hsr] at p3
                obtain ⟨rfl, p4⟩ := p3
                refine t25 0 kd n3 _ f3 (by omega) ?_ _
                refine ihp (kd + 1) n3 _ f3 (by omega) (by omega) (by omega) (hk2.tr p2 hn2) (hC2.kp hlt p2 p4) (by rw [← hM]; omega) (fun j j1 j2 => ?_)
                by_cases q : j = kd
                · rw [q]; exact hsr
                · exact hno j j1 (by omega)
              | some gs' =>
                rw [hsr] at p3
                obtain ⟨rfl, l', p4⟩ := p3
                refine t25 1 kd n3 _ f3 (by omega) ?_ _
                refine done kd n3 _ f3 gs' l' (by omega) ?_ (by omega) (hk2.tr p2 hn2) p4 (by rw [← hM]; omega)
                rw [hA]
                rcases hkr with q | q | q
                · rw [q] at hsr; rw [hsr]; rfl
                · rw [q] at hsr hno; rw [hno 1 (by omega) (by omega), hsr]; rfl
                · rw [q] at hsr hno; rw [hno 1 (by omega) (by omega), hno 2 (by omega) (by omega), hsr]; rfl
      refine r_iload_2 hK dX4_shrinks_2 ?_
      refine r_if_eq 35 hK dX4_shrinks_3 (by omega) (fun h3 => ?_) (fun h3 => ?_)
      · exact absurd h3 (by omega)
      · refine r_iconstN (c := 0) hK dX4_shrinks_6 ?_
        refine r_istore_2 hK dX4_shrinks_7 ?_
        refine r_iconstN (c := 1) hK dX4_shrinks_8 ?_
        refine r_istore_3 hK dX4_shrinks_9 ?_
        exact kind 3 1 n1 u f1 rfl (Nat.le_refl _) (Nat.le_refl _) (fun _ _ _ => rfl) hC (by simp; omega) (fun j j1 j2 => by omega)
  refine r_iconstN (c := 1) hK dX4_shrinks_0 ?_
  refine r_istore_2 hK dX4_shrinks_1 ?_
  exact lp 17 gs l n 0 f none rfl (by omega) hl16 ho h (Nat.le_refl _) (fun _ _ _ => rfl) rfl (by have := tS_le gs.length (by omega); omega)
