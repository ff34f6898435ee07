set_option maxRecDepth 100000
/-! ===== cascades in the picture ===== -/
theorem RelP.frame {n n' : Nat} {f g g' : Hp} (h : RelP n f g) (hn0 : ∀ id, n ≤ id → g id = none) (hg : ∀ x, x < n → g' x = g x) (hn : n ≤ n') : RelP n' f g' := by
  obtain ⟨h1, ow, h2, h3, h4⟩ := h
  have lt : ∀ j x, f j = some x → j < n := fun j x hj => by
    by_cases c : j < n
    · exact c
    · have hz := hn0 j (by omega)
      cases hr : rawE x with
      | true => rw [h1 j x hj hr] at hz; cases hz
      | false => obtain ⟨a, b, q⟩ := (h2 j x hj hr).some; rw [q] at hz; cases hz
  exact ⟨fun id e hf hr => by rw [hg id (lt id e hf)]; exact h1 id e hf hr, ow, fun id e hf hr => (h2 id e hf hr).ext (hg id (lt id e hf)) (fun x hx => hg x (h3 id e x hf hr hx).2), fun id e x hf hr hx => ⟨(h3 id e x hf hr hx).1, by have := (h3 id e x hf hr hx).2; omega⟩, h4⟩
/-- a cascade c with its list ll of elements l, gates gs -/
def CC (f : Hp) (c ll : Nat) (l : List Nat) (gs : List Gt) : Prop := f c = some (.inl (4, [.ref ll])) ∧ f ll = some (cLL l) ∧ GL f l gs ∧ l.length < 1000000
theorem GL.raw {n : Nat} {f g : Hp} {l : List Nat} {gs : List Gt} (h : GL f l gs) (h1 : ∀ id e, f id = some e → rawE e = true → g id = some e) : GL g l gs := ⟨h.1, fun i hi => h1 _ _ (h.2 i hi) rfl⟩
/-- an answer; what was there stays, some garbage is new -/
def Pg (v : Value) (n : Nat) (f : Hp) : Pt_ := fun r n' f' => r = some v ∧ n ≤ n' ∧ f' = f
theorem pc_made2 {G : GT} {Rel : Nat → Hp → Hp → Prop} (hP : Rel = RelP) (hX : GX G) {n : Nat} {f : Hp} {c ll x m : Nat} {l : List Nat} {gs : List Gt} (h : CC f c ll l gs) (hb : ∀ q ∈ gs, gB q) (hx : x < 64) (hm : m ≤ gs.length) : Ct G Rel yX4_made_2 cX4_made_2 6 (some .int) 6 1 [.ref c, zI (x : Int), zI (m : Int)] n f (Pg (zI ((run (gs.take m) x : Nat) : Int)) n f) := by
  subst hP
  obtain ⟨c1, c2, c3, c4⟩ := h
  refine Ct.lift (fun g hg hn0 h300 => ?_)
  have hg' := hg
  obtain ⟨h1, ow, h2, h3, h4⟩ := hg
  refine (rw_made RelId_ok hX hn0 (h1 c _ c1 rfl) (h2 ll _ c2 rfl).ll c4 (c3.raw (n := n) h1) hb hx (by rw [c3.1]; exact hm)).mono ?_
  rintro r n' g' ⟨rfl, rfl, hfr⟩ hn'
  exact ⟨f, ⟨rfl, by omega, rfl⟩, hg'.frame hn0 hfr (by omega)⟩
theorem pc_becomes {G : GT} {Rel : Nat → Hp → Hp → Prop} (hP : Rel = RelP) (hX : GX G) {n : Nat} {f : Hp} {c ll c2 ll2 : Nat} {l l2 : List Nat} {gs2 : List Gt} (hc : f c = some (.inl (4, [.ref ll]))) (hll : f ll = some (cLL l)) (h2c : CC f c2 ll2 l2 gs2) (hne : ll ≠ ll2) (hs : l2.length ≤ 16) : Ct G Rel yX4_becomes cX4_becomes 3 none 6 17 [.ref c, .ref c2] n f (fun r n' f' => r = none ∧ n ≤ n' ∧ f' = up f ll (cLL l2)) := by
  subst hP
  obtain ⟨d1, d2, d3, d4⟩ := h2c
  refine Ct.lift (fun g hg hn0 h300 => ?_)
  obtain ⟨h1, ow, h2, h3, h4⟩ := hg
  have no : ∀ k e x y, f x = some e → rawE e = false → f k = some y → k ∉ ow x := fun k e x y hx hr hk q => by have := (h3 x e k hx hr q).1; rw [hk] at this; cases this
  refine (rw_becomes RelId_ok hX hn0 (h1 c _ hc rfl) (h1 c2 _ d1 rfl) (h2 ll _ hll rfl).ll (h2 ll2 _ d2 rfl).ll hne (no ll _ ll2 _ d2 rfl hll) (no ll2 _ ll _ hll rfl d2) (fun y hy hy2 => hne (h4 ll ll2 _ _ y hll rfl d2 rfl hy hy2)) ⟨no c _ ll _ hll rfl hc, no c2 _ ll _ hll rfl d1⟩ hs (d3.raw (n := n) h1) (fun y hy => ?_)).mono ?_
  · obtain ⟨i, hi, e⟩ := List.getElem_of_mem hy
    have := d3.2 i hi
    rw [List.getD_eq_getElem?_getD, List.getElem?_eq_getElem hi] at this
    exact no y _ ll _ hll rfl (by rw [← e]; exact this)
  · rintro r n' g' ⟨rfl, hle, ns', hL', hown, hfr⟩ hn'
    exact ⟨_, ⟨rfl, hle, rfl⟩, RelP.set h1 h2 h3 h4 hn0 ⟨_, hll, Or.inr ⟨rfl, rfl⟩⟩ (Or.inl ⟨_, rfl, hL'⟩) hfr (fun x hx => Or.inr (hown x hx)) hle⟩
set_option maxHeartbeats 4000000 in
theorem ct_isIn0 {G : GT} {Rel : Nat → Hp → Hp → Prop} (hR : RelOK Rel) {n : Nat} {f : Hp} {v a b : Int} (hv : inR v) (ha : inR a) (hb : inR b) : Ct G Rel yX0_isIn cX0_isIn 3 (some .boolean) (1) (0) [zI v, zI a, zI b] n (f) (Pu (zB (a ≤ v ∧ v ≤ b)) n f) := by
  refine ct_intro [some (zI v), some (zI a), some (zI b)] hR rfl (Nat.le_of_ble_eq_true rfl) ?_
  intro K hG hRel hK hRt hnm
  refine r_iload_0 hK dX0_isIn_0 ?_
  refine r_iload_1 hK dX0_isIn_1 ?_
  refine r_icmp_lt 14 hK dX0_isIn_2 (by omega) (by omega) (fun h2 => ?_) (fun h2 => ?_)
  · refine r_iconstN (c := 0) hK dX0_isIn_14 ?_
    exact r_zret hK hRt dX0_isIn_15 rfl ⟨by rw [zB_f (by omega)]; rfl, rfl, rfl⟩
  · refine r_iload_0 hK dX0_isIn_5 ?_
    refine r_iload_2 hK dX0_isIn_6 ?_
    refine r_icmp_gt 14 hK dX0_isIn_7 (by omega) (by omega) (fun h7 => ?_) (fun h7 => ?_)
    · refine r_iconstN (c := 0) hK dX0_isIn_14 ?_
      exact r_zret hK hRt dX0_isIn_15 rfl ⟨by rw [zB_f (by omega)]; rfl, rfl, rfl⟩
    · refine r_iconstN (c := 1) hK dX0_isIn_10 ?_
      refine r_goto 15 hK dX0_isIn_11 ?_
      exact r_zret hK hRt dX0_isIn_15 rfl ⟨by rw [zB_t (by omega)]; rfl, rfl, rfl⟩
set_option maxHeartbeats 4000000 in
theorem ct_has0 {G : GT} {Rel : Nat → Hp → Hp → Prop} (hR : RelOK Rel) {n : Nat} {f : Hp} {s k : Nat} (hs : s < 2147483648) (hk : k < 32) : Ct G Rel yX0_has cX0_has 2 (some .boolean) (1) (0) [zI (s : Int), zI (k : Int)] n (f) (Pu (zB (s.testBit k = true)) n f) := by
  refine ct_intro [some (zI (s : Int)), some (zI (k : Int))] hR rfl (Nat.le_of_ble_eq_true rfl) ?_
  intro K hG hRel hK hRt hnm
  have h1 : s >>> k &&& 1 < 2 := Nat.lt_of_le_of_lt Nat.and_le_right (by decide)
  have h2 := testBit_mod s k
  refine r_iload_0 hK dX0_has_0 ?_
  refine r_iload_1 hK dX0_has_1 ?_
  refine r_ishr hK dX0_has_2 (by omega) (by omega) ?_
  refine r_iconstN (c := 1) hK dX0_has_3 ?_
  first | refine r_iand hK dX0_has_4 ?_ | refine r_andnot hK dX0_has_4 (by omega) ?_
  refine r_iconstN (c := 1) hK dX0_has_5 ?_
  refine r_icmp_ne 13 hK dX0_has_6 (by omega) (by omega) (fun h6 => ?_) (fun h6 => ?_)
  · refine r_iconstN (c := 0) hK dX0_has_13 ?_
    exact r_zret hK hRt dX0_has_14 rfl ⟨by rw [zB_f (by rw [← h2]; omega)]; rfl, rfl, rfl⟩
  · refine r_iconstN (c := 1) hK dX0_has_9 ?_
    refine r_goto 14 hK dX0_has_10 ?_
    exact r_zret hK hRt dX0_has_14 rfl ⟨by rw [zB_t (by rw [← h2]; omega)]; rfl, rfl, rfl⟩
set_option maxHeartbeats 4000000 in
theorem ct_cSize {G : GT} {Rel : Nat → Hp → Hp → Prop} (hR : RelOK Rel) (hP : Rel = RelP) (hX : GX G) {n : Nat} {f : Hp} {c ll : Nat} {l : List Nat} {gs : List Gt} (h : CC f c ll l gs) : Ct G Rel yX4_size cX4_size 1 (some .int) (2) (0) [.ref c] n (f) (Pu (zI ((gs.length : Nat) : Int)) n f) := by
  refine ct_intro [some (.ref c)] hR rfl (Nat.le_of_ble_eq_true rfl) ?_
  intro K hG hRel hK hRt hnm
  have hQ : kRel K = RelP := by rw [hRel]; exact hP
  have hXK : GX (kG K) := by rw [hG]; exact hX
  obtain ⟨c1, c2, c3, c4⟩ := h
  refine r_aload_0 hK dX4_size_0 ?_
  refine r_get hK fl_X4_10 dX4_size_1 (c1) rfl ?_
  refine r_pV0 hK (pl_size hQ c2) lk_X4_44 (rcv_ll hQ c2) dX4_size_4 ?_
  exact r_iret hK hRt dX4_size_7 ⟨by rw [c3.1], rfl, rfl⟩
set_option maxHeartbeats 4000000 in
theorem ct_cAt {G : GT} {Rel : Nat → Hp → Hp → Prop} (hR : RelOK Rel) (hP : Rel = RelP) (hX : GX G) {n : Nat} {f : Hp} {c ll k : Nat} {l : List Nat} {gs : List Gt} (h : CC f c ll l gs) (hk : k < gs.length) : Ct G Rel yX4_at cX4_at 2 (some (.object "BackLogic$Gate")) (4) (0) [.ref c, zI (k : Int)] n (f) (Pu (.ref (l.getD k 0)) n f) := by
  refine ct_intro [some (.ref c), some (zI (k : Int))] hR rfl (Nat.le_of_ble_eq_true rfl) ?_
  intro K hG hRel hK hRt hnm
  have hQ : kRel K = RelP := by rw [hRel]; exact hP
  have hXK : GX (kG K) := by rw [hG]; exact hX
  obtain ⟨c1, c2, c3, c4⟩ := h
  have hg := c3.2 k (by rw [c3.1]; exact hk)
  refine r_aload_0 hK dX4_at_0 ?_
  refine r_get hK fl_X4_10 dX4_at_1 (c1) rfl ?_
  refine r_iload_1 hK dX4_at_4 ?_
  refine r_pV1 hK (pl_get hQ c2 (by rw [c3.1]; exact hk) c4) lk_X4_48 (rcv_ll hQ c2) dX4_at_5 ?_
  refine r_cast hK cl_X4_38 (Rcv.raw hK.rel hg rfl) dX4_at_8 ?_
  exact r_aret hK hRt dX4_at_11 ⟨rfl, rfl, rfl⟩
set_option maxHeartbeats 4000000 in
theorem ct_cIsGate {G : GT} {Rel : Nat → Hp → Hp → Prop} (hR : RelOK Rel) (hP : Rel = RelP) (hX : GX G) {n : Nat} {f : Hp} {c ll : Nat} {l : List Nat} {gs : List Gt} {z : Int} (h : CC f c ll l gs) (hz : inR z) : Ct G Rel yX4_isGate cX4_isGate 2 (some .boolean) (2) (0) [.ref c, zI z] n (f) (Pu (zB (0 ≤ z ∧ z < gs.length)) n f) := by
  refine ct_intro [some (.ref c), some (zI z)] hR rfl (Nat.le_of_ble_eq_true rfl) ?_
  intro K hG hRel hK hRt hnm
  have hQ : kRel K = RelP := by rw [hRel]; exact hP
  have hXK : GX (kG K) := by rw [hG]; exact hX
  obtain ⟨c1, c2, c3, c4⟩ := h
  have e : zB (((0 : Nat) : Int) ≤ z ∧ z ≤ ((l.length : Nat) : Int) - ((1 : Nat) : Int)) = zB (0 ≤ z ∧ z < gs.length) := zB_iff (by rw [c3.1]; omega)
  refine r_iload_1 hK dX4_isGate_0 ?_
  refine r_iconstN (c := 0) hK dX4_isGate_1 ?_
  refine r_aload_0 hK dX4_isGate_2 ?_
  refine r_get hK fl_X4_10 dX4_isGate_3 (c1) rfl ?_
  refine r_pV0 hK (pl_size hQ c2) lk_X4_44 (rcv_ll hQ c2) dX4_isGate_6 ?_
  refine r_iconstN (c := 1) hK dX4_isGate_9 ?_
  refine r_isub hK dX4_isGate_10 ?_
  refine r_pSN3 hK (ct_isIn0 hK.rel hz (by omega) (by omega)) lk_X4_52 dX4_isGate_11 ?_
  exact r_bret hK hRt dX4_isGate_14 ⟨by rw [e], rfl, rfl⟩
set_option maxHeartbeats 4000000 in
theorem ct_cMade {G : GT} {Rel : Nat → Hp → Hp → Prop} (hR : RelOK Rel) (hP : Rel = RelP) (hX : GX G) {n : Nat} {f : Hp} {c ll x : Nat} {l : List Nat} {gs : List Gt} (h : CC f c ll l gs) (hb : ∀ q ∈ gs, gB q) (hx : x < 64) : Ct G Rel yX4_made cX4_made 2 (some .int) (7) (1) [.ref c, zI (x : Int)] n (f) (Pg (zI ((run gs x : Nat) : Int)) n f) := by
  refine ct_intro [some (.ref c), some (zI (x : Int))] hR rfl (Nat.le_of_ble_eq_true rfl) ?_
  intro K hG hRel hK hRt hnm
  have hQ : kRel K = RelP := by rw [hRel]; exact hP
  have hXK : GX (kG K) := by rw [hG]; exact hX
  obtain ⟨c1, c2, c3, c4⟩ := id h
  refine r_aload_0 hK dX4_made_0 ?_
  refine r_iload_1 hK dX4_made_1 ?_
  refine r_aload_0 hK dX4_made_2 ?_
  refine r_get hK fl_X4_10 dX4_made_3 (c1) rfl ?_
  refine r_pV0 hK (pl_size hQ c2) lk_X4_44 (rcv_ll hQ c2) dX4_made_6 ?_
  rw [c3.1]
  refine r_callV2 hK (pc_made2 hQ hXK h hb hx (Nat.le_refl _)) lk_X4_62 (Rcv.raw hK.rel c1 rfl) dX4_made_9 (fun r n1 f1 hp => ?_)
  obtain ⟨rfl, hle, rfl⟩ := hp
  rw [List.take_length]
  exact r_iret hK hRt dX4_made_12 ⟨rfl, hle, rfl⟩
/-- some numbers of an array are told anew -/
def oA (R : Nat) (p : Nat → Nat) (h : Nat → Value) : Nat → Value := fun j => if j < R then zI ((p j : Nat) : Int) else h j
theorem oA_s {R : Nat} {p : Nat → Nat} {h : Nat → Value} : updV (oA R p h) R (zI ((p R : Nat) : Int)) = oA (R + 1) p h := by
  funext j
  unfold updV oA
  by_cases c : j = R
  · rw [if_pos c, if_pos (by omega), c]
  · rw [if_neg c]
    by_cases c2 : j < R
    · rw [if_pos c2, if_pos (by omega)]
    · rw [if_neg c2, if_neg (by omega)]
theorem oA_0 {p : Nat → Nat} {h : Nat → Value} : oA 0 p h = h := by funext j; unfold oA; rw [if_neg (Nat.not_lt_zero _)]
theorem CC.arr {f : Hp} {c ll : Nat} {l : List Nat} {gs : List Gt} {a : Nat} {e e' : E_} (h : CC f c ll l gs) (ha : f a = some e) (he : ∃ t N w, e = .inr (t, N, w)) : CC (up f a e') c ll l gs := by
  obtain ⟨c1, c2, c3, c4⟩ := h
  obtain ⟨t, N, w, he⟩ := he
  subst he
  refine ⟨?_, ?_, ⟨c3.1, fun i hi => ?_⟩, c4⟩
  · rw [up_n (fun q => by rw [q, ha] at c1; cases c1)]; exact c1
  · rw [up_n (fun q => by rw [q, ha] at c2; cases c2)]; exact c2
  · rw [up_n (fun q => by have := c3.2 i hi; rw [q, ha] at this; cases this)]; exact c3.2 i hi
set_option maxHeartbeats 4000000 in
theorem ct_cOrders {G : GT} {Rel : Nat → Hp → Hp → Prop} (hR : RelOK Rel) (hP : Rel = RelP) (hX : GX G) {n : Nat} {f : Hp} {c ll a N R : Nat} {l : List Nat} {gs : List Gt} {h0 : Nat → Value} (h : CC f c ll l gs) (hb : ∀ q ∈ gs, gB q) (ha : f a = some (.inr (0, N, h0))) (hR64 : R ≤ 64) (hRN : R ≤ N) (hN : N < 2147483648) : Ct G Rel yX4_orders cX4_orders 4 none (8) (64) [.ref c, .ref a, zI (R : Int)] n (f) (fun r n' f' => r = none ∧ n ≤ n' ∧ f' = up f a (.inr (0, N, oA R (run gs) h0))) := by
  refine ct_intro [some (.ref c), some (.ref a), some (zI (R : Int)), none] hR rfl (Nat.le_of_ble_eq_true rfl) ?_
  intro K hG hRel hK hRt hnm
  have hQ : kRel K = RelP := by rw [hRel]; exact hP
  have hXK : GX (kG K) := by rw [hG]; exact hX
  have lp : ∀ (d x n1 u : Nat), x + d = R → n ≤ n1 → u ≤ x → Wx K 2 [some (.ref c), some (.ref a), some (zI (R : Int)), some (zI (x : Int))] [] n1 (up f a (.inr (0, N, oA x (run gs) h0))) u := by
    intro d
    induction d with
    | zero =>
      intro x n1 u hx hn1 hu
      have : x = R := hx
      subst this
      refine r_iload_3 hK dX4_orders_2 ?_
      refine r_iload_2 hK dX4_orders_3 ?_
      refine r_icmp_ge 21 hK dX4_orders_4 (by omega) (by omega) (fun h4 => ?_) (fun h4 => ?_)
      · exact r_vret hK hRt dX4_orders_21 ⟨rfl, hn1, rfl⟩ (by omega)
      · exact absurd h4 (by omega)
    | succ d ih =>
      intro x n1 u hx hn1 hu
      have h' := h.arr (e' := .inr (0, N, oA x (run gs) h0)) ha ⟨_, _, _, rfl⟩
      refine r_iload_3 hK dX4_orders_2 ?_
      refine r_iload_2 hK dX4_orders_3 ?_
      refine r_icmp_ge 21 hK dX4_orders_4 (by omega) (by omega) (fun h4 => ?_) (fun h4 => ?_)
      · exact absurd h4 (by omega)
      · refine r_aload_1 hK dX4_orders_7 ?_
        refine r_iload_3 hK dX4_orders_8 ?_
        refine r_aload_0 hK dX4_orders_9 ?_
        refine r_iload_3 hK dX4_orders_10 ?_
        refine r_callV1 hK (ct_cMade hK.rel hQ hXK h' hb (by omega)) lk_X4_65 (Rcv.raw hK.rel h'.1 rfl) dX4_orders_11 (fun r n2 f2 hp => ?_) (hu := by omega)
        obtain ⟨rfl, hle, rfl⟩ := hp
        refine r_iast hK dX4_orders_14 (up_s _ _ _) (by omega) ?_ hN
        rw [up_up, oA_s]
        first | refine r_incN_3 hK dX4_orders_15 ?_ | refine r_iinc_3 hK dX4_orders_15 ?_
        refine r_goto 2 hK dX4_orders_18 ?_
        exact ih (x + 1) n2 _ (by omega) (by omega) (by omega)
  refine r_iconstN (c := 0) hK dX4_orders_0 ?_
  refine r_istore_3 hK dX4_orders_1 ?_
  have := lp R 0 n 0 (by omega) (Nat.le_refl _) (Nat.le_refl _)
  rw [oA_0, show up f a (.inr (0, N, h0)) = f from by funext j; unfold up; by_cases q : j = a; rw [if_pos q, q]; exact ha.symm; rw [if_neg q]] at this
  exact this
theorem new12 {G : GT} : ∃ r, cls[12]? = some r ∧ r.2.2 ≤ 12 * 1 ∧ 1 ≤ 1 ∧ ∀ j, j < r.2.2 → defaultValue (tyC 12 j) = cv G (vp_V [zI 0, zI 0, .null, .null] j) := ⟨_, rfl, by decide, by decide, fun j hj => by
  have h3 : j = 0 ∨ j = 1 ∨ j = 2 ∨ j = 3 := by have : j < 4 := hj; omega
  rcases h3 with e | e | e | e <;> subst e <;> rfl⟩
theorem new4 {G : GT} : ∃ r, cls[4]? = some r ∧ r.2.2 ≤ 12 * 1 ∧ 1 ≤ 1 ∧ ∀ j, j < r.2.2 → defaultValue (tyC 4 j) = cv G (vp_V [.null] j) := ⟨_, rfl, by decide, by decide, fun j hj => by
  have h3 : j = 0 := by have : j < 1 := hj; omega
  subst h3; rfl⟩
-- a new cascade: the object k, its list the next id
set_option maxHeartbeats 4000000 in
theorem ct_cInit {G : GT} {Rel : Nat → Hp → Hp → Prop} (hR : RelOK Rel) (hP : Rel = RelP) (hX : GX G) {n : Nat} {f : Hp} {k : Nat} (h : f k = some (.inl (4, [.null]))) (hk : k ≠ n) : Ct G Rel yX4_init cX4_init 1 none (5) (1) [.ref k] n (f) (fun r n' f' => r = none ∧ n' = n + 1 ∧ f' = up (up f n (cLL [])) k (.inl (4, [.ref n]))) := by
  refine ct_intro [some (.ref k)] hR rfl (Nat.le_of_ble_eq_true rfl) ?_
  intro K hG hRel hK hRt hnm
  have hQ : kRel K = RelP := by rw [hRel]; exact hP
  have hXK : GX (kG K) := by rw [hG]; exact hX
  refine r_aload_0 hK dX4_init_0 ?_
  refine r_objInit hK oi_X4_1 dX4_init_1 ?_
  refine r_aload_0 hK dX4_init_4 ?_
  refine r_new (fs := [zI 0, zI 0, .null, .null]) 1 hK nw_X4_7 dX4_init_5 (by decide) ?_ (hw := new12)
  refine r_dup hK dX4_init_8 ?_
  refine r_callI0 hK (pl_init hQ (up_s _ _ _)) lk_X4_9 dX4_init_9 (fun r n1 f1 hp => ?_)
  obtain ⟨rfl, rfl, rfl⟩ := hp
  rw [up_up]
  refine r_put hK fl_X4_10 dX4_init_12 ((up_n hk).trans h) (by simp) ?_ (hfin := ⟨_, rfl, Or.inr ⟨hnm, rfl⟩⟩)
  exact r_vret hK hRt dX4_init_15 ⟨rfl, rfl, rfl⟩
theorem CC.fresh {f : Hp} {c ll : Nat} {l : List Nat} {gs : List Gt} {a : Nat} {e' : E_} (h : CC f c ll l gs) (ha : f a = none) : CC (up f a e') c ll l gs := by
  obtain ⟨c1, c2, c3, c4⟩ := h
  refine ⟨?_, ?_, ⟨c3.1, fun i hi => ?_⟩, c4⟩
  · rw [up_n (fun q => by rw [q, ha] at c1; cases c1)]; exact c1
  · rw [up_n (fun q => by rw [q, ha] at c2; cases c2)]; exact c2
  · rw [up_n (fun q => by have := c3.2 i hi; rw [q, ha] at this; cases this)]; exact c3.2 i hi
set_option maxHeartbeats 4000000 in
theorem ct_cCopy {G : GT} {Rel : Nat → Hp → Hp → Prop} (hR : RelOK Rel) (hP : Rel = RelP) (hX : GX G) {n : Nat} {f : Hp} {c ll : Nat} {l : List Nat} {gs : List Gt} (h : CC f c ll l gs) (hs : l.length ≤ 16) (hn0 : f n = none ∧ f (n + 1) = none) : Ct G Rel yX4_copy cX4_copy 2 (some (.object "BackLogic$Cascade")) (7) (19) [.ref c] n (f) (fun r n' f' => r = some (.ref n) ∧ n + 2 ≤ n' ∧ f' = up (up f n (.inl (4, [.ref (n + 1)]))) (n + 1) (cLL l)) := by
  refine ct_intro [some (.ref c), none] hR rfl (Nat.le_of_ble_eq_true rfl) ?_
  intro K hG hRel hK hRt hnm
  have hQ : kRel K = RelP := by rw [hRel]; exact hP
  have hXK : GX (kG K) := by rw [hG]; exact hX
  have h1 : CC (up (up (up f n (.inl (4, [.null]))) (n + 1) (cLL [])) n (.inl (4, [.ref (n + 1)]))) c ll l gs := by
    have q1 := h.fresh (e' := .inl (4, [.null])) hn0.1
    have q2 := q1.fresh (a := n + 1) (e' := cLL []) (by rw [up_n (by omega)]; exact hn0.2)
    obtain ⟨c1, c2, c3, c4⟩ := q2
    have nn : ∀ j e, f j = some e → j ≠ n := fun j e q z => by rw [z, hn0.1] at q; cases q
    obtain ⟨b1, b2, b3, b4⟩ := h
    exact ⟨by rw [up_n (nn _ _ b1)]; exact c1, by rw [up_n (nn _ _ b2)]; exact c2, ⟨c3.1, fun i hi => by rw [up_n (nn _ _ (b3.2 i hi))]; exact c3.2 i hi⟩, c4⟩
  have hllne : n + 1 ≠ ll := fun q => by have := h.2.1; rw [← q, hn0.2] at this; cases this
  refine r_new (fs := [.null]) 1 hK nw_X4_11 dX4_copy_0 (by decide) ?_ (hw := new4)
  refine r_dup hK dX4_copy_3 ?_
  refine r_callI0 hK (ct_cInit hK.rel hQ hXK (up_s _ _ _) (by omega)) lk_X4_16 dX4_copy_4 (fun r n1 f1 hp => ?_)
  obtain ⟨rfl, rfl, rfl⟩ := hp
  refine r_astore_1 hK dX4_copy_7 ?_
  refine r_aload_1 hK dX4_copy_8 ?_
  refine r_aload_0 hK dX4_copy_9 ?_
  refine r_callV1 hK (pc_becomes hQ hXK (up_s _ _ _) ((up_n (by omega)).trans (up_s _ _ _)) h1 hllne hs) lk_X4_17 (Rcv.raw (ci := 4) (fs := [.ref (n + 1)]) hK.rel (up_s _ _ _) rfl) dX4_copy_10 (fun r n1 f1 hp => ?_)
  obtain ⟨rfl, hle, rfl⟩ := hp
  refine r_aload_1 hK dX4_copy_13 ?_
  refine r_aret hK hRt dX4_copy_14 ⟨rfl, by omega, ?_⟩
  funext j
  by_cases q1 : j = n + 1
  · subst q1; simp [up]
  · by_cases q2 : j = n
    · subst q2; simp [up]
    · simp [up, q1, q2]
