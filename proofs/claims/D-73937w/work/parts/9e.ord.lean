set_option maxRecDepth 100000
/-! ===== BackLogic.order: rounds by what was had ===== -/
def mnO (p : Nat → Nat) (x : Nat) : Nat → Nat
  | 0 => x
  | n + 1 => if itr p n x < mnO p x n then itr p n x else mnO p x n
theorem mnO_le {p : Nat → Nat} {x : Nat} : ∀ n j, j < n → mnO p x n ≤ itr p j x
  | 0, j, h => absurd h (Nat.not_lt_zero _)
  | n + 1, j, h => by
    unfold mnO
    by_cases c : j = n
    · rw [c]; split <;> omega
    · have := mnO_le (p := p) (x := x) n j (by omega)
      split <;> omega
theorem mnO_at {p : Nat → Nat} {x : Nat} : ∀ n, ∃ j, (j < n ∨ j = 0) ∧ mnO p x n = itr p j x
  | 0 => ⟨0, Or.inr rfl, rfl⟩
  | n + 1 => by
    obtain ⟨j, h1, h2⟩ := mnO_at (p := p) (x := x) n
    unfold mnO
    split
    · exact ⟨n, by omega, rfl⟩
    · exact ⟨j, by omega, h2⟩
/-- the first time that a row is met again -/
def Cy (p : Nat → Nat) (x c : Nat) : Prop := 1 ≤ c ∧ itr p c x = x ∧ ∀ i, 1 ≤ i → i < c → itr p i x ≠ x
theorem cy_ex {p q : Nat → Nat} {R x : Nat} (h : ∀ x, x < R → p x < R) (hq : ∀ x, x < R → q (p x) = x) (hx : x < R) : ∃ c, Cy p x c ∧ c ≤ R := by
  obtain ⟨j, h1, h2⟩ := cyc_ret h hq hx
  have key : ∀ m i, 1 ≤ i → i + m = j + 1 → (∀ k, 1 ≤ k → k < i → itr p k x ≠ x) → ∃ c, Cy p x c ∧ c ≤ R := by
    intro m
    induction m with
    | zero => intro i hi hm hk; exact ⟨i, ⟨hi, by rw [show i = j + 1 by omega]; exact h2, hk⟩, by omega⟩
    | succ m ih =>
      intro i hi hm hk
      by_cases c : itr p i x = x
      · exact ⟨i, ⟨hi, c, hk⟩, by omega⟩
      · refine ih (i + 1) (by omega) (by omega) (fun k a b => ?_)
        by_cases z : k = i
        · rw [z]; exact c
        · exact hk k a (by omega)
  exact key j 1 (by omega) (by omega) (fun k a b => by omega)
theorem cyW_sp {p : Nat → Nat} {x c : Nat} (hc : Cy p x c) : ∀ m n, 1 ≤ n → n ≤ c → c < n + m → cyW p x m (itr p n x) n (mnO p x n) = (c, mnO p x c)
  | 0, n, h1, h2, h3 => by omega
  | m + 1, n, h1, h2, h3 => by
    unfold cyW
    by_cases z : n = c
    · rw [if_pos (by rw [z]; exact hc.2.1), z]
    · rw [if_neg (hc.2.2 n h1 (by omega))]
      have := cyW_sp hc m (n + 1) (by omega) (by omega) (by omega)
      rw [itr_s] at this
      exact this
theorem cyc_sp {p : Nat → Nat} {x c : Nat} (hc : Cy p x c) (h16 : c ≤ 16) : cyc p x = (c, mnO p x c) := by
  have := cyW_sp hc 16 1 (Nat.le_refl _) hc.1 (by omega)
  have e : mnO p x 1 = x := by show (if itr p 0 x < x then _ else x) = x; rw [if_neg (by show ¬ x < x; omega)]
  rw [e] at this
  exact this
theorem itr_mul {p : Nat → Nat} {x c : Nat} (h : itr p c x = x) : ∀ k, itr p (c * k) x = x
  | 0 => rfl
  | k + 1 => by rw [Nat.mul_succ, itr_add, itr_mul h k, h]
/-- back again, from any row of a round -/
theorem itr_back {p : Nat → Nat} {x c : Nat} (hc : Cy p x c) (j : Nat) : ∃ i, itr p i (itr p j x) = x := by
  refine ⟨c * j - j, ?_⟩
  have h1 : j ≤ c * j := Nat.le_mul_of_pos_left j hc.1
  rw [← itr_add, show j + (c * j - j) = c * j by omega]
  exact itr_mul hc.2.1 j
/-- met from a lesser row -/
def Had (p : Nat → Nat) (x y : Nat) : Prop := ∃ x' j, x' < x ∧ itr p j x' = y
theorem had_cyc {p : Nat → Nat} {x c : Nat} (hcy : ∀ y, y ≤ x → ∃ c', Cy p y c') (hc : Cy p x c) : Had p x x ↔ mnO p x c < x := by
  constructor
  · rintro ⟨x', j, h1, h2⟩
    obtain ⟨c', hc'⟩ := hcy x' (by omega)
    obtain ⟨i, hi⟩ := itr_back hc' j
    rw [h2] at hi
    -- x' is in the round of x
    have : ∃ k, k < c ∧ itr p k x = x' := by
      refine ⟨i % c, Nat.mod_lt _ hc.1, ?_⟩
      have e := Nat.div_add_mod i c
      rw [← e, itr_add, itr_mul hc.2.1] at hi
      exact hi
    obtain ⟨k, k1, k2⟩ := this
    have := mnO_le (p := p) (x := x) c k k1
    omega
  · intro h
    obtain ⟨j, -, h2⟩ := mnO_at (p := p) (x := x) c
    obtain ⟨i, hi⟩ := itr_back hc j
    exact ⟨itr p j x, i, by omega, hi⟩
theorem had_no {p : Nat → Nat} {x c i : Nat} (hc : Cy p x c) (h : ¬ Had p x x) : ¬ Had p x (itr p i x) := by
  rintro ⟨x', j, h1, h2⟩
  obtain ⟨k, hk⟩ := itr_back hc i
  exact h ⟨x', j + k, h1, by rw [itr_add, h2]; exact hk⟩
theorem cy_inj {p q : Nat → Nat} {R x c : Nat} (h : ∀ x, x < R → p x < R) (hq : ∀ x, x < R → q (p x) = x) (hx : x < R) (hc : Cy p x c) {i j : Nat} (hij : i < j) (hj : j < c) : itr p i x ≠ itr p j x := by
  intro e
  rw [show j = (j - i) + i by omega, itr_add] at e
  have := itr_inj h hq i x (itr p (j - i) x) hx (itr_lt h _ x hx) e
  exact hc.2.2 (j - i) (by omega) (by omega) this.symm
theorem had_s {p : Nat → Nat} {x c : Nat} (hc : Cy p x c) (y : Nat) : Had p (x + 1) y ↔ Had p x y ∨ ∃ j, j < c ∧ itr p j x = y := by
  constructor
  · rintro ⟨x', j, h1, h2⟩
    by_cases z : x' = x
    · right
      refine ⟨j % c, Nat.mod_lt _ hc.1, ?_⟩
      have e := Nat.div_add_mod j c
      rw [z, ← e, itr_add, itr_mul hc.2.1] at h2
      exact h2
    · left; exact ⟨x', j, by omega, h2⟩
  · rintro (⟨x', j, h1, h2⟩ | ⟨j, h1, h2⟩)
    · exact ⟨x', j, by omega, h2⟩
    · exact ⟨x, j, by omega, h2⟩
theorem had_k {p : Nat → Nat} {x : Nat} (h : Had p x x) (y : Nat) : Had p (x + 1) y ↔ Had p x y := by
  constructor
  · rintro ⟨x', j, h1, h2⟩
    by_cases z : x' = x
    · obtain ⟨x2, k, q1, q2⟩ := h
      exact ⟨x2, k + j, q1, by rw [itr_add, q2, ← z]; exact h2⟩
    · exact ⟨x', j, by omega, h2⟩
  · rintro ⟨x', j, h1, h2⟩
    exact ⟨x', j, by omega, h2⟩
theorem cy1 {p : Nat → Nat} {x c : Nat} (hc : Cy p x c) : c = 1 ↔ p x = x := by
  constructor
  · intro h; have := hc.2.1; rw [h] at this; exact this
  · intro h
    by_cases z : c = 1
    · exact z
    · exact absurd h (hc.2.2 1 (Nat.le_refl _) (by have := hc.1; omega))
def dvB : Nat → Nat → Nat → Bool
  | m, a, b => match m with
    | 0 => b == 0
    | m + 1 => b == 0 || dvB m b (a % b)
theorem dv_b : ((List.range 17).all fun b => (List.range b).all fun r => dvB 6 b r) = true := by decide +kernel
theorem dv_at {a b : Nat} (hb : b < 17) : dvB 7 a b = true := by
  show (b == 0 || dvB 6 b (a % b)) = true
  by_cases c : b = 0
  · rw [c]; rfl
  · have := all_r (all_r dv_b hb) (Nat.mod_lt a (Nat.pos_of_ne_zero c))
    rw [this, Bool.or_true]
theorem ct_xDivM {G : GT} {Rel : Nat → Hp → Hp → Prop} (hR : RelOK Rel) {n : Nat} {f : Hp} : ∀ (m a b : Nat), a < 2147483648 → b < 2147483648 → dvB m a b = true → Ct G Rel yX0_divisor cX0_divisor 2 (some .int) (m + 1) 0 [zI (a : Int), zI (b : Int)] n f (Pu (zI ((Nat.gcd a b : Nat) : Int)) n f) := by
  intro m
  induction m with
  | zero =>
    intro a b ha hb h
    have hb0 : b = 0 := by simpa [dvB] using h
    subst hb0
    refine ct_intro [some (zI (a : Int)), some (zI ((0 : Nat) : Int))] hR rfl (Nat.le_of_ble_eq_true rfl) ?_
    intro K hG hRel hK hRt hnm
    refine r_iload_1 hK dX0_divisor_0 ?_
    refine r_if_ne 8 hK dX0_divisor_1 (by omega) (fun h1 => ?_) (fun h1 => ?_)
    · exact absurd rfl h1 --!
    · refine r_iload_0 hK dX0_divisor_4 ?_
      refine r_goto 15 hK dX0_divisor_5 ?_
      exact r_iret hK hRt dX0_divisor_15 ⟨by rw [Nat.gcd_zero_right], rfl, rfl⟩
  | succ m ih =>
    intro a b ha hb h
    refine ct_intro [some (zI (a : Int)), some (zI (b : Int))] hR rfl (Nat.le_of_ble_eq_true rfl) ?_
    intro K hG hRel hK hRt hnm
    refine r_iload_1 hK dX0_divisor_0 ?_
    refine r_if_ne 8 hK dX0_divisor_1 (by omega) (fun h1 => ?_) (fun h1 => ?_)
    · have hb0 : b ≠ 0 := by omega
      have hmd : a % b < b := Nat.mod_lt _ (by omega)
      have hd : dvB m b (a % b) = true := by
        have h2 : (b == 0 || dvB m b (a % b)) = true := h
        have h3 : (b == 0) = false := by simpa using hb0
        rw [h3] at h2; exact h2
      refine r_iload_1 hK dX0_divisor_8 ?_
      refine r_iload_0 hK dX0_divisor_9 ?_
      refine r_iload_1 hK dX0_divisor_10 ?_
      refine r_irem hK dX0_divisor_11 (by omega) (by omega) (by omega) ?_
      have hih : Ct (kG K) (kRel K) yX0_divisor cX0_divisor 2 (some .int) (m + 1) 0 [zI (b : Int), zI ((a % b : Nat) : Int)] n f (Pu (zI ((Nat.gcd b (a % b) : Nat) : Int)) n f) := by rw [hG, hRel]; exact ih b (a % b) hb (by omega) hd
      refine r_pS2 hK hih lk_X0_273 dX0_divisor_12 ?_ (hdp := by omega)
      exact r_iret hK hRt dX0_divisor_15 ⟨by rw [Nat.gcd_comm a b, Nat.gcd_rec b a, Nat.gcd_comm (a % b) b], rfl, rfl⟩
    · have hb0 : b = 0 := by omega
      subst hb0
      refine r_iload_0 hK dX0_divisor_4 ?_
      refine r_goto 15 hK dX0_divisor_5 ?_
      exact r_iret hK hRt dX0_divisor_15 ⟨by rw [Nat.gcd_zero_right], rfl, rfl⟩
theorem WO.ord {f : Hp} {w : Nat} {gs : List Gt} {pa : List (List Gt)} {sl : Nat → Option (List Gt)} {ni no : Nat} {v p : Nat → Nat} {tp : Nat} {T : Nat → Nat} {pl : Int} (h : WO f w gs pa sl ni no v p tp T pl) (hh : Nat → Value) : KE [354] f (up f 354 (.inr (0, 64, hh))) ∧ WO (up f 354 (.inr (0, 64, hh))) w gs pa sl ni no v p tp T pl := by
  have hk : KE [354] f (up f 354 (.inr (0, 64, hh))) := KE.up1 (by decide) (fun q => h.ng (by decide) q)
  refine ⟨hk, h.ke hk (fun x hx => by have := List.mem_singleton.mp hx; omega) (Or.inl (by decide)) (Or.inl (fun x _ _ z => by have := List.mem_singleton.mp z; omega)) (Or.inl (fun x _ _ z => by have := List.mem_singleton.mp z; omega)) (Or.inl (fun x _ _ z => by have := List.mem_singleton.mp z; omega)) (Or.inr ?_)⟩
  obtain ⟨-, ⟨b, h2⟩, ⟨c, h3⟩, d, h4⟩ := h.2.2.2.2.2.2.2.2.2.2.2
  exact ⟨⟨hh, up_s _ _ _⟩, ⟨b, (up_n (by decide)).trans h2⟩, ⟨c, (up_n (by decide)).trans h3⟩, d, (up_n (by decide)).trans h4⟩
theorem tb_or (a b y : Nat) : (a ||| (1 <<< b)).testBit y = true ↔ a.testBit y = true ∨ b = y := by
  rw [Nat.testBit_or, Nat.one_shiftLeft, Nat.testBit_two_pow]; simp
set_option maxHeartbeats 4000000 in
theorem ct_xOrder {G : GT} {Rel : Nat → Hp → Hp → Prop} (hR : RelOK Rel) (hP : Rel = RelP) (hX : GX G) {n : Nat} {f : Hp} {w : Nat} {gs : List Gt} {pa : List (List Gt)} {sl : Nat → Option (List Gt)} {ni no : Nat} {v p : Nat → Nat} {tp : Nat} {T : Nat → Nat} {pl z : Int} (hz : inR z) (h : WO f w gs pa sl ni no v p tp T pl) (hw : w ≤ 4) (ho : ∀ q ∈ gs, gok w q) : Ct G Rel yX0_order cX0_order 10 (some .int) (9) (64) [.ref 300, zI z] n (f) (Qw (zI (ordS (rN w) (run gs) z)) [354] n f (fun f' => WO f' w gs pa sl ni no v p tp T pl)) := by
  refine ct_intro [some (.ref 300), some (zI z), none, none, none, none, none, none, none, none] hR rfl (Nat.le_of_ble_eq_true rfl) ?_
  intro K hG hRel hK hRt hnm
  have hQ : kRel K = RelP := by rw [hRel]; exact hP
  have hXK : GX (kG K) := by rw [hG]; exact hX
  have h4 := rN4 hw
  have ho4 : ∀ g ∈ gs, gok 4 g := fun g hg => gok4 hw (ho g hg)
  have hb : ∀ q ∈ gs, gB q := fun q hq => (ho4 q hq).gB (by omega)
  obtain ⟨h0, hPW, ⟨l, hc⟩, hCT, hWp, hs, hWpr, hWt, hWf, hWsh, hWte, ⟨or0, hor⟩, hWa⟩ := id h
  obtain ⟨R, hR16⟩ : ∃ R, R = rN w := ⟨_, rfl⟩
  obtain ⟨pp, hpp⟩ : ∃ pp, pp = run gs := ⟨_, rfl⟩
  have hplt : ∀ x, x < R → pp x < R := fun x hx => by rw [hpp, hR16]; exact run_lt (fun g hg => (ho g hg).1) (by omega)
  have hpinv : ∀ x, x < R → run gs.reverse (pp x) = x := fun x hx => by rw [hpp]; exact (run_rv ho (by omega)).2.1
  have hcy : ∀ x, x < R → ∃ c, Cy pp x c ∧ c ≤ R := fun x hx => cy_ex hplt hpinv hx
  rw [← hR16, ← hpp] at hRt
  obtain ⟨f1, hf1⟩ : ∃ f1, f1 = up f 354 (.inr (0, 64, oA R pp or0)) := ⟨_, rfl⟩
  have hA : f1 354 = some (.inr (0, 64, oA R pp or0)) := by rw [hf1]; exact up_s _ _ _
  have hAt : ∀ x, x < R → oA R pp or0 x = zI ((pp x : Nat) : Int) := fun x hx => if_pos hx
  have h01 : f1 300 = some (x0C pl w) := by rw [hf1]; exact (up_n (by decide)).trans h0
  have hW1 := h.ord (oA R pp or0)
  rw [← hf1] at hW1
  have hcn : ∀ x, x ≤ R → ∀ y, y < x → 1 ≤ (cyc pp y).1 ∧ (cyc pp y).1 ≤ 16 := fun x hx y hy => by
    obtain ⟨c, c1, c2⟩ := hcy y (by omega)
    rw [cyc_sp c1 (by omega)]; have := c1.1; exact ⟨this, by show c ≤ 16; omega⟩
  have lp : ∀ (m x hd n1 : Nat) a8 a9, nl a8 = true → x + m = R → n ≤ n1 → hd < 65536 → (∀ y, y < R → (hd.testBit y = true ↔ Had pp x y)) → Wx K 31 [some (.ref 300), some (zI z), some (zI (hd : Int)), some (zI (((odF pp x).1 : Nat) : Int)), some (zI (((odF pp x).2.1 : Nat) : Int)), some (zI (((odF pp x).2.2.1 : Nat) : Int)), some (zI (((odF pp x).2.2.2 : Nat) : Int)), some (zI (x : Int)), a8, a9] [] n1 f1 64 := by
    intro m
    induction m with
    | zero =>
      intro x hd n1 a8 a9 hna hm hn hhd hH
      have ex : x = R := hm
      subst ex
      obtain ⟨q1, q2, q3, q4⟩ := odF_ok (p := pp) x (hcn x (Nat.le_refl _))
      have hmod : (x - (odF pp x).1) % 2 < 2 := Nat.mod_lt _ (by decide)
      have fin : ∀ r : Int, r = ordS x pp z → Wx K 204 [some (.ref 300), some (zI z), some (zI (hd : Int)), some (zI (((odF pp x).1 : Nat) : Int)), some (zI (((odF pp x).2.1 : Nat) : Int)), some (zI (((odF pp x).2.2.1 : Nat) : Int)), some (zI (((odF pp x).2.2.2 : Nat) : Int)), some (zI (x : Int)), a8, a9] [zI r] n1 f1 64 := fun r hr => r_iret hK hRt dX0_order_204 ⟨by rw [hr], hn, hW1.1, hW1.2⟩
      refine r_iload_7 hK dX0_order_31 ?_
      refine r_aload_0 hK dX0_order_33 ?_
      refine r_pV0 hK (ct_xRows hK.rel h01 hw) lk_X0_151 (Rcv.raw hK.rel h01 rfl) dX0_order_34 ?_
      rw [← hR16]
      refine r_icmp_ge 141 hK dX0_order_37 (by omega) (by omega) (fun h37 => ?_) (fun h37 => ?_)
      · refine r_iload_1 hK dX0_order_141 ?_
        refine r_if_ne 149 hK dX0_order_142 (by omega) (fun h142 => ?_) (fun h142 => ?_)
        · refine r_iload_1 hK dX0_order_149 ?_
          refine r_iconstN (c := 1) hK dX0_order_150 ?_
          refine r_icmp_ne 159 hK dX0_order_151 (by omega) (by omega) (fun h151 => ?_) (fun h151 => ?_)
          · refine r_iload_1 hK dX0_order_159 ?_
            refine r_iconstN (c := 2) hK dX0_order_160 ?_
            refine r_icmp_ne 169 hK dX0_order_161 (by omega) (by omega) (fun h161 => ?_) (fun h161 => ?_)
            · refine r_iload_1 hK dX0_order_169 ?_
              refine r_iconstN (c := 3) hK dX0_order_170 ?_
              refine r_icmp_ne 193 hK dX0_order_171 (by omega) (by omega) (fun h171 => ?_) (fun h171 => ?_)
              · refine r_iload_1 hK dX0_order_193 ?_
                refine r_iconstN (c := 4) hK dX0_order_194 ?_
                refine r_icmp_ne 203 hK dX0_order_195 (by omega) (by omega) (fun h195 => ?_) (fun h195 => ?_)
                · refine r_iconst hK dX0_order_203 ?_
                  refine fin _ ?_
                  unfold ordS; repeat rw [if_neg (by omega)]
                · refine r_iload_6 hK dX0_order_198 ?_
                  refine r_goto 204 hK dX0_order_200 ?_
                  refine fin _ ?_
                  unfold ordS; rw [if_neg (by omega), if_neg (by omega), if_neg (by omega), if_neg (by omega), if_pos (by omega)]
              · refine r_aload_0 hK dX0_order_174 ?_
                refine r_pV0 hK (ct_xRows hK.rel h01 hw) lk_X0_151 (Rcv.raw hK.rel h01 rfl) dX0_order_175 ?_
                rw [← hR16]
                refine r_iload_3 hK dX0_order_178 ?_
                first | refine r_isubN hK dX0_order_179 (by omega) ?_ | refine r_isub hK dX0_order_179 ?_
                refine r_iconstN (c := 2) hK dX0_order_180 ?_
                refine r_irem hK dX0_order_181 (by omega) (by omega) (by omega) ?_
                refine r_if_ne 189 hK dX0_order_182 (by omega) (fun h182 => ?_) (fun h182 => ?_)
                · refine r_iconstN (c := 0) hK dX0_order_189 ?_
                  refine r_goto 204 hK dX0_order_190 ?_
                  refine fin _ ?_
                  unfold ordS; rw [if_neg (by omega), if_neg (by omega), if_neg (by omega), if_pos (by omega)]; omega
                · refine r_iconstN (c := 1) hK dX0_order_185 ?_
                  refine r_goto 204 hK dX0_order_186 ?_
                  refine fin _ ?_
                  unfold ordS; rw [if_neg (by omega), if_neg (by omega), if_neg (by omega), if_pos (by omega)]; omega
            · refine r_iload_5 hK dX0_order_164 ?_
              refine r_goto 204 hK dX0_order_166 ?_
              refine fin _ ?_
              unfold ordS; rw [if_neg (by omega), if_neg (by omega), if_pos (by omega)]
          · refine r_iload_4 hK dX0_order_154 ?_
            refine r_goto 204 hK dX0_order_156 ?_
            refine fin _ ?_
            unfold ordS; rw [if_neg (by omega), if_pos (by omega)]
        · refine r_iload_3 hK dX0_order_145 ?_
          refine r_goto 204 hK dX0_order_146 ?_
          refine fin _ ?_
          unfold ordS; rw [if_pos (by omega)]
      · omega --!
    | succ m ih =>
      intro x hd n1 a8 a9 hna hm hn hhd hH
      have hxR : x < R := by omega
      have hpx := hplt x hxR
      obtain ⟨c, hc1, hc2⟩ := hcy x hxR
      have hcyc := cyc_sp hc1 (by omega)
      obtain ⟨q1, q2, q3, q4⟩ := odF_ok (p := pp) x (hcn x (by omega))
      have hq3 : (odF pp x).2.2.1 ≤ 720720 := Nat.le_of_dvd (by decide) q3
      have hc1' := hc1.1
      have hih := ih (x + 1)
      have eO : odF pp (x + 1) = odS pp x (odF pp x) := rfl
      have hcx := cy1 hc1
      have hhc := had_cyc (fun y hy => by obtain ⟨c', z1, -⟩ := hcy y (by omega); exact ⟨c', z1⟩) hc1
      -- the inner walk, where the row was not had
      have mid : ∀ st : Nat, st = (if pp x = x then (odF pp x).2.2.2 + 1 else (odF pp x).2.2.2) → ∀ a8 a9, nl a8 = true → Wx K 62 [some (.ref 300), some (zI z), some (zI (hd : Int)), some (zI (((odF pp x).1 : Nat) : Int)), some (zI (((odF pp x).2.1 : Nat) : Int)), some (zI (((odF pp x).2.2.1 : Nat) : Int)), some (zI (st : Int)), some (zI (x : Int)), a8, a9] [] n1 f1 64 := by
        intro st hst a8 a9 hna
        by_cases hHx : Had pp x x
        · have hmn := hhc.mp hHx
          have hpne : pp x ≠ x := fun q => by
            have := hcx.mpr q
            rw [this] at hmn
            have e : mnO pp x 1 = x := by show (if itr pp 0 x < x then _ else x) = x; rw [if_neg (by show ¬ x < x; omega)]
            omega
          rw [if_neg hpne] at hst
          rw [odS_1 hcyc hmn] at eO
          refine r_iconstN (c := 0) hK dX0_order_62 ?_
          refine r_istore_8 hK dX0_order_63 ?_
          refine r_iload_7 hK dX0_order_65 ?_
          refine r_istore_9 hK dX0_order_67 ?_
          refine r_iload_2 hK dX0_order_69 ?_
          refine r_iload_9 hK dX0_order_70 ?_
          refine r_pS2 hK (ct_has0 hK.rel (by omega) (by omega)) lk_X0_182 dX0_order_72 ?_
          refine r_ifB_ne 100 hK dX0_order_75 (fun h75 => ?_) (fun h75 => ?_)
          · refine r_iload_8 hK dX0_order_100 ?_
            refine r_if_ne 108 hK dX0_order_102 (by omega) (fun h102 => ?_) (fun h102 => ?_)
            · exact absurd rfl h102 --!
            · refine r_goto 135 hK dX0_order_105 ?_
              first | refine r_incN_7 hK dX0_order_135 ?_ | refine r_iinc_7 hK dX0_order_135 ?_
              refine r_goto 31 hK dX0_order_138 ?_
              have := ih (x + 1) hd n1 (some (zI ((0 : Nat) : Int))) (some (zI (x : Int))) rfl (by omega) hn hhd (fun y hy => by rw [had_k hHx]; exact hH y hy)
              rw [eO] at this
              rw [hst]
              exact this
          · exact absurd ((hH x hxR).mpr hHx) h75 --!
        · have hmn : ¬ mnO pp x c < x := fun q => hHx (hhc.mpr q)
          have ip : ∀ (d i hdi : Nat), i + d = c → hdi < 65536 → (∀ y, y < R → (hdi.testBit y = true ↔ Had pp x y ∨ ∃ j, j < i ∧ itr pp j x = y)) → Wx K 69 [some (.ref 300), some (zI z), some (zI (hdi : Int)), some (zI (((odF pp x).1 : Nat) : Int)), some (zI (((odF pp x).2.1 : Nat) : Int)), some (zI (((odF pp x).2.2.1 : Nat) : Int)), some (zI (st : Int)), some (zI (x : Int)), some (zI (i : Int)), some (zI ((itr pp i x : Nat) : Int))] [] n1 f1 64 := by
            intro d
            induction d with
            | zero =>
              intro i hdi hi hhdi hb2
              have ei : i = c := hi
              subst ei
              have ey : itr pp i x = x := hc1.2.1
              rw [ey]
              have hg7 := Nat.gcd_pos_of_pos_right (odF pp x).2.2.1 (show 0 < i by omega)
              have hgl : Nat.gcd (odF pp x).2.2.1 i ≤ i := Nat.gcd_le_right _ (by omega)
              obtain ⟨bb, hbb⟩ : ∃ bb, bb = if (odF pp x).2.1 < i then i else (odF pp x).2.1 := ⟨_, rfl⟩
              have e2 := odS_2 (s := odF pp x) hcyc hmn hbb (show st = if i = 1 then (odF pp x).2.2.2 + 1 else (odF pp x).2.2.2 from by
                rw [hst]
                by_cases z1 : i = 1
                · rw [if_pos z1, if_pos (hcx.mp z1)]
                · rw [if_neg z1, if_neg (fun q => z1 (hcx.mpr q))])
              rw [e2] at eO
              refine r_iload_2 hK dX0_order_69 ?_
              refine r_iload_9 hK dX0_order_70 ?_
              refine r_pS2 hK (ct_has0 hK.rel (by omega) (by omega)) lk_X0_182 dX0_order_72 ?_
              refine r_ifB_ne 100 hK dX0_order_75 (fun h75 => ?_) (fun h75 => ?_)
              · refine r_iload_8 hK dX0_order_100 ?_
                refine r_if_ne 108 hK dX0_order_102 (by omega) (fun h102 => ?_) (fun h102 => ?_)
                · first | refine r_incN_3 hK dX0_order_108 ?_ | refine r_iinc_3 hK dX0_order_108 ?_
                  refine r_iload_4 hK dX0_order_111 ?_
                  refine r_iload_8 hK dX0_order_113 ?_
                  refine r_mmax hK lk_X0_280 dX0_order_115 (by omega) (by omega) ?_
                  rw [show max (odF pp x).2.1 i = bb from by rw [hbb]; split <;> omega]
                  refine r_istore_4 hK dX0_order_118 ?_
                  refine r_iload_5 hK dX0_order_120 ?_
                  refine r_iload_5 hK dX0_order_122 ?_
                  refine r_iload_8 hK dX0_order_124 ?_
                  refine r_pS2 hK (ct_xDivM hK.rel 7 (odF pp x).2.2.1 i (by omega) (by omega) (dv_at (by omega))) lk_X0_273 dX0_order_126 ?_
                  refine r_idiv hK dX0_order_129 (by omega) (by omega) (by omega) ?_
                  refine r_iload_8 hK dX0_order_130 ?_
                  first | refine r_imulN hK dX0_order_132 ?_ | refine r_imul hK dX0_order_132 ?_
                  refine r_istore_5 hK dX0_order_133 ?_
                  first | refine r_incN_7 hK dX0_order_135 ?_ | refine r_iinc_7 hK dX0_order_135 ?_
                  refine r_goto 31 hK dX0_order_138 ?_
                  have := ih (x + 1) hdi n1 (some (zI (i : Int))) (some (zI (x : Int))) rfl (by omega) hn hhdi (fun y hy => by rw [had_s hc1]; exact hb2 y hy)
                  rw [eO] at this
                  exact this
                · omega --!
              · exact absurd ((hb2 x hxR).mpr (Or.inr ⟨0, by omega, rfl⟩)) h75 --!
            | succ d ihd =>
              intro i hdi hi hhdi hb2
              have hyR : itr pp i x < R := itr_lt hplt i x hxR
              have hnh : ¬ hdi.testBit (itr pp i x) = true := fun q => by
                rcases (hb2 _ hyR).mp q with z1 | ⟨j, z1, z2⟩
                · exact had_no hc1 hHx z1
                · exact cy_inj hplt hpinv hxR hc1 z1 (by omega) z2
              have hpy := hplt _ hyR
              have hor16 : hdi ||| (1 <<< itr pp i x) < 65536 := or_lt (w := 16) hhdi (bit_lt (w := 16) (by omega))
              refine r_iload_2 hK dX0_order_69 ?_
              refine r_iload_9 hK dX0_order_70 ?_
              refine r_pS2 hK (ct_has0 hK.rel (by omega) (by omega)) lk_X0_182 dX0_order_72 ?_
              refine r_ifB_ne 100 hK dX0_order_75 (fun h75 => ?_) (fun h75 => ?_)
              · exact absurd h75 hnh --!
              · refine r_iload_2 hK dX0_order_78 ?_
                refine r_iconstN (c := 1) hK dX0_order_79 ?_
                refine r_iload_9 hK dX0_order_80 ?_
                refine r_ishl hK dX0_order_82 (by omega) (sh1 (by omega)) ?_
                refine r_ior hK dX0_order_83 ?_
                refine r_istore_2 hK dX0_order_84 ?_
                first | refine r_incN_8 hK dX0_order_85 ?_ | refine r_iinc_8 hK dX0_order_85 ?_
                refine r_aload_0 hK dX0_order_88 ?_
                refine r_get hK fl_X0_91 dX0_order_89 (h01) rfl ?_
                refine r_iload_9 hK dX0_order_92 ?_
                refine r_iald hK dX0_order_94 hA (by omega) ?_
                rw [hAt _ hyR, ← itr_s pp i x]
                refine r_istore_9 hK dX0_order_95 ?_
                refine r_goto 69 hK dX0_order_97 ?_
                refine ihd (i + 1) _ (by omega) hor16 (fun y hy => ?_)
                rw [tb_or, hb2 y hy]
                constructor
                · rintro ((z1 | ⟨j, z1, z2⟩) | z1)
                  · exact Or.inl z1
                  · exact Or.inr ⟨j, by omega, z2⟩
                  · exact Or.inr ⟨i, by omega, z1⟩
                · rintro (z1 | ⟨j, z1, z2⟩)
                  · exact Or.inl (Or.inl z1)
                  · by_cases z3 : j = i
                    · right; rw [← z3]; exact z2
                    · exact Or.inl (Or.inr ⟨j, by omega, z2⟩)
          refine r_iconstN (c := 0) hK dX0_order_62 ?_
          refine r_istore_8 hK dX0_order_63 ?_
          refine r_iload_7 hK dX0_order_65 ?_
          refine r_istore_9 hK dX0_order_67 ?_
          exact ip c 0 hd (by omega) hhd (fun y hy => by
            rw [hH y hy]
            exact ⟨Or.inl, fun q => q.elim id (fun ⟨j, z1, _⟩ => absurd z1 (Nat.not_lt_zero _))⟩)
      refine r_iload_7 hK dX0_order_31 ?_
      refine r_aload_0 hK dX0_order_33 ?_
      refine r_pV0 hK (ct_xRows hK.rel h01 hw) lk_X0_151 (Rcv.raw hK.rel h01 rfl) dX0_order_34 ?_
      rw [← hR16]
      refine r_icmp_ge 141 hK dX0_order_37 (by omega) (by omega) (fun h37 => ?_) (fun h37 => ?_)
      · omega --!
      · refine r_iload_6 hK dX0_order_40 ?_
        refine r_aload_0 hK dX0_order_42 ?_
        refine r_get hK fl_X0_91 dX0_order_43 (h01) rfl ?_
        refine r_iload_7 hK dX0_order_46 ?_
        refine r_iald hK dX0_order_48 hA (by omega) ?_
        rw [hAt x hxR]
        refine r_iload_7 hK dX0_order_49 ?_
        refine r_icmp_ne 58 hK dX0_order_51 (by omega) (by omega) (fun h51 => ?_) (fun h51 => ?_)
        · refine r_iconstN (c := 0) hK dX0_order_58 ?_
          first | refine r_iaddN hK dX0_order_59 ?_ | refine r_iadd hK dX0_order_59 ?_
          refine r_istore_6 hK dX0_order_60 ?_
          exact mid _ (by rw [if_neg (by omega)]; rfl) _ _ hna
        · refine r_iconstN (c := 1) hK dX0_order_54 ?_
          refine r_goto 59 hK dX0_order_55 ?_
          first | refine r_iaddN hK dX0_order_59 ?_ | refine r_iadd hK dX0_order_59 ?_
          refine r_istore_6 hK dX0_order_60 ?_
          exact mid _ (by rw [if_pos (by omega)]) _ _ hna
  refine r_aload_0 hK dX0_order_0 ?_
  refine r_get hK fl_X0_41 dX0_order_1 (h0) rfl ?_
  refine r_aload_0 hK dX0_order_4 ?_
  refine r_get hK fl_X0_91 dX0_order_5 (h0) rfl ?_
  refine r_aload_0 hK dX0_order_8 ?_
  refine r_pV0 hK (ct_xRows hK.rel h0 hw) lk_X0_151 (Rcv.raw hK.rel h0 rfl) dX0_order_9 ?_
  rw [← hR16]
  refine r_callV2 hK (ct_cOrders hK.rel hQ hXK hc hb hor (R := R) (by omega) (by omega) (by decide)) lk_X0_276 (Rcv.raw hK.rel hc.1 rfl) dX0_order_12 (fun r n1 f2 hp => ?_)
  obtain ⟨rfl, hn1, hf2⟩ := hp
  rw [← hpp, ← hf1] at hf2
  subst hf2
  refine r_iconstN (c := 0) hK dX0_order_15 ?_
  refine r_istore_2 hK dX0_order_16 ?_
  refine r_iconstN (c := 0) hK dX0_order_17 ?_
  refine r_istore_3 hK dX0_order_18 ?_
  refine r_iconstN (c := 0) hK dX0_order_19 ?_
  refine r_istore_4 hK dX0_order_20 ?_
  refine r_iconstN (c := 1) hK dX0_order_22 ?_
  refine r_istore_5 hK dX0_order_23 ?_
  refine r_iconstN (c := 0) hK dX0_order_25 ?_
  refine r_istore_6 hK dX0_order_26 ?_
  refine r_iconstN (c := 0) hK dX0_order_28 ?_
  refine r_istore_7 hK dX0_order_29 ?_
  exact lp R 0 0 n1 none none rfl (by omega) hn1 (by decide) (fun y hy => by
    rw [Nat.zero_testBit]
    exact ⟨fun q => (by cases q), fun ⟨x', j, z1, _⟩ => absurd z1 (Nat.not_lt_zero _)⟩)
