set_option maxRecDepth 100000
/-! ===== the two side by side: plain words ===== -/
/-! found gates are gates -/
def FQ (L : Nat) (s : FS) : Prop := onto (rN L) s.1 ∧ ∀ g : Nat × Nat, (g ∈ s.2.1 ∨ g ∈ s.2.2) → fok L g.1 g.2
theorem FQ.note {L t on : Nat} {b : Bool} {s : FS} (h : FQ L s) (hg : fok L t on) : FQ L (note b t on s) := by
  refine ⟨onto_note h.1 hg, fun g hm => ?_⟩
  have h2 := h.2 g
  unfold note at hm
  cases b with
  | true =>
    rw [if_pos rfl] at hm
    rcases hm with q | q
    · rcases List.mem_append.mp q with z | z
      · exact h2 (Or.inl z)
      · rw [List.mem_singleton.mp z]; exact hg
    · exact h2 (Or.inr q)
  | false =>
    rw [if_neg (by decide)] at hm
    rcases hm with q | q
    · exact h2 (Or.inl q)
    · rcases List.mem_cons.mp q with z | z
      · rw [z]; exact hg
      · exact h2 (Or.inr z)
theorem FQ.l1 {L : Nat} {b : Bool} {to : Nat} : ∀ m (q : Nat × FS), m ≤ L → q.1 < rN L → FQ L q.2 → (ld1 L b to m q).1 < rN L ∧ FQ L (ld1 L b to m q).2
  | 0, q, _, h1, h2 => ⟨h1, h2⟩
  | m + 1, q, hm, h1, h2 => by
    unfold ld1
    by_cases c : to.testBit (L - (m + 1)) = true ∧ q.1.testBit (L - (m + 1)) = false
    · rw [if_pos c]
      exact FQ.l1 m _ (by omega) (mk_lt (show L - (m + 1) < L by omega) h1) (h2.note ⟨by omega, h1, c.2⟩)
    · rw [if_neg c]
      exact FQ.l1 m _ (by omega) h1 h2
theorem FQ.l2 {L : Nat} {b : Bool} {to : Nat} : ∀ m (q : Nat × FS), m ≤ L → q.1 < rN L → FQ L q.2 → (ld2 L b to m q).1 < rN L ∧ FQ L (ld2 L b to m q).2
  | 0, q, _, h1, h2 => ⟨h1, h2⟩
  | m + 1, q, hm, h1, h2 => by
    unfold ld2
    by_cases c : to.testBit (L - (m + 1)) = false ∧ q.1.testBit (L - (m + 1)) = true
    · rw [if_pos c]
      exact FQ.l2 m _ (by omega) (mk_lt (show L - (m + 1) < L by omega) h1) (h2.note ⟨by omega, clr_lt h1, clr_bit _ _⟩)
    · rw [if_neg c]
      exact FQ.l2 m _ (by omega) h1 h2
theorem invF_le {p : Nat → Nat} {x y : Nat} (hy : p y = x) : ∀ m z, z ≤ y → y < z + m → invF p x m z ≤ y
  | 0, z, h1, h2 => by omega
  | m + 1, z, h1, h2 => by
    by_cases c : p z = x
    · rw [invF_at c]; exact h1
    · rw [invF_step c]
      exact invF_le hy m (z + 1) (by
        have : z ≠ y := fun e => c (by rw [e]; exact hy)
        omega) (by omega)
theorem FQ.row {L : Nat} {both : Bool} {x : Nat} {s : FS} (hL : L ≤ 6) (hx : x < rN L) (h : FQ L s) : FQ L (fdRow L both x s) := by
  have h64 : rN L ≤ 64 := rN_le (k := 6) hL
  unfold fdRow
  have h0 : (if isAh both s.1 x then fst1 s.1 x else s.1 x) < rN L := by
    split
    · obtain ⟨z, z1, z2⟩ := h.1.2 x hx
      have := invF_le z2 64 0 (Nat.zero_le _) (by omega)
      exact Nat.lt_of_le_of_lt this z1
    · exact h.1.1 x hx
  obtain ⟨a, b⟩ := FQ.l1 (b := isAh both s.1 x) (to := x) L (if isAh both s.1 x then fst1 s.1 x else s.1 x, s) (Nat.le_refl _) h0 h
  exact (FQ.l2 L _ (Nat.le_refl _) a b).2
theorem FQ.f {L : Nat} {both : Bool} (hL : L ≤ 6) : ∀ m (s : FS), m ≤ rN L → FQ L s → FQ L (fdF L both m s)
  | 0, s, _, h => h
  | m + 1, s, hm, h => FQ.f hL m _ (by omega) (h.row hL (by omega))
theorem fd_ok {L : Nat} {both : Bool} {p : Nat → Nat} (hL : L ≤ 6) (h : onto (rN L) p) : ∀ g ∈ fdL (fdAll L both p), fok L g.1 g.2 := by
  intro g hg
  have := FQ.f (both := both) hL (rN L) (p, [], []) (Nat.le_refl _) ⟨h, fun g q => by rcases q with z | z <;> cases z⟩
  exact this.2 g (List.mem_append.mp hg)
/-! the two tables -/
theorem fsI_uni {T T' : Nat → Nat} {w left : Nat} {p : Nat → Nat} (hT : TabR w T) (hT' : TabR w T') (hp : Pm (rN w) p) : ∀ m c, c + m = w * rN w → fsI T (rN w) p left m c = fsI T' (rN w) p left m c ∧ ∀ g, fsI T (rN w) p left m c = some g → gq w (gz g)
  | 0, c, _ => ⟨rfl, fun g h => by cases h⟩
  | m + 1, c, h => by
    obtain ⟨i1, i2⟩ := fsI_uni (left := left) hT hT' hp m (c + 1) (by omega)
    have hr := rN_pos w
    unfold fsI
    by_cases q : (c % rN w).testBit (c / rN w) = true
    · rw [if_pos q, if_pos q]; exact ⟨i1, i2⟩
    · rw [if_neg q, if_neg q]
      have hg : gq w (c / rN w, c % rN w, 0) := ⟨Nat.div_lt_of_lt_mul (by rw [Nat.mul_comm]; omega), Nat.mod_lt _ hr, Bool.eq_false_iff.mpr q, rfl⟩
      rw [hT.uni hT' (hp.pre hg.ok)]
      by_cases z : T' (plc (fun i => p (mk (c / rN w, c % rN w, 0) i)) (rN w)) = left
      · rw [if_pos z, if_pos z]
        exact ⟨rfl, fun g e => by cases e; exact hg⟩
      · rw [if_neg z, if_neg z]; exact ⟨i1, i2⟩
theorem fst_uni {T T' : Nat → Nat} {w : Nat} (hT : TabR w T) (hT' : TabR w T') : ∀ left p, Pm (rN w) p → fstL T w left p = fstL T' w left p ∧ ∀ g ∈ fstL T w left p, gq w (gz g)
  | 0, p, _ => ⟨rfl, fun g h => by cases h⟩
  | left + 1, p, hp => by
    obtain ⟨e, hq⟩ := fsI_uni (left := left) hT hT' hp (w * rN w) 0 (Nat.zero_add _)
    unfold fstL
    rw [← e]
    cases z : fsI T (rN w) p left (w * rN w) 0 with
    | none => exact fst_uni hT hT' left p hp
    | some g =>
      have hg := hq g z
      obtain ⟨i1, i2⟩ := fst_uni hT hT' left (fun r => p (mk (g.1, g.2, 0) r)) (hp.pre hg.ok)
      simp only
      refine ⟨by rw [i1], fun g' hm => ?_⟩
      rcases List.mem_cons.mp hm with q | q
      · rw [q]; exact hg
      · exact i2 g' q
theorem BecR.uni {w : Nat} {gs : List Gt} {z : Int} {l l' : List Gt} (ho : ∀ g ∈ gs, gok w g) (h : BecR w gs z l) (h' : BecR w gs z l') : l = l' := by
  rcases h with ⟨a, b⟩ | ⟨a, b⟩ | ⟨a, b⟩ | ⟨a, b⟩ | ⟨a, T, hT, b⟩ <;> rcases h' with ⟨a', b'⟩ | ⟨a', b'⟩ | ⟨a', b'⟩ | ⟨a', b'⟩ | ⟨a', T', hT', b'⟩ <;> first | (exfalso; omega) | (rw [b, b']; done) | skip
  have hp := Pm_run ho
  rw [b, b', (fst_uni hT hT' _ _ hp).1, hT.uni hT' hp]
theorem BecR.ok {w : Nat} {gs : List Gt} {z : Int} {l : List Gt} (hw : w ≤ 4) (ho : ∀ g ∈ gs, gok w g) (h : BecR w gs z l) : ∀ g ∈ l, gok w g := by
  have fd : ∀ both, ∀ g ∈ (fdL (fdAll w both (run gs))).map (fun g => ((g.1, g.2, 0) : Gt)), gok w g := fun both g hg => by
    obtain ⟨q, h1, h2⟩ := List.mem_map.mp hg
    have := fd_ok (both := both) (show w ≤ 6 by omega) (onto_run ho) q h1
    rw [← h2]
    exact gq.ok ⟨this.1, this.2.1, this.2.2, rfl⟩
  rcases h with ⟨a, b⟩ | ⟨a, b⟩ | ⟨a, b⟩ | ⟨a, b⟩ | ⟨a, T, hT, b⟩
  · rw [b]; exact (shrAll_ok hw 17 gs ho).1
  · rw [b]; exact fd _
  · rw [b]; exact fd _
  · rw [b]; exact fun g hg => ho g (List.mem_reverse.mp hg)
  · rw [b]
    intro g hg
    obtain ⟨q, h1, h2⟩ := List.mem_map.mp hg
    rw [← h2]
    exact ((fst_uni hT hT _ _ (Pm_run ho)).2 q h1).ok
/-! tables that are alike -/
theorem cnt_ext {v v' : Nat → Nat} {y : Nat} : ∀ R, (∀ x, x < R → v x = v' x) → cnt v y R = cnt v' y R
  | 0, _ => rfl
  | k + 1, h => by
    show (if v k = y then cnt v y k + 1 else cnt v y k) = (if v' k = y then cnt v' y k + 1 else cnt v' y k)
    rw [h k (by omega), cnt_ext k (fun x hx => h x (by omega))]
theorem cpM_ext {v v' : Nat → Nat} {R : Nat} (h : ∀ x, x < R → v x = v' x) : ∀ k, cpM v R k = cpM v' R k
  | 0 => rfl
  | k + 1 => by
    show max (cpM v R k) (cnt v k R) = max (cpM v' R k) (cnt v' k R)
    rw [cpM_ext h k, cnt_ext R h]
theorem t1_ext {m : Nat} {v v' : Nat → Nat} {R x : Nat} (h : ∀ x, x < R → v x = v' x) (hx : x < R) : t1 m v x = t1 m v' x := by
  unfold t1
  rw [h x hx, cnt_ext x (fun y hy => h y (by omega))]
theorem isM_ext {m : Nat} {v v' : Nat → Nat} {R y : Nat} (h : ∀ x, x < R → v x = v' x) : ∀ k, k ≤ R → isM m v y k = isM m v' y k
  | 0, _ => rfl
  | k + 1, hk => by
    show (isM m v y k || decide (t1 m v k = y)) = (isM m v' y k || decide (t1 m v' k = y))
    rw [isM_ext h k (by omega), t1_ext h (by omega)]
theorem nxU_ext {m : Nat} {v v' : Nat → Nat} {R : Nat} (h : ∀ x, x < R → v x = v' x) : ∀ d y, nxU m v R d y = nxU m v' R d y
  | 0, y => rfl
  | d + 1, y => by
    show (if isM m v y R then nxU m v R d (y + 1) else y) = (if isM m v' y R then nxU m v' R d (y + 1) else y)
    rw [isM_ext h R (Nat.le_refl _), nxU_ext h d]
theorem fil_ext {m : Nat} {v v' : Nat → Nat} {R : Nat} (h : ∀ x, x < R → v x = v' x) : ∀ k, fil m v R k = fil m v' R k
  | 0 => nxU_ext h 64 0
  | k + 1 => by
    show nxU m v R 64 (fil m v R k + 1) = nxU m v' R 64 (fil m v' R k + 1)
    rw [fil_ext h k, nxU_ext h]
theorem told_ext {n m : Nat} {v v' : Nat → Nat} (h : ∀ x, x < rN n → v x = v' x) : told n m v = told n m v' := by
  funext r
  unfold told
  by_cases c : r < rN n
  · rw [if_pos c, if_pos c, t1_ext h c]
  · rw [if_neg c, if_neg c, fil_ext h]
theorem lnN_ext {n m : Nat} {v v' : Nat → Nat} (h : ∀ x, x < rN n → v x = v' x) : lnN n m v = lnN n m v' := by
  unfold lnN
  rw [cpM_ext h]
theorem tblS_ext {n m : Nat} {v v' : Nat → Nat} {z : Int} (h : ∀ x, x < rN n → v x = v' x) : tblS n m v z = tblS n m v' z := by
  unfold tblS
  rw [cpM_ext h, lnN_ext h, told_ext h]
theorem laidS_ext {n m : Nat} {v v' : Nat → Nat} {z : Int} (h : ∀ x, x < rN n → v x = v' x) : laidS n m v z = laidS n m v' z := by
  unfold laidS
  rw [lnN_ext h, told_ext h]
/-! the tape -/
theorem upA_0 (A : Nat → Nat → Nat) (i x : Nat) : upA A 0 i x 0 = upN (A 0) i x := by
  funext j
  unfold upA upN
  rw [if_pos rfl]
theorem upA_o (A : Nat → Nat → Nat) (i x : Nat) {a : Nat} (h : a ≠ 0) : upA A 0 i x a = A a := by
  funext j
  unfold upA
  rw [if_neg h]
theorem lay4_0 (A : Nat → Nat → Nat) (t : Nat) (z : Int) : lay4 A t z 0 = tl4 (A 0) t z := by
  unfold lay4 tl4
  rw [upA_0, upA_0, upA_0, upA_0]
theorem lay4_o (A : Nat → Nat → Nat) (t : Nat) (z : Int) {a : Nat} (h : a ≠ 0) : lay4 A t z a = A a := by
  unfold lay4
  rw [upA_o _ _ _ h, upA_o _ _ _ h, upA_o _ _ _ h, upA_o _ _ _ h]
theorem lay20_0 (A : Nat → Nat → Nat) (t : Nat) (a b c e g : Int) : lay20 A t a b c e g 0 = tl20 (A 0) t a b c e g := by
  unfold lay20 tl20
  rw [lay4_0, lay4_0, lay4_0, lay4_0, lay4_0]
theorem lay20_o (A : Nat → Nat → Nat) (t : Nat) (a b c e g : Int) {q : Nat} (h : q ≠ 0) : lay20 A t a b c e g q = A q := by
  unfold lay20
  rw [lay4_o _ _ _ h, lay4_o _ _ _ h, lay4_o _ _ _ h, lay4_o _ _ _ h, lay4_o _ _ _ h]
theorem upN_lt {T : Nat → Nat} {i x k : Nat} (h : ∀ j, T j < k) (hx : x < k) : ∀ j, upN T i x j < k := fun j => by
  unfold upN
  split
  · exact hx
  · exact h j
theorem tl4_lt {T : Nat → Nat} {t : Nat} {z : Int} (h : ∀ j, T j < 256) : ∀ j, tl4 T t z j < 256 := upN_lt (upN_lt (upN_lt (upN_lt h (bN_lt _ _)) (bN_lt _ _)) (bN_lt _ _)) (bN_lt _ _)
theorem tl20_lt {T : Nat → Nat} {t : Nat} {a b c e g : Int} (h : ∀ j, T j < 256) : ∀ j, tl20 T t a b c e g j < 256 := tl4_lt (tl4_lt (tl4_lt (tl4_lt (tl4_lt h))))
/-! held -/
theorem hm_eq {A : Nat → Nat → Nat} {sl : Nat → Option (List Gt)} (h : HeldR A sl) : hmF sl 3 = A 15 0 + A 15 1 + A 15 2 := by
  have g : ∀ s, s < 3 → oN (sl s) = A 15 s := fun s hs => by
    rcases h s hs with ⟨a, b⟩ | ⟨q, a, b, -⟩
    · rw [a, b]; rfl
    · rw [a, b]; rfl
  show 0 + oN (sl 0) + oN (sl 1) + oN (sl 2) = _
  rw [g 0 (by decide), g 1 (by decide), g 2 (by decide)]
  omega
theorem HeldR.lt {A : Nat → Nat → Nat} {sl : Nat → Option (List Gt)} (h : HeldR A sl) : ∀ s, s < 3 → A 15 s < 2 := fun s hs => by
  rcases h s hs with ⟨-, b⟩ | ⟨q, -, b, -⟩ <;> omega
theorem HeldR.kp {A A' : Nat → Nat → Nat} {sl : Nat → Option (List Gt)} (h : HeldR A sl) (h1 : A' 14 = A 14) (h2 : A' 15 = A 15) : HeldR A' sl := fun s hs => by
  rcases h s hs with ⟨a, b⟩ | ⟨q, a, b, c⟩
  · exact Or.inl ⟨a, by rw [h2]; exact b⟩
  · exact Or.inr ⟨q, a, by rw [h2]; exact b, by rw [h1]; exact c⟩
theorem PastR.kp {F F' : Nat → Nat} {A A' : Nat → Nat → Nat} {pa : List (List Gt)} (h : PastR F A pa) (h1 : F' 31 = F 31) (h2 : F' 32 = F 32) (h3 : A' 13 = A 13) : PastR F' A' pa := by
  obtain ⟨a, b, c, d⟩ := h
  exact ⟨by rw [h2]; exact a, b, by rw [h1]; exact c, fun i hi => by rw [h1, h3]; exact d i hi⟩
theorem CaR.kp {F F' : Nat → Nat} {A A' : Nat → Nat → Nat} (h : CaR F A) (h1 : F' 48 = F 48) (h2 : A' 26 = A 26) : CaR F' A' := by
  unfold CaR at h ⊢
  rw [h1, h2]; exact h
theorem pushP_ok {P : List Gt → Prop} {pa : List (List Gt)} {gs : List Gt} (h : ∀ q ∈ pa, P q) (hg : P gs) : ∀ q ∈ pushP pa gs, P q := by
  intro q hq
  unfold pushP at hq
  rcases List.mem_append.mp hq with z | z
  · split at z
    · exact h q (List.mem_of_mem_drop z)
    · exact h q z
  · rw [List.mem_singleton.mp z]; exact hg
/-! ===== the cells side by side ===== -/
def ST : List Nat := (List.range 34).map (fun j => j + 358)
theorem ST_ge {x : Nat} (h : x ∈ ST) : 358 ≤ x := by
  obtain ⟨j, -, e⟩ := List.mem_map.mp h
  omega
theorem ST_of {x : Nat} (h1 : 358 ≤ x) (h2 : x < 392) : x ∈ ST := List.mem_map.mpr ⟨x - 358, List.mem_range.mpr (by omega), by omega⟩
theorem twC_ng {A : Nat → Nat → Nat} (j : Nat) (q : Gt) : twC A j ≠ some (cG q) := by
  unfold twC
  split <;> first | exact ngA q | (intro h; cases h)
theorem tw_ng {f0 : Hp} {F : Nat → Nat} {A : Nat → Nat → Nat} {id : Nat} (h1 : 358 ≤ id) (h2 : id < 392) (q : Gt) : tw f0 F A id ≠ some (cG q) := by
  unfold tw
  rw [if_neg (by omega), if_neg (by omega)]
  split
  · exact ngI (by decide) q
  · exact twC_ng _ q
theorem tw_lo {f0 : Hp} {F : Nat → Nat} {A : Nat → Nat → Nat} {id : Nat} (h : id < 358 ∨ 392 ≤ id) : tw f0 F A id = f0 id := by
  unfold tw
  by_cases c : id < 358
  · rw [if_pos c]
  · rw [if_neg c, if_pos (by omega)]
theorem tw_hi {f0 f1 : Hp} {F : Nat → Nat} {A : Nat → Nat → Nat} {id : Nat} (h1 : 358 ≤ id) (h2 : id < 392) : tw f0 F A id = tw f1 F A id := by
  unfold tw
  rw [if_neg (by omega), if_neg (by omega), if_neg (by omega), if_neg (by omega)]
theorem tw_tw {f0 : Hp} {F F' : Nat → Nat} {A A' : Nat → Nat → Nat} : tw (tw f0 F A) F' A' = tw f0 F' A' := by
  funext id
  by_cases c : id < 358 ∨ 392 ≤ id
  · rw [tw_lo c, tw_lo c, tw_lo c]
  · exact tw_hi (by omega) (by omega)
theorem tw_of {f f' : Hp} {F : Nat → Nat} {A : Nat → Nat → Nat} (e : f = tw f F A) (h : ∀ id, 358 ≤ id → id < 392 → f' id = f id) : f' = tw f' F A := by
  funext id
  by_cases c : id < 358 ∨ 392 ≤ id
  · rw [tw_lo c]
  · rw [h id (by omega) (by omega)]
    exact (congrFun e id).trans (tw_hi (by omega) (by omega))
theorem tw_ke {S : List Nat} {f f' : Hp} {F : Nat → Nat} {A : Nat → Nat → Nat} (e : f = tw f F A) (hk : KE S f f') (hS : ∀ x ∈ S, x < 358) : f' = tw f' F A := tw_of e (fun id h1 h2 => hk.2.2 id h2 (fun q => by have := hS id q; omega))
theorem KE.tw {f : Hp} {F F' : Nat → Nat} {A A' : Nat → Nat → Nat} (e : f = tw f F A) : KE ST f (tw f F' A') := by
  refine ⟨fun id q h => ?_, fun id e' h1 h2 => ?_, fun id h1 h2 => ?_⟩
  · by_cases c : id < 358 ∨ 392 ≤ id
    · rw [tw_lo c]; exact h
    · rw [e] at h
      exact absurd h (tw_ng (by omega) (by omega) q)
  · rw [tw_lo (Or.inr h1)]; exact h2
  · exact tw_lo (Or.inl (Nat.lt_of_not_le (fun z => h2 (ST_of z h1))))
theorem WO.tw {f : Hp} {F F' : Nat → Nat} {A A' : Nat → Nat → Nat} (e : f = tw f F A) {w : Nat} {gs : List Gt} {pa : List (List Gt)} {sl : Nat → Option (List Gt)} {ni no : Nat} {v p : Nat → Nat} {tp : Nat} {T : Nat → Nat} {pl : Int} (h : WO f w gs pa sl ni no v p tp T pl) : WO (tw f F' A') w gs pa sl ni no v p tp T pl := by
  obtain ⟨h0, h1, h2, h3, h4, h5, h6, h7, h8, h9, h10, h11⟩ := h
  have hk := KE.tw (F' := F') (A' := A') e
  have g : ∀ x, x < 358 → x ∉ ST := fun x q z => by have := ST_ge z; omega
  exact ⟨(hk.2.2 300 (by decide) (g _ (by decide))).trans h0, h1.ke hk (fun x a b => g x (by omega)), h2.ke hk ⟨g _ (by decide), g _ (by decide)⟩, h3.ke hk ⟨g _ (by decide), g _ (by decide)⟩, h4.ke hk (g _ (by decide)), h5.ke hk (g _ (by decide)), h6.ke hk (g _ (by decide)), h7.ke hk ⟨g _ (by decide), g _ (by decide)⟩, h8.ke hk (fun x a b => g x (by omega)), h9.ke hk (fun x a b => g x (by omega)), h10.ke hk (fun x a b => g x (by omega)), h11.ke hk (fun x a b => g x (by omega))⟩
theorem WO.pp {f : Hp} {w : Nat} {gs : List Gt} {pa : List (List Gt)} {sl : Nat → Option (List Gt)} {ni no : Nat} {v p p' : Nat → Nat} {tp : Nat} {T : Nat → Nat} {pl : Int} (h : WO f w gs pa sl ni no v p tp T pl) (hp : ∀ i, i < 4 → p' i = p i) : WO f w gs pa sl ni no v p' tp T pl := by
  obtain ⟨h0, h1, h2, h3, h4, h5, ⟨q, h6, h6'⟩, h7⟩ := h
  exact ⟨h0, h1, h2, h3, h4, h5, ⟨q, h6, fun i hi => by rw [hp i hi]; exact h6' i hi⟩, h7⟩
/-- what the two agree on -/
def IV (F : Nat → Nat) (A : Nat → Nat → Nat) (gs : List Gt) (pa : List (List Gt)) (sl : Nat → Option (List Gt)) (no : Nat) (v : Nat → Nat) : Prop :=
  (F 2 ≤ 2000 ∧ (∀ i, A 0 i < 256) ∧ (∀ i, A 1 i < 256) ∧ ∀ k, k < 4 → A 6 k = keyN k) ∧ F 17 ≤ 4 ∧
  ((F 19 = 0 ∨ (F 20 = no ∧ tabOK (F 19) no v ∧ ∀ x, x < rN (F 19) → A 8 x = v x)) ∧ ∀ x, x < 8 → v x < 10000) ∧
  (GA (A 11) gs ∧ ∀ g ∈ gs, gok (F 17) g) ∧ (PastR F A pa ∧ ∀ q ∈ pa, q.length ≤ 16 ∧ ∀ g ∈ q, gok (F 17) g) ∧
  (HeldR A sl ∧ ∀ s hs, s < 3 → sl s = some hs → hs.length ≤ 16 ∧ ∀ g ∈ hs, gok (F 17) g) ∧ CaR F A
def JN (n : Nat) (f : Hp) : Prop := 392 ≤ n ∧ ∃ (F : Nat → Nat) (A : Nat → Nat → Nat) (gs : List Gt) (pa : List (List Gt)) (sl : Nat → Option (List Gt)) (no : Nat) (v : Nat → Nat), f = tw f F A ∧ WO f (F 17) gs pa sl (F 19) no v (A 7) (F 2) (A 0) (dz (F 16)) ∧ IV F A gs pa sl no v
theorem IV.kp {F F' : Nat → Nat} {A A' : Nat → Nat → Nat} {gs : List Gt} {pa : List (List Gt)} {sl : Nat → Option (List Gt)} {no : Nat} {v : Nat → Nat} (h : IV F A gs pa sl no v) (hF : ∀ k, k ≠ 38 → k ≠ 41 → k ≠ 42 → k ≠ 48 → F' k = F k) (hA : ∀ a, (a ≤ 11 ∨ 13 ≤ a ∧ a ≤ 15) → A' a = A a) (hC : CaR F' A') : IV F' A' gs pa sl no v := by
  obtain ⟨⟨a1, a2, a3, a4⟩, b, ⟨c1, c2⟩, ⟨d1, d2⟩, ⟨e1, e2⟩, ⟨f1, f2⟩, -⟩ := h
  have f17 := hF 17 (by decide) (by decide) (by decide) (by decide)
  have f19 := hF 19 (by decide) (by decide) (by decide) (by decide)
  refine ⟨⟨by rw [hF 2 (by decide) (by decide) (by decide) (by decide)]; exact a1, by rw [hA 0 (by omega)]; exact a2, by rw [hA 1 (by omega)]; exact a3, by rw [hA 6 (by omega)]; exact a4⟩, by rw [f17]; exact b, ⟨?_, c2⟩, ⟨by rw [hA 11 (by omega)]; exact d1, by rw [f17]; exact d2⟩, ⟨e1.kp (hF 31 (by decide) (by decide) (by decide) (by decide)) (hF 32 (by decide) (by decide) (by decide) (by decide)) (hA 13 (by omega)), by rw [f17]; exact e2⟩, ⟨f1.kp (hA 14 (by omega)) (hA 15 (by omega)), by rw [f17]; exact f2⟩, hC⟩
  rw [f19, hF 20 (by decide) (by decide) (by decide) (by decide), hA 8 (by omega)]; exact c1
/-- the pair goes on -/
theorem JN.mk {n : Nat} {f : Hp} {F F' : Nat → Nat} {A A' : Nat → Nat → Nat} {w : Nat} {gs : List Gt} {pa : List (List Gt)} {sl : Nat → Option (List Gt)} {ni no : Nat} {v p : Nat → Nat} {tp : Nat} {T : Nat → Nat} {pl : Int} (hn : 392 ≤ n) (e : f = tw f F A) (hW : WO f w gs pa sl ni no v p tp T pl) (h17 : F' 17 = w) (h19 : F' 19 = ni) (h7 : ∀ i, i < 4 → A' 7 i = p i) (h2 : F' 2 = tp) (h0 : A' 0 = T) (h16 : dz (F' 16) = pl) (hI : IV F' A' gs pa sl no v) : JN n (tw f F' A') := by
  subst h17 h19 h2 h0 h16
  exact ⟨hn, F', A', gs, pa, sl, no, v, tw_tw.symm, (hW.tw e).pp h7, hI⟩
/-- asked only: nothing changes but scratch -/
theorem JN.q {n : Nat} {f : Hp} {F F' : Nat → Nat} {A A' : Nat → Nat → Nat} {gs : List Gt} {pa : List (List Gt)} {sl : Nat → Option (List Gt)} {no : Nat} {v : Nat → Nat} (hn : 392 ≤ n) (e : f = tw f F A) (hW : WO f (F 17) gs pa sl (F 19) no v (A 7) (F 2) (A 0) (dz (F 16))) (hI : IV F A gs pa sl no v) (hF : ∀ k, k ≠ 38 → k ≠ 41 → k ≠ 42 → k ≠ 48 → F' k = F k) (hA : ∀ a, (a ≤ 11 ∨ 13 ≤ a ∧ a ≤ 15) → A' a = A a) (hC : CaR F' A') : JN n (tw f F' A') :=
  JN.mk hn e hW (hF 17 (by decide) (by decide) (by decide) (by decide)) (hF 19 (by decide) (by decide) (by decide) (by decide)) (fun i _ => by rw [hA 7 (by omega)]) (hF 2 (by decide) (by decide) (by decide) (by decide)) (hA 0 (by omega)) (by rw [hF 16 (by decide) (by decide) (by decide) (by decide)]) (hI.kp hF hA hC)
theorem JN.q0 {n : Nat} {f : Hp} {F : Nat → Nat} {A A' : Nat → Nat → Nat} {gs : List Gt} {pa : List (List Gt)} {sl : Nat → Option (List Gt)} {no : Nat} {v : Nat → Nat} (hn : 392 ≤ n) (e : f = tw f F A) (hW : WO f (F 17) gs pa sl (F 19) no v (A 7) (F 2) (A 0) (dz (F 16))) (hI : IV F A gs pa sl no v) (hs : sc A A') : JN n (tw f F A') :=
  JN.q hn e hW hI (fun _ _ _ _ _ => rfl) (fun a q => hs a (by omega)) (hI.2.2.2.2.2.2.kp rfl (hs 26 (by omega)))
theorem JN.qk {n : Nat} {f : Hp} {F F' : Nat → Nat} {A A' : Nat → Nat → Nat} {gs : List Gt} {pa : List (List Gt)} {sl : Nat → Option (List Gt)} {no : Nat} {v : Nat → Nat} (hn : 392 ≤ n) (e : f = tw f F A) (hW : WO f (F 17) gs pa sl (F 19) no v (A 7) (F 2) (A 0) (dz (F 16))) (hI : IV F A gs pa sl no v) (hk : kF F F') (hs : sc A A') : JN n (tw f F' A') :=
  JN.q hn e hW hI (fun k a b c _ => hk k a b c) (fun a q => hs a (by omega)) (hI.2.2.2.2.2.2.kp (hk 48 (by decide) (by decide) (by decide)) (hs 26 (by omega)))
theorem JN.qw {n : Nat} {f : Hp} {F F' : Nat → Nat} {A A' : Nat → Nat → Nat} {gs : List Gt} {pa : List (List Gt)} {sl : Nat → Option (List Gt)} {no : Nat} {v : Nat → Nat} (hn : 392 ≤ n) (e : f = tw f F A) (hW : WO f (F 17) gs pa sl (F 19) no v (A 7) (F 2) (A 0) (dz (F 16))) (hI : IV F A gs pa sl no v) (hk : kW F A F' A') : JN n (tw f F' A') :=
  JN.q hn e hW hI hk.1 hk.2.1 hk.2.2
/-! ===== a new BackLogic beside a new BackLogicModel ===== -/
theorem wo_start {f : Hp} (h0 : f 300 = some (x0C (-1) 0)) (hU : Up_ f 358) : WO f 0 [] [] (fun _ => none) 0 0 (fun _ => 0) pr0 0 (fun _ => 0) (-1) := by
  have c : ∀ id, 301 ≤ id → id < 358 → fxB id = true → f id = some (iC id) := hU
  have gl0 : GL f [] [] := ⟨rfl, fun i hi => absurd hi (Nat.not_lt_zero _)⟩
  refine ⟨h0, ⟨⟨⟨0, 0, 0, 0, 0, c 310 (by decide) (by decide) rfl⟩, ⟨_, c 315 (by decide) (by decide) rfl⟩, ⟨_, c 316 (by decide) (by decide) rfl⟩, 0, [], c 317 (by decide) (by decide) rfl, Or.inl rfl, by decide⟩, ⟨0, 0, c 301 (by decide) (by decide) rfl⟩, ⟨0, c 302 (by decide) (by decide) rfl⟩, ⟨c 304 (by decide) (by decide) rfl, c 303 (by decide) (by decide) rfl⟩, c 305 (by decide) (by decide) rfl, ⟨_, _, _, _, c 306 (by decide) (by decide) rfl, c 307 (by decide) (by decide) rfl, c 308 (by decide) (by decide) rfl, c 309 (by decide) (by decide) rfl⟩, c 311 (by decide) (by decide) rfl, ⟨[], c 312 (by decide) (by decide) rfl⟩, 0, 0, fun _ => 0, ⟨c 313 (by decide) (by decide) rfl, c 314 (by decide) (by decide) rfl⟩, fun _ _ => by decide⟩, ⟨[], c 318 (by decide) (by decide) rfl, c 319 (by decide) (by decide) rfl, gl0, by decide⟩, ⟨c 322 (by decide) (by decide) rfl, c 323 (by decide) (by decide) rfl⟩, ⟨[], c 350 (by decide) (by decide) rfl, rfl, fun i hi => absurd hi (Nat.not_lt_zero _)⟩, ⟨_, c 352 (by decide) (by decide) rfl, fun k _ => Or.inl ⟨rfl, rfl⟩⟩, ⟨_, c 353 (by decide) (by decide) rfl, fun i hi => ?_⟩, ⟨[], [], c 320 (by decide) (by decide) rfl, c 321 (by decide) (by decide) rfl, gl0, by decide⟩, ⟨0, 0, (fun _ => 0, [], []), [], [], c 324 (by decide) (by decide) rfl, ⟨_, c 325 (by decide) (by decide) rfl, fun x hx => absurd hx (Nat.not_lt_zero _)⟩, ⟨_, c 326 (by decide) (by decide) rfl⟩, c 327 (by decide) (by decide) rfl, c 328 (by decide) (by decide) rfl, gl0, gl0, by decide, by decide⟩, ⟨⟨0, 0, by decide, ⟨c 329 (by decide) (by decide) rfl, ⟨c 330 (by decide) (by decide) rfl, fun k hk => ⟨fun _ => false, ?_⟩⟩, ⟨0, [], c 341 (by decide) (by decide) rfl, Or.inl rfl, by decide⟩, ⟨0, [], c 342 (by decide) (by decide) rfl, Or.inl rfl⟩, ⟨0, [], c 346 (by decide) (by decide) rfl, Or.inl rfl⟩, _, c 345 (by decide) (by decide) rfl⟩, Or.inl rfl⟩, _, _, c 343 (by decide) (by decide) rfl, c 344 (by decide) (by decide) rfl⟩, ⟨0, 0, 0, fun _ => 0, fun _ => 0, ⟨c 347 (by decide) (by decide) rfl, c 348 (by decide) (by decide) rfl, c 349 (by decide) (by decide) rfl, by decide⟩, fun _ => by decide⟩, ⟨_, c 354 (by decide) (by decide) rfl⟩, ⟨_, c 355 (by decide) (by decide) rfl⟩, ⟨_, c 356 (by decide) (by decide) rfl⟩, _, c 357 (by decide) (by decide) rfl⟩
  · have h3 : i = 0 ∨ i = 1 ∨ i = 2 ∨ i = 3 := by omega
    rcases h3 with e | e | e | e <;> subst e <;> rfl
  · have h5 : k = 0 ∨ k = 1 ∨ k = 2 ∨ k = 3 ∨ k = 4 := by omega
    rcases h5 with e | e | e | e | e <;> subst e
    · exact c 331 (by decide) (by decide) rfl
    · exact c 333 (by decide) (by decide) rfl
    · exact c 335 (by decide) (by decide) rfl
    · exact c 337 (by decide) (by decide) rfl
    · exact c 339 (by decide) (by decide) rfl
theorem jn_start {f : Hp} {A : Nat → Nat → Nat} (h0 : f 300 = some (x0C (-1) 0)) (hU : Up_ f 358) (hA : ∀ a, a ≠ 6 → a ≠ 7 → ∀ i, A a i = 0) (h6 : ∀ k, k < 4 → A 6 k = keyN k) (h7 : A 7 0 = 1 ∧ A 7 1 = 1 ∧ A 7 2 = 5 ∧ A 7 3 = 13) : JN 392 (tw f F0c A) := by
  have ag : ∀ id, id < 358 → tw f F0c A id = f id := fun id h => tw_lo (Or.inl h)
  have hW := wo_start (f := tw f F0c A) ((ag 300 (by decide)).trans h0) (fun id a b c => (ag id b).trans (hU id a b c))
  have e0 : (fun _ => 0) = A 0 := by funext i; exact (hA 0 (by decide) (by decide) i).symm
  rw [e0] at hW
  refine ⟨Nat.le_refl _, F0c, A, [], [], fun _ => none, 0, fun _ => 0, tw_tw.symm, hW.pp (fun i hi => ?_), ⟨⟨by decide, fun i => by rw [hA 0 (by decide) (by decide)]; decide, fun i => by rw [hA 1 (by decide) (by decide)]; decide, h6⟩, by decide, ⟨Or.inl rfl, fun _ _ => by decide⟩, ⟨⟨hA 11 (by decide) (by decide) 0, by decide, fun g hg => absurd hg (Nat.not_lt_zero _)⟩, fun g hg => by cases hg⟩, ⟨⟨rfl, by decide, by decide, fun i hi => absurd hi (Nat.not_lt_zero _)⟩, fun q hq => by cases hq⟩, ⟨fun s _ => Or.inl ⟨rfl, hA 15 (by decide) (by decide) s⟩, fun s hs _ h => by cases h⟩, ⟨Or.inl rfl, fun h => absurd h (by decide)⟩⟩⟩
  have h3 : i = 0 ∨ i = 1 ∨ i = 2 ∨ i = 3 := by omega
  rcases h3 with e | e | e | e <;> subst e
  · exact h7.1
  · exact h7.2.1
  · exact h7.2.2.1
  · exact h7.2.2.2
