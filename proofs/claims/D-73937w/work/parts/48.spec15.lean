set_option maxRecDepth 100000
/-! ===== plain words: numbers of orders; how far an order is ===== -/
/-- how many of the m from a on are less than y -/
def cL (p : Nat → Nat) (y a : Nat) : Nat → Nat
  | 0 => 0
  | m + 1 => cL p y a m + (if p (a + m) < y then 1 else 0)
def plF (p : Nat → Nat) (R : Nat) : Nat → Nat
  | 0 => 0
  | i + 1 => plF p R i * (R - i) + cL p (p i) (i + 1) (R - (i + 1))
/-- the number of an order of R rows -/
def plc (p : Nat → Nat) (R : Nat) : Nat := plF p R R
def fall (R : Nat) : Nat → Nat
  | 0 => 1
  | i + 1 => fall R i * (R - i)
theorem fall_le : ∀ R, R < 9 → ∀ i, i < 9 → fall R i ≤ 40320 := by decide
theorem cL_le (p : Nat → Nat) (y a : Nat) : ∀ m, cL p y a m ≤ m
  | 0 => Nat.le_refl _
  | m + 1 => by have := cL_le p y a m; unfold cL; split <;> omega
theorem cL_front (p : Nat → Nat) (y a : Nat) : ∀ m, cL p y a (m + 1) = (if p a < y then 1 else 0) + cL p y (a + 1) m
  | 0 => by show 0 + (if p (a + 0) < y then 1 else 0) = _ + 0; rw [Nat.add_zero, Nat.zero_add, Nat.add_zero]
  | m + 1 => by
    show cL p y a (m + 1) + (if p (a + (m + 1)) < y then 1 else 0) = _ + (cL p y (a + 1) m + (if p (a + 1 + m) < y then 1 else 0))
    rw [cL_front p y a m, show a + 1 + m = a + (m + 1) by omega]; omega
theorem cL_ext {p q : Nat → Nat} {y a : Nat} : ∀ m, (∀ k, a ≤ k → k < a + m → p k = q k) → cL p y a m = cL q y a m
  | 0, _ => rfl
  | m + 1, h => by
    unfold cL
    rw [cL_ext m (fun k h1 h2 => h k h1 (by omega)), h (a + m) (by omega) (by omega)]
theorem cL_mono {p : Nat → Nat} {y y' a : Nat} (h : y ≤ y') : ∀ m, cL p y a m ≤ cL p y' a m
  | 0 => Nat.le_refl _
  | m + 1 => by
    have := cL_mono (p := p) (a := a) h m
    unfold cL; split <;> split <;> omega
theorem cL_lt {p : Nat → Nat} {y y' a : Nat} {j : Nat} (h1 : y ≤ p j) (h2 : p j < y') : ∀ m, a ≤ j → j < a + m → cL p y a m < cL p y' a m
  | 0, h3, h4 => by omega
  | m + 1, h3, h4 => by
    have hm := cL_mono (p := p) (a := a) (show y ≤ y' by omega) m
    unfold cL
    by_cases c : j = a + m
    · rw [← c, if_neg (by omega), if_pos h2]; omega
    · have := cL_lt (p := p) h1 h2 m h3 (by omega)
      split <;> split <;> omega
theorem plF_lt (p : Nat → Nat) (R : Nat) : ∀ i, i ≤ R → plF p R i < fall R i
  | 0, _ => Nat.one_pos
  | i + 1, h => by
    have h1 := plF_lt p R i (by omega)
    have h2 := cL_le p (p i) (i + 1) (R - (i + 1))
    show plF p R i * (R - i) + cL p (p i) (i + 1) (R - (i + 1)) < fall R i * (R - i)
    have h3 : (plF p R i + 1) * (R - i) ≤ fall R i * (R - i) := Nat.mul_le_mul_right _ h1
    rw [Nat.add_mul, Nat.one_mul] at h3
    omega
theorem plF_b {R : Nat} (hR : R ≤ 8) (p : Nat → Nat) {i : Nat} (hi : i ≤ R) : plF p R i < 40320 := Nat.lt_of_lt_of_le (plF_lt p R i hi) (fall_le R (by omega) i (by omega))
theorem plc_b {R : Nat} (hR : R ≤ 8) (p : Nat → Nat) : plc p R < 40320 := plF_b hR p (Nat.le_refl _)
theorem plF_ext {p q : Nat → Nat} {R : Nat} (h : ∀ i, i < R → p i = q i) : ∀ i, i ≤ R → plF p R i = plF q R i
  | 0, _ => rfl
  | i + 1, hi => by
    unfold plF
    rw [plF_ext h i (by omega), h i (by omega), cL_ext _ (fun k h1 h2 => h k (by omega))]
theorem plc_ext {p q : Nat → Nat} {R : Nat} (h : ∀ i, i < R → p i = q i) : plc p R = plc q R := plF_ext h R (Nat.le_refl _)
theorem plF_mod {p : Nat → Nat} {R i : Nat} (hi : i < R) : plF p R (i + 1) % (R - i) = cL p (p i) (i + 1) (R - (i + 1)) ∧ plF p R (i + 1) / (R - i) = plF p R i := by
  have h2 := cL_le p (p i) (i + 1) (R - (i + 1))
  have e : plF p R (i + 1) = cL p (p i) (i + 1) (R - (i + 1)) + (R - i) * plF p R i := by
    show plF p R i * (R - i) + _ = _
    rw [Nat.mul_comm]; omega
  rw [e]
  refine ⟨?_, ?_⟩
  · rw [Nat.add_mul_mod_self_left, Nat.mod_eq_of_lt (by omega)]
  · rw [Nat.add_mul_div_left _ _ (by omega), Nat.div_eq_of_lt (by omega), Nat.zero_add]
/-- an order of R rows -/
def Pm (R : Nat) (p : Nat → Nat) : Prop := (∀ i, i < R → p i < R) ∧ ∀ i j, i < j → j < R → p i ≠ p j
theorem Pm.ext {R : Nat} {p q : Nat → Nat} (h : Pm R p) (e : ∀ i, i < R → p i = q i) : Pm R q :=
  ⟨fun i hi => by rw [← e i hi]; exact h.1 i hi, fun i j h1 h2 => by rw [← e i (by omega), ← e j h2]; exact h.2 i j h1 h2⟩
theorem Pm.inj {R : Nat} {p : Nat → Nat} (h : Pm R p) {i j : Nat} (hi : i < R) (hj : j < R) (e : p i = p j) : i = j := by
  rcases Nat.lt_trichotomy i j with q | q | q
  · exact absurd e (h.2 i j q hj)
  · exact q
  · exact absurd e.symm (h.2 j i q hi)
/-- a rank among those from i on, and among those behind i -/
theorem rk_i {p : Nat → Nat} {R i : Nat} (hi : i < R) : cL p (p i) i (R - i) = cL p (p i) (i + 1) (R - (i + 1)) := by
  rw [show R - i = (R - (i + 1)) + 1 by omega, cL_front, if_neg (Nat.lt_irrefl _), Nat.zero_add]
theorem rk_j {p : Nat → Nat} {R i j : Nat} (hi : i < R) : cL p (p j) i (R - i) = cL p (p j) (i + 1) (R - (i + 1)) + (if p i < p j then 1 else 0) := by
  rw [show R - i = (R - (i + 1)) + 1 by omega, cL_front, Nat.add_comm]
theorem rk_c {p : Nat → Nat} {R i j : Nat} (hp : Pm R p) (hij : i < j) (hj : j < R) : cL p (p i) (i + 1) (R - (i + 1)) ≤ cL p (p j) (i + 1) (R - (i + 1)) ↔ p i < p j := by
  constructor
  · intro h
    by_cases c : p i < p j
    · exact c
    · have hne := hp.2 i j hij hj
      have := cL_lt (p := p) (y := p j) (y' := p i) (a := i + 1) (j := j) (Nat.le_refl _) (by omega) (R - (i + 1)) (by omega) (by omega)
      omega
  · intro h; exact cL_mono (by omega) _
theorem cL_eq {p : Nat → Nat} {y : Nat} : ∀ m, (∀ k, k < m → p k ≠ y) → cL p (y + 1) 0 m = cL p y 0 m
  | 0, _ => rfl
  | m + 1, h => by
    unfold cL
    rw [cL_eq m (fun k hk => h k (by omega))]
    have := h m (by omega)
    rw [Nat.zero_add]
    split <;> split <;> omega
theorem cL_s1 {p : Nat → Nat} {y : Nat} : ∀ m, (∀ i j, i < j → j < m → p i ≠ p j) → cL p (y + 1) 0 m ≤ cL p y 0 m + 1
  | 0, _ => Nat.zero_le _
  | m + 1, h => by
    by_cases c : p m = y
    · have := cL_eq (p := p) (y := y) m (fun k hk => by rw [← c]; exact h k m hk (by omega))
      unfold cL
      rw [this, Nat.zero_add]
      split <;> split <;> omega
    · have := cL_s1 (p := p) (y := y) m (fun i j h1 h2 => h i j h1 (by omega))
      unfold cL
      rw [Nat.zero_add]
      split <;> split <;> omega
theorem cL_0 {p : Nat → Nat} : ∀ m, cL p 0 0 m = 0
  | 0 => rfl
  | m + 1 => by unfold cL; rw [cL_0 m, if_neg (Nat.not_lt_zero _)]
theorem cL_all {p : Nat → Nat} {y : Nat} : ∀ m, (∀ k, k < m → p k < y) → cL p y 0 m = m
  | 0, _ => rfl
  | m + 1, h => by unfold cL; rw [cL_all m (fun k hk => h k (by omega)), if_pos (by rw [Nat.zero_add]; exact h m (by omega))]
theorem cL_up {R : Nat} {p : Nat → Nat} (hp : Pm R p) (y : Nat) : ∀ d, cL p (y + d) 0 R ≤ cL p y 0 R + d
  | 0 => Nat.le_refl _
  | d + 1 => by
    have h1 := cL_up hp y d
    have h2 := cL_s1 (p := p) (y := y + d) R hp.2
    rw [show y + (d + 1) = y + d + 1 by omega]; omega
theorem cL_full {R : Nat} {p : Nat → Nat} (hp : Pm R p) {y : Nat} (hy : y ≤ R) : cL p y 0 R = y := by
  have h1 := cL_up hp 0 y
  rw [Nat.zero_add, cL_0] at h1
  have h2 := cL_up hp y (R - y)
  rw [show y + (R - y) = R by omega, cL_all R hp.1] at h2
  omega
/-- two orders of one number are the same -/
theorem rk_back {R : Nat} {p q : Nat → Nat} (hp : Pm R p) (hq : Pm R q) : ∀ d i, i + d = R → plF p R R = plF q R R → plF p R i = plF q R i ∧ ∀ j, i ≤ j → j < R → cL p (p j) i (R - i) = cL q (q j) i (R - i)
  | 0, i, h, e => ⟨by rw [show i = R by omega]; exact e, fun j h1 h2 => by omega⟩
  | d + 1, i, h, e => by
    obtain ⟨h1, h2⟩ := rk_back hp hq d (i + 1) (by omega) e
    have hi : i < R := by omega
    obtain ⟨m1, m2⟩ := plF_mod (p := p) hi
    obtain ⟨m3, m4⟩ := plF_mod (p := q) hi
    rw [h1] at m1 m2
    have ec : cL p (p i) (i + 1) (R - (i + 1)) = cL q (q i) (i + 1) (R - (i + 1)) := by rw [← m1, ← m3]
    refine ⟨by rw [← m2, ← m4], fun j j1 j2 => ?_⟩
    by_cases c : j = i
    · rw [c, rk_i hi, rk_i hi]; exact ec
    · rw [rk_j hi, rk_j hi, h2 j (by omega) j2]
      have a1 := rk_c hp (show i < j by omega) j2
      have a2 := rk_c hq (show i < j by omega) j2
      rw [ec, h2 j (by omega) j2] at a1
      by_cases c2 : p i < p j
      · rw [if_pos c2, if_pos (a2.mp (a1.mpr c2))]
      · rw [if_neg c2, if_neg (fun z => c2 (a1.mp (a2.mpr z)))]
theorem plc_inj {R : Nat} {p q : Nat → Nat} (hp : Pm R p) (hq : Pm R q) (h : plc p R = plc q R) : ∀ i, i < R → p i = q i := by
  intro i hi
  have := (rk_back hp hq R 0 (by omega) h).2 i (by omega) hi
  rw [Nat.sub_zero, cL_full hp (Nat.le_of_lt (hp.1 i hi)), cL_full hq (Nat.le_of_lt (hq.1 i hi))] at this
  exact this
/-! how many gates make an order -/
def gq (w : Nat) (g : Gt) : Prop := g.1 < w ∧ g.2.1 < rN w ∧ g.2.1.testBit g.1 = false ∧ g.2.2 = 0
theorem gq.ok {w : Nat} {g : Gt} (h : gq w g) : gok w g := ⟨h.1, h.2.1, by rw [h.2.2.2]; exact rN_pos w, h.2.2.1, by rw [h.2.2.2]; exact Nat.zero_testBit _, by rw [h.2.2.2]; exact Nat.and_zero _⟩
theorem gok.mm {w : Nat} {g : Gt} (h : gok w g) (x : Nat) : mk g (mk g x) = x := mk_mk h.2.2.2.1 h.2.2.2.2.1
theorem Pm_id (R : Nat) : Pm R (fun i => i) := ⟨fun i hi => hi, fun i j h1 _ => by show i ≠ j; omega⟩
theorem Pm.post {w : Nat} {p : Nat → Nat} {g : Gt} (h : Pm (rN w) p) (hg : gok w g) : Pm (rN w) (fun i => mk g (p i)) :=
  ⟨fun i hi => mk_lt hg.1 (h.1 i hi), fun i j h1 h2 e => h.2 i j h1 h2 (by have := congrArg (fun x => mk g x) e; simp only [hg.mm] at this; exact this)⟩
theorem Pm.pre {w : Nat} {p : Nat → Nat} {g : Gt} (h : Pm (rN w) p) (hg : gok w g) : Pm (rN w) (fun i => p (mk g i)) :=
  ⟨fun i hi => h.1 _ (mk_lt hg.1 hi), fun i j h1 h2 e => by
    have := h.inj (mk_lt hg.1 (by omega)) (mk_lt hg.1 h2) e
    have := congrArg (fun x => mk g x) this
    simp only [hg.mm] at this
    omega⟩
theorem Pm_run {w : Nat} {gs : List Gt} (h : ∀ g ∈ gs, gok w g) : Pm (rN w) (run gs) :=
  ⟨fun i hi => run_lt (fun g hg => (h g hg).1) hi, fun i j h1 h2 e => by
    have := congrArg (run gs.reverse) e
    rw [run_rev' gs i h, run_rev' gs j h] at this
    omega⟩
/-- an order that k gates make -/
def rch (w k : Nat) (p : Nat → Nat) : Prop := ∃ ws : List Gt, ws.length = k ∧ (∀ g ∈ ws, gq w g) ∧ ∀ i, i < rN w → p i = run ws i
def IsD (w : Nat) (p : Nat → Nat) (k : Nat) : Prop := rch w k p ∧ ∀ j, j < k → ¬ rch w j p
def D8 (w : Nat) : Prop := ∀ p, Pm (rN w) p → ∃ k, k ≤ 8 ∧ rch w k p
theorem rch.ext {w k : Nat} {p q : Nat → Nat} (h : rch w k p) (e : ∀ i, i < rN w → p i = q i) : rch w k q := by
  obtain ⟨ws, h1, h2, h3⟩ := h
  exact ⟨ws, h1, h2, fun i hi => by rw [← e i hi]; exact h3 i hi⟩
theorem rch.pm {w k : Nat} {p : Nat → Nat} (h : rch w k p) : Pm (rN w) p := by
  obtain ⟨ws, h1, h2, h3⟩ := h
  exact (Pm_run (fun g hg => (h2 g hg).ok)).ext (fun i hi => (h3 i hi).symm)
theorem rch.snoc {w k : Nat} {p q : Nat → Nat} {g : Gt} (h : rch w k p) (hg : gq w g) (e : ∀ i, i < rN w → q i = mk g (p i)) : rch w (k + 1) q := by
  obtain ⟨ws, h1, h2, h3⟩ := h
  refine ⟨ws ++ [g], by rw [List.length_append, h1]; rfl, fun g' hg' => ?_, fun i hi => ?_⟩
  · rcases List.mem_append.mp hg' with z | z
    · exact h2 g' z
    · rw [List.mem_singleton.mp z]; exact hg
  · rw [run_app, e i hi, h3 i hi]; rfl
theorem rch.last {w k : Nat} {q : Nat → Nat} (h : rch w (k + 1) q) : ∃ g p, gq w g ∧ rch w k p ∧ ∀ i, i < rN w → q i = mk g (p i) := by
  obtain ⟨ws, h1, h2, h3⟩ := h
  rcases List.eq_nil_or_concat ws with e | ⟨a, g, e⟩
  · rw [e] at h1; cases h1
  · have e' : ws = a ++ [g] := by rw [e]; simp
    rw [e', List.length_append] at h1
    rw [e'] at h2 h3
    refine ⟨g, run a, h2 g (by simp), ⟨a, by have : a.length + 1 = k + 1 := h1; omega, fun g' hg' => h2 g' (List.mem_append.mpr (Or.inl hg')), fun _ _ => rfl⟩, fun i hi => ?_⟩
    rw [h3 i hi, run_app]; rfl
theorem rch.cons {w k : Nat} {p q : Nat → Nat} {g : Gt} (h : rch w k p) (hg : gq w g) (e : ∀ i, i < rN w → q i = p (mk g i)) : rch w (k + 1) q := by
  obtain ⟨ws, h1, h2, h3⟩ := h
  refine ⟨g :: ws, by rw [List.length_cons, h1], fun g' hg' => ?_, fun i hi => ?_⟩
  · rcases List.mem_cons.mp hg' with z | z
    · rw [z]; exact hg
    · exact h2 g' z
  · rw [run_cons, e i hi, h3 _ (mk_lt hg.1 hi)]
theorem IsD.ext {w k : Nat} {p q : Nat → Nat} (h : IsD w p k) (e : ∀ i, i < rN w → p i = q i) : IsD w q k :=
  ⟨h.1.ext e, fun j hj z => h.2 j hj (z.ext (fun i hi => (e i hi).symm))⟩
theorem IsD.uni {w j k : Nat} {p : Nat → Nat} (h : IsD w p j) (h' : IsD w p k) : j = k := by
  rcases Nat.lt_trichotomy j k with q | q | q
  · exact absurd h.1 (h'.2 j q)
  · exact q
  · exact absurd h'.1 (h.2 k q)
theorem rch.isD {w : Nat} {p : Nat → Nat} : ∀ k, rch w k p → ∃ j, j ≤ k ∧ IsD w p j := by
  intro k
  induction k using Nat.strongRecOn with
  | _ k ih =>
    intro h
    by_cases c : ∃ j, j < k ∧ rch w j p
    · obtain ⟨j, h1, h2⟩ := c
      obtain ⟨i, h3, h4⟩ := ih j h1 h2
      exact ⟨i, by omega, h4⟩
    · exact ⟨k, Nat.le_refl _, h, fun j hj z => c ⟨j, hj, z⟩⟩
theorem D8.isD {w : Nat} (h : D8 w) {p : Nat → Nat} (hp : Pm (rN w) p) : ∃ k, k ≤ 8 ∧ IsD w p k := by
  obtain ⟨k, h1, h2⟩ := h p hp
  obtain ⟨j, h3, h4⟩ := h2.isD k
  exact ⟨j, by omega, h4⟩
theorem IsD.le8 {w : Nat} (h : D8 w) {p : Nat → Nat} {k : Nat} (hp : IsD w p k) : k ≤ 8 := by
  obtain ⟨j, h1, h2⟩ := h.isD hp.1.pm
  rw [hp.uni h2]; exact h1
/-- the table: how far each order is -/
def TabR (w : Nat) (T : Nat → Nat) : Prop := ∀ p, Pm (rN w) p → T (plc p (rN w)) ≤ 8 ∧ IsD w p (T (plc p (rN w)))
/-- the queue: m orders, how far each is, the numbers of them -/
def BQ (w m : Nat) (ps : Nat → Nat → Nat) (e W T : Nat → Nat) : Prop := 1 ≤ m ∧ (∀ i, i < rN w → ps 0 i = i) ∧ (∀ j, j < m → W j = plc (ps j) (rN w) ∧ T (W j) = e j ∧ IsD w (ps j) (e j)) ∧ (∀ i j, i < j → j < m → W i ≠ W j) ∧ (∀ i j, i ≤ j → j < m → e i ≤ e j) ∧ ∀ c, c < 40320 → (∀ j, j < m → c ≠ W j) → T c = 99
/-- whose neighbours are all there -/
def nbQ (w m : Nat) (ps : Nat → Nat → Nat) (j : Nat) (g : Gt) : Prop := ∃ i, i < m ∧ ∀ x, x < rN w → ps i x = mk g (ps j x)
theorem BQ.near {w m k : Nat} {ps : Nat → Nat → Nat} {e W T : Nat → Nat} (h : BQ w m ps e W T) (hk : k < m) (hn : ∀ j g, j < k → gq w g → nbQ w m ps j g) : ∀ d q, d ≤ e k → IsD w q d → ∃ i, i < m ∧ e i = d ∧ ∀ x, x < rN w → ps i x = q x
  | 0, q, _, hq => by
    obtain ⟨ws, w1, w2, w3⟩ := hq.1
    have : ws = [] := List.eq_nil_of_length_eq_zero w1
    subst this
    have eq : ∀ x, x < rN w → ps 0 x = q x := fun x hx => by rw [h.2.1 x hx, w3 x hx]; rfl
    refine ⟨0, h.1, ?_, eq⟩
    exact ((h.2.2.1 0 h.1).2.2.ext eq).uni hq
  | d + 1, q, hd, hq => by
    obtain ⟨g, p, g1, g2, g3⟩ := hq.1.last
    have hp : IsD w p d := ⟨g2, fun j hj z => hq.2 (j + 1) (by omega) (z.snoc g1 g3)⟩
    obtain ⟨i, i1, i2, i3⟩ := h.near hk hn d p (by omega) hp
    have ik : i < k := by
      by_cases c : i < k
      · exact c
      · have := h.2.2.2.2.1 k i (by omega) i1; omega
    obtain ⟨i', j1, j2⟩ := hn i g ik g1
    have eq : ∀ x, x < rN w → ps i' x = q x := fun x hx => by rw [j2 x hx, i3 x hx, g3 x hx]
    exact ⟨i', j1, ((h.2.2.1 i' j1).2.2.ext eq).uni hq, eq⟩
theorem BQ.out {w m : Nat} {ps : Nat → Nat → Nat} {e W T : Nat → Nat} (hD : D8 w) (h : BQ w m ps e W T) {q : Nat → Nat} (h99 : ¬ T (plc q (rN w)) < 99) : ∀ i, i < m → plc q (rN w) ≠ W i := by
  intro i hi z
  rw [z, (h.2.2.1 i hi).2.1] at h99
  have := (h.2.2.1 i hi).2.2.le8 hD
  omega
theorem BQ.room {w m : Nat} (hw : w ≤ 3) {ps : Nat → Nat → Nat} {e W T : Nat → Nat} (h : BQ w m ps e W T) {c : Nat} (hc : c < 40320) (ho : ∀ i, i < m → c ≠ W i) : m < 40320 := by
  by_cases cm : m < 40320
  · exact cm
  · have hR : rN w ≤ 8 := rN_le (k := 3) hw
    obtain ⟨i, j, h1, h2, h3⟩ := pigeon 40320 (fun i => if i < m then W i else c) (fun i hi => by
      show (if i < m then W i else c) < 40320
      split
      · rename_i z; rw [(h.2.2.1 i z).1]; exact plc_b hR _
      · exact hc)
    have h3' : (if i < m then W i else c) = (if j < m then W j else c) := h3
    by_cases c1 : i < m
    · rw [if_pos c1] at h3'
      by_cases c2 : j < m
      · rw [if_pos c2] at h3'
        exact absurd h3' (h.2.2.2.1 i j h1 c2)
      · rw [if_neg c2] at h3'
        exact absurd h3'.symm (ho i c1)
    · omega
theorem BQ.add {w m k : Nat} (hw : w ≤ 3) (hD : D8 w) {ps : Nat → Nat → Nat} {e W T : Nat → Nat} {g : Gt} {q : Nat → Nat} (h : BQ w m ps e W T) (hk : k < m) (hn : ∀ j g, j < k → gq w g → nbQ w m ps j g) (hs : ∀ j, j < m → e j ≤ e k + 1) (hg : gq w g) (hq : ∀ x, x < rN w → q x = mk g (ps k x)) (h99 : ¬ T (plc q (rN w)) < 99) : m < 40320 ∧ BQ w (m + 1) (fun j => if j = m then q else ps j) (fun j => if j = m then e k + 1 else e j) (fun j => if j = m then plc q (rN w) else W j) (fun c => if c = plc q (rN w) then e k + 1 else T c) := by
  have hR : rN w ≤ 8 := rN_le (k := 3) hw
  have ho := h.out hD h99
  have hm := h.room hw (plc_b hR q) ho
  refine ⟨hm, ?_⟩
  have hDq : IsD w q (e k + 1) := by
    refine ⟨(h.2.2.1 k hk).2.2.1.snoc hg hq, fun j hj z => ?_⟩
    obtain ⟨d, d1, d2⟩ := z.isD j
    obtain ⟨i, i1, i2, i3⟩ := h.near hk hn d q (by omega) d2
    exact ho i i1 (by rw [(h.2.2.1 i i1).1]; exact plc_ext (fun x hx => (i3 x hx).symm))
  refine ⟨by omega, fun i hi => ?_, fun j hj => ?_, fun i j h1 h2 => ?_, fun i j h1 h2 => ?_, fun c hc hcn => ?_⟩
  · show (if 0 = m then q else ps 0) i = i
    have := h.1
    rw [if_neg (by omega)]; exact h.2.1 i hi
  · by_cases c : j = m
    · subst c
      simp only [if_pos]
      exact ⟨trivial, trivial, hDq⟩
    · simp only [if_neg c]
      have hj' := h.2.2.1 j (by omega)
      refine ⟨hj'.1, ?_, hj'.2.2⟩
      rw [if_neg (fun z => ho j (by omega) z.symm)]
      exact hj'.2.1
  · show (if i = m then _ else _) ≠ (if j = m then _ else _)
    rw [if_neg (by omega)]
    by_cases c : j = m
    · rw [if_pos c]; exact fun z => ho i (by omega) z.symm
    · rw [if_neg c]; exact h.2.2.2.1 i j h1 (by omega)
  · show (if i = m then _ else _) ≤ (if j = m then _ else _)
    by_cases c : j = m
    · rw [if_pos c]
      by_cases c2 : i = m
      · rw [if_pos c2]; exact Nat.le_refl _
      · rw [if_neg c2]; exact hs i (by omega)
    · rw [if_neg c, if_neg (by omega)]; exact h.2.2.2.2.1 i j h1 (by omega)
  · have c1 : c ≠ plc q (rN w) := by
      have := hcn m (by omega)
      simp only [if_pos] at this
      exact this
    show (if c = _ then _ else T c) = 99
    rw [if_neg c1]
    refine h.2.2.2.2.2 c hc (fun j hj => ?_)
    have := hcn j (by omega)
    simp only [if_neg (show ¬ j = m by omega)] at this
    exact this
theorem nbQ.up {w m j : Nat} {ps : Nat → Nat → Nat} {q : Nat → Nat} {g : Gt} (hj : j < m) (h : nbQ w m ps j g) : nbQ w (m + 1) (fun j => if j = m then q else ps j) j g := by
  obtain ⟨i, i1, i2⟩ := h
  refine ⟨i, by omega, fun x hx => ?_⟩
  show (if i = m then q else ps i) x = mk g ((if j = m then q else ps j) x)
  rw [if_neg (by omega), if_neg (by omega)]; exact i2 x hx
theorem BQ.tab {w m : Nat} (hD : D8 w) {ps : Nat → Nat → Nat} {e W T : Nat → Nat} (h : BQ w m ps e W T) (hn : ∀ j g, j < m → gq w g → nbQ w m ps j g) : TabR w T := by
  have all : ∀ k q, rch w k q → ∃ i, i < m ∧ ∀ x, x < rN w → ps i x = q x := by
    intro k
    induction k with
    | zero =>
      intro q hq
      obtain ⟨ws, w1, w2, w3⟩ := hq
      have : ws = [] := List.eq_nil_of_length_eq_zero w1
      subst this
      exact ⟨0, h.1, fun x hx => by rw [h.2.1 x hx, w3 x hx]; rfl⟩
    | succ k ih =>
      intro q hq
      obtain ⟨g, p, g1, g2, g3⟩ := hq.last
      obtain ⟨i, i1, i2⟩ := ih p g2
      obtain ⟨j, j1, j2⟩ := hn i g i1 g1
      exact ⟨j, j1, fun x hx => by rw [j2 x hx, i2 x hx, g3 x hx]⟩
  intro p hp
  obtain ⟨k, _, k2⟩ := hD p hp
  obtain ⟨i, i1, i2⟩ := all k p k2
  have e1 : plc p (rN w) = W i := by rw [(h.2.2.1 i i1).1]; exact plc_ext (fun x hx => (i2 x hx).symm)
  have hi := (h.2.2.1 i i1).2
  rw [e1, hi.1]
  exact ⟨hi.2.le8 hD, hi.2.ext i2⟩
/-! the first gates of the fewest -/
def fsI (T : Nat → Nat) (R : Nat) (p : Nat → Nat) (left : Nat) : Nat → Nat → Option (Nat × Nat)
  | 0, _ => none
  | m + 1, c => if (c % R).testBit (c / R) then fsI T R p left m (c + 1) else if T (plc (fun r => p (mk (c / R, c % R, 0) r)) R) = left then some (c / R, c % R) else fsI T R p left m (c + 1)
def fstL (T : Nat → Nat) (w : Nat) : Nat → (Nat → Nat) → List (Nat × Nat)
  | 0, _ => []
  | left + 1, p => match fsI T (rN w) p left (w * rN w) 0 with
    | some g => g :: fstL T w left (fun r => p (mk (g.1, g.2, 0) r))
    | none => fstL T w left p
