set_option maxRecDepth 100000
/-! ===== plain words: what is asked of gates; rounds of an order ===== -/
/-- arrays that aren't scratch stay -/
def sc (A A' : Nat → Nat → Nat) : Prop := ∀ a, (a ≤ 11 ∨ 13 ≤ a ∧ a ≤ 15 ∨ a = 26) → A' a = A a
theorem sc.rf {A : Nat → Nat → Nat} : sc A A := fun _ _ => rfl
theorem sc.t {A A1 A2 : Nat → Nat → Nat} (h : sc A A1) (h' : sc A1 A2) : sc A A2 := fun a q => (h' a q).trans (h a q)
theorem kA.sc {A A' : Nat → Nat → Nat} (h : kA A A') : sc A A' := fun a q => h a (by omega) (by omega) (by omega) (by omega) (by omega) (by omega) (by omega) (by omega)
theorem kF.rf {F : Nat → Nat} : kF F F := fun _ _ _ _ => rfl
def gateS (w : Nat) (gs : List Gt) (pr : Nat → Nat) (y z : Int) : Int :=
  if 0 ≤ y ∧ y < gs.length then
    (if z = 0 then ((gt gs y.toNat).1 : Int) else if z = 1 then ((gt gs y.toNat).2.1 : Int) else if z = 2 then ((gt gs y.toNat).2.2 : Int)
     else if z = 3 then (pr (bits ((gt gs y.toNat).2.1 ||| (gt gs y.toNat).2.2)) : Int) else if z = 4 then (lvT gs gs.length y.toNat : Int)
     else if z = 5 then (frB w gs y.toNat y.toNat : Int) else if z = 6 then (frA w gs y.toNat (gs.length - (y.toNat + 1)) : Int) else -1)
  else -1
theorem ctl_b : ((List.range 4).all fun t => (List.range 16).all fun c => c.testBit t || decide (bits c < 4)) = true := by decide +kernel
theorem ctl_lt {g : Gt} (h : gok 4 g) : bits (g.2.1 ||| g.2.2) < 4 := by
  obtain ⟨h1, h2, h3, h4, h5, h6⟩ := h
  have q := all_r (all_r ctl_b h1) (or_lt (w := 4) h2 h3)
  rw [Nat.testBit_or, h4, h5] at q
  simpa using q
def tellG (g : Gt) (z : Int) : Int := if z = 0 then (g.1 : Int) else if z = 1 then (g.2.1 : Int) else (g.2.2 : Int)
def askG (gs : List Gt) (y z : Int) : Int := if y = -1 then (gs.length : Int) else if (0 ≤ y ∧ y < gs.length) ∧ 0 ≤ z ∧ z ≤ 2 then tellG (gt gs y.toNat) z else -1
def ftAt (l : List (Nat × Nat)) (k : Nat) : Nat × Nat := l.getD k (0, 0)
def askF (l : List (Nat × Nat)) (y z : Int) : Int := if y = -1 then (l.length : Int) else if (0 ≤ y ∧ y < l.length) ∧ 0 ≤ z ∧ z ≤ 1 then (if z = 0 then ((ftAt l y.toNat).1 : Int) else ((ftAt l y.toNat).2 : Int)) else -1
theorem run_rev {w : Nat} : ∀ (gs : List Gt) (x : Nat), (∀ g ∈ gs, gok w g) → run gs (run gs.reverse x) = x
  | [], x, _ => rfl
  | g :: t, x, h => by
    rw [List.reverse_cons, run_app, run_cons]
    show run t (mk g (mk g (run t.reverse x))) = x
    have hg := h g List.mem_cons_self
    rw [mk_mk hg.2.2.2.1 hg.2.2.2.2.1]
    exact run_rev t x (fun g' hg' => h g' (List.mem_cons_of_mem _ hg'))
theorem run_rev' {w : Nat} (gs : List Gt) (x : Nat) (h : ∀ g ∈ gs, gok w g) : run gs.reverse (run gs x) = x := by
  have := run_rev (w := w) gs.reverse x (fun g hg => h g (List.mem_reverse.mp hg))
  rw [List.reverse_reverse] at this
  exact this
theorem onto_run {w : Nat} {gs : List Gt} (h : ∀ g ∈ gs, gok w g) : onto (rN w) (run gs) := ⟨fun x hx => run_lt (fun g hg => (h g hg).1) hx, fun x hx => ⟨run gs.reverse x, run_lt (fun g hg => (h g (List.mem_reverse.mp hg)).1) hx, run_rev gs x h⟩⟩
/-! rounds -/
def itr (p : Nat → Nat) : Nat → Nat → Nat
  | 0, r => r
  | j + 1, r => itr p j (p r)
theorem itr_add (p : Nat → Nat) : ∀ i j x, itr p (i + j) x = itr p j (itr p i x)
  | 0, j, x => by rw [Nat.zero_add]; rfl
  | i + 1, j, x => by rw [show i + 1 + j = (i + j) + 1 by omega]; exact itr_add p i j (p x)
theorem itr_s (p : Nat → Nat) (i x : Nat) : itr p (i + 1) x = p (itr p i x) := itr_add p i 1 x
theorem pigeon : ∀ (R : Nat) (f : Nat → Nat), (∀ i, i ≤ R → f i < R) → ∃ i j, i < j ∧ j ≤ R ∧ f i = f j
  | 0, f, h => absurd (h 0 (Nat.le_refl _)) (Nat.not_lt_zero _)
  | R + 1, f, h => by
    by_cases c : ∃ i, i ≤ R ∧ f i = f (R + 1)
    · obtain ⟨i, h1, h2⟩ := c
      exact ⟨i, R + 1, by omega, Nat.le_refl _, h2⟩
    · have c' : ∀ i, i ≤ R → f i ≠ f (R + 1) := fun i hi e => c ⟨i, hi, e⟩
      obtain ⟨i, j, h1, h2, h3⟩ := pigeon R (fun i => if f i = R then f (R + 1) else f i) (fun i hi => by
        have q1 := h i (by omega)
        have q2 := h (R + 1) (Nat.le_refl _)
        have q3 := c' i hi
        split <;> omega)
      have q1 := c' i (by omega)
      have q2 := c' j h2
      refine ⟨i, j, h1, by omega, ?_⟩
      split at h3 <;> split at h3 <;> omega
theorem itr_lt {p : Nat → Nat} {R : Nat} (h : ∀ x, x < R → p x < R) : ∀ j x, x < R → itr p j x < R
  | 0, x, hx => hx
  | j + 1, x, hx => itr_lt h j (p x) (h x hx)
theorem itr_inj {p q : Nat → Nat} {R : Nat} (h : ∀ x, x < R → p x < R) (hq : ∀ x, x < R → q (p x) = x) : ∀ i x y, x < R → y < R → itr p i x = itr p i y → x = y
  | 0, x, y, _, _, e => e
  | i + 1, x, y, hx, hy, e => by
    have := itr_inj h hq i (p x) (p y) (h x hx) (h y hy) e
    rw [← hq x hx, ← hq y hy, this]
theorem cyc_ret {p q : Nat → Nat} {R x : Nat} (h : ∀ x, x < R → p x < R) (hq : ∀ x, x < R → q (p x) = x) (hx : x < R) : ∃ j, j < R ∧ itr p j (p x) = x := by
  obtain ⟨i, j, h1, h2, h3⟩ := pigeon R (fun i => itr p i x) (fun i _ => itr_lt h i x hx)
  rw [show j = (j - i) + i by omega, itr_add] at h3
  have e := itr_inj h hq i x (itr p (j - i) x) hx (itr_lt h _ x hx) h3
  refine ⟨j - i - 1, by omega, ?_⟩
  rw [show j - i = (j - i - 1) + 1 by omega] at e
  exact e.symm
/-- from r on till x is met again: how many, the least of them -/
def cyW (p : Nat → Nat) (x : Nat) : Nat → Nat → Nat → Nat → Nat × Nat
  | 0, _, n, l => (n, l)
  | m + 1, r, n, l => if r = x then (n, l) else cyW p x m (p r) (n + 1) (if r < l then r else l)
def cyc (p : Nat → Nat) (x : Nat) : Nat × Nat := cyW p x 16 (p x) 1 x
theorem cyW_n {p : Nat → Nat} {x : Nat} : ∀ m r n l, (∃ j, j < m ∧ itr p j r = x) → n + m = 17 → n ≤ (cyW p x m r n l).1 ∧ (cyW p x m r n l).1 ≤ 16
  | 0, r, n, l, ⟨j, h, _⟩, _ => absurd h (Nat.not_lt_zero _)
  | m + 1, r, n, l, ⟨j, h, e⟩, hn => by
    unfold cyW
    by_cases c : r = x
    · rw [if_pos c]; simp only; omega
    · rw [if_neg c]
      cases j with
      | zero => exact absurd e c
      | succ j =>
        have := cyW_n m (p r) (n + 1) (if r < l then r else l) ⟨j, by omega, e⟩ (by omega)
        omega
theorem cyc_n {p q : Nat → Nat} {R x : Nat} (hR : R ≤ 16) (h : ∀ x, x < R → p x < R) (hq : ∀ x, x < R → q (p x) = x) (hx : x < R) : 1 ≤ (cyc p x).1 ∧ (cyc p x).1 ≤ 16 := by
  obtain ⟨j, h1, h2⟩ := cyc_ret h hq hx
  exact cyW_n 16 (p x) 1 x ⟨j, by omega, h2⟩ rfl
def odS (p : Nat → Nat) (x : Nat) (s : Nat × Nat × Nat × Nat) : Nat × Nat × Nat × Nat :=
  if (cyc p x).2 < x then s else (s.1 + 1, (if s.2.1 < (cyc p x).1 then (cyc p x).1 else s.2.1), s.2.2.1 / Nat.gcd s.2.2.1 (cyc p x).1 * (cyc p x).1, (if (cyc p x).1 = 1 then s.2.2.2 + 1 else s.2.2.2))
/-- rounds, the longest, their common number, rows that stay: of the first rows -/
def odF (p : Nat → Nat) : Nat → Nat × Nat × Nat × Nat
  | 0 => (0, 0, 1, 0)
  | x + 1 => odS p x (odF p x)
def ordS (R : Nat) (p : Nat → Nat) (z : Int) : Int := if z = 0 then ((odF p R).1 : Int) else if z = 1 then ((odF p R).2.1 : Int) else if z = 2 then ((odF p R).2.2.1 : Int) else if z = 3 then ((1 - (R - (odF p R).1) % 2 : Nat) : Int) else if z = 4 then ((odF p R).2.2.2 : Int) else -1
theorem odS_1 {p : Nat → Nat} {x n l : Nat} {s : Nat × Nat × Nat × Nat} (hc : cyc p x = (n, l)) (h : l < x) : odS p x s = s := by
  unfold odS; rw [hc, if_pos h]
theorem odS_2 {p : Nat → Nat} {x n l b e : Nat} {s : Nat × Nat × Nat × Nat} (hc : cyc p x = (n, l)) (h : ¬ l < x) (hb : b = if s.2.1 < n then n else s.2.1) (he : e = if n = 1 then s.2.2.2 + 1 else s.2.2.2) : odS p x s = (s.1 + 1, b, s.2.2.1 / Nat.gcd s.2.2.1 n * n, e) := by
  unfold odS; rw [hc, if_neg h, hb, he]
theorem dvd720 : ∀ n, n < 17 → 1 ≤ n → n ∣ 720720 := by decide +kernel
theorem odF_ok {p : Nat → Nat} : ∀ x, (∀ y, y < x → 1 ≤ (cyc p y).1 ∧ (cyc p y).1 ≤ 16) → (odF p x).1 ≤ x ∧ (odF p x).2.1 ≤ 16 ∧ (odF p x).2.2.1 ∣ 720720 ∧ (odF p x).2.2.2 ≤ x
  | 0, _ => ⟨Nat.le_refl _, Nat.le_of_ble_eq_true rfl, Nat.one_dvd _, Nat.le_refl _⟩
  | x + 1, h => by
    obtain ⟨a, b, c, e⟩ := odF_ok x (fun y hy => h y (by omega))
    obtain ⟨n1, n2⟩ := h x (by omega)
    show (odS p x (odF p x)).1 ≤ x + 1 ∧ (odS p x (odF p x)).2.1 ≤ 16 ∧ (odS p x (odF p x)).2.2.1 ∣ 720720 ∧ (odS p x (odF p x)).2.2.2 ≤ x + 1
    unfold odS
    by_cases q : (cyc p x).2 < x
    · rw [if_pos q]; exact ⟨by omega, b, c, by omega⟩
    · rw [if_neg q]
      refine ⟨by simp only; omega, by simp only; split <;> omega, ?_, by simp only; split <;> omega⟩
      have h2 := Nat.lcm_dvd c (dvd720 _ (by omega) n1)
      unfold Nat.lcm at h2
      rw [Nat.mul_div_right_comm (Nat.gcd_dvd_left _ _)] at h2
      exact h2
