set_option maxRecDepth 100000
/-! ===== plain words: cascades found for an order ===== -/
abbrev FS : Type := (Nat → Nat) × List (Nat × Nat) × List (Nat × Nat)
def note (b : Bool) (t on : Nat) (s : FS) : FS := if b then (fun x => s.1 (mk (t, on, 0) x), s.2.1 ++ [(t, on)], s.2.2) else (fun x => mk (t, on, 0) (s.1 x), s.2.1, (t, on) :: s.2.2)
def ld1 (L : Nat) (b : Bool) (to : Nat) : Nat → Nat × FS → Nat × FS
  | 0, q => q
  | m + 1, q => ld1 L b to m (if to.testBit (L - (m + 1)) = true ∧ q.1.testBit (L - (m + 1)) = false then (mk (L - (m + 1), q.1, 0) q.1, note b (L - (m + 1)) q.1 q.2) else q)
def ld2 (L : Nat) (b : Bool) (to : Nat) : Nat → Nat × FS → Nat × FS
  | 0, q => q
  | m + 1, q => ld2 L b to m (if to.testBit (L - (m + 1)) = false ∧ q.1.testBit (L - (m + 1)) = true then (mk (L - (m + 1), clr q.1 (1 <<< (L - (m + 1))), 0) q.1, note b (L - (m + 1)) (clr q.1 (1 <<< (L - (m + 1)))) q.2) else q)
/-- the first z from z0 on, of m, with p z = x -/
def invF (p : Nat → Nat) (x : Nat) : Nat → Nat → Nat
  | 0, z => z
  | m + 1, z => if p z = x then z else invF p x m (z + 1)
def fst1 (p : Nat → Nat) (x : Nat) : Nat := invF p x 64 0
def isAh (both : Bool) (p : Nat → Nat) (x : Nat) : Bool := both && decide (bits (x ^^^ fst1 p x) < bits (x ^^^ p x))
def fdRow (L : Nat) (both : Bool) (x : Nat) (s : FS) : FS := (ld2 L (isAh both s.1 x) x L (ld1 L (isAh both s.1 x) x L (if isAh both s.1 x then fst1 s.1 x else s.1 x, s))).2
/-- rows from R - m on -/
def fdF (L : Nat) (both : Bool) : Nat → FS → FS
  | 0, s => s
  | m + 1, s => fdF L both m (fdRow L both (rN L - (m + 1)) s)
def fdAll (L : Nat) (both : Bool) (p : Nat → Nat) : FS := fdF L both (rN L) (p, [], [])
def fdL (s : FS) : List (Nat × Nat) := s.2.1 ++ s.2.2
/-- p goes from the rows onto the rows -/
def onto (R : Nat) (p : Nat → Nat) : Prop := (∀ x, x < R → p x < R) ∧ ∀ x, x < R → ∃ z, z < R ∧ p z = x
theorem tb_and1 {x t on : Nat} (h : on.testBit t = false) : (x ^^^ (1 <<< t)) &&& on = x &&& on := by
  apply Nat.eq_of_testBit_eq
  intro i
  rw [Nat.testBit_and, Nat.testBit_and, Nat.testBit_xor, Nat.one_shiftLeft, Nat.testBit_two_pow]
  by_cases e : t = i
  · subst e; rw [h]; simp
  · simp [e]
theorem mk_mk {g : Gt} {x : Nat} (h1 : g.2.1.testBit g.1 = false) (h2 : g.2.2.testBit g.1 = false) : mk g (mk g x) = x := by
  unfold mk
  by_cases c : x &&& g.2.1 = g.2.1 ∧ x &&& g.2.2 = 0
  · simp only [if_pos c, tb_and1 h1, tb_and1 h2]
    rw [Nat.xor_assoc, Nat.xor_self, Nat.xor_zero]
  · simp only [if_neg c]
/-- a gate of L lines as it is found -/
def fok (L : Nat) (t on : Nat) : Prop := t < L ∧ on < rN L ∧ on.testBit t = false
theorem onto_note {L t on : Nat} {b : Bool} {s : FS} (h : onto (rN L) s.1) (hg : fok L t on) : onto (rN L) (note b t on s).1 := by
  obtain ⟨h1, h2⟩ := h
  have k1 : ∀ x, x < rN L → mk (t, on, 0) x < rN L := fun x hx => mk_lt hg.1 hx
  have k2 : ∀ x, mk (t, on, 0) (mk (t, on, 0) x) = x := fun x => mk_mk hg.2.2 (Nat.zero_testBit _)
  unfold note
  cases b with
  | true =>
    refine ⟨fun x hx => h1 _ (k1 x hx), fun x hx => ?_⟩
    obtain ⟨z, hz, e⟩ := h2 x hx
    exact ⟨mk (t, on, 0) z, k1 z hz, by simp only [k2, if_true]; exact e⟩
  | false =>
    refine ⟨fun x hx => k1 _ (h1 x hx), fun x hx => ?_⟩
    obtain ⟨z, hz, e⟩ := h2 _ (k1 x hx)
    exact ⟨z, hz, by show mk (t, on, 0) (s.1 z) = x; rw [e, k2]⟩
theorem invF_spec {p : Nat → Nat} {x : Nat} : ∀ m z, (∃ y, z ≤ y ∧ y < z + m ∧ p y = x) → p (invF p x m z) = x ∧ z ≤ invF p x m z ∧ invF p x m z < z + m
  | 0, z, ⟨y, h1, h2, _⟩ => by omega
  | m + 1, z, ⟨y, h1, h2, h3⟩ => by
    unfold invF
    by_cases c : p z = x
    · rw [if_pos c]; exact ⟨c, by omega, by omega⟩
    · rw [if_neg c]
      have : y ≠ z := fun e => c (e ▸ h3)
      obtain ⟨a, b, d⟩ := invF_spec m (z + 1) ⟨y, by omega, by omega, h3⟩
      exact ⟨a, by omega, by omega⟩
theorem fst1_spec {R : Nat} {p : Nat → Nat} {x : Nat} (hR : R ≤ 64) (h : onto R p) (hx : x < R) : p (fst1 p x) = x ∧ fst1 p x < 64 := by
  obtain ⟨z, hz, e⟩ := h.2 x hx
  obtain ⟨a, b, d⟩ := invF_spec 64 0 ⟨z, by omega, by omega, e⟩
  exact ⟨a, by unfold fst1; omega⟩
theorem invF_step {p : Nat → Nat} {x : Nat} {m z : Nat} (h : p z ≠ x) : invF p x (m + 1) z = invF p x m (z + 1) := by
  show (if p z = x then z else _) = _
  rw [if_neg h]
theorem invF_at {p : Nat → Nat} {x : Nat} {m z : Nat} (h : p z = x) : invF p x (m + 1) z = z := by
  show (if p z = x then z else _) = _
  rw [if_pos h]
