set_option maxRecDepth 100000
/-! ===== pairs of gates: the component's rules and the reference's ===== -/
def woP (a b c e : Nat) : Bool := decide (((a ||| b) = (c ||| e) ∧ bits (a ^^^ c) = 1) ↔ (a ^^^ c = b ^^^ e ∧ bits (a ^^^ c) = 1)) && (!(decide (a ^^^ c = b ^^^ e ∧ bits (a ^^^ c) = 1)) || decide (clr a (a ^^^ c) = clr c ((a ^^^ c) ||| (b ^^^ e)) ∧ clr b (a ^^^ c) = clr e ((a ^^^ c) ||| (b ^^^ e))))
/-- one control more in the first -/
abbrev mo1 (a b c e : Nat) : Prop := bits (clr (a ||| b) (c ||| e)) = 1 ∧ clr a (clr (a ||| b) (c ||| e)) = c ∧ clr b (clr (a ||| b) (c ||| e)) = e
def mo1B (a b c e : Nat) : Bool := (bits (clr (a ||| b) (c ||| e)) == 1) && ((clr a (clr (a ||| b) (c ||| e)) == c) && (clr b (clr (a ||| b) (c ||| e)) == e))
theorem mo1_iff {a b c e : Nat} : mo1B a b c e = true ↔ mo1 a b c e := by
  unfold mo1B mo1
  rw [Bool.and_eq_true, Bool.and_eq_true, beq_iff_eq, beq_iff_eq, beq_iff_eq]
def tuP (a b c e : Nat) : Bool := ((mo1B a b c e || mo1B c e a b) == (bits (a ^^^ c) + bits (b ^^^ e) == 1)) && ((!(mo1B a b c e) || ((a ^^^ clr (a ||| b) (c ||| e) == (a ||| c) ^^^ ((a ^^^ c) ||| (b ^^^ e))) && (b ^^^ clr (a ||| b) (c ||| e) == (b ||| e) ^^^ ((a ^^^ c) ||| (b ^^^ e))))) && (!(mo1B c e a b) || ((c ^^^ clr (c ||| e) (a ||| b) == (a ||| c) ^^^ ((a ^^^ c) ||| (b ^^^ e))) && (e ^^^ clr (c ||| e) (a ||| b) == (b ||| e) ^^^ ((a ^^^ c) ||| (b ^^^ e))))))
def all4B (P : Nat → Nat → Nat → Nat → Bool) : Bool := (List.range 16).all fun a => (List.range 16).all fun b => !(a &&& b == 0) || ((List.range 16).all fun c => (List.range 16).all fun e => !(c &&& e == 0) || P a b c e)
theorem wo_b : all4B woP = true := by decide +kernel
theorem tu_b : all4B tuP = true := by decide +kernel
theorem all4 {P : Nat → Nat → Nat → Nat → Bool} (h : all4B P = true) {a b c e : Nat} (ha : a < 16) (hb : b < 16) (hab : a &&& b = 0) (hc : c < 16) (he : e < 16) (hce : c &&& e = 0) : P a b c e = true := by
  unfold all4B at h
  have h1 := List.all_eq_true.mp h a (List.mem_range.mpr ha)
  have h2 := List.all_eq_true.mp h1 b (List.mem_range.mpr hb)
  have h2 := (Bool.or_eq_true_iff.mp h2).resolve_left (by rw [hab]; decide)
  have h3 := List.all_eq_true.mp h2 c (List.mem_range.mpr hc)
  have h4 := List.all_eq_true.mp h3 e (List.mem_range.mpr he)
  exact (Bool.or_eq_true_iff.mp h4).resolve_left (by rw [hce]; decide)
theorem wo_at {a b c e : Nat} (ha : a < 16) (hb : b < 16) (hab : a &&& b = 0) (hc : c < 16) (he : e < 16) (hce : c &&& e = 0) : (((a ||| b) = (c ||| e) ∧ bits (a ^^^ c) = 1) ↔ (a ^^^ c = b ^^^ e ∧ bits (a ^^^ c) = 1)) ∧ ((a ^^^ c = b ^^^ e ∧ bits (a ^^^ c) = 1) → clr a (a ^^^ c) = clr c ((a ^^^ c) ||| (b ^^^ e)) ∧ clr b (a ^^^ c) = clr e ((a ^^^ c) ||| (b ^^^ e))) := by
  have h3 := all4 (P := woP) wo_b ha hb hab hc he hce
  unfold woP at h3
  have h3 := Bool.and_eq_true_iff.mp h3
  refine ⟨of_decide_eq_true h3.1, fun q => ?_⟩
  have h4 := h3.2
  rw [decide_eq_true q] at h4
  exact of_decide_eq_true h4
theorem tu_at {a b c e : Nat} (ha : a < 16) (hb : b < 16) (hab : a &&& b = 0) (hc : c < 16) (he : e < 16) (hce : c &&& e = 0) : ((mo1 a b c e ∨ mo1 c e a b) ↔ bits (a ^^^ c) + bits (b ^^^ e) = 1) ∧ (mo1 a b c e → a ^^^ clr (a ||| b) (c ||| e) = (a ||| c) ^^^ ((a ^^^ c) ||| (b ^^^ e)) ∧ b ^^^ clr (a ||| b) (c ||| e) = (b ||| e) ^^^ ((a ^^^ c) ||| (b ^^^ e))) ∧ (mo1 c e a b → c ^^^ clr (c ||| e) (a ||| b) = (a ||| c) ^^^ ((a ^^^ c) ||| (b ^^^ e)) ∧ e ^^^ clr (c ||| e) (a ||| b) = (b ||| e) ^^^ ((a ^^^ c) ||| (b ^^^ e))) := by
  have h3 := all4 (P := tuP) tu_b ha hb hab hc he hce
  unfold tuP at h3
  obtain ⟨h3, h4⟩ := Bool.and_eq_true_iff.mp h3
  obtain ⟨h4, h5⟩ := Bool.and_eq_true_iff.mp h4
  refine ⟨?_, fun q => ?_, fun q => ?_⟩
  · have e := eq_of_beq h3
    rw [← mo1_iff, ← mo1_iff, ← Bool.or_eq_true, e, beq_iff_eq]
  · rw [mo1_iff.mpr q] at h4
    obtain ⟨x, y⟩ := Bool.and_eq_true_iff.mp h4
    exact ⟨eq_of_beq x, eq_of_beq y⟩
  · rw [mo1_iff.mpr q] at h5
    obtain ⟨x, y⟩ := Bool.and_eq_true_iff.mp h5
    exact ⟨eq_of_beq x, eq_of_beq y⟩
theorem tu_def (t on off t' on' off' : Nat) : tu (t, on, off) (t', on', off') = if t = t' ∧ mo1 on off on' off' then some (t, on ^^^ clr (on ||| off) (on' ||| off'), off ^^^ clr (on ||| off) (on' ||| off')) else none := by
  unfold tu
  by_cases c : t = t' ∧ mo1 on off on' off'
  · rw [if_pos c]
  · rw [if_neg c]
theorem wo_ok {a b : Gt} (ha : gok 4 a) (hb : gok 4 b) : wo a b = if a.1 = b.1 ∧ fitR 2 a b = true then some (newR 2 a b) else none := by
  obtain ⟨t, on, off⟩ := a
  obtain ⟨t', on', off'⟩ := b
  obtain ⟨q1, q2⟩ := wo_at (show on < 16 from ha.2.1) (show off < 16 from ha.2.2.1) ha.2.2.2.2.2 (show on' < 16 from hb.2.1) (show off' < 16 from hb.2.2.1) hb.2.2.2.2.2
  have hf : fitR 2 (t, on, off) (t', on', off') = true ↔ (on ^^^ on' = off ^^^ off' ∧ bits (on ^^^ on') = 1) := decide_eq_true_iff
  unfold wo
  by_cases c : t = t' ∧ (on ||| off) = (on' ||| off') ∧ bits (on ^^^ on') = 1
  · have hc := q1.mp c.2
    rw [if_pos c, if_pos ⟨c.1, hf.mpr hc⟩]
    have e := q2 hc
    show some (t, clr on (on ^^^ on'), clr off (on ^^^ on')) = some (t', clr on' ((on ^^^ on') ||| (off ^^^ off')), clr off' ((on ^^^ on') ||| (off ^^^ off')))
    rw [e.1, e.2, c.1]
  · rw [if_neg c, if_neg (fun z => c ⟨z.1, q1.mpr (hf.mp z.2)⟩)]
theorem fit3 (t on off t' on' off' : Nat) : fitR 3 (t, on, off) (t', on', off') = decide (bits (on ^^^ on') + bits (off ^^^ off') = 1) := by
  unfold fitR
  rw [if_neg (by decide), if_neg (by decide)]
theorem new3 (t on off t' on' off' : Nat) : newR 3 (t, on, off) (t', on', off') = (t', (on ||| on') ^^^ ((on ^^^ on') ||| (off ^^^ off')), (off ||| off') ^^^ ((on ^^^ on') ||| (off ^^^ off'))) := by
  unfold newR dif
  rw [if_neg (by decide)]
theorem tu_ok {a b : Gt} (ha : gok 4 a) (hb : gok 4 b) : (tu a b).or (tu b a) = if a.1 = b.1 ∧ fitR 3 a b = true then some (newR 3 a b) else none := by
  obtain ⟨t, on, off⟩ := a
  obtain ⟨t', on', off'⟩ := b
  have a1 : on < 16 := ha.2.1
  have a2 : off < 16 := ha.2.2.1
  have a3 : on &&& off = 0 := ha.2.2.2.2.2
  have b1 : on' < 16 := hb.2.1
  have b2 : off' < 16 := hb.2.2.1
  have b3 : on' &&& off' = 0 := hb.2.2.2.2.2
  clear ha hb
  have q := tu_at a1 a2 a3 b1 b2 b3
  rw [tu_def, tu_def, fit3, new3]
  show _ = if t = t' ∧ decide (bits (on ^^^ on') + bits (off ^^^ off') = 1) = true then _ else _
  generalize bits (on ^^^ on') + bits (off ^^^ off') = x at q ⊢
  obtain ⟨q1, q2, q3⟩ := q
  by_cases ct : t = t'
  · subst ct
    by_cases c1 : mo1 on off on' off'
    · rw [if_pos ⟨rfl, c1⟩, (q2 c1).1, (q2 c1).2, Option.some_or, if_pos ⟨rfl, decide_eq_true (q1.mp (Or.inl c1))⟩]
    · rw [if_neg (fun y => c1 y.2), Option.none_or]
      by_cases c2 : mo1 on' off' on off
      · rw [if_pos ⟨rfl, c2⟩, if_pos ⟨rfl, decide_eq_true (q1.mp (Or.inr c2))⟩, (q3 c2).1, (q3 c2).2]
      · rw [if_neg (fun y => c2 y.2), if_neg (fun y => by rcases q1.mpr (of_decide_eq_true y.2) with x | x; exact c1 x; exact c2 x)]
  · rw [if_neg (fun y => ct y.1), if_neg (fun y => ct y.1.symm), if_neg (fun y => ct y.1), Option.none_or]
theorem al_ok {a b : Gt} : a = b ↔ a.1 = b.1 ∧ fitR 1 a b = true := by
  obtain ⟨t, on, off⟩ := a
  obtain ⟨t', on', off'⟩ := b
  have hf : fitR 1 (t, on, off) (t', on', off') = true ↔ (on ^^^ on' = 0 ∧ off ^^^ off' = 0) := decide_eq_true_iff
  constructor
  · intro h; cases h; exact ⟨rfl, hf.mpr ⟨Nat.xor_self _, Nat.xor_self _⟩⟩
  · intro ⟨h1, h2⟩
    obtain ⟨e1, e2⟩ := hf.mp h2
    have x : ∀ a b : Nat, a ^^^ b = 0 → a = b := fun a b q => by
      have := congrArg (· ^^^ b) q
      simp only [Nat.xor_assoc, Nat.xor_self, Nat.xor_zero, Nat.zero_xor] at this
      exact this
    have h1 : t = t' := h1
    rw [h1, x _ _ e1, x _ _ e2]
