set_option maxRecDepth 100000
/-! ===== plain: the first ascending list is the least set ===== -/
theorem low_bit : ∀ (k d : Nat), d.testBit k = true → (∀ i, i < k → d.testBit i = false) → (d - 1).testBit k = false ∧ ∀ i, k < i → (d - 1).testBit i = d.testBit i
  | 0, d, h, _ => by
    rw [Nat.testBit_zero] at h
    have h1 : d % 2 = 1 := of_decide_eq_true h
    constructor
    · rw [Nat.testBit_zero]; exact decide_eq_false (by omega)
    · intro i hi
      obtain ⟨j, rfl⟩ : ∃ j, i = j + 1 := ⟨i - 1, by omega⟩
      rw [Nat.testBit_succ, Nat.testBit_succ, show (d - 1) / 2 = d / 2 by omega]
  | k + 1, d, h, hl => by
    have h0 := hl 0 (by omega)
    rw [Nat.testBit_zero] at h0
    have h1 : ¬ d % 2 = 1 := of_decide_eq_false h0
    rw [Nat.testBit_succ] at h
    have hp : d / 2 ≠ 0 := fun e => by rw [e, Nat.zero_testBit] at h; cases h
    obtain ⟨a, b⟩ := low_bit k (d / 2) h (fun i hi => by have := hl (i + 1) (by omega); rwa [Nat.testBit_succ] at this)
    have e : (d - 1) / 2 = d / 2 - 1 := by omega
    constructor
    · rw [Nat.testBit_succ, e]; exact a
    · intro i hi
      obtain ⟨j, rfl⟩ : ∃ j, i = j + 1 := ⟨i - 1, by omega⟩
      rw [Nat.testBit_succ, Nat.testBit_succ, e]
      exact b j (by omega)
def LTk (a b : Nat) : Prop := ∃ k, a.testBit k = true ∧ b.testBit k = false ∧ ∀ i, i < k → a.testBit i = b.testBit i
theorem LTk.tr {a b c : Nat} (h : LTk a b) (g : LTk b c) : LTk a c := by
  obtain ⟨k, h1, h2, h3⟩ := h
  obtain ⟨j, g1, g2, g3⟩ := g
  rcases Nat.lt_trichotomy k j with q | q | q
  · exact ⟨k, h1, by rw [← g3 k q]; exact h2, fun i hi => (h3 i hi).trans (g3 i (by omega))⟩
  · subst q; rw [h2] at g1; cases g1
  · exact ⟨j, by rw [h3 j q]; exact g1, g2, fun i hi => (h3 i (by omega)).trans (g3 i hi)⟩
theorem fst_bit : ∀ d : Nat, d ≠ 0 → ∃ k, d.testBit k = true ∧ ∀ i, i < k → d.testBit i = false := by
  intro d
  induction d using Nat.strongRecOn with
  | _ d ih =>
    intro h
    by_cases c : d % 2 = 1
    · exact ⟨0, by rw [Nat.testBit_zero]; exact decide_eq_true c, fun i hi => absurd hi (Nat.not_lt_zero _)⟩
    · obtain ⟨k, h1, h2⟩ := ih (d / 2) (by omega) (by omega)
      refine ⟨k + 1, by rw [Nat.testBit_succ]; exact h1, fun i hi => ?_⟩
      cases i with
      | zero => rw [Nat.testBit_zero]; exact decide_eq_false c
      | succ i => rw [Nat.testBit_succ]; exact h2 i (by omega)
theorem ltS_eq {a b : Nat} (ha : a < 2 ^ 32) (hb : b < 2 ^ 32) (he : bits a = bits b) : ltS a b = true ↔ LTk a b := by
  unfold ltS
  rw [if_pos he, decide_eq_true_iff]
  have hx : a ^^^ b < 2 ^ 32 := Nat.xor_lt_two_pow ha hb
  constructor
  · intro h
    by_cases hz : a ^^^ b = 0
    · rw [hz] at h; simp at h
    · obtain ⟨k, k1, k2⟩ := fst_bit _ hz
      obtain ⟨m, m1, m2⟩ := fst_bit _ h
      rw [Nat.testBit_and, Nat.testBit_and, show 4294967296 - (a ^^^ b) = 2 ^ 32 - ((a ^^^ b) - 1 + 1) by have : (a ^^^ b) ≠ 0 := hz; omega, Nat.testBit_two_pow_sub_succ (by omega)] at m1
      simp only [Bool.and_eq_true, Bool.not_eq_true'] at m1
      obtain ⟨⟨m3, m4⟩, -, m5⟩ := m1
      have l := low_bit k _ k1 k2
      have e : m = k := by
        rcases Nat.lt_trichotomy m k with q | q | q
        · rw [k2 m q] at m4; cases m4
        · exact q
        · rw [l.2 m q, m4] at m5; cases m5
      subst e
      refine ⟨m, m3, ?_, fun i hi => ?_⟩
      · rw [Nat.testBit_xor, m3] at k1
        revert k1; cases b.testBit m <;> simp
      · have := k2 i hi
        rw [Nat.testBit_xor] at this
        revert this; cases a.testBit i <;> cases b.testBit i <;> simp
  · rintro ⟨k, h1, h2, h3⟩ h
    have k1 : (a ^^^ b).testBit k = true := by rw [Nat.testBit_xor, h1, h2]; rfl
    have k2 : ∀ i, i < k → (a ^^^ b).testBit i = false := fun i hi => by rw [Nat.testBit_xor, h3 i hi]; cases b.testBit i <;> rfl
    have hz : (a ^^^ b) ≠ 0 := fun e => by rw [e, Nat.zero_testBit] at k1; cases k1
    have l := low_bit k _ k1 k2
    have hk : k < 32 := by
      apply Decidable.byContradiction
      intro c
      rw [Nat.testBit_lt_two_pow (Nat.lt_of_lt_of_le hx (Nat.pow_le_pow_right (by decide) (by omega)))] at k1
      cases k1
    have := congrArg (fun q => q.testBit k) h
    simp only [Nat.testBit_and, Nat.zero_testBit] at this
    rw [show 4294967296 - (a ^^^ b) = 2 ^ 32 - ((a ^^^ b) - 1 + 1) by omega, Nat.testBit_two_pow_sub_succ (by omega), h1, k1, l.1, decide_eq_true hk] at this
    cases this
theorem ltS_tr {a b c : Nat} (ha : a < 2 ^ 32) (hb : b < 2 ^ 32) (hc : c < 2 ^ 32) (h : ltS a b = true) (g : ltS b c = true) : ltS a c = true := by
  by_cases e : bits a = bits b
  · by_cases e2 : bits b = bits c
    · exact (ltS_eq ha hc (e.trans e2)).mpr (((ltS_eq ha hb e).mp h).tr ((ltS_eq hb hc e2).mp g))
    · unfold ltS at g ⊢
      rw [if_neg e2] at g
      rw [if_neg (by omega), e]; exact g
  · have h' : bits a < bits b := by unfold ltS at h; rw [if_neg e] at h; exact of_decide_eq_true h
    by_cases e2 : bits b = bits c
    · unfold ltS; rw [if_neg (by omega)]; exact decide_eq_true (by omega)
    · have g' : bits b < bits c := by unfold ltS at g; rw [if_neg e2] at g; exact of_decide_eq_true g
      unfold ltS; rw [if_neg (by omega)]; exact decide_eq_true (by omega)
theorem ltS_irr {a : Nat} (ha : a < 2 ^ 32) : ltS a a = false := by
  apply Bool.eq_false_iff.mpr
  intro h
  obtain ⟨k, h1, h2, -⟩ := (ltS_eq ha ha rfl).mp h
  rw [h1] at h2; cases h2
theorem tbF_min {S : Nat → Nat} {R all : Nat} : ∀ n, n ≤ 2 ^ 32 → match tbF S R all n with
    | none => ∀ s, s < n → sn S s R ≠ all
    | some b => sn S b R = all ∧ ∀ s, s < n → sn S s R = all → ltS s b = false
  | 0, _ => fun s hs => absurd hs (Nat.not_lt_zero _)
  | n + 1, hn => by
    have ih := tbF_min (S := S) (R := R) (all := all) n (by omega)
    unfold tbF
    cases q : tbF S R all n with
    | none =>
      rw [q] at ih
      simp only at ih ⊢
      by_cases c : sn S n R = all
      · rw [if_pos c]
        refine ⟨c, fun s hs e => ?_⟩
        by_cases z : s = n
        · rw [z]; exact ltS_irr (by omega)
        · exact absurd e (ih s (by omega))
      · rw [if_neg c]
        intro s hs
        by_cases z : s = n
        · rw [z]; exact c
        · exact ih s (by omega)
    | some b =>
      rw [q] at ih
      have hb := tbF_lt n b q
      simp only at ih ⊢
      by_cases c : ltS n b = true ∧ sn S n R = all
      · rw [if_pos c]
        refine ⟨c.2, fun s hs e => ?_⟩
        by_cases z : s = n
        · rw [z]; exact ltS_irr (by omega)
        · apply Bool.eq_false_iff.mpr
          intro g
          have := ltS_tr (by omega) (by omega) (by omega) g c.1
          rw [ih.2 s (by omega) e] at this; cases this
      · rw [if_neg c]
        refine ⟨ih.1, fun s hs e => ?_⟩
        by_cases z : s = n
        · rw [z]; exact Bool.eq_false_iff.mpr (fun g => c ⟨g, by rw [← z]; exact e⟩)
        · exact ih.2 s (by omega) e
/-! ascending lists -/
def Asc (R : Nat) : Nat → List Nat → Prop
  | _, [] => True
  | x, y :: l => x ≤ y ∧ y < R ∧ Asc R (y + 1) l
def orS (S : Nat → Nat) : List Nat → Nat
  | [] => 0
  | y :: l => S y ||| orS S l
def mkS : List Nat → Nat
  | [] => 0
  | y :: l => 2 ^ y ||| mkS l
def lexL : List Nat → List Nat → Prop
  | a :: l, b :: m => a < b ∨ (a = b ∧ lexL l m)
  | _, _ => False
theorem Asc.ge {R : Nat} : ∀ {l : List Nat} {x : Nat}, Asc R x l → ∀ y ∈ l, x ≤ y ∧ y < R
  | [], x, _, y, hy => by cases hy
  | z :: l, x, h, y, hy => by
    rcases List.mem_cons.mp hy with q | q
    · subst q; exact ⟨h.1, h.2.1⟩
    · have := Asc.ge h.2.2 y q; have := h.1; omega
theorem Asc.le {R : Nat} {l : List Nat} {x x' : Nat} (h : Asc R x l) (hx : x' ≤ x) : Asc R x' l := by
  cases l with
  | nil => trivial
  | cons y l => exact ⟨Nat.le_trans hx h.1, h.2⟩
theorem mkS_bit : ∀ (l : List Nat) (i : Nat), (mkS l).testBit i = decide (i ∈ l)
  | [], i => by show Nat.testBit 0 i = _; rw [Nat.zero_testBit]; rfl
  | y :: l, i => by
    show (2 ^ y ||| mkS l).testBit i = _
    rw [Nat.testBit_or, mkS_bit l i, Nat.testBit_two_pow]
    by_cases c : y = i
    · subst c; simp
    · simp [c, Ne.symm c, fun e : i = y => c e.symm]
theorem orS_bit {S : Nat → Nat} : ∀ (l : List Nat) (i : Nat), (orS S l).testBit i = true ↔ ∃ y ∈ l, (S y).testBit i = true
  | [], i => by
    show Nat.testBit 0 i = true ↔ _
    rw [Nat.zero_testBit]
    exact ⟨fun h => (by cases h), fun ⟨y, h, _⟩ => by cases h⟩
  | y :: l, i => by
    show (S y ||| orS S l).testBit i = true ↔ _
    rw [Nat.testBit_or, Bool.or_eq_true, orS_bit l i]
    constructor
    · rintro (h | ⟨z, h, g⟩)
      · exact ⟨y, List.mem_cons_self, h⟩
      · exact ⟨z, List.mem_cons_of_mem _ h, g⟩
    · rintro ⟨z, h, g⟩
      rcases List.mem_cons.mp h with q | q
      · subst q; exact Or.inl g
      · exact Or.inr ⟨z, q, g⟩
theorem sn_bit {S : Nat → Nat} {s : Nat} : ∀ (R i : Nat), (sn S s R).testBit i = true ↔ ∃ r, r < R ∧ s.testBit r = true ∧ (S r).testBit i = true
  | 0, i => by
    show Nat.testBit 0 i = true ↔ _
    rw [Nat.zero_testBit]
    exact ⟨fun h => (by cases h), fun ⟨r, h, _⟩ => absurd h (Nat.not_lt_zero _)⟩
  | R + 1, i => by
    show (if s.testBit R = true then sn S s R ||| S R else sn S s R).testBit i = true ↔ _
    by_cases c : s.testBit R = true
    · rw [if_pos c, Nat.testBit_or, Bool.or_eq_true, sn_bit R i]
      constructor
      · rintro (⟨r, h, g⟩ | g)
        · exact ⟨r, by omega, g⟩
        · exact ⟨R, by omega, c, g⟩
      · rintro ⟨r, h, g⟩
        by_cases z : r = R
        · subst z; exact Or.inr g.2
        · exact Or.inl ⟨r, by omega, g⟩
    · rw [if_neg c, sn_bit R i]
      constructor
      · rintro ⟨r, h, g⟩; exact ⟨r, by omega, g⟩
      · rintro ⟨r, h, g⟩
        by_cases z : r = R
        · subst z; exact absurd g.1 c
        · exact ⟨r, by omega, g⟩
theorem tb_ext {a b : Nat} (h : ∀ i, a.testBit i = true ↔ b.testBit i = true) : a = b := Nat.eq_of_testBit_eq (fun i => by
  have := h i
  revert this
  cases a.testBit i <;> cases b.testBit i <;> simp)
theorem sn_mk {S : Nat → Nat} {R x : Nat} {l : List Nat} (h : Asc R x l) : sn S (mkS l) R = orS S l := tb_ext (fun i => by
  rw [sn_bit, orS_bit]
  constructor
  · rintro ⟨r, h1, h2, h3⟩
    rw [mkS_bit, decide_eq_true_iff] at h2
    exact ⟨r, h2, h3⟩
  · rintro ⟨y, h1, h2⟩
    exact ⟨y, (h.ge y h1).2, by rw [mkS_bit]; exact decide_eq_true h1, h2⟩)
theorem allS_bit {S : Nat → Nat} : ∀ (R i : Nat), (allS S R).testBit i = true ↔ ∃ r, r < R ∧ (S r).testBit i = true
  | 0, i => by
    show Nat.testBit 0 i = true ↔ _
    rw [Nat.zero_testBit]
    exact ⟨fun h => (by cases h), fun ⟨r, h, _⟩ => absurd h (Nat.not_lt_zero _)⟩
  | R + 1, i => by
    show (allS S R ||| S R).testBit i = true ↔ _
    rw [Nat.testBit_or, Bool.or_eq_true, allS_bit R i]
    constructor
    · rintro (⟨r, h, g⟩ | g)
      · exact ⟨r, by omega, g⟩
      · exact ⟨R, by omega, g⟩
    · rintro ⟨r, h, g⟩
      by_cases z : r = R
      · subst z; exact Or.inr g
      · exact Or.inl ⟨r, by omega, g⟩
/-- the bits of a number from x on, as a list -/
def lsB (s : Nat) : Nat → Nat → List Nat
  | 0, _ => []
  | d + 1, x => if s.testBit x = true then x :: lsB s d (x + 1) else lsB s d (x + 1)
theorem lsB_asc {s : Nat} : ∀ d x, Asc (x + d) x (lsB s d x)
  | 0, x => trivial
  | d + 1, x => by
    have ih := lsB_asc (s := s) d (x + 1)
    rw [show x + 1 + d = x + (d + 1) by omega] at ih
    unfold lsB
    by_cases c : s.testBit x = true
    · rw [if_pos c]; exact ⟨Nat.le_refl _, by omega, ih⟩
    · rw [if_neg c]; exact ih.le (by omega)
theorem lsB_mem {s i : Nat} : ∀ d x, i ∈ lsB s d x ↔ (x ≤ i ∧ i < x + d ∧ s.testBit i = true)
  | 0, x => ⟨fun h => (by cases h), fun h => by omega⟩
  | d + 1, x => by
    have ih := lsB_mem (s := s) (i := i) d (x + 1)
    unfold lsB
    by_cases c : s.testBit x = true
    · rw [if_pos c, List.mem_cons, ih]
      constructor
      · rintro (h | h)
        · subst h; exact ⟨Nat.le_refl _, by omega, c⟩
        · exact ⟨by omega, by omega, h.2.2⟩
      · rintro ⟨h1, h2, h3⟩
        by_cases z : i = x
        · exact Or.inl z
        · exact Or.inr ⟨by omega, by omega, h3⟩
    · rw [if_neg c, ih]
      constructor
      · rintro h; exact ⟨by omega, by omega, h.2.2⟩
      · rintro ⟨h1, h2, h3⟩
        by_cases z : i = x
        · subst z; exact absurd h3 c
        · exact ⟨by omega, by omega, h3⟩
theorem lsB_mk {s R : Nat} (h : s < 2 ^ R) : mkS (lsB s R 0) = s := tb_ext (fun i => by
  rw [mkS_bit, decide_eq_true_iff, lsB_mem]
  constructor
  · exact fun h => h.2.2
  · intro g
    refine ⟨Nat.zero_le _, ?_, g⟩
    apply Decidable.byContradiction
    intro c
    rw [Nat.testBit_lt_two_pow (Nat.lt_of_lt_of_le h (Nat.pow_le_pow_right (by decide) (by omega)))] at g
    cases g)
theorem lsB_len {s : Nat} : ∀ d x, (lsB s d x).length = bitsF d (s / 2 ^ x)
  | 0, x => rfl
  | d + 1, x => by
    have ih := lsB_len (s := s) d (x + 1)
    have e : bitsF (d + 1) (s / 2 ^ x) = s / 2 ^ x % 2 + bitsF d (s / 2 ^ x / 2) := rfl
    rw [e, Nat.div_div_eq_div_mul, ← Nat.pow_succ, ← ih]
    unfold lsB
    have t : s.testBit x = decide (s / 2 ^ x % 2 = 1) := Nat.testBit_eq_decide_div_mod_eq
    by_cases c : s / 2 ^ x % 2 = 1
    · rw [t, decide_eq_true c, if_pos rfl, List.length_cons]; omega
    · rw [t, decide_eq_false c, if_neg (by decide)]; omega
theorem lsB_bits {s R : Nat} (hR : R ≤ 32) (h : s < 2 ^ R) : (lsB s R 0).length = bits s := by
  rw [lsB_len, Nat.pow_zero, Nat.div_one]
  show _ = bitsF 32 s
  rw [show 32 = R + (32 - R) by omega, bitsF_more _ _ _ h]
theorem Asc.eq {R : Nat} : ∀ {l m : List Nat} {x : Nat}, Asc R x l → Asc R x m → (∀ i, i ∈ l ↔ i ∈ m) → l = m
  | [], [], _, _, _, _ => rfl
  | [], b :: m, _, _, _, e => by have := (e b).mpr List.mem_cons_self; cases this
  | a :: l, [], _, _, _, e => by have := (e a).mp List.mem_cons_self; cases this
  | a :: l, b :: m, x, h, g, e => by
    have hab : a = b := by
      rcases List.mem_cons.mp ((e a).mp List.mem_cons_self) with q | q
      · exact q
      · rcases List.mem_cons.mp ((e b).mpr List.mem_cons_self) with p | p
        · exact p.symm
        · have := (Asc.ge g.2.2 a q).1; have := (Asc.ge h.2.2 b p).1; omega
    subst hab
    rw [Asc.eq h.2.2 g.2.2 (fun i => by
      have := e i
      constructor
      · intro hi
        have z := (Asc.ge h.2.2 i hi).1
        rcases List.mem_cons.mp (this.mp (List.mem_cons_of_mem _ hi)) with q | q
        · omega
        · exact q
      · intro hi
        have z := (Asc.ge g.2.2 i hi).1
        rcases List.mem_cons.mp (this.mpr (List.mem_cons_of_mem _ hi)) with q | q
        · omega
        · exact q)]
theorem mkS_lt {R x : Nat} : ∀ {l : List Nat}, Asc R x l → mkS l < 2 ^ R := by
  intro l h
  apply Nat.lt_pow_two_of_testBit
  intro i hi
  rw [mkS_bit]
  apply decide_eq_false
  intro g
  have := (h.ge i g).2
  omega
theorem lsB_of {R : Nat} {l : List Nat} (h : Asc R 0 l) : lsB (mkS l) R 0 = l := by
  have a := lsB_asc (s := mkS l) R 0
  rw [Nat.zero_add] at a
  refine a.eq h (fun i => ?_)
  rw [lsB_mem, mkS_bit, decide_eq_true_iff]
  constructor
  · exact fun h => h.2.2
  · intro g; have := h.ge i g; exact ⟨by omega, by omega, g⟩
theorem lex_lt {R : Nat} : ∀ {l m : List Nat} {x : Nat}, Asc R x l → Asc R x m → lexL l m → LTk (mkS l) (mkS m)
  | [], _, _, _, _, h => by cases h
  | _ :: _, [], _, _, _, h => by cases h
  | a :: l, b :: m, x, h, g, c => by
    have nl : ∀ i, i < a → i ∉ l := fun i hi q => by have := (Asc.ge h.2.2 i q).1; omega
    have nm : ∀ i, i ≤ b → i ∉ m := fun i hi q => by have := (Asc.ge g.2.2 i q).1; omega
    rcases c with c | ⟨c, d⟩
    · refine ⟨a, ?_, ?_, fun i hi => ?_⟩
      · rw [mkS_bit]; exact decide_eq_true List.mem_cons_self
      · rw [mkS_bit]; exact decide_eq_false (fun q => by rcases List.mem_cons.mp q with p | p; · omega; · exact nm a (by omega) p)
      · rw [mkS_bit, mkS_bit, decide_eq_false, decide_eq_false]
        · exact fun q => by rcases List.mem_cons.mp q with p | p; · omega; · exact nm i (by omega) p
        · exact fun q => by rcases List.mem_cons.mp q with p | p; · omega; · exact nl i hi p
    · subst c
      obtain ⟨k, k1, k2, k3⟩ := lex_lt h.2.2 g.2.2 d
      rw [mkS_bit, decide_eq_true_iff] at k1
      have hk := (Asc.ge h.2.2 k k1).1
      refine ⟨k, ?_, ?_, fun i hi => ?_⟩
      · rw [mkS_bit]; exact decide_eq_true (List.mem_cons_of_mem _ k1)
      · rw [mkS_bit] at k2 ⊢
        have k2' := of_decide_eq_false k2
        exact decide_eq_false (fun q => by rcases List.mem_cons.mp q with p | p; · omega; · exact k2' p)
      · show (2 ^ a ||| mkS l).testBit i = (2 ^ a ||| mkS m).testBit i
        rw [Nat.testBit_or, Nat.testBit_or, k3 i hi]
/-! what tgo finds -/
theorem scn_ok {g : Nat → Option (List Nat)} {l : List Nat} : ∀ d x, scn g d x = some l → ∃ y, x ≤ y ∧ y < x + d ∧ g y = some l ∧ ∀ z, x ≤ z → z < y → g z = none
  | 0, x, h => by cases h
  | d + 1, x, h => by
    cases q : g x with
    | some m =>
      rw [scn_some q] at h
      exact ⟨x, Nat.le_refl _, by omega, by rw [q]; exact h, fun z h1 h2 => by omega⟩
    | none =>
      rw [scn_none q] at h
      obtain ⟨y, h1, h2, h3, h4⟩ := scn_ok d (x + 1) h
      refine ⟨y, by omega, by omega, h3, fun z z1 z2 => ?_⟩
      by_cases e : z = x
      · rw [e]; exact q
      · exact h4 z (by omega) z2
theorem scn_no {g : Nat → Option (List Nat)} : ∀ d x, scn g d x = none → ∀ z, x ≤ z → z < x + d → g z = none
  | 0, x, _, z, h1, h2 => by omega
  | d + 1, x, h, z, h1, h2 => by
    cases q : g x with
    | some m => rw [scn_some q] at h; cases h
    | none =>
      rw [scn_none q] at h
      by_cases e : z = x
      · rw [e]; exact q
      · exact scn_no d (x + 1) h z (by omega) (by omega)
theorem tgo_ok {S : Nat → Nat} {R all : Nat} : ∀ (k x had : Nat) {l : List Nat}, tgo S R all k x had = some l → Asc R x l ∧ had ||| orS S l = all
  | 0, x, had, l, h => by
    have e : tgo S R all 0 x had = if had = all then some [] else none := rfl
    rw [e] at h
    by_cases c : had = all
    · rw [if_pos c] at h; cases h
      exact ⟨trivial, by show had ||| 0 = all; rw [Nat.or_zero]; exact c⟩
    · rw [if_neg c] at h; cases h
  | k + 1, x, had, l, h => by
    obtain ⟨y, h1, h2, h3, -⟩ := scn_ok _ _ h
    cases q : tgo S R all k (y + 1) (had ||| S y) with
    | none => simp only [q, Option.map_none] at h3; cases h3
    | some m =>
      simp only [q, Option.map_some] at h3
      cases h3
      obtain ⟨a, b⟩ := tgo_ok k (y + 1) _ q
      exact ⟨⟨h1, by omega, a⟩, by show had ||| (S y ||| orS S m) = all; rw [← Nat.or_assoc]; exact b⟩
theorem tgo_fst {S : Nat → Nat} {R all : Nat} : ∀ (k x had : Nat) (m : List Nat), Asc R x m → m.length = k → had ||| orS S m = all → ∃ l, tgo S R all k x had = some l ∧ (l = m ∨ lexL l m)
  | 0, x, had, m, h, hl, e => by
    have : m = [] := List.length_eq_zero_iff.mp hl
    subst this
    refine ⟨[], ?_, Or.inl rfl⟩
    show (if had = all then some [] else none) = _
    rw [if_pos (by rw [← e]; show _ = had ||| 0; rw [Nat.or_zero])]
  | k + 1, x, had, [], h, hl, e => by cases hl
  | k + 1, x, had, b :: m, h, hl, e => by
    obtain ⟨l', hl', hlm⟩ := tgo_fst k (b + 1) (had ||| S b) m h.2.2 (by simpa using hl) (by rw [← e]; show _ = had ||| (S b ||| orS S m); rw [Nat.or_assoc])
    have hb := h.2.1
    have hx := h.1
    cases q : tgo S R all (k + 1) x had with
    | none =>
      have := scn_no _ _ q b hx (by omega)
      simp only [hl', Option.map_some] at this
      cases this
    | some l =>
      obtain ⟨y, h1, h2, h3, h4⟩ := scn_ok _ _ q
      refine ⟨l, rfl, ?_⟩
      have hyb : y ≤ b := by
        apply Decidable.byContradiction
        intro c
        have := h4 b hx (by omega)
        simp only [hl', Option.map_some] at this
        cases this
      cases q2 : tgo S R all k (y + 1) (had ||| S y) with
      | none => simp only [q2, Option.map_none] at h3; cases h3
      | some m2 =>
        simp only [q2, Option.map_some] at h3
        cases h3
        by_cases c : y = b
        · subst c
          rw [hl'] at q2
          cases q2
          rcases hlm with z | z
          · exact Or.inl (by rw [z])
          · exact Or.inr (Or.inr ⟨rfl, z⟩)
        · exact Or.inr (Or.inl (by omega))
/-! eight rows are enough -/
def insA (r : Nat) : List Nat → List Nat
  | [] => [r]
  | y :: l => if r < y then r :: y :: l else if r = y then y :: l else y :: insA r l
theorem insA_ok {R r : Nat} (hr : r < R) : ∀ {l : List Nat} {x : Nat}, x ≤ r → Asc R x l → Asc R x (insA r l) ∧ (insA r l).length ≤ l.length + 1 ∧ ∀ i, i ∈ insA r l ↔ i = r ∨ i ∈ l
  | [], x, hx, h => ⟨⟨hx, hr, trivial⟩, Nat.le_refl _, fun i => by show i ∈ [r] ↔ _; simp⟩
  | y :: l, x, hx, h => by
    unfold insA
    by_cases c : r < y
    · rw [if_pos c]
      exact ⟨⟨hx, hr, c, h.2⟩, Nat.le_refl _, fun i => by simp⟩
    · rw [if_neg c]
      by_cases d : r = y
      · rw [if_pos d]
        exact ⟨h, by omega, fun i => by rw [d]; simp⟩
      · rw [if_neg d]
        obtain ⟨a, b, e⟩ := insA_ok hr (l := l) (x := y + 1) (by omega) h.2.2
        refine ⟨⟨h.1, h.2.1, a⟩, by rw [List.length_cons, List.length_cons]; omega, fun i => ?_⟩
        rw [List.mem_cons, e, List.mem_cons]
        constructor
        · rintro (z | z | z)
          · exact Or.inr (Or.inl z)
          · exact Or.inl z
          · exact Or.inr (Or.inr z)
        · rintro (z | z | z)
          · exact Or.inr (Or.inl z)
          · exact Or.inl z
          · exact Or.inr (Or.inr z)
theorem cover {S : Nat → Nat} {R : Nat} : ∀ j, ∃ l, Asc R 0 l ∧ l.length ≤ j ∧ ∀ i, i < j → (allS S R).testBit i = true → (orS S l).testBit i = true
  | 0 => ⟨[], trivial, Nat.le_refl _, fun i hi => absurd hi (Nat.not_lt_zero _)⟩
  | j + 1 => by
    obtain ⟨l, h1, h2, h3⟩ := cover (S := S) (R := R) j
    by_cases c : (allS S R).testBit j = true
    · obtain ⟨r, hr, g⟩ := (allS_bit R j).mp c
      obtain ⟨a, b, e⟩ := insA_ok hr (Nat.zero_le _) h1
      refine ⟨insA r l, a, by omega, fun i hi q => (orS_bit _ _).mpr ?_⟩
      by_cases z : i = j
      · exact ⟨r, (e r).mpr (Or.inl rfl), by rw [z]; exact g⟩
      · obtain ⟨y, y1, y2⟩ := (orS_bit _ _).mp (h3 i (by omega) q)
        exact ⟨y, (e y).mpr (Or.inr y1), y2⟩
    · refine ⟨l, h1, by omega, fun i hi q => ?_⟩
      by_cases z : i = j
      · rw [z] at q; exact absurd q c
      · exact h3 i (by omega) q
theorem cover8 {S : Nat → Nat} {R : Nat} (hA : allS S R < 256) : ∃ l, Asc R 0 l ∧ l.length ≤ 8 ∧ orS S l = allS S R := by
  obtain ⟨l, h1, h2, h3⟩ := cover (S := S) (R := R) 8
  refine ⟨l, h1, h2, tb_ext (fun i => ⟨fun h => ?_, fun h => ?_⟩)⟩
  · obtain ⟨y, y1, y2⟩ := (orS_bit _ _).mp h
    exact (allS_bit _ _).mpr ⟨y, (h1.ge y y1).2, y2⟩
  · refine h3 i ?_ h
    apply Decidable.byContradiction
    intro c
    rw [Nat.testBit_lt_two_pow (Nat.lt_of_lt_of_le hA (show 2 ^ 8 ≤ 2 ^ i from Nat.pow_le_pow_right (by decide) (by omega)))] at h
    cases h
theorem least_ex {P : Nat → Prop} : ∀ k, P k → ∃ m, m ≤ k ∧ P m ∧ ∀ j, j < m → ¬ P j := by
  intro k
  induction k using Nat.strongRecOn with
  | _ k ih =>
    intro h
    by_cases c : ∃ j, j < k ∧ P j
    · obtain ⟨j, h1, h2⟩ := c
      obtain ⟨m, m1, m2⟩ := ih j h1 h2
      exact ⟨m, by omega, m2⟩
    · exact ⟨k, Nat.le_refl _, h, fun j hj q => c ⟨j, hj, q⟩⟩
theorem ntF_eq {b R : Nat} {i : Int} (hi : -1 ≤ i) : ∀ (m : Nat), m ≤ R → ∀ c : Nat, ntF b R i m c = if i = -1 then ((c + (lsB b m (R - m)).length : Nat) : Int) else if (c : Int) ≤ i ∧ i < ((c + (lsB b m (R - m)).length : Nat) : Int) then (((lsB b m (R - m)).getD (i - c).toNat 0 : Nat) : Int) else -1
  | 0, _, c => by
    show (if i = -1 then (c : Int) else -1) = if i = -1 then ((c + 0 : Nat) : Int) else if (c : Int) ≤ i ∧ i < ((c + 0 : Nat) : Int) then _ else -1
    by_cases h : i = -1
    · rw [if_pos h, if_pos h]; rfl
    · rw [if_neg h, if_neg h, if_neg (by omega)]
  | m + 1, hm, c => by
    have ih := ntF_eq (b := b) hi m (by omega)
    have e : lsB b (m + 1) (R - (m + 1)) = if b.testBit (R - (m + 1)) = true then (R - (m + 1)) :: lsB b m (R - m) else lsB b m (R - m) := by
      show (if b.testBit (R - (m + 1)) = true then (R - (m + 1)) :: lsB b m (R - (m + 1) + 1) else lsB b m (R - (m + 1) + 1)) = _
      rw [show R - (m + 1) + 1 = R - m by omega]
    rw [e]
    show (if b.testBit (R - (m + 1)) = true then (if (c : Int) = i then ((R - (m + 1) : Nat) : Int) else ntF b R i m (c + 1)) else ntF b R i m c) = _
    by_cases t : b.testBit (R - (m + 1)) = true
    · rw [if_pos t, if_pos t, List.length_cons]
      by_cases q : (c : Int) = i
      · rw [if_pos q, if_neg (show ¬ i = -1 by omega), if_pos (by omega), show (i - c).toNat = 0 by omega]; rfl
      · rw [if_neg q, ih (c + 1)]
        by_cases h : i = -1
        · rw [if_pos h, if_pos h]; congr 1; omega
        · rw [if_neg h, if_neg h]
          by_cases g : (c : Int) ≤ i ∧ i < ((c + ((lsB b m (R - m)).length + 1) : Nat) : Int)
          · rw [if_pos g, if_pos (by omega), show (i - (c : Int)).toNat = (i - ((c + 1 : Nat) : Int)).toNat + 1 by omega, List.getD_cons_succ]
          · rw [if_neg g, if_neg (by omega)]
    · rw [if_neg t, if_neg t]; exact ih c
theorem tst_ok {S : Nat → Nat} {R : Nat} (hR : R ≤ 16) (hS : ∀ r, r < R → S r < 256) : ∃ Ms lr, Ms ≤ 8 ∧ tgo S R (allS S R) Ms 0 0 = some lr ∧ (∀ M, M < Ms → tgo S R (allS S R) M 0 0 = none) ∧ ∀ z : Int, (if z = -1 then (Ms : Int) else if 0 ≤ z ∧ z < Ms then ((lr.getD z.toNat 0 : Nat) : Int) else -1) = tstS S R z := by
  have hA : allS S R < 256 := allS_lt (k := 8) R hS
  obtain ⟨l8, a1, a2, a3⟩ := cover8 (S := S) hA
  obtain ⟨l9, b1, -⟩ := tgo_fst (S := S) (all := allS S R) l8.length 0 0 l8 a1 rfl (by rw [Nat.zero_or]; exact a3)
  obtain ⟨Ms, m1, ⟨lr, m2⟩, m3⟩ := least_ex (P := fun k => ∃ l, tgo S R (allS S R) k 0 0 = some l) l8.length ⟨l9, b1⟩
  have hno : ∀ M, M < Ms → tgo S R (allS S R) M 0 0 = none := fun M hM => by
    cases q : tgo S R (allS S R) M 0 0 with
    | none => rfl
    | some l => exact absurd ⟨l, q⟩ (m3 M hM)
  refine ⟨Ms, lr, by omega, m2, hno, fun z => ?_⟩
  obtain ⟨c1, c2⟩ := tgo_ok _ _ _ m2
  rw [Nat.zero_or] at c2
  have c3 := tgo_len m2
  have p32 : (2 : Nat) ^ R ≤ 2 ^ 32 := Nat.pow_le_pow_right (by decide) (by omega)
  obtain ⟨b, hb⟩ := tbF_some (S := S) (R := R) (rN_pos R)
  have hbl := tbF_lt _ _ hb
  have hmn := tbF_min (S := S) (R := R) (all := allS S R) (rN R) (by rw [rN_pow]; exact p32)
  rw [hb] at hmn
  simp only at hmn
  rw [rN_pow] at hbl hmn
  have hsl := mkS_lt c1
  have hlt := hmn.2 (mkS lr) hsl (by rw [sn_mk c1]; exact c2)
  have lb := lsB_mk hbl
  have la := lsB_asc (s := b) R 0
  rw [Nat.zero_add] at la
  have lo : orS S (lsB b R 0) = allS S R := by rw [← sn_mk la, lb]; exact hmn.1
  obtain ⟨l', f1, f2⟩ := tgo_fst (S := S) (all := allS S R) _ 0 0 _ la rfl (by rw [Nat.zero_or]; exact lo)
  have hge : Ms ≤ (lsB b R 0).length := by
    apply Decidable.byContradiction
    intro c
    rw [hno _ (by omega)] at f1; cases f1
  have hbb := lsB_bits (by omega) hbl
  have hbs := lsB_bits (by omega) hsl
  rw [lsB_of c1, c3] at hbs
  have he : bits (mkS lr) = bits b := by
    apply Decidable.byContradiction
    intro c
    unfold ltS at hlt
    rw [if_neg c] at hlt
    have := of_decide_eq_false hlt
    omega
  have hM : (lsB b R 0).length = Ms := by omega
  rw [hM, m2] at f1
  cases f1
  have hlr : lr = lsB b R 0 := by
    rcases f2 with q | q
    · exact q
    · have := lex_lt c1 la q
      rw [lb, ← ltS_eq (by omega) (by omega) he] at this
      rw [this] at hlt; cases hlt
  unfold tstS
  rw [hb]
  by_cases z1 : z < -1
  · rw [if_pos z1, if_neg (by omega), if_neg (by omega)]
  · rw [if_neg z1]
    show _ = ntF b R z R 0
    rw [ntF_eq (by omega) R (Nat.le_refl _) 0, Nat.sub_self, ← hlr, c3, Nat.zero_add]
    by_cases z2 : z = -1
    · rw [if_pos z2, if_pos z2]
    · rw [if_neg z2, if_neg z2]
      by_cases z3 : 0 ≤ z ∧ z < (Ms : Int)
      · rw [if_pos z3, if_pos (by omega), show (z - ((0 : Nat) : Int)).toNat = z.toNat by omega]
      · rw [if_neg z3, if_neg (by omega)]
