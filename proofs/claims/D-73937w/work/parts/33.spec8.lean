set_option maxRecDepth 100000
/-! ===== plain words: tests; a table laid out is an order ===== -/
/-- what the rows of a set see, of the first -/
def sn (S : Nat → Nat) (s : Nat) : Nat → Nat
  | 0 => 0
  | r + 1 => if s.testBit r = true then sn S s r ||| S r else sn S s r
def allS (S : Nat → Nat) : Nat → Nat
  | 0 => 0
  | r + 1 => allS S r ||| S r
def ltS (a b : Nat) : Bool := if bits a = bits b then decide ((a &&& (a ^^^ b)) &&& (4294967296 - (a ^^^ b)) ≠ 0) else decide (bits a < bits b)
def tbF (S : Nat → Nat) (R all : Nat) : Nat → Option Nat
  | 0 => none
  | s + 1 => match tbF S R all s with
    | none => if sn S s R = all then some s else none
    | some b => if ltS s b = true ∧ sn S s R = all then some s else some b
def oI : Option Nat → Int
  | none => -1
  | some b => (b : Int)
theorem tbF_lt {S : Nat → Nat} {R all : Nat} : ∀ s b, tbF S R all s = some b → b < s
  | 0, b, h => by cases h
  | s + 1, b, h => by
    unfold tbF at h
    cases q : tbF S R all s with
    | none =>
      rw [q] at h
      simp only at h
      split at h
      · cases h; omega
      · cases h
    | some c =>
      rw [q] at h
      have := tbF_lt s c q
      simp only at h
      split at h
      · cases h; omega
      · cases h; omega
theorem sn_lt {S : Nat → Nat} {s k : Nat} : ∀ R, (∀ r, r < R → S r < rN k) → sn S s R < rN k
  | 0, _ => rN_pos k
  | r + 1, h => by
    have := sn_lt (s := s) r (fun q hq => h q (by omega))
    unfold sn
    split
    · exact or_lt this (h r (by omega))
    · exact this
theorem allS_lt {S : Nat → Nat} {k : Nat} : ∀ R, (∀ r, r < R → S r < rN k) → allS S R < rN k
  | 0, _ => rN_pos k
  | r + 1, h => or_lt (allS_lt r (fun q hq => h q (by omega))) (h r (by omega))
theorem sn_all {S : Nat → Nat} {s : Nat} : ∀ R, (∀ r, r < R → s.testBit r = true) → sn S s R = allS S R
  | 0, _ => rfl
  | r + 1, h => by
    show (if s.testBit r = true then sn S s r ||| S r else _) = allS S r ||| S r
    rw [if_pos (h r (by omega)), sn_all r (fun q hq => h q (by omega))]
theorem tbF_some {S : Nat → Nat} {R : Nat} (hR : 1 ≤ rN R) : ∃ b, tbF S R (allS S R) (rN R) = some b := by
  obtain ⟨s, hs⟩ : ∃ s, rN R = s + 1 := ⟨rN R - 1, by omega⟩
  have hb : ∀ r, r < R → s.testBit r = true := fun r hr => by
    rw [show s = 2 ^ R - 1 by rw [← rN_pow]; omega, Nat.testBit_two_pow_sub_one]
    exact decide_eq_true hr
  rw [hs]
  unfold tbF
  cases q : tbF S R (allS S R) s with
  | none => simp only; rw [if_pos (sn_all R hb)]; exact ⟨_, rfl⟩
  | some b => simp only; split <;> exact ⟨_, rfl⟩
/-- the i-th row of a set, how many -/
def ntF (b R : Nat) (i : Int) : Nat → Nat → Int
  | 0, c => if i = -1 then (c : Int) else -1
  | m + 1, c => if b.testBit (R - (m + 1)) = true then (if (c : Int) = i then ((R - (m + 1) : Nat) : Int) else ntF b R i m (c + 1)) else ntF b R i m c
def tstS (S : Nat → Nat) (R : Nat) (z : Int) : Int := if z < -1 then -1 else match tbF S R (allS S R) (rN R) with
  | none => -1
  | some b => ntF b R z R 0
theorem zneg {o : Nat} (h : o ≤ 4294967296) : zI (-(o : Int)) = zI ((4294967296 - o : Nat) : Int) := by
  unfold zI
  congr 1
  apply Int32.toInt_inj.mp
  rw [Int32.toInt_ofInt, Int32.toInt_ofInt, show Int32.size = 4294967296 from rfl]
  unfold Int.bmod
  simp only
  split <;> split <;> omega
theorem rN_mono {a b : Nat} (h : a ≤ b) : rN a ≤ rN b := by rw [rN_pow, rN_pow]; exact Nat.pow_le_pow_right (by decide) h
theorem rN_add (a b : Nat) : rN (a + b) = rN b * rN a := by rw [rN_pow, rN_pow, rN_pow, Nat.pow_add, Nat.mul_comm]
/-! tables -/
theorem isM_iff {m : Nat} {v : Nat → Nat} {y : Nat} : ∀ {R : Nat}, isM m v y R = true ↔ ∃ x, x < R ∧ t1 m v x = y
  | 0 => ⟨fun h => Bool.noConfusion h, fun ⟨x, h, _⟩ => absurd h (Nat.not_lt_zero _)⟩
  | k + 1 => by
    show (isM m v y k || decide (t1 m v k = y)) = true ↔ _
    rw [Bool.or_eq_true, isM_iff (R := k), decide_eq_true_iff]
    constructor
    · rintro (⟨x, h1, h2⟩ | h)
      · exact ⟨x, by omega, h2⟩
      · exact ⟨k, by omega, h⟩
    · rintro ⟨x, h1, h2⟩
      by_cases e : x = k
      · subst e; exact Or.inr h2
      · exact Or.inl ⟨x, by omega, h2⟩
theorem cnt_mono {v : Nat → Nat} {y : Nat} : ∀ d k, cnt v y k ≤ cnt v y (k + d)
  | 0, k => Nat.le_refl _
  | d + 1, k => by
    have := cnt_mono (v := v) (y := y) d k
    rw [show k + (d + 1) = k + d + 1 by omega]
    have e : cnt v y (k + d + 1) = if v (k + d) = y then cnt v y (k + d) + 1 else cnt v y (k + d) := rfl
    rw [e]
    split <;> omega
theorem cnt_lt {v : Nat → Nat} {x R : Nat} (h : x < R) : cnt v (v x) x < cnt v (v x) R := by
  have e : cnt v (v x) (x + 1) = cnt v (v x) x + 1 := by
    show (if v x = v x then _ else _) = _
    rw [if_pos rfl]
  have := cnt_mono (v := v) (y := v x) (R - (x + 1)) (x + 1)
  rw [show x + 1 + (R - (x + 1)) = R by omega] at this
  omega
theorem cpM_ge {v : Nat → Nat} {R y : Nat} : ∀ k, y < k → cnt v y R ≤ cpM v R k
  | 0, h => absurd h (Nat.not_lt_zero _)
  | k + 1, h => by
    show _ ≤ max (cpM v R k) (cnt v k R)
    by_cases e : y = k
    · subst e; omega
    · have := cpM_ge (v := v) (R := R) (y := y) k (by omega); omega
/-- a table that is there -/
def tabOK (n m : Nat) (v : Nat → Nat) : Prop := (1 ≤ n ∧ n ≤ 3) ∧ (1 ≤ m ∧ m ≤ 3) ∧ ∀ x, x < rN n → v x < rN m
theorem lnN_ok {n m : Nat} {v : Nat → Nat} (hn : n ≤ 3) (hm : m ≤ 3) : lnN n m v ≤ 6 ∧ n ≤ lnN n m v ∧ m + gbg (cpM v (rN n) 8) ≤ lnN n m v := by
  have hr : rN n ≤ 8 := rN_le (k := 3) hn
  have hc := cpM_le v (rN n) 8
  have hg := gbg_ok (cpM v (rN n) 8) (by omega)
  unfold lnN
  split <;> omega
theorem t1_lt {n m : Nat} {v : Nat → Nat} (h : tabOK n m v) : ∀ x, x < rN n → t1 m v x < rN (lnN n m v) := by
  obtain ⟨hn, hm, hv⟩ := h
  intro x hx
  have hr : rN n ≤ 8 := rN_le (k := 3) hn.2
  have hrm : rN m ≤ 8 := rN_le (k := 3) hm.2
  have hvx := hv x hx
  have hc := cpM_le v (rN n) 8
  have hg := gbg_ok (cpM v (rN n) 8) (by omega)
  have h1 := cnt_lt (v := v) hx
  have h2 := cpM_ge (v := v) (R := rN n) (y := v x) 8 (by omega)
  have h3 : cnt v (v x) x + 1 ≤ rN (gbg (cpM v (rN n) 8)) := by omega
  have h4 := (lnN_ok (v := v) hn.2 hm.2).2.2
  have h5 : rN (m + gbg (cpM v (rN n) 8)) ≤ rN (lnN n m v) := rN_mono h4
  have h6 : rN (m + gbg (cpM v (rN n) 8)) = rN (gbg (cpM v (rN n) 8)) * rN m := rN_add _ _
  show v x + (cnt v (v x) x <<< m) < _
  rw [Nat.shiftLeft_eq, ← rN_pow m]
  have h7 : (cnt v (v x) x + 1) * rN m ≤ rN (gbg (cpM v (rN n) 8)) * rN m := Nat.mul_le_mul_right _ h3
  rw [Nat.add_mul, Nat.one_mul] at h7
  omega
theorem t1_inj {n m : Nat} {v : Nat → Nat} (h : tabOK n m v) {j k : Nat} (hjk : j < k) (hk : k < rN n) : t1 m v j ≠ t1 m v k := by
  obtain ⟨hn, hm, hv⟩ := h
  have hj := hv j (by omega)
  have hkk := hv k hk
  intro e
  unfold t1 at e
  rw [Nat.shiftLeft_eq, Nat.shiftLeft_eq, ← rN_pow] at e
  have e1 : v j = v k := by
    have := congrArg (fun q => q % rN m) e
    simp only [Nat.add_mul_mod_self_right] at this
    rwa [Nat.mod_eq_of_lt hj, Nat.mod_eq_of_lt hkk] at this
  rw [e1] at e
  have e2 : cnt v (v k) j = cnt v (v k) k := Nat.eq_of_mul_eq_mul_right (rN_pos m) (Nat.add_left_cancel e)
  have := cnt_lt (v := v) hjk
  rw [e1] at this
  omega
theorem cM_s {m : Nat} {v : Nat → Nat} {R y : Nat} : cM m v R (y + 1) = if isM m v y R = true then cM m v R y + 1 else cM m v R y := rfl
theorem nx_spec {m : Nat} {v : Nat → Nat} {R : Nat} : ∀ d y, R < cM m v R y + d → ∃ z, nxU m v R d y = z ∧ y ≤ z ∧ isM m v z R = false ∧ cM m v R z = cM m v R y + (z - y)
  | 0, y, h => by have := cM_R m v R y; omega
  | d + 1, y, h => by
    by_cases c : isM m v y R = true
    · rw [nxU_step c]
      have e := cM_s (m := m) (v := v) (R := R) (y := y)
      rw [if_pos c] at e
      obtain ⟨z, h1, h2, h3, h4⟩ := nx_spec (m := m) (v := v) (R := R) d (y + 1) (by omega)
      exact ⟨z, h1, by omega, h3, by omega⟩
    · rw [nxU_at (Bool.eq_false_iff.mpr c)]
      exact ⟨y, rfl, Nat.le_refl _, Bool.eq_false_iff.mpr c, by omega⟩
theorem fil_spec {m : Nat} {v : Nat → Nat} {R : Nat} (hR : R ≤ 8) : ∀ k, k + cM m v R (fil m v R k) = fil m v R k ∧ isM m v (fil m v R k) R = false
  | 0 => by
    obtain ⟨z, h1, h2, h3, h4⟩ := nx_spec (m := m) (v := v) (R := R) 64 0 (by omega)
    show 0 + cM m v R (nxU m v R 64 0) = nxU m v R 64 0 ∧ isM m v (nxU m v R 64 0) R = false
    rw [h1]
    have : cM m v R 0 = 0 := rfl
    exact ⟨by omega, h3⟩
  | k + 1 => by
    obtain ⟨q1, q2⟩ := fil_spec (m := m) (v := v) (R := R) hR k
    obtain ⟨z, h1, h2, h3, h4⟩ := nx_spec (m := m) (v := v) (R := R) 64 (fil m v R k + 1) (by omega)
    show k + 1 + cM m v R (nxU m v R 64 (fil m v R k + 1)) = nxU m v R 64 (fil m v R k + 1) ∧ isM m v (nxU m v R 64 (fil m v R k + 1)) R = false
    rw [h1]
    have e := cM_s (m := m) (v := v) (R := R) (y := fil m v R k)
    rw [q2, if_neg (by decide)] at e
    exact ⟨by omega, h3⟩
theorem cM_far {m : Nat} {v : Nat → Nat} {R : Nat} : ∀ d y, cM m v R (y + d) ≤ cM m v R y + d
  | 0, y => Nat.le_refl _
  | d + 1, y => by
    have := cM_far (m := m) (v := v) (R := R) d y
    rw [show y + (d + 1) = y + d + 1 by omega, cM_s]
    split <;> omega
theorem cM_un {m : Nat} {v : Nat → Nat} {R a b : Nat} (h : isM m v a R = false) (hab : a < b) : cM m v R b + 1 ≤ cM m v R a + (b - a) := by
  have e := cM_s (m := m) (v := v) (R := R) (y := a)
  rw [h, if_neg (by decide)] at e
  have := cM_far (m := m) (v := v) (R := R) (b - (a + 1)) (a + 1)
  rw [show a + 1 + (b - (a + 1)) = b by omega] at this
  omega
theorem cM_self {m : Nat} {v : Nat → Nat} {R : Nat} : ∀ y, cM m v R y ≤ y
  | 0 => Nat.le_refl _
  | y + 1 => by have := cM_self (m := m) (v := v) (R := R) y; rw [cM_s]; split <;> omega
theorem cM_k {m : Nat} {v : Nat → Nat} {k : Nat} (h : isM m v (t1 m v k) k = false) : ∀ y, cM m v (k + 1) y = cM m v k y + (if t1 m v k < y then 1 else 0)
  | 0 => rfl
  | y + 1 => by
    have ih := cM_k h y
    rw [cM_s, cM_s, ih]
    have e3 : isM m v y (k + 1) = (isM m v y k || decide (t1 m v k = y)) := rfl
    rw [e3]
    by_cases c : t1 m v k = y
    · rw [decide_eq_true c, Bool.or_true, if_pos rfl, ← c, h, if_neg (Nat.lt_irrefl _), if_neg (by decide), if_pos (Nat.lt_succ_self _)]
    · rw [decide_eq_false c, Bool.or_false]
      by_cases q : isM m v y k = true
      · rw [if_pos q, if_pos q]
        by_cases q2 : t1 m v k < y
        · rw [if_pos q2, if_pos (by omega)]
        · rw [if_neg q2, if_neg (by omega)]
      · rw [if_neg q, if_neg q]
        by_cases q2 : t1 m v k < y
        · rw [if_pos q2, if_pos (by omega)]
        · rw [if_neg q2, if_neg (by omega)]
theorem cM_0 {m : Nat} {v : Nat → Nat} : ∀ y, cM m v 0 y = 0
  | 0 => rfl
  | y + 1 => by rw [cM_s, if_neg (by show ¬ (false = true); decide)]; exact cM_0 y
theorem cM_full {n m : Nat} {v : Nat → Nat} (h : tabOK n m v) : ∀ k, k ≤ rN n → cM m v k (rN (lnN n m v)) = k
  | 0, _ => cM_0 _
  | k + 1, hk => by
    have ih := cM_full h k (by omega)
    have hf : isM m v (t1 m v k) k = false := by
      apply Bool.eq_false_iff.mpr
      intro q
      obtain ⟨x, h1, h2⟩ := isM_iff.mp q
      exact t1_inj h h1 (by omega) h2
    rw [cM_k hf, ih, if_pos (t1_lt h k (by omega))]
theorem told_onto {n m : Nat} {v : Nat → Nat} (h : tabOK n m v) : onto (rN (lnN n m v)) (told n m v) := by
  have hr : rN n ≤ 8 := rN_le (k := 3) h.1.2
  have hrr : rN n ≤ rN (lnN n m v) := rN_mono (lnN_ok h.1.2 h.2.1.2).2.1
  have hfull := cM_full h (rN n) (Nat.le_refl _)
  constructor
  · intro x hx
    unfold told
    by_cases c : x < rN n
    · rw [if_pos c]; exact t1_lt h x c
    · rw [if_neg c]
      have h1 := (fil_spec (m := m) (v := v) hr (x - rN n)).1
      have h2 := cM_R m v (rN n) (fil m v (rN n) (x - rN n))
      omega
  · intro y hy
    by_cases c : isM m v y (rN n) = true
    · obtain ⟨x, h1, h2⟩ := isM_iff.mp c
      exact ⟨x, by omega, by unfold told; rw [if_pos h1]; exact h2⟩
    · have c' := Bool.eq_false_iff.mpr c
      have q1 := cM_un c' hy
      have q2 := cM_self (m := m) (v := v) (R := rN n) y
      obtain ⟨f1, f2⟩ := fil_spec (m := m) (v := v) hr (y - cM m v (rN n) y)
      refine ⟨rN n + (y - cM m v (rN n) y), by omega, ?_⟩
      unfold told
      rw [if_neg (by omega), show rN n + (y - cM m v (rN n) y) - rN n = y - cM m v (rN n) y by omega]
      rcases Nat.lt_trichotomy (fil m v (rN n) (y - cM m v (rN n) y)) y with q | q | q
      · have := cM_un f2 q; omega
      · exact q
      · have := cM_un c' q; omega
