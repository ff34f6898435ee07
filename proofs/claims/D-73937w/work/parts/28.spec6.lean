set_option maxRecDepth 100000
/-! ===== plain words: tables ===== -/
/-- how many of the first k have the value y -/
def cnt (v : Nat → Nat) (y : Nat) : Nat → Nat
  | 0 => 0
  | k + 1 => if v k = y then cnt v y k + 1 else cnt v y k
theorem cnt_le (v : Nat → Nat) (y : Nat) : ∀ k, cnt v y k ≤ k
  | 0 => Nat.le_refl _
  | k + 1 => by have := cnt_le v y k; unfold cnt; split <;> omega
/-- most of one value, of the values below k -/
def cpM (v : Nat → Nat) (R : Nat) : Nat → Nat
  | 0 => 0
  | k + 1 => max (cpM v R k) (cnt v k R)
theorem cpM_le (v : Nat → Nat) (R : Nat) : ∀ k, cpM v R k ≤ R
  | 0 => Nat.zero_le _
  | k + 1 => by have := cpM_le v R k; have := cnt_le v k R; show max (cpM v R k) (cnt v k R) ≤ R; omega
def gbF (c : Nat) : Nat → Nat → Nat
  | 0, g => g
  | m + 1, g => if rN g < c then gbF c m (g + 1) else g
/-- how many bits tell c apart, c at most 8 -/
def gbg (c : Nat) : Nat := gbF c 4 0
theorem gbg_ok : ∀ c, c < 9 → gbg c ≤ 3 ∧ c ≤ rN (gbg c) := by decide +kernel
/-- a table's lines: n inputs, m outputs, values v -/
def lnN (n m : Nat) (v : Nat → Nat) : Nat := if m + gbg (cpM v (rN n) 8) < n then n else m + gbg (cpM v (rN n) 8)
def t1 (m : Nat) (v : Nat → Nat) (x : Nat) : Nat := v x + (cnt v (v x) x <<< m)
/-- whether y is made by one of the first k -/
def isM (m : Nat) (v : Nat → Nat) (y : Nat) : Nat → Bool
  | 0 => false
  | k + 1 => isM m v y k || decide (t1 m v k = y)
/-- the first from y on that isn't made by one of R, of d -/
def nxU (m : Nat) (v : Nat → Nat) (R : Nat) : Nat → Nat → Nat
  | 0, y => y
  | d + 1, y => if isM m v y R then nxU m v R d (y + 1) else y
/-- the k-th that isn't made -/
def fil (m : Nat) (v : Nat → Nat) (R : Nat) : Nat → Nat
  | 0 => nxU m v R 64 0
  | k + 1 => nxU m v R 64 (fil m v R k + 1)
def told (n m : Nat) (v : Nat → Nat) (r : Nat) : Nat := if r < rN n then t1 m v r else fil m v (rN n) (r - rN n)
/-- how many below y are made -/
def cM (m : Nat) (v : Nat → Nat) (R : Nat) : Nat → Nat
  | 0 => 0
  | y + 1 => if isM m v y R then cM m v R y + 1 else cM m v R y
/-- how many of the first R lie below y -/
def cX (m : Nat) (v : Nat → Nat) (y : Nat) : Nat → Nat
  | 0 => 0
  | k + 1 => if t1 m v k < y then cX m v y k + 1 else cX m v y k
theorem cX_le (m : Nat) (v : Nat → Nat) (y : Nat) : ∀ R, cX m v y R ≤ R
  | 0 => Nat.le_refl _
  | k + 1 => by have := cX_le m v y k; unfold cX; split <;> omega
theorem cX_step (m : Nat) (v : Nat → Nat) (y : Nat) : ∀ R, (if isM m v y R then 1 else 0) + cX m v y R ≤ cX m v (y + 1) R
  | 0 => Nat.le_refl 0
  | k + 1 => by
    have ih := cX_step m v y k
    have e1 : cX m v y (k + 1) = if t1 m v k < y then cX m v y k + 1 else cX m v y k := rfl
    have e2 : cX m v (y + 1) (k + 1) = if t1 m v k < y + 1 then cX m v (y + 1) k + 1 else cX m v (y + 1) k := rfl
    have e3 : isM m v y (k + 1) = (isM m v y k || decide (t1 m v k = y)) := rfl
    rw [e1, e2, e3]
    by_cases c1 : t1 m v k = y
    · rw [decide_eq_true c1, Bool.or_true, if_neg (show ¬ t1 m v k < y by omega), if_pos (show t1 m v k < y + 1 by omega), if_pos rfl]
      have : cX m v y k ≤ cX m v (y + 1) k := by split at ih <;> omega
      omega
    · rw [decide_eq_false c1, Bool.or_false]
      by_cases c2 : t1 m v k < y
      · rw [if_pos c2, if_pos (show t1 m v k < y + 1 by omega)]; omega
      · rw [if_neg c2, if_neg (show ¬ t1 m v k < y + 1 by omega)]; exact ih
theorem cM_le (m : Nat) (v : Nat → Nat) (R : Nat) : ∀ y, cM m v R y ≤ cX m v y R
  | 0 => Nat.zero_le _
  | y + 1 => by
    have ih := cM_le m v R y
    have := cX_step m v y R
    have e : cM m v R (y + 1) = if isM m v y R then cM m v R y + 1 else cM m v R y := rfl
    rw [e]
    by_cases c : isM m v y R = true
    · rw [if_pos c] at this ⊢; omega
    · rw [if_neg c] at this ⊢; omega
theorem cM_R (m : Nat) (v : Nat → Nat) (R y : Nat) : cM m v R y ≤ R := Nat.le_trans (cM_le m v R y) (cX_le m v y R)
theorem nxU_step {m : Nat} {v : Nat → Nat} {R d y : Nat} (h : isM m v y R = true) : nxU m v R (d + 1) y = nxU m v R d (y + 1) := by
  show (if isM m v y R then _ else y) = _
  rw [if_pos h]
theorem nxU_at {m : Nat} {v : Nat → Nat} {R d y : Nat} (h : isM m v y R = false) : nxU m v R (d + 1) y = y := by
  show (if isM m v y R then _ else y) = _
  rw [if_neg (by rw [h]; decide)]
theorem nxU_more {m : Nat} {v : Nat → Nat} {R : Nat} : ∀ d y z, y ≤ z → z < y + d → isM m v z R = false → ∀ e, nxU m v R (d + e) y = nxU m v R d y
  | 0, y, z, h1, h2, _, e => by omega
  | d + 1, y, z, h1, h2, h3, e => by
    rw [show d + 1 + e = (d + e) + 1 by omega]
    by_cases c : isM m v y R = true
    · rw [nxU_step c, nxU_step c]
      have : y ≠ z := fun q => by rw [q, h3] at c; cases c
      exact nxU_more d (y + 1) z (by omega) (by omega) h3 e
    · rw [nxU_at (Bool.eq_false_iff.mpr c), nxU_at (Bool.eq_false_iff.mpr c)]
