set_option maxRecDepth 100000
/-! ===== plain words: tokens of a text ===== -/
theorem r_ldcN {K : KT} {own : String} {cc : ByteArray} {nL d U pc : Nat} {L : List (Option Value)} {st : List Value} {n : Nat} {f : Hp} {u : Nat} {i : Nat} {c : Nat} {v : Int32} (hK : Gd K own cc nL d U) (q : Cond.constant own i v ∈ lw_all) (hd : decode cc pc = .ok (.ldc i, 2)) (hv : v = Int32.ofInt (c : Int)) (k : Wx K (pc + 2) L (zI (c : Int) :: st) n f u) : Wx K pc L st n f u := r_ldc hK q hd hv k
theorem lcmpN {x y : Nat} (hx : x < 9223372036854775808) (hy : y < 9223372036854775808) : Value.int (lg_cmp (Int64.ofInt (x : Int)) (Int64.ofInt (y : Int))) = zI (if x = y then 0 else if y < x then 1 else -1) := by
  unfold zI lg_cmp
  congr 1
  have e1 : (Int64.ofInt (x : Int)).toInt = x := l_ti ⟨by omega, by omega⟩
  have e2 : (Int64.ofInt (y : Int)).toInt = y := l_ti ⟨by omega, by omega⟩
  by_cases c1 : x = y
  · subst c1
    rw [if_neg (by show ¬ (_ < _); rw [Int64.lt_iff_toInt_lt]; omega), if_pos rfl, if_pos rfl]; rfl
  · by_cases c2 : y < x
    · rw [if_pos (by show _ < _; rw [Int64.lt_iff_toInt_lt, e1, e2]; omega), if_neg c1, if_pos c2]; rfl
    · rw [if_neg (by show ¬ (_ < _); rw [Int64.lt_iff_toInt_lt, e1, e2]; omega), if_neg (fun q => c1 (by have := congrArg Int64.toInt q; rw [e1, e2] at this; omega)), if_neg c1, if_neg c2]; rfl
theorem sx_and : ∀ b : Nat, b < 256 → Value.int (Int32.ofInt (sx b) &&& Int32.ofInt ((255 : Nat) : Int)) = zI (b : Int) := by decide +kernel
/-- the byte at i, 0 behind the end -/
def Bt (n : Nat) (T : Nat → Nat) (i : Nat) : Nat := if i < n then T i else 0
abbrev isL (c : Nat) : Prop := 97 ≤ c ∧ c ≤ 122
abbrev isD (c : Nat) : Prop := 48 ≤ c ∧ c ≤ 57
abbrev isW (c : Nat) : Prop := c = 9 ∨ c = 10 ∨ c = 13 ∨ c = 32
/-- how many from i on are letters, digits -/
def rlL (B : Nat → Nat) : Nat → Nat → Nat
  | 0, _ => 0
  | m + 1, i => if isL (B i) then rlL B m (i + 1) + 1 else 0
def rlD (B : Nat → Nat) : Nat → Nat → Nat
  | 0, _ => 0
  | m + 1, i => if isD (B i) then rlD B m (i + 1) + 1 else 0
def nmF (B : Nat → Nat) (i : Nat) : Nat → Nat
  | 0 => 0
  | k + 1 => 27 * nmF B i k + (B (i + k) - 96)
def vlF (B : Nat → Nat) (i : Nat) : Nat → Nat
  | 0 => 0
  | k + 1 => 10 * vlF B i k + (B (i + k) - 48)
/-- the numbers of the words wire, gate, price, table -/
def keyN (k : Nat) : Nat := if k = 0 then 459761 else if k = 1 then 139055 else if k = 2 then 8863997 else 10650290
def kyF (nm : Nat) : Nat → Nat
  | 0 => 1
  | k + 1 => if keyN k = nm then 20 + k else kyF nm k
abbrev Tk : Type := Nat × Nat × Nat
/-- kind of a word of m letters from i on -/
def kdL (B : Nat → Nat) (i m : Nat) : Nat := if 8 < m then 3 else kyF (nmF B i m) 4
def sgK (c : Nat) : Nat := if c = 59 then 4 else if c = 45 then 5 else 3
def lexF (n : Nat) (B : Nat → Nat) : Nat → Nat → List Tk
  | 0, i => [(0, i, i)]
  | m + 1, i => if n ≤ i then [(0, n, n)] else if isW (B i) then lexF n B m (i + 1)
    else if isL (B i) then (kdL B i (rlL B 2001 i), i, i + rlL B 2001 i) :: lexF n B m (i + rlL B 2001 i)
    else if isD (B i) then ((if 4 < rlD B 2001 i then 3 else 2), i, i + rlD B 2001 i) :: lexF n B m (i + rlD B 2001 i)
    else (sgK (B i), i, i + 1) :: lexF n B m (i + 1)
def lex (n : Nat) (T : Nat → Nat) : List Tk := lexF n (Bt n T) (n + 1) 0
/-- what the reference notes of a token -/
def vlT (B : Nat → Nat) (a b : Nat) : Nat := if isD (B a) then vlF B a (min (b - a) 4) else 0
def nmT (B : Nat → Nat) (a b : Nat) : Nat := if isL (B a) then nmF B a (min (b - a) 8) else 0
theorem rlL_eq {B : Nat → Nat} : ∀ m i k, k < m → (∀ j, j < k → isL (B (i + j))) → ¬ isL (B (i + k)) → rlL B m i = k
  | 0, i, k, h, _, _ => absurd h (Nat.not_lt_zero _)
  | m + 1, i, 0, h, _, h2 => by unfold rlL; exact if_neg h2
  | m + 1, i, k + 1, h, h1, h2 => by
    have h0 : isL (B i) := h1 0 (by omega)
    unfold rlL
    rw [if_pos h0, rlL_eq m (i + 1) k (by omega) (fun j hj => by have := h1 (j + 1) (by omega); rwa [show i + (j + 1) = i + 1 + j by omega] at this) (by rwa [show i + (k + 1) = i + 1 + k by omega] at h2)]
theorem rlD_eq {B : Nat → Nat} : ∀ m i k, k < m → (∀ j, j < k → isD (B (i + j))) → ¬ isD (B (i + k)) → rlD B m i = k
  | 0, i, k, h, _, _ => absurd h (Nat.not_lt_zero _)
  | m + 1, i, 0, h, _, h2 => by unfold rlD; exact if_neg h2
  | m + 1, i, k + 1, h, h1, h2 => by
    have h0 : isD (B i) := h1 0 (by omega)
    unfold rlD
    rw [if_pos h0, rlD_eq m (i + 1) k (by omega) (fun j hj => by have := h1 (j + 1) (by omega); rwa [show i + (j + 1) = i + 1 + j by omega] at this) (by rwa [show i + (k + 1) = i + 1 + k by omega] at h2)]
theorem nmF_lt {B : Nat → Nat} {i : Nat} : ∀ k, (∀ j, j < k → isL (B (i + j))) → nmF B i k < 27 ^ k
  | 0, _ => Nat.one_pos
  | k + 1, h => by
    have h1 := nmF_lt (B := B) (i := i) k (fun j hj => h j (by omega))
    have h2 := h k (by omega)
    show 27 * nmF B i k + (B (i + k) - 96) < 27 ^ (k + 1)
    rw [Nat.pow_succ]
    omega
theorem vlF_lt {B : Nat → Nat} {i : Nat} : ∀ k, (∀ j, j < k → isD (B (i + j))) → vlF B i k < 10 ^ k
  | 0, _ => Nat.one_pos
  | k + 1, h => by
    have h1 := vlF_lt (B := B) (i := i) k (fun j hj => h j (by omega))
    have h2 := h k (by omega)
    show 10 * vlF B i k + (B (i + k) - 48) < 10 ^ (k + 1)
    rw [Nat.pow_succ]
    omega
theorem Bt_lt {n : Nat} {T : Nat → Nat} (h : ∀ i, T i < 256) (i : Nat) : Bt n T i < 256 := by
  unfold Bt; split
  · exact h i
  · decide
theorem Bt_in {n : Nat} {T : Nat → Nat} {i : Nat} (h : Bt n T i ≠ 0) : i < n := by
  unfold Bt at h
  by_cases c : i < n
  · exact c
  · rw [if_neg c] at h; exact absurd rfl h
