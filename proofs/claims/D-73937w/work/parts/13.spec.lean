set_option maxRecDepth 100000
/-! ===== gates, rows: the plain words ===== -/
abbrev Gt : Type := Nat × Nat × Nat
/-- what a gate makes of a row -/
def mk (g : Gt) (x : Nat) : Nat := if x &&& g.2.1 = g.2.1 ∧ x &&& g.2.2 = 0 then x ^^^ (1 <<< g.1) else x
def run (gs : List Gt) (x : Nat) : Nat := gs.foldl (fun x g => mk g x) x
/-- how many rows w wires have -/
def rN (w : Nat) : Nat := 1 <<< w
theorem rN_pow (w : Nat) : rN w = 2 ^ w := Nat.one_shiftLeft w
theorem rN_pos (w : Nat) : 1 ≤ rN w := by rw [rN_pow]; exact Nat.one_le_two_pow
theorem rN_le {w k : Nat} (h : w ≤ k) : rN w ≤ 2 ^ k := by rw [rN_pow]; exact Nat.pow_le_pow_right (by decide) h
theorem rN4 {w : Nat} (h : w ≤ 4) : 1 ≤ rN w ∧ rN w ≤ 16 := ⟨rN_pos w, rN_le h⟩
/-- a gate of w wires -/
def gok (w : Nat) (g : Gt) : Prop := g.1 < w ∧ g.2.1 < rN w ∧ g.2.2 < rN w ∧ g.2.1.testBit g.1 = false ∧ g.2.2.testBit g.1 = false ∧ g.2.1 &&& g.2.2 = 0
def bitsF : Nat → Nat → Nat
  | 0, _ => 0
  | k + 1, n => n % 2 + bitsF k (n / 2)
/-- how many bits -/
def bits (n : Nat) : Nat := bitsF 32 n
theorem and_lt {a b k : Nat} (h : a < k) : a &&& b < k := Nat.lt_of_le_of_lt Nat.and_le_left h
theorem and_lt' {a b k : Nat} (h : b < k) : a &&& b < k := Nat.lt_of_le_of_lt Nat.and_le_right h
theorem xor_lt {a b w : Nat} (ha : a < rN w) (hb : b < rN w) : a ^^^ b < rN w := by rw [rN_pow] at *; exact Nat.xor_lt_two_pow ha hb
theorem or_lt {a b w : Nat} (ha : a < rN w) (hb : b < rN w) : a ||| b < rN w := by rw [rN_pow] at *; exact Nat.or_lt_two_pow ha hb
theorem bit_lt {t w : Nat} (h : t < w) : 1 <<< t < rN w := by rw [rN_pow]; exact sh1' h
theorem mk_lt {w : Nat} {g : Gt} {x : Nat} (hg : g.1 < w) (hx : x < rN w) : mk g x < rN w := by
  unfold mk
  split
  · exact xor_lt hx (bit_lt hg)
  · exact hx
theorem run_cons (g : Gt) (gs : List Gt) (x : Nat) : run (g :: gs) x = run gs (mk g x) := rfl
theorem run_nil (x : Nat) : run [] x = x := rfl
theorem run_app (a b : List Gt) (x : Nat) : run (a ++ b) x = run b (run a x) := List.foldl_append
theorem run_lt {w : Nat} : ∀ {gs : List Gt} {x : Nat}, (∀ g ∈ gs, g.1 < w) → x < rN w → run gs x < rN w
  | [], x, _, hx => hx
  | g :: gs, x, h, hx => run_lt (gs := gs) (x := mk g x) (fun g' hg' => h g' (List.mem_cons_of_mem _ hg')) (mk_lt (h g List.mem_cons_self) hx)
theorem run_take_succ {gs : List Gt} {k x : Nat} (h : k < gs.length) : run (gs.take (k + 1)) x = mk gs[k] (run (gs.take k) x) := by
  rw [List.take_succ_eq_append_getElem h, run_app]; rfl
/-- gate g of a row of 49 numbers; the gates that it tells -/
def ge (a : Nat → Nat) (g : Nat) : Gt := (a (1 + g), a (17 + g), a (33 + g))
def GA (a : Nat → Nat) (gs : List Gt) : Prop := a 0 = gs.length ∧ gs.length ≤ 16 ∧ ∀ g, g < gs.length → gs[g]? = some (ge a g)
theorem GA.at {a : Nat → Nat} {gs : List Gt} (h : GA a gs) {g : Nat} (hg : g < gs.length) : gs[g] = ge a g := by
  have := h.2.2 g hg
  rw [List.getElem?_eq_getElem hg] at this
  exact Option.some.inj this
theorem GA.ok {a : Nat → Nat} {gs : List Gt} {w : Nat} (h : GA a gs) (ho : ∀ g ∈ gs, gok w g) {g : Nat} (hg : g < gs.length) : gok w (ge a g) := by
  rw [← h.at hg]; exact ho _ (List.getElem_mem hg)
theorem gok4 {w : Nat} {g : Gt} (hw : w ≤ 4) (h : gok w g) : gok 4 g := by
  have hr : rN w ≤ rN 4 := by rw [rN_pow, rN_pow]; exact Nat.pow_le_pow_right (by decide) hw
  exact ⟨by have := h.1; omega, by have := h.2.1; omega, by have := h.2.2.1; omega, h.2.2.2⟩
theorem gok_s {g : Gt} (h : gok 4 g) : g.1 < 4 ∧ g.2.1 < 16 ∧ g.2.2 < 16 := ⟨h.1, h.2.1, h.2.2.1⟩
def upG (A : Nat → Nat → Nat) (j k : Nat) (g : Gt) : Nat → Nat → Nat := upA (upA (upA A j (1 + k) g.1) j (17 + k) g.2.1) j (33 + k) g.2.2
theorem upG_0 {A : Nat → Nat → Nat} {j k : Nat} {g : Gt} : upG A j k g j 0 = A j 0 := by
  unfold upG
  rw [upA_n (by omega), upA_n (by omega), upA_n (by omega)]
theorem upG_j {A : Nat → Nat → Nat} {j k a : Nat} {g : Gt} (h : a ≠ j) : upG A j k g a = A a := by
  unfold upG
  rw [upA_j h, upA_j h, upA_j h]
theorem ge_upG_s {A : Nat → Nat → Nat} {j k : Nat} {g : Gt} (hk : k < 16) : ge (upG A j k g j) k = g := by
  unfold ge upG
  rw [upA_n (show 1 + k ≠ 33 + k by omega), upA_n (show 1 + k ≠ 17 + k by omega), upA_s, upA_n (show 17 + k ≠ 33 + k by omega), upA_s, upA_s]
theorem ge_upG_n {A : Nat → Nat → Nat} {j k m : Nat} {g : Gt} (hk : k < 16) (hm : m < 16) (h : m ≠ k) : ge (upG A j k g j) m = ge (A j) m := by
  unfold ge upG
  rw [upA_n (show 1 + m ≠ 33 + k by omega), upA_n (show 1 + m ≠ 17 + k by omega), upA_n (show 1 + m ≠ 1 + k by omega), upA_n (show 17 + m ≠ 33 + k by omega), upA_n (show 17 + m ≠ 17 + k by omega), upA_n (show 17 + m ≠ 1 + k by omega), upA_n (show 33 + m ≠ 33 + k by omega), upA_n (show 33 + m ≠ 17 + k by omega), upA_n (show 33 + m ≠ 1 + k by omega)]
/-- a run of k numbers copied into array j from i0 on -/
def cpA (A : Nat → Nat → Nat) (j i0 : Nat) (src : Nat → Nat) (k : Nat) : Nat → Nat → Nat := fun a b => if a = j then (if i0 ≤ b ∧ b < i0 + k then src (b - i0) else A a b) else A a b
theorem cpA_0 (A : Nat → Nat → Nat) (j i0 : Nat) (src : Nat → Nat) : cpA A j i0 src 0 = A := by
  funext a b
  unfold cpA
  split
  · rw [if_neg (by omega)]
  · rfl
theorem cpA_s (A : Nat → Nat → Nat) (j i0 : Nat) (src : Nat → Nat) (k : Nat) : upA (cpA A j i0 src k) j (i0 + k) (src k) = cpA A j i0 src (k + 1) := by
  funext a b
  unfold upA cpA
  by_cases h : a = j
  · simp only [h, if_true]
    by_cases h2 : b = i0 + k
    · rw [if_pos h2, if_pos (by omega), h2, show i0 + k - i0 = k by omega]
    · rw [if_neg h2]
      by_cases h3 : i0 ≤ b ∧ b < i0 + k
      · rw [if_pos h3, if_pos (by omega)]
      · rw [if_neg h3, if_neg (by omega)]
  · simp only [h, if_false]
theorem cpA_j {A : Nat → Nat → Nat} {j i0 : Nat} {src : Nat → Nat} {k a : Nat} (h : a ≠ j) : cpA A j i0 src k a = A a := by
  funext b; unfold cpA; rw [if_neg h]
theorem cpA_in {A : Nat → Nat → Nat} {j i0 : Nat} {src : Nat → Nat} {k b : Nat} (h : b < k) : cpA A j i0 src k j (i0 + b) = src b := by
  unfold cpA; rw [if_pos rfl, if_pos (by omega), show i0 + b - i0 = b by omega]
theorem cpA_out {A : Nat → Nat → Nat} {j i0 : Nat} {src : Nat → Nat} {k b : Nat} (h : b < i0 ∨ i0 + k ≤ b) : cpA A j i0 src k j b = A j b := by
  unfold cpA; rw [if_pos rfl, if_neg (by omega)]
theorem GA.copy {a b : Nat → Nat} {gs : List Gt} (h : GA a gs) (e : ∀ k, k < 49 → b k = a k) : GA b gs := by
  obtain ⟨h1, h2, h3⟩ := h
  refine ⟨by rw [e 0 (by omega)]; exact h1, h2, fun g hg => ?_⟩
  rw [h3 g hg]
  unfold ge
  rw [e (1 + g) (by omega), e (17 + g) (by omega), e (33 + g) (by omega)]
theorem bitsF_le : ∀ k n, bitsF k n ≤ k
  | 0, _ => Nat.le_refl _
  | k + 1, n => by
    have := bitsF_le k (n / 2)
    unfold bitsF
    omega
theorem bits_le (n : Nat) : bits n ≤ 32 := bitsF_le 32 n
theorem bitsF_0 : ∀ k, bitsF k 0 = 0
  | 0 => rfl
  | k + 1 => by unfold bitsF; rw [Nat.zero_mod, Nat.zero_div, bitsF_0 k]
theorem bitsF_more : ∀ k j n, n < 2 ^ k → bitsF (k + j) n = bitsF k n
  | 0, j, n, h => by
    have : n = 0 := by simpa using h
    subst this
    rw [bitsF_0, bitsF_0]
  | k + 1, j, n, h => by
    rw [show k + 1 + j = (k + j) + 1 by omega]
    show n % 2 + bitsF (k + j) (n / 2) = n % 2 + bitsF k (n / 2)
    rw [bitsF_more k j (n / 2) (by rw [Nat.pow_succ] at h; omega)]
theorem bits_step {n : Nat} (h : n < 2147483648) : bits n = n % 2 + bits (n / 2) := by
  show n % 2 + bitsF 31 (n / 2) = n % 2 + bitsF (31 + 1) (n / 2)
  rw [bitsF_more 31 1 (n / 2) (by omega)]
theorem bits_0 : bits 0 = 0 := by decide
theorem testBit_mod (s k : Nat) : (s >>> k &&& 1 = 1) = (s.testBit k = true) := by
  rw [Nat.testBit, Nat.and_one_is_mod]
  simp [Nat.and_comm]
