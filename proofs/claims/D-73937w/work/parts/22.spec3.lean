set_option maxRecDepth 100000
/-! ===== plain words: shrinking ===== -/
/-- whether the rule r fits two gates -/
def fitR (r : Nat) (a b : Gt) : Bool :=
  if r = 1 then decide (a.2.1 ^^^ b.2.1 = 0 ∧ a.2.2 ^^^ b.2.2 = 0)
  else if r = 2 then decide (a.2.1 ^^^ b.2.1 = a.2.2 ^^^ b.2.2 ∧ bits (a.2.1 ^^^ b.2.1) = 1)
  else decide (bits (a.2.1 ^^^ b.2.1) + bits (a.2.2 ^^^ b.2.2) = 1)
def dif (a b : Gt) : Nat := (a.2.1 ^^^ b.2.1) ||| (a.2.2 ^^^ b.2.2)
/-- the gate that stands for both -/
def newR (r : Nat) (a b : Gt) : Gt := if r = 2 then (b.1, clr b.2.1 (dif a b), clr b.2.2 (dif a b)) else (b.1, (a.2.1 ||| b.2.1) ^^^ dif a b, (a.2.2 ||| b.2.2) ^^^ dif a b)
def resR (r : Nat) (gs : List Gt) (i k : Nat) : List Gt := if r = 1 then (gs.eraseIdx k).eraseIdx i else (gs.set k (newR r (gt gs i) (gt gs k))).eraseIdx i
/-- gates between i and k agree with gate i: m of them, the last behind all -/
def cmF (w : Nat) (gs : List Gt) (i k : Nat) : Nat → Bool
  | 0 => true
  | m + 1 => agr w (gt gs i) (gt gs (k - (m + 1))) && cmF w gs i k m
def cm (w : Nat) (gs : List Gt) (i k : Nat) : Bool := cmF w gs i k (k - (i + 1))
def good (w r : Nat) (gs : List Gt) (i k : Nat) : Bool := decide ((gt gs i).1 = (gt gs k).1) && (fitR r (gt gs i) (gt gs k) && cm w gs i k)
def shK (w r : Nat) (gs : List Gt) (i : Nat) : Nat → Option (Nat × Nat)
  | 0 => none
  | m + 1 => if good w r gs i (gs.length - (m + 1)) then some (i, gs.length - (m + 1)) else shK w r gs i m
def shI (w r : Nat) (gs : List Gt) : Nat → Option (Nat × Nat)
  | 0 => none
  | m + 1 => (shK w r gs (gs.length - (m + 1)) m).or (shI w r gs m)
def shr (w r : Nat) (gs : List Gt) : Option (List Gt) := (shI w r gs gs.length).map (fun p => resR r gs p.1 p.2)
def shrA (w : Nat) (gs : List Gt) : Option (List Gt) := (shr w 1 gs).or ((shr w 2 gs).or (shr w 3 gs))
def shrAll (w : Nat) : Nat → List Gt → List Gt
  | 0, gs => gs
  | m + 1, gs => match shrA w gs with
    | none => gs
    | some gs' => shrAll w m gs'
theorem shK_spec {w r : Nat} {gs : List Gt} {i : Nat} : ∀ {m : Nat} {p : Nat × Nat}, m + (i + 1) ≤ gs.length → shK w r gs i m = some p → p.1 = i ∧ i < p.2 ∧ p.2 < gs.length ∧ good w r gs p.1 p.2 = true
  | 0, p, _, h => by cases h
  | m + 1, p, hm, h => by
    unfold shK at h
    split at h
    · rename_i hg
      cases h
      exact ⟨rfl, by simp only; omega, by simp only; omega, hg⟩
    · exact shK_spec (by omega) h
theorem shI_spec {w r : Nat} {gs : List Gt} : ∀ {m : Nat} {p : Nat × Nat}, m ≤ gs.length → shI w r gs m = some p → p.1 < p.2 ∧ p.2 < gs.length ∧ good w r gs p.1 p.2 = true
  | 0, p, _, h => by cases h
  | m + 1, p, hm, h => by
    unfold shI at h
    cases hk : shK w r gs (gs.length - (m + 1)) m with
    | none => rw [hk] at h; exact shI_spec (by omega) h
    | some q =>
      rw [hk] at h
      cases h
      obtain ⟨h1, h2, h3, h4⟩ := shK_spec (by omega) hk
      exact ⟨by omega, h3, h4⟩
theorem resR_len {r : Nat} {gs : List Gt} {i k : Nat} (h : i < k) (hk : k < gs.length) : (resR r gs i k).length < gs.length := by
  unfold resR
  split
  · rw [List.length_eraseIdx_of_lt (by rw [List.length_eraseIdx_of_lt hk]; omega), List.length_eraseIdx_of_lt hk]; omega
  · rw [List.length_eraseIdx_of_lt (by rw [List.length_set]; omega), List.length_set]; omega
theorem all_r {N : Nat} {P : Nat → Bool} (h : (List.range N).all P = true) {i : Nat} (hi : i < N) : P i = true := List.all_eq_true.mp h i (List.mem_range.mpr hi)
theorem new3_b : ((List.range 16).all fun a => (List.range 16).all fun b => !(a &&& b == 0) || ((List.range 16).all fun c => (List.range 16).all fun e => !(c &&& e == 0) || (!(bits (a ^^^ c) + bits (b ^^^ e) == 1) || (((a ||| c) ^^^ ((a ^^^ c) ||| (b ^^^ e))) &&& ((b ||| e) ^^^ ((a ^^^ c) ||| (b ^^^ e))) == 0)))) = true := by decide +kernel
theorem new3_ok (a : Nat) (ha : a < 16) (b : Nat) (hb : b < 16) (hab : a &&& b = 0) (c : Nat) (hc : c < 16) (e : Nat) (he : e < 16) (hce : c &&& e = 0) (h : bits (a ^^^ c) + bits (b ^^^ e) = 1) : ((a ||| c) ^^^ ((a ^^^ c) ||| (b ^^^ e))) &&& ((b ||| e) ^^^ ((a ^^^ c) ||| (b ^^^ e))) = 0 := by
  have h1 := all_r (all_r new3_b ha) hb
  simp [hab] at h1
  rcases h1 c hc e he with q | q | q
  · exact absurd hce q
  · exact absurd h q
  · exact q
theorem tb_clr (x y t : Nat) : (clr x y).testBit t = (x.testBit t && !y.testBit t) := by
  unfold clr
  rw [Nat.testBit_xor, Nat.testBit_and]
  cases x.testBit t <;> cases y.testBit t <;> rfl
theorem clr_lt {x y w : Nat} (h : x < rN w) : clr x y < rN w := xor_lt h (Nat.lt_of_le_of_lt Nat.and_le_left h)
theorem clr_and {x y z d : Nat} (h : x &&& y = 0) : clr x d &&& clr y d = 0 := by
  apply Nat.eq_of_testBit_eq
  intro i
  rw [Nat.testBit_and, tb_clr, tb_clr]
  have := congrArg (fun n => n.testBit i) h
  simp only [Nat.testBit_and, Nat.zero_testBit] at this
  rw [Nat.zero_testBit]
  revert this
  cases x.testBit i <;> cases y.testBit i <;> cases d.testBit i <;> decide
theorem newR_ok {w r : Nat} {a b : Gt} (hw : w ≤ 4) (hr : r = 2 ∨ r = 3) (ha : gok w a) (hb : gok w b) (ht : a.1 = b.1) (hf : fitR r a b = true) : gok w (newR r a b) := by
  obtain ⟨a1, a2, a3, a4, a5, a6⟩ := ha
  obtain ⟨b1, b2, b3, b4, b5, b6⟩ := hb
  rw [ht] at a4 a5
  rcases hr with rfl | rfl
  · unfold newR
    rw [if_pos rfl]
    exact ⟨b1, clr_lt b2, clr_lt b3, by simp only [tb_clr, b4]; rfl, by simp only [tb_clr, b5]; rfl, clr_and (z := 0) b6⟩
  · unfold newR
    rw [if_neg (by decide)]
    have hr4 : rN w ≤ 16 := rN_le hw
    have hd : dif a b < rN w := or_lt (xor_lt a2 b2) (xor_lt a3 b3)
    have hdt : (dif a b).testBit b.1 = false := by unfold dif; simp only [Nat.testBit_or, Nat.testBit_xor, a4, a5, b4, b5]; rfl
    refine ⟨b1, xor_lt (or_lt a2 b2) hd, xor_lt (or_lt a3 b3) hd, ?_, ?_, ?_⟩
    · simp only [Nat.testBit_xor, Nat.testBit_or, a4, b4, hdt]; rfl
    · simp only [Nat.testBit_xor, Nat.testBit_or, a5, b5, hdt]; rfl
    · have hf' : bits (a.2.1 ^^^ b.2.1) + bits (a.2.2 ^^^ b.2.2) = 1 := by
        unfold fitR at hf
        rw [if_neg (by decide), if_neg (by decide)] at hf
        exact of_decide_eq_true hf
      exact new3_ok a.2.1 (by omega) a.2.2 (by omega) a6 b.2.1 (by omega) b.2.2 (by omega) b6 hf'
theorem good_fit {w r : Nat} {gs : List Gt} {i k : Nat} (h : good w r gs i k = true) : (gt gs i).1 = (gt gs k).1 ∧ fitR r (gt gs i) (gt gs k) = true := by
  unfold good at h
  rw [Bool.and_eq_true, Bool.and_eq_true] at h
  exact ⟨of_decide_eq_true h.1, h.2.1⟩
theorem resR_ok {w r : Nat} {gs : List Gt} {i k : Nat} (hw : w ≤ 4) (hr : r = 1 ∨ r = 2 ∨ r = 3) (ho : ∀ g ∈ gs, gok w g) (h : i < k) (hk : k < gs.length) (hg : good w r gs i k = true) : ∀ g ∈ resR r gs i k, gok w g := by
  intro g hm
  unfold resR at hm
  split at hm
  · exact ho g (List.mem_of_mem_eraseIdx (List.mem_of_mem_eraseIdx hm))
  · rename_i hr1
    have hm2 := List.mem_of_mem_eraseIdx hm
    rcases List.mem_or_eq_of_mem_set hm2 with q | q
    · exact ho g q
    · obtain ⟨g1, g2⟩ := good_fit hg
      rw [q]
      exact newR_ok hw (by omega) (ho _ (gt_mem (by omega))) (ho _ (gt_mem hk)) g1 g2
theorem shr_ok {w r : Nat} {gs gs' : List Gt} (hw : w ≤ 4) (hr : r = 1 ∨ r = 2 ∨ r = 3) (ho : ∀ g ∈ gs, gok w g) (h : shr w r gs = some gs') : (∀ g ∈ gs', gok w g) ∧ gs'.length < gs.length := by
  unfold shr at h
  cases hp : shI w r gs gs.length with
  | none => rw [hp] at h; cases h
  | some p =>
    rw [hp] at h
    cases h
    obtain ⟨h1, h2, h3⟩ := shI_spec (Nat.le_refl _) hp
    exact ⟨resR_ok hw hr ho h1 h2 h3, resR_len h1 h2⟩
theorem shrA_ok {w : Nat} {gs gs' : List Gt} (hw : w ≤ 4) (ho : ∀ g ∈ gs, gok w g) (h : shrA w gs = some gs') : (∀ g ∈ gs', gok w g) ∧ gs'.length < gs.length := by
  unfold shrA at h
  cases h1 : shr w 1 gs with
  | some q => rw [h1] at h; cases h; exact shr_ok hw (by omega) ho h1
  | none =>
    rw [h1, Option.none_or] at h
    cases h2 : shr w 2 gs with
    | some q => rw [h2] at h; cases h; exact shr_ok hw (by omega) ho h2
    | none => rw [h2, Option.none_or] at h; exact shr_ok hw (by omega) ho h
theorem shrAll_ok {w : Nat} (hw : w ≤ 4) : ∀ (m : Nat) (gs : List Gt), (∀ g ∈ gs, gok w g) → (∀ g ∈ shrAll w m gs, gok w g) ∧ (shrAll w m gs).length ≤ gs.length
  | 0, gs, ho => ⟨ho, Nat.le_refl _⟩
  | m + 1, gs, ho => by
    unfold shrAll
    cases h : shrA w gs with
    | none => exact ⟨ho, Nat.le_refl _⟩
    | some gs' =>
      obtain ⟨h1, h2⟩ := shrA_ok hw ho h
      obtain ⟨h3, h4⟩ := shrAll_ok hw m gs' h1
      exact ⟨h3, Nat.le_trans h4 (Nat.le_of_lt h2)⟩
