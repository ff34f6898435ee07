set_option maxRecDepth 100000
/-! ===== plain words: agreeing, levels, free ===== -/
def gt (gs : List Gt) (k : Nat) : Gt := gs.getD k (0, 0, 0)
theorem gt_at {gs : List Gt} {k : Nat} (h : k < gs.length) : gt gs k = gs[k] := by unfold gt; simp [h]
theorem gt_mem {gs : List Gt} {k : Nat} (h : k < gs.length) : gt gs k ∈ gs := by rw [gt_at h]; exact List.getElem_mem h
theorem GA.gt {a : Nat → Nat} {gs : List Gt} (h : GA a gs) {g : Nat} (hg : g < gs.length) : ge a g = gt gs g := by rw [gt_at hg]; exact (h.at hg).symm
def wir (g : Gt) : Nat := (g.2.1 ||| g.2.2) ||| (1 <<< g.1)
theorem wir_lt {g : Gt} (h : gok 4 g) : wir g < 16 := or_lt (w := 4) (or_lt (w := 4) h.2.1 h.2.2.1) (bit_lt h.1)
/-- whether two gates agree on all rows of w wires -/
def agr (w : Nat) (g h : Gt) : Bool := (List.range (rN w)).all (fun x => mk g (mk h x) == mk h (mk g x))
theorem agr_iff {w : Nat} {g h : Gt} : agr w g h = true ↔ ∀ x, x < rN w → mk g (mk h x) = mk h (mk g x) := by
  unfold agr
  rw [List.all_eq_true]
  constructor
  · intro q x hx
    exact eq_of_beq (q x (List.mem_range.mpr hx))
  · intro q x hx
    rw [q x (List.mem_range.mp hx)]
    exact beq_self_eq_true _
theorem agr_comm (w : Nat) (g h : Gt) : agr w g h = agr w h g := by
  rw [Bool.eq_iff_iff, agr_iff, agr_iff]
  exact ⟨fun q x hx => (q x hx).symm, fun q x hx => (q x hx).symm⟩
/-- how many ahead of place i, one behind another, agree with gate k -/
def frB (w : Nat) (gs : List Gt) (k : Nat) : Nat → Nat
  | 0 => 0
  | i + 1 => if agr w (gt gs k) (gt gs i) then frB w gs k i + 1 else 0
/-- how many of the last m, from the first on, agree with gate k -/
def frA (w : Nat) (gs : List Gt) (k : Nat) : Nat → Nat
  | 0 => 0
  | m + 1 => if agr w (gt gs k) (gt gs (gs.length - (m + 1))) then frA w gs k m + 1 else 0
theorem frB_le (w : Nat) (gs : List Gt) (k : Nat) : ∀ i, frB w gs k i ≤ i
  | 0 => Nat.le_refl _
  | i + 1 => by have := frB_le w gs k i; unfold frB; split <;> omega
theorem frA_le (w : Nat) (gs : List Gt) (k : Nat) : ∀ i, frA w gs k i ≤ i
  | 0 => Nat.le_refl _
  | i + 1 => by have := frA_le w gs k i; unfold frA; split <;> omega
def lvIn (gs : List Gt) (Lv : Nat → Nat) (g : Nat) : Nat → Nat
  | 0 => 0
  | k + 1 => if wir (gt gs g) &&& wir (gt gs k) ≠ 0 then max (lvIn gs Lv g k) (Lv k + 1) else lvIn gs Lv g k
def lvT (gs : List Gt) : Nat → Nat → Nat
  | 0 => fun _ => 0
  | n + 1 => fun k => if k = n then lvIn gs (lvT gs n) n n else lvT gs n k
def lvM (gs : List Gt) : Nat → Nat
  | 0 => 0
  | n + 1 => max (lvM gs n) (lvT gs (n + 1) n + 1)
theorem lvIn_le {gs : List Gt} {Lv : Nat → Nat} {g B : Nat} : ∀ k, (∀ j, j < k → Lv j + 1 ≤ B) → lvIn gs Lv g k ≤ B
  | 0, _ => Nat.zero_le _
  | k + 1, h => by
    have := lvIn_le (gs := gs) (g := g) k (fun j hj => h j (by omega))
    have := h k (by omega)
    unfold lvIn
    split <;> omega
theorem lvT_le (gs : List Gt) : ∀ n k, lvT gs n k ≤ n
  | 0, _ => Nat.le_refl _
  | n + 1, k => by
    have h1 := lvT_le gs n
    show (if k = n then lvIn gs (lvT gs n) n n else lvT gs n k) ≤ n + 1
    split
    · exact lvIn_le n (fun j hj => by have := h1 j; omega)
    · have := h1 k; omega
theorem lvIn_congr {gs : List Gt} {L1 L2 : Nat → Nat} {g : Nat} : ∀ k, (∀ j, j < k → L1 j = L2 j) → lvIn gs L1 g k = lvIn gs L2 g k
  | 0, _ => rfl
  | k + 1, h => by
    have := lvIn_congr (gs := gs) (g := g) k (fun j hj => h j (by omega))
    unfold lvIn
    rw [this, h k (by omega)]
theorem lvM_le (gs : List Gt) : ∀ n, lvM gs n ≤ n + 1
  | 0 => Nat.zero_le _
  | n + 1 => by
    have h1 := lvM_le gs n
    have h2 := lvT_le gs (n + 1) n
    show max (lvM gs n) (lvT gs (n + 1) n + 1) ≤ n + 1 + 1
    omega
