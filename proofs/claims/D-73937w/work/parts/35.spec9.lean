set_option maxRecDepth 100000
/-! ===== plain words: counted; the tape; wires that change places ===== -/
def cstF (gs : List Gt) (pr : Nat → Nat) : Nat → Nat
  | 0 => 0
  | k + 1 => cstF gs pr k + pr (bits ((gt gs k).2.1 ||| (gt gs k).2.2))
theorem cstF_le {gs : List Gt} {pr : Nat → Nat} (h : ∀ k, k < gs.length → pr (bits ((gt gs k).2.1 ||| (gt gs k).2.2)) ≤ 9999) : ∀ k, k ≤ gs.length → cstF gs pr k ≤ 9999 * k
  | 0, _ => Nat.le_refl _
  | k + 1, hk => by
    have := cstF_le h k (by omega)
    have := h k (by omega)
    show cstF gs pr k + _ ≤ _
    omega
def agA (w : Nat) (gs : List Gt) (g : Nat) : Nat → Bool
  | 0 => true
  | k + 1 => agA w gs g k && agr w (gt gs g) (gt gs k)
def agS (w : Nat) (gs : List Gt) : Nat → Nat
  | 0 => 0
  | k + 1 => if agA w gs k gs.length = true then agS w gs k ||| (1 <<< k) else agS w gs k
theorem agS_lt (w : Nat) (gs : List Gt) : ∀ k, agS w gs k < rN k
  | 0 => Nat.le_of_ble_eq_true rfl
  | k + 1 => by
    have h := agS_lt w gs k
    have h2 : rN k ≤ rN (k + 1) := by rw [rN_pow, rN_pow, Nat.pow_succ]; omega
    unfold agS
    split
    · exact or_lt (by omega) (bit_lt (by omega))
    · omega
def seF (gs : List Gt) (w : Nat) : Nat → Nat
  | 0 => 0
  | k + 1 => if senF gs k (2 * w) = 0 then seF gs w k else seF gs w k ||| (1 <<< k)
theorem seF_lt (gs : List Gt) (w : Nat) : ∀ k, seF gs w k < rN k
  | 0 => Nat.le_of_ble_eq_true rfl
  | k + 1 => by
    have h := seF_lt gs w k
    have h2 : rN k ≤ rN (k + 1) := by rw [rN_pow, rN_pow, Nat.pow_succ]; omega
    unfold seF
    split
    · omega
    · exact or_lt (by omega) (bit_lt (by omega))
def soA (gs : List Gt) (g : Nat) : Nat → Bool
  | 0 => true
  | k + 1 => soA gs g k && decide (gt gs k ≠ gt gs g)
def soF (gs : List Gt) : Nat → Nat
  | 0 => 0
  | k + 1 => if soA gs k k = true then soF gs k + 1 else soF gs k
theorem soF_le (gs : List Gt) : ∀ k, soF gs k ≤ k
  | 0 => Nat.le_refl _
  | k + 1 => by have := soF_le gs k; unfold soF; split <;> omega
def woF (gs : List Gt) : Nat → Nat
  | 0 => 0
  | k + 1 => woF gs k ||| wir (gt gs k)
theorem woF_lt {gs : List Gt} (h : ∀ g ∈ gs, gok 4 g) : ∀ k, k ≤ gs.length → woF gs k < 16
  | 0, _ => Nat.le_of_ble_eq_true rfl
  | k + 1, hk => or_lt (w := 4) (woF_lt h k (by omega)) (wir_lt (h _ (gt_mem (by omega))))
def coF (gs : List Gt) : Nat → Nat
  | 0 => 0
  | k + 1 => coF gs k + bits ((gt gs k).2.1 ||| (gt gs k).2.2)
theorem coF_le (gs : List Gt) : ∀ k, coF gs k ≤ 32 * k
  | 0 => Nat.le_refl _
  | k + 1 => by have := coF_le gs k; have := bits_le ((gt gs k).2.1 ||| (gt gs k).2.2); show coF gs k + _ ≤ _; omega
def cntS (w : Nat) (gs : List Gt) (pr : Nat → Nat) (tp un hm : Nat) (z : Int) : Int :=
  if 9 ≤ z ∧ z ≤ 12 then (pr (z.toNat - 9) : Int) else if z = 0 then (w : Int) else if z = 1 then (gs.length : Int) else if z = 2 then (cstF gs pr gs.length : Int) else if z = 3 then (lvM gs gs.length : Int)
  else if z = 4 then (agS w gs gs.length : Int) else if z = 5 then (woF gs gs.length : Int) else if z = 6 then (tp : Int) else if z = 7 then (un : Int) else if z = 8 then (hm : Int)
  else if z = 13 then (coF gs gs.length : Int) else if z = 14 then (seF gs w (rN w) : Int) else if z = 15 then (dgW gs (rN w) w : Int) else if z = 16 then (soF gs gs.length : Int) else -1
/-- byte k of an int, from the top on: 24, 16, 8, 0 -/
def bN (z k : Int) : Nat := (Int32.ofInt z >>> (Int32.ofInt k &&& 31)).toInt8.toBitVec.toNat
theorem bN_lt (z k : Int) : bN z k < 256 := BitVec.isLt _
theorem i8_sx (v : Int8) : Value.int v.toInt32 = zI (sx v.toBitVec.toNat) := by
  have hv : v.toBitVec.toNat < 256 := BitVec.isLt _
  unfold zI
  congr 1
  apply Int32.toInt_inj.mp
  rw [Int8.toInt_toInt32, i_ti (by unfold sx; split <;> exact ⟨by omega, by omega⟩)]
  show v.toBitVec.toInt = _
  rw [BitVec.toInt_eq_toNat_cond]
  unfold sx
  split <;> split <;> omega
theorem upF_upF (F : Nat → Nat) (k a b : Nat) : upF (upF F k a) k b = upF F k b := by
  funext j; unfold upF; split <;> rfl
theorem upF_id (F : Nat → Nat) (k : Nat) : upF F k (F k) = F := by
  funext j; unfold upF; split
  · rename_i h; rw [h]
  · rfl
def lay4 (A : Nat → Nat → Nat) (t : Nat) (z : Int) : Nat → Nat → Nat := upA (upA (upA (upA A 0 t (bN z 24)) 0 (t + 1) (bN z 16)) 0 (t + 2) (bN z 8)) 0 (t + 3) (bN z 0)
/-- wires renamed: the wire v goes to f v -/
def rnm (f : Nat → Nat) (row : Nat) : Nat → Nat
  | 0 => 0
  | v + 1 => if row.testBit v = true then rnm f row v ||| (1 <<< f v) else rnm f row v
theorem rnm_lt {f : Nat → Nat} {row k : Nat} : ∀ w, (∀ v, v < w → f v < k) → rnm f row w < rN k
  | 0, _ => rN_pos k
  | v + 1, h => by
    have := rnm_lt (row := row) v (fun u hu => h u (by omega))
    unfold rnm
    split
    · exact or_lt this (bit_lt (h v (by omega)))
    · exact this
def rnmOK (w : Nat) (p q : Nat → Nat) (f : Nat → Nat) : Bool := (List.range (rN w)).all (fun r => q (rnm f r w) == rnm f (p r) w)
theorem rnmOK_iff {w : Nat} {p q f : Nat → Nat} : rnmOK w p q f = true ↔ ∀ r, r < rN w → q (rnm f r w) = rnm f (p r) w := by
  unfold rnmOK
  rw [List.all_eq_true]
  constructor
  · intro h x hx; exact eq_of_beq (h x (List.mem_range.mpr hx))
  · intro h x hx; rw [h x (List.mem_range.mp hx)]; exact beq_self_eq_true _
/-- the wire that is met by `ahead` free ones ahead of it, from `to` on -/
def nuF (met : Nat) : Nat → Nat → Nat → Nat
  | 0, _, to => to
  | m + 1, a, to => if met.testBit to = true then nuF met m a (to + 1) else if 0 < a then nuF met m (a - 1) (to + 1) else to
def nuOK (met : Nat) : Nat → Nat → Nat → Bool
  | 0, _, _ => false
  | m + 1, a, to => if met.testBit to = true then nuOK met m a (to + 1) else if 0 < a then nuOK met m (a - 1) (to + 1) else true
/-- code, wires met, after v wires -/
def dcS (w way : Nat) : Nat → Nat × Nat
  | 0 => (way, 0)
  | v + 1 => ((dcS w way v).1 / (w - v), (dcS w way v).2 ||| (1 <<< nuF (dcS w way v).2 4 ((dcS w way v).1 % (w - v)) 0))
/-- where wire v goes in a way -/
def dcG (w way v : Nat) : Nat := nuF (dcS w way v).2 4 ((dcS w way v).1 % (w - v)) 0
def facN : Nat → Nat
  | 0 => 1
  | w + 1 => (w + 1) * facN w
theorem dc_b : ((List.range 5).all fun w => (List.range (facN w)).all fun way => (List.range w).all fun v => nuOK (dcS w way v).2 4 ((dcS w way v).1 % (w - v)) 0 && decide (dcG w way v < w) && decide ((dcS w way v).2 < 16) && decide ((dcS w way v).1 < 24)) = true := by decide +kernel
theorem dc_ok {w way v : Nat} (hw : w ≤ 4) (hy : way < facN w) (hv : v < w) : nuOK (dcS w way v).2 4 ((dcS w way v).1 % (w - v)) 0 = true ∧ dcG w way v < w ∧ (dcS w way v).2 < 16 ∧ (dcS w way v).1 < 24 := by
  have h := all_r (all_r (all_r dc_b (show w < 5 by omega)) hy) hv
  simp only [Bool.and_eq_true, decide_eq_true_iff] at h
  exact ⟨h.1.1.1, h.1.1.2, h.1.2, h.2⟩
theorem facN_le : ∀ w, w < 5 → 1 ≤ facN w ∧ facN w ≤ 24 := by decide
/-- how many of the first ways rename p as q -/
def lkF (w : Nat) (p q : Nat → Nat) : Nat → Nat
  | 0 => 0
  | k + 1 => if rnmOK w p q (dcG w k) = true then lkF w p q k + 1 else lkF w p q k
theorem lkF_le (w : Nat) (p q : Nat → Nat) : ∀ k, lkF w p q k ≤ k
  | 0 => Nat.le_refl _
  | k + 1 => by have := lkF_le w p q k; unfold lkF; split <;> omega
theorem rnmOK_congr {w : Nat} {p q f g : Nat → Nat} (h : ∀ v, v < w → f v = g v) : rnmOK w p q f = rnmOK w p q g := by
  have e : ∀ row m, m ≤ w → rnm f row m = rnm g row m := by
    intro row m
    induction m with
    | zero => intro _; rfl
    | succ m ih => intro hm; unfold rnm; rw [ih (by omega), h m (by omega)]
  unfold rnmOK
  congr 1
  funext r
  rw [e r w (Nat.le_refl _), e (p r) w (Nat.le_refl _)]
