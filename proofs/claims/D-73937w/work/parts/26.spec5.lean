set_option maxRecDepth 100000
/-! ===== plain words: stuck, seen, terms, idle ===== -/
def stk (w o x : Nat) : Nat := clr x (1 <<< w) ||| (o <<< w)
def stkRun (gs : List Gt) (w o x : Nat) : Nat := gs.foldl (fun r g => stk w o (mk g r)) (stk w o x)
theorem o_lt {o w k : Nat} (ho : o < 2) (h : w < k) : o <<< w < rN k := by
  have h1 : o = 0 ∨ o = 1 := by omega
  rcases h1 with e | e
  · subst e; rw [Nat.zero_shiftLeft]; exact rN_pos k
  · subst e; exact bit_lt h
theorem stk_lt {w o x k : Nat} (hx : x < rN k) (ho : o < 2) (hw : w < k) : stk w o x < rN k := or_lt (clr_lt hx) (o_lt ho hw)
theorem stkF_lt {k w o : Nat} (ho : o < 2) (hw : w < k) : ∀ {gs : List Gt} {x : Nat}, (∀ g ∈ gs, g.1 < k) → x < rN k → gs.foldl (fun r g => stk w o (mk g r)) x < rN k
  | [], x, _, hx => hx
  | g :: gs, x, h, hx => stkF_lt ho hw (gs := gs) (fun g' hg' => h g' (List.mem_cons_of_mem _ hg')) (stk_lt (mk_lt (h g List.mem_cons_self) hx) ho hw)
theorem stkRun_lt {k w o : Nat} {gs : List Gt} {x : Nat} (ho : o < 2) (hw : w < k) (h : ∀ g ∈ gs, g.1 < k) (hx : x < rN k) : stkRun gs w o x < rN k := stkF_lt ho hw h (stk_lt hx ho hw)
theorem stkRun_take {gs : List Gt} {w o x i : Nat} (h : i < gs.length) : stkRun (gs.take (i + 1)) w o x = stk w o (mk gs[i] (stkRun (gs.take i) w o x)) := by
  unfold stkRun
  rw [List.take_succ_eq_append_getElem h, List.foldl_append]; rfl
def senF (gs : List Gt) (x : Nat) : Nat → Nat
  | 0 => 0
  | f + 1 => if stkRun gs (f / 2) (f % 2) x = run gs x then senF gs x f else senF gs x f ||| (1 <<< f)
theorem senF_lt (gs : List Gt) (x : Nat) : ∀ f, senF gs x f < rN f
  | 0 => Nat.le_of_ble_eq_true rfl
  | f + 1 => by
    have h := senF_lt gs x f
    have h2 : rN f ≤ rN (f + 1) := by rw [rN_pow, rN_pow, Nat.pow_succ]; omega
    unfold senF
    split
    · omega
    · exact or_lt (by omega) (bit_lt (by omega))
def trI (gs : List Gt) (w s : Nat) : Nat → Nat
  | 0 => 0
  | r + 1 => if clr r s = 0 then trI gs w s r ^^^ (run gs r >>> w &&& 1) else trI gs w s r
theorem and1_lt (x : Nat) : x &&& 1 < 2 := Nat.lt_of_le_of_lt Nat.and_le_right (by decide)
theorem trI_lt (gs : List Gt) (w s : Nat) : ∀ r, trI gs w s r < 2
  | 0 => Nat.le_of_ble_eq_true rfl
  | r + 1 => by
    have h := trI_lt gs w s r
    unfold trI
    split
    · exact Nat.xor_lt_two_pow (n := 1) h (and1_lt _)
    · exact h
def trF (gs : List Gt) (w R : Nat) : Nat → Nat
  | 0 => 0
  | s + 1 => trF gs w R s ||| (trI gs w s R <<< s)
theorem trF_lt (gs : List Gt) (w R : Nat) : ∀ s, trF gs w R s < rN s
  | 0 => Nat.le_of_ble_eq_true rfl
  | s + 1 => by
    have h := trF_lt gs w R s
    have h2 : rN s ≤ rN (s + 1) := by rw [rN_pow, rN_pow, Nat.pow_succ]; omega
    unfold trF
    exact or_lt (by omega) (o_lt (trI_lt _ _ _ _) (by omega))
def dgS (T a : Nat) : Nat → Nat
  | 0 => a
  | s + 1 => if T.testBit s = true ∧ dgS T a s < bits s then bits s else dgS T a s
def dgW (gs : List Gt) (R : Nat) : Nat → Nat
  | 0 => 0
  | w + 1 => dgS (trF gs w R R) (dgW gs R w) R
theorem dgS_le (T a : Nat) : ∀ s, dgS T a s ≤ max a 32
  | 0 => by show a ≤ _; omega
  | s + 1 => by
    have h := dgS_le T a s
    have := bits_le s
    unfold dgS
    split <;> omega
theorem dgW_le (gs : List Gt) (R : Nat) : ∀ w, dgW gs R w ≤ 32
  | 0 => Nat.le_of_ble_eq_true rfl
  | w + 1 => by
    have h := dgW_le gs R w
    have := dgS_le (trF gs w R R) (dgW gs R w) R
    show dgS _ _ R ≤ 32
    omega
def idl (w : Nat) (gs : List Gt) (a b : Nat) : Bool := (List.range (rN w)).all (fun x => run ((gs.take b).drop a) x == x)
theorem idl_iff {w : Nat} {gs : List Gt} {a b : Nat} : idl w gs a b = true ↔ ∀ x, x < rN w → run ((gs.take b).drop a) x = x := by
  unfold idl
  rw [List.all_eq_true]
  exact ⟨fun q x hx => eq_of_beq (q x (List.mem_range.mpr hx)), fun q x hx => by rw [q x (List.mem_range.mp hx)]; exact beq_self_eq_true _⟩
def idI (w : Nat) (gs : List Gt) (n : Nat) : Nat → Option Nat
  | 0 => none
  | m + 1 => if idl w gs (gs.length + 1 - n - (m + 1)) (gs.length + 1 - n - (m + 1) + n) then some (gs.length + 1 - n - (m + 1)) else idI w gs n m
def idN (w : Nat) (gs : List Gt) : Nat → Option (Nat × Nat)
  | 0 => none
  | m + 1 => ((idI w gs (gs.length - m) (m + 1)).map (fun i => (i, gs.length - m))).or (idN w gs m)
/-- the first shortest run that makes nothing -/
def idA (w : Nat) (gs : List Gt) : Option (Nat × Nat) := idN w gs gs.length
