set_option maxRecDepth 100000
/-! ===== plain words: what lines mean ===== -/
/-- the worst so far: its number (0: none), its token; one more is told -/
def tellS (s : Nat × Nat) (n tok : Nat) : Nat × Nat := if s.1 ≠ 0 ∧ (s.2 < tok ∨ tok = s.2 ∧ s.1 ≤ n) then s else (n, tok)
def nmdF (X : Nat → Nat → Nat) (x ahead : Nat) : Nat → Nat → Option Nat
  | 0, _ => none
  | m + 1, c => if X 2 (ahead - (m + 1)) = 20 then (if X 5 (ahead - (m + 1) + 1) = x then some c else nmdF X x ahead m (c + 1)) else nmdF X x ahead m c
/-- the number of the wire of a name, told ahead of a token -/
def nmd (X : Nat → Nat → Nat) (ahead x : Nat) : Option Nat := nmdF X x ahead ahead 0
theorem nmdF_lt {X : Nat → Nat → Nat} {x ahead : Nat} : ∀ m c r, nmdF X x ahead m c = some r → r < c + m
  | 0, c, r, h => by cases h
  | m + 1, c, r, h => by
    unfold nmdF at h
    split at h
    · split at h
      · cases h; omega
      · have := nmdF_lt m (c + 1) r h; omega
    · have := nmdF_lt m c r h; omega
def dpF (X : Nat → Nat → Nat) (k i : Nat) (s : Nat × Nat) : Nat → Nat × Nat
  | 0 => s
  | c + 1 => if X 2 (k + 1 + c) = 1 ∧ X 5 (k + 1 + c) = X 5 i then tellS (dpF X k i s c) 3 i else dpF X k i s c
abbrev GST : Type := (Nat × Nat) × Nat × Nat × Nat
def gtW (X : Nat → Nat → Nat) (N k i : Nat) (s : Nat × Nat) : Nat × Nat := match nmd X N (X 5 i) with
  | none => tellS (dpF X k i s (i - (k + 1))) 4 i
  | some _ => dpF X k i s (i - (k + 1))
def orO (a : Nat) (o : Option Nat) : Nat := match o with
  | none => a
  | some w => a ||| (1 <<< w)
/-- a gate's line, c tokens of it: the worst, target, on, off -/
def gsT (X : Nat → Nat → Nat) (N k : Nat) (s0 : Nat × Nat) : Nat → GST
  | 0 => (s0, 0, 0, 0)
  | c + 1 => if X 2 (k + 1 + c) = 5 then gsT X N k s0 c else (gtW X N k (k + 1 + c) (gsT X N k s0 c).1,
      if c = 0 then (nmd X N (X 5 (k + 1 + c))).getD 999999999 else (gsT X N k s0 c).2.1,
      if c = 0 ∨ X 2 (k + c) = 5 then (gsT X N k s0 c).2.2.1 else orO (gsT X N k s0 c).2.2.1 (nmd X N (X 5 (k + 1 + c))),
      if c = 0 ∨ X 2 (k + c) ≠ 5 then (gsT X N k s0 c).2.2.2 else orO (gsT X N k s0 c).2.2.2 (nmd X N (X 5 (k + 1 + c))))
def prF (X : Nat → Nat → Nat) (t : Nat) (s : Nat × Nat) : Nat → Nat × Nat
  | 0 => s
  | c + 1 => if 1 ≤ X 4 (t + 1 + c) ∧ X 4 (t + 1 + c) ≤ 99 then prF X t s c else tellS (prF X t s c) 5 (t + 1 + c)
def tvF (X : Nat → Nat → Nat) (k m : Nat) (s : Nat × Nat) : Nat → Nat × Nat
  | 0 => s
  | c + 1 => if (1 ≤ m ∧ m ≤ 3) ∧ rN m ≤ X 4 (k + 3 + c) then tellS (tvF X k m s c) 5 (k + 3 + c) else tvF X k m s c
def tbW (X : Nat → Nat → Nat) (k e : Nat) (s : Nat × Nat) : Nat × Nat :=
  let s1 := if 1 ≤ X 4 (k + 1) ∧ X 4 (k + 1) ≤ 3 then s else tellS s 5 (k + 1)
  let s2 := if 1 ≤ X 4 (k + 2) ∧ X 4 (k + 2) ≤ 3 then s1 else tellS s1 5 (k + 2)
  let s3 := tvF X k (X 4 (k + 2)) s2 (e - (k + 3))
  if (1 ≤ X 4 (k + 1) ∧ X 4 (k + 1) ≤ 3) ∧ e - (k + 3) ≠ rN (X 4 (k + 1)) then tellS s3 6 e else s3
/-- the worst; prices; inputs, outputs, values of a table and how many; gates -/
abbrev MS : Type := (Nat × Nat) × (Nat → Nat) × (Nat × Nat × Nat × (Nat → Nat)) × List (Nat × Nat × Nat)
def smS (X : Nat → Nat → Nat) (N : Nat) (s : MS) (ln : Nat × Nat × Nat) : MS :=
  if ln.1 = 20 then ((match nmd X ln.2.1 (X 5 (ln.2.1 + 1)) with | none => s.1 | some _ => tellS s.1 3 (ln.2.1 + 1)), s.2)
  else if ln.1 = 21 then ((gsT X N ln.2.1 s.1 (ln.2.2 - (ln.2.1 + 1))).1, s.2.1, s.2.2.1, s.2.2.2 ++ [(gsT X N ln.2.1 s.1 (ln.2.2 - (ln.2.1 + 1))).2])
  else if ln.1 = 22 then (prF X ln.2.1 s.1 4, (fun i => if i < 4 then X 4 (ln.2.1 + 1 + i) else s.2.1 i), s.2.2)
  else (tbW X ln.2.1 ln.2.2 s.1, s.2.1, (X 4 (ln.2.1 + 1), X 4 (ln.2.1 + 2), ln.2.2 - (ln.2.1 + 3), fun x => X 4 (ln.2.1 + 3 + x)), s.2.2.2)
def pr0 (i : Nat) : Nat := if i = 0 then 1 else if i = 1 then 1 else if i = 2 then 5 else 13
def ms0 : MS := ((0, 0), pr0, (0, 0, 0, fun _ => 0), [])
def mean (X : Nat → Nat → Nat) (N : Nat) (ls : List (Nat × Nat × Nat)) : MS := ls.foldl (smS X N) ms0
/-- a line's shape -/
def lnOK (X : Nat → Nat → Nat) (N kd t e : Nat) : Prop := (20 ≤ kd ∧ kd ≤ 23) ∧ X 2 t = kd ∧ t < e ∧ e < N ∧ X 2 e = 4 ∧
  (kd = 20 → e = t + 2 ∧ X 2 (t + 1) = 1) ∧ (kd = 21 → t + 1 < e ∧ X 2 (t + 1) = 1 ∧ ∀ i, t < i → i < e → X 2 i = 1 ∨ X 2 i = 5) ∧ (kd = 22 → e = t + 5 ∧ ∀ i, t < i → i < e → X 2 i = 2) ∧ (kd = 23 → t + 4 ≤ e ∧ e ≤ t + 11 ∧ ∀ i, t < i → i < e → X 2 i = 2)
def LO (X : Nat → Nat → Nat) (N : Nat) : Nat → List (Nat × Nat × Nat) → Prop
  | k, [] => ∀ j, k ≤ j → j < N → X 2 j < 20
  | k, ln :: rest => k ≤ ln.2.1 ∧ (∀ j, k ≤ j → j < ln.2.1 → X 2 j < 20) ∧ lnOK X N ln.1 ln.2.1 ln.2.2 ∧ LO X N (ln.2.1 + 1) rest
def MQr (X : Nat → Nat → Nat) (N : Nat) : Prop := (∀ a b, a < b → b < N → X 3 a < X 3 b) ∧ (∀ k, k < N → X 2 k = 20 → k + 1 < N) ∧ ∀ x c, nmd X N x = some c → c < 4
/-- the reference's worst -/
def WR (X : Nat → Nat → Nat) (N : Nat) (F : Nat → Nat) (s : Nat × Nat) : Prop := F 14 = s.1 ∧ s.1 ≤ 6 ∧ (s.1 ≠ 0 → F 15 = X 3 s.2 ∧ s.2 < N)
def uF (F F' : Nat → Nat) : Prop := ∀ j, j ≠ 14 → j ≠ 15 → F' j = F j
theorem uF.t {F F1 F2 : Nat → Nat} (h : uF F F1) (h' : uF F1 F2) : uF F F2 := fun j a b => (h' j a b).trans (h j a b)
theorem uF.rf {F : Nat → Nat} : uF F F := fun _ _ _ => rfl
theorem dz_oI (o : Option Nat) (h : ∀ c, o = some c → c < 4) : dz (o.getD 999999999) = oI o := by
  cases o with
  | none => rfl
  | some c => exact dz_n (by have := h c rfl; show c < 999999999; omega)
theorem orO_lt {a : Nat} {o : Option Nat} (ha : a < 16) (h : ∀ c, o = some c → c < 4) : orO a o < 16 := by
  cases o with
  | none => exact ha
  | some c => exact or_lt (w := 4) ha (bit_lt (h c rfl))
theorem gsT_lt {X : Nat → Nat → Nat} {N k : Nat} {s0 : Nat × Nat} (h : ∀ x c, nmd X N x = some c → c < 4) : ∀ c, (gsT X N k s0 c).2.2.1 < 16 ∧ (gsT X N k s0 c).2.2.2 < 16
  | 0 => ⟨by show 0 < 16; decide, by show 0 < 16; decide⟩
  | c + 1 => by
    obtain ⟨h1, h2⟩ := gsT_lt (s0 := s0) (k := k) h c
    unfold gsT
    split
    · exact ⟨h1, h2⟩
    · refine ⟨?_, ?_⟩
      · simp only
        split
        · exact h1
        · exact orO_lt h1 (h _)
      · simp only
        split
        · exact h2
        · exact orO_lt h2 (h _)
