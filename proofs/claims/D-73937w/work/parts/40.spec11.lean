set_option maxRecDepth 100000
/-! ===== plain words: lines of a text ===== -/
/-- tokens: X 2 kinds, X 3 places, X 4 values, X 5 names -/
def tkX (n : Nat) (T : Nat → Nat) (j k : Nat) : Nat := match (lex n T)[k]? with
  | some (kd, a, b) => if j = 2 then kd else if j = 3 then a else if j = 4 then vlT (Bt n T) a b else nmT (Bt n T) a b
  | none => if j = 2 then 3 else 0
abbrev PR : Type := Sum (Nat × Nat) Nat
def bd (r : PR) (f : Nat → PR) : PR := match r with
  | .inl e => .inl e
  | .inr t => f t
def pPass (X : Nat → Nat → Nat) (t : Nat) : PR := if t = 400 then .inl (2, X 3 t) else .inr (t + 1)
def pMust (X : Nat → Nat → Nat) (k t : Nat) : PR := if X 2 t = k then pPass X t else .inl (1, X 3 t)
def pMustN (X : Nat → Nat → Nat) (k : Nat) : Nat → PR → PR
  | 0, r => r
  | m + 1, r => pMustN X k m (bd r (pMust X k))
def pCtl (X : Nat → Nat → Nat) : Nat → Nat → PR
  | 0, t => if X 2 t = 5 ∨ X 2 t = 1 then .inl (2, X 3 t) else .inr t
  | m + 1, t => if X 2 t = 5 ∨ X 2 t = 1 then bd (bd (if X 2 t = 5 then pPass X t else .inr t) (pMust X 1)) (pCtl X m) else .inr t
def pVal (X : Nat → Nat → Nat) : Nat → Nat → PR
  | 0, t => if X 2 t = 2 then .inl (2, X 3 t) else .inr t
  | m + 1, t => if X 2 t = 2 then bd (pPass X t) (pVal X m) else .inr t
def pBody (X : Nat → Nat → Nat) (k : Nat) (r : PR) : PR := bd (if k = 20 then bd r (pMust X 1) else if k = 21 then bd (bd r (pMust X 1)) (pCtl X 3) else if k = 22 then pMustN X 2 4 r else bd (pMustN X 2 3 r) (pVal X 7)) (pMust X 4)
def pLine (X : Nat → Nat → Nat) (t nw ng : Nat) : PR := if X 2 t < 20 ∨ 23 < X 2 t then .inl (1, X 3 t) else if X 2 t = 20 ∧ nw = 4 ∨ X 2 t = 21 ∧ ng = 16 then .inl (2, X 3 t) else pBody X (X 2 t) (pPass X t)
/-- lines: kind, its key's token, the token of its semicolon -/
def pAll (X : Nat → Nat → Nat) : Nat → Nat → Nat → Nat → List (Nat × Nat × Nat) → Sum (Nat × Nat) (List (Nat × Nat × Nat))
  | 0, t, _, _, _ => .inl (1, X 3 t)
  | m + 1, t, nw, ng, ls => if X 2 t = 0 then .inr ls else match pLine X t nw ng with
    | .inl e => .inl e
    | .inr t' => pAll X m t' (if X 2 t = 20 then nw + 1 else nw) (if X 2 t = 21 then ng + 1 else ng) (ls ++ [(X 2 t, t, t' - 1)])
theorem bd_inl (e : Nat × Nat) (f : Nat → PR) : bd (.inl e) f = .inl e := rfl
theorem bd_inr (t : Nat) (f : Nat → PR) : bd (.inr t) f = f t := rfl
theorem pMustN_inl (X : Nat → Nat → Nat) (k : Nat) (e : Nat × Nat) : ∀ m, pMustN X k m (.inl e) = .inl e
  | 0 => rfl
  | m + 1 => pMustN_inl X k e m
/-- the reference's arrays tell the first N tokens -/
def TP (A X : Nat → Nat → Nat) (N : Nat) : Prop := 1 ≤ N ∧ N ≤ 401 ∧ (∀ k, k < N → A 2 k = X 2 k ∧ A 3 k = X 3 k ∧ A 4 k = X 4 k ∧ A 5 k = X 5 k) ∧ (X 2 (N - 1) = 0 ∨ N = 401) ∧ (∀ k, X 2 k ≤ 23) ∧ (∀ k, X 3 k ≤ 2000) ∧ (∀ k, X 4 k < 10000) ∧ ∀ k, X 5 k < 282429536481
/-- how far the reference has read -/
def St (N : Nat) (F0 : Nat → Nat) (r : PR) (F : Nat → Nat) : Prop := (∀ k, k ≠ 11 → k ≠ 12 → k ≠ 13 → F k = F0 k) ∧ F 11 < N ∧ match r with
  | .inl e => F 12 = e.1 ∧ (1 ≤ e.1 ∧ e.1 ≤ 2) ∧ F 13 = e.2 ∧ e.2 ≤ 2000
  | .inr t => F 12 = 0 ∧ F 11 = t
