set_option maxRecDepth 100000
/-! ===== plain words: chains of nodes ===== -/
def hd (ns : List Nat) (q : Value) : Value := match ns with
  | [] => q
  | x :: _ => .ref x
def ls_ (p : Value) : List Nat → Value
  | [] => p
  | x :: ns => ls_ (.ref x) ns
/-- nodes ns hold elements l, one behind another, from p to q -/
def DL (g : Hp) : Value → List Nat → List Nat → Value → Prop
  | _, [], [], _ => True
  | p, x :: ns, v :: l, q => g x = some (.inl (13, [.ref v, hd ns q, p])) ∧ DL g (.ref x) ns l q
  | _, _, _, _ => False
theorem ls_app (p : Value) : ∀ a b, ls_ p (a ++ b) = ls_ (ls_ p a) b
  | [], b => rfl
  | x :: a, b => by show ls_ (.ref x) (a ++ b) = ls_ (ls_ (.ref x) a) b; exact ls_app _ a b
theorem hd_app (a b : List Nat) (q : Value) : hd (a ++ b) q = hd a (hd b q) := by cases a <;> rfl
theorem DL.len {g : Hp} : ∀ {p : Value} {ns l : List Nat} {q : Value}, DL g p ns l q → ns.length = l.length
  | p, [], [], q, _ => rfl
  | p, x :: ns, v :: l, q, h => by rw [List.length_cons, List.length_cons, DL.len h.2]
  | p, [], v :: l, q, h => h.elim
  | p, x :: ns, [], q, h => h.elim
theorem DL.app {g : Hp} {b lb : List Nat} {q : Value} : ∀ {p : Value} {a la : List Nat}, a.length = la.length → (DL g p (a ++ b) (la ++ lb) q ↔ DL g p a la (hd b q) ∧ DL g (ls_ p a) b lb q)
  | p, [], [], _ => ⟨fun h => ⟨trivial, h⟩, fun h => h.2⟩
  | p, x :: a, v :: la, h => by
    have ih := DL.app (g := g) (b := b) (lb := lb) (q := q) (p := .ref x) (a := a) (la := la) (by simpa using h)
    show (g x = some (.inl (13, [.ref v, hd (a ++ b) q, p])) ∧ DL g (.ref x) (a ++ b) (la ++ lb) q) ↔ (g x = some (.inl (13, [.ref v, hd a (hd b q), p])) ∧ DL g (.ref x) a la (hd b q)) ∧ DL g (ls_ (.ref x) a) b lb q
    rw [hd_app, ih]
    exact ⟨fun h => ⟨⟨h.1, h.2.1⟩, h.2.2⟩, fun h => ⟨h.1.1, h.1.2, h.2⟩⟩
  | p, [], v :: la, h => by simp at h
  | p, x :: a, [], h => by simp at h
theorem DL.ext {g g' : Hp} : ∀ {p : Value} {ns l : List Nat} {q : Value}, (∀ x ∈ ns, g' x = g x) → DL g p ns l q → DL g' p ns l q
  | p, [], [], q, _, _ => trivial
  | p, x :: ns, v :: l, q, he, h => ⟨by rw [he x List.mem_cons_self]; exact h.1, DL.ext (fun y hy => he y (List.mem_cons_of_mem _ hy)) h.2⟩
  | p, [], v :: l, q, _, h => h.elim
  | p, x :: ns, [], q, _, h => h.elim
theorem hd_drop {q : Value} : ∀ {ns : List Nat} {j : Nat}, j < ns.length → hd (ns.drop j) q = .ref (ns.getD j 0)
  | [], j, h => absurd h (Nat.not_lt_zero _)
  | x :: ns, 0, _ => rfl
  | x :: ns, j + 1, h => by
    have := hd_drop (q := q) (ns := ns) (j := j) (by simpa using h)
    simpa using this
theorem hd_dropN {q : Value} {ns : List Nat} {j : Nat} (h : ns.length ≤ j) : hd (ns.drop j) q = q := by rw [List.drop_eq_nil_of_le h]; rfl
theorem ls_take {p : Value} : ∀ {ns : List Nat} {i : Nat}, i < ns.length → ls_ p (ns.take (i + 1)) = .ref (ns.getD i 0)
  | [], i, h => absurd h (Nat.not_lt_zero _)
  | x :: ns, 0, _ => rfl
  | x :: ns, i + 1, h => by
    have := ls_take (p := .ref x) (ns := ns) (i := i) (by simpa using h)
    show ls_ (.ref x) (ns.take (i + 1)) = _
    rw [this]; simp
theorem ls_all {p : Value} {ns : List Nat} {i : Nat} (h : ns.length = i + 1) : ls_ p ns = .ref (ns.getD i 0) := by
  have := ls_take (p := p) (ns := ns) (i := i) (by omega)
  rwa [List.take_of_length_le (by omega)] at this
theorem DL.cell {g : Hp} : ∀ {p : Value} {ns l : List Nat} {q : Value} {i : Nat}, i < ns.length → DL g p ns l q → g (ns.getD i 0) = some (.inl (13, [.ref (l.getD i 0), hd (ns.drop (i + 1)) q, ls_ p (ns.take i)]))
  | p, [], l, q, i, h, _ => absurd h (Nat.not_lt_zero _)
  | p, x :: ns, [], q, i, _, h => h.elim
  | p, x :: ns, v :: l, q, 0, _, h => h.1
  | p, x :: ns, v :: l, q, i + 1, hi, h => by
    exact DL.cell (i := i) (by simpa using hi) h.2
/-- the last one's next has changed -/
theorem DL.setq {g g' : Hp} {p q q' : Value} {a la : List Nat} {y w : Nat} (hl : a.length = la.length) (h : DL g p (a ++ [y]) (la ++ [w]) q) (ha : ∀ x ∈ a, g' x = g x) (hy : g' y = some (.inl (13, [.ref w, q', ls_ p a]))) : DL g' p (a ++ [y]) (la ++ [w]) q' := by
  obtain ⟨h1, h2⟩ := (DL.app hl).mp h
  exact (DL.app hl).mpr ⟨h1.ext ha, hy, trivial⟩
theorem DL.setp {g g' : Hp} {p p' q : Value} {b lb : List Nat} {x v : Nat} (h : DL g p (x :: b) (v :: lb) q) (hb : ∀ y ∈ b, g' y = g y) (hx : g' x = some (.inl (13, [.ref v, hd b q, p']))) : DL g' p' (x :: b) (v :: lb) q := ⟨hx, h.2.ext hb⟩
/-- a LinkedList: its nodes, its elements -/
def LLs (g : Hp) (id : Nat) (l ns : List Nat) : Prop := ns.Nodup ∧ id ∉ ns ∧ (∃ mc : Int, g id = some (.inl (12, [zI mc, zI ((l.length : Nat) : Int), hd ns .null, ls_ .null ns]))) ∧ DL g .null ns l .null
theorem LLs.len {g : Hp} {id : Nat} {l ns : List Nat} (h : LLs g id l ns) : ns.length = l.length := h.2.2.2.len
theorem LLs.ext {g g' : Hp} {id : Nat} {l ns : List Nat} (h : LLs g id l ns) (h0 : g' id = g id) (hn : ∀ x ∈ ns, g' x = g x) : LLs g' id l ns := ⟨h.1, h.2.1, by rw [h0]; exact h.2.2.1, h.2.2.2.ext hn⟩
/-- what a change of one list leaves -/
def LLP (n : Nat) (g : Hp) (id : Nat) (ns l' : List Nat) (n' : Nat) (g' : Hp) : Prop := n ≤ n' ∧ ∃ ns', LLs g' id l' ns' ∧ (∀ x ∈ ns', x ∈ ns ∨ n ≤ x ∧ x < n') ∧ ∀ x, x ≠ id → x ∉ ns → x < n → g' x = g x
