set_option maxRecDepth 100000
/-! ===== pictures: containers as lists, their nodes and arrays hidden ===== -/
/-- an ArrayList of capacity N: not grown yet (0; its array is the empty one that was there before, id 2), or with its own array -/
def ALs (g : Hp) (id N : Nat) (l ow : List Nat) : Prop := ∃ mc : Int, (N = 0 ∧ l = [] ∧ ow = [] ∧ g id = some (.inl (15, [zI mc, .ref 2, zI ((0 : Nat) : Int)]))) ∨ ∃ (arr : Nat) (h : Nat → Value), ow = [arr] ∧ arr ≠ id ∧ g id = some (.inl (15, [zI mc, .ref arr, zI ((l.length : Nat) : Int)])) ∧ g arr = some (.inr (5, N, h)) ∧ l.length ≤ N ∧ 10 ≤ N ∧ N < 1000000 ∧ ∀ j, j < l.length → h j = .ref (l.getD j 0)
/-- an ArrayDeque: a ring -/
def ADs (g : Hp) (id : Nat) (l ow : List Nat) : Prop := ∃ (arr N a : Nat) (h : Nat → Value), ow = [arr] ∧ arr ≠ id ∧ g id = some (.inl (17, [.ref arr, zI (a : Int), zI (((a + l.length) % N : Nat) : Int)])) ∧ g arr = some (.inr (5, N, h)) ∧ a < N ∧ l.length < N ∧ N < 100 ∧ (∀ j, j < l.length → h ((a + j) % N) = .ref (l.getD j 0)) ∧ ∀ j, l.length ≤ j → j < N → h ((a + j) % N) = .null
/-- a BitSet of N words, k of them in use -/
def BSs (g : Hp) (id : Nat) (N : Nat) (b : Nat → Bool) (ow : List Nat) : Prop := ∃ (wd k : Nat) (w : Nat → Nat), ow = [wd] ∧ wd ≠ id ∧ g id = some (.inl (16, [.ref wd, zI (k : Int), zI ((1 : Nat) : Int)])) ∧ g wd = some (.inr (3, N, fun j => zL ((w j : Nat) : Int))) ∧ k ≤ N ∧ N < 10000 ∧ (∀ j, k ≤ j → w j = 0) ∧ (∀ j, w j < 2 ^ 64) ∧ ∀ i, i < 64 * N → b i = (w (i / 64)).testBit (i % 64)
def vB (b : Bool) : Value := zI (if b then 1 else 0)
/-- the shape of a pictured cell; what it owns -/
def shp (e : E_) (g : Hp) (id : Nat) (ow : List Nat) : Prop := (∃ l : List Nat, e = .inl (112, l.map Value.ref) ∧ LLs g id l ow) ∨ (∃ (N : Nat) (l : List Nat), e = .inl (115, zI (N : Int) :: l.map Value.ref) ∧ N < 1000000 ∧ ALs g id N l ow) ∨ (∃ l : List Nat, e = .inl (117, l.map Value.ref) ∧ ADs g id l ow) ∨ ∃ (N : Nat) (b : Nat → Bool), e = .inr (106, N, fun i => vB (b i)) ∧ BSs g id N b ow
theorem shp.ext {e : E_} {g g' : Hp} {id : Nat} {ow : List Nat} (h : shp e g id ow) (h0 : g' id = g id) (hn : ∀ x ∈ ow, g' x = g x) : shp e g' id ow := by
  rcases h with ⟨l, e1, h⟩ | ⟨Nq, l, e1, hNq, mc, h⟩ | ⟨l, e1, arr, N, a, w, e2, h1, h2, h3, h4⟩ | ⟨N, b, e1, wd, k, w, e2, h1, h2, h3, h4⟩
  · exact Or.inl ⟨l, e1, h.ext h0 hn⟩
  · refine Or.inr (Or.inl ⟨Nq, l, e1, hNq, mc, ?_⟩)
    rcases h with ⟨a0, a1, a2, a3⟩ | ⟨arr, w, a1, a2, a3, a4, a5⟩
    · exact Or.inl ⟨a0, a1, a2, by rw [h0]; exact a3⟩
    · exact Or.inr ⟨arr, w, a1, a2, by rw [h0]; exact a3, by rw [hn arr (by rw [a1]; simp)]; exact a4, a5⟩
  · exact Or.inr (Or.inr (Or.inl ⟨l, e1, arr, N, a, w, e2, h1, by rw [h0]; exact h2, by rw [hn arr (by rw [e2]; simp)]; exact h3, h4⟩))
  · exact Or.inr (Or.inr (Or.inr ⟨N, b, e1, wd, k, w, e2, h1, by rw [h0]; exact h2, by rw [hn wd (by rw [e2]; simp)]; exact h3, h4⟩))
theorem shp.some {e : E_} {g : Hp} {id : Nat} {ow : List Nat} (h : shp e g id ow) : ∃ c fs, g id = some (.inl (c, fs)) := by
  rcases h with ⟨l, e1, h⟩ | ⟨Nq, l, e1, hNq, mc, h⟩ | ⟨l, e1, arr, N, a, w, e2, h1, h2, h3, h4⟩ | ⟨N, b, e1, wd, k, w, e2, h1, h2, h3, h4⟩
  · obtain ⟨mc, h⟩ := h.2.2.1; exact ⟨_, _, h⟩
  · rcases h with ⟨a0, a1, a2, a3⟩ | ⟨arr, w, a1, a2, a3, a4, a5⟩
    · exact ⟨_, _, a3⟩
    · exact ⟨_, _, a3⟩
  · exact ⟨_, _, h2⟩
  · exact ⟨_, _, h2⟩
theorem shp.nid {e : E_} {g : Hp} {id : Nat} {ow : List Nat} (h : shp e g id ow) : id ∉ ow := by
  rcases h with ⟨l, e1, h⟩ | ⟨Nq, l, e1, hNq, mc, h⟩ | ⟨l, e1, arr, N, a, w, e2, h1, h2, h3, h4⟩ | ⟨N, b, e1, wd, k, w, e2, h1, h2, h3, h4⟩
  · exact h.2.1
  · rcases h with ⟨a0, a1, a2, a3⟩ | ⟨arr, w, a1, a2, a3, a4, a5⟩
    · rw [a2]; simp
    · rw [a1]; intro q; exact a2 (List.mem_singleton.mp q).symm
  · rw [e2]; intro q; exact h1 (List.mem_singleton.mp q).symm
  · rw [e2]; intro q; exact h1 (List.mem_singleton.mp q).symm
theorem shp.raw {e : E_} {g : Hp} {id : Nat} {ow : List Nat} (h : shp e g id ow) : rawE e = false := by
  rcases h with ⟨l, e1, -⟩ | ⟨Nq, l, e1, -⟩ | ⟨l, e1, -⟩ | ⟨N, b, e1, -⟩ <;> rw [e1] <;> rfl
/-- the picture and the cells beneath -/
def RelP : Nat → Hp → Hp → Prop := fun n f g => (∀ id e, f id = some e → rawE e = true → g id = some e) ∧ ∃ ow : Nat → List Nat, (∀ id e, f id = some e → rawE e = false → shp e g id (ow id)) ∧ (∀ id e x, f id = some e → rawE e = false → x ∈ ow id → f x = none ∧ x < n) ∧ ∀ id id' e e' x, f id = some e → rawE e = false → f id' = some e' → rawE e' = false → x ∈ ow id → x ∈ ow id' → id = id'
theorem RelP_ok : RelOK RelP := by
  refine ⟨fun n f g id e h hf hr => h.1 id e hf hr, fun n f g id e e' h hf hr hr' => ?_, fun n f g e h hn hr => ?_, fun n f g h hn id hid => ?_⟩
  · obtain ⟨h1, ow, h2, h3, h4⟩ := h
    have key : ∀ j x, up f id e' j = some x → rawE x = false → f j = some x ∧ j ≠ id := fun j x hj hx => by
      by_cases c : j = id
      · subst c; rw [up_s] at hj; cases hj; rw [hr'] at hx; cases hx
      · rw [up_n c] at hj; exact ⟨hj, c⟩
    refine ⟨fun j x hj hx => ?_, ow, fun j x hj hx => ?_, fun j x y hj hx hy => ?_, fun j j' x x' y hj hx hj' hx' hy hy' => ?_⟩
    · by_cases c : j = id
      · subst c; rw [up_s] at hj ⊢; exact hj
      · rw [up_n c] at hj ⊢; exact h1 j x hj hx
    · obtain ⟨q1, q2⟩ := key j x hj hx
      refine (h2 j x q1 hx).ext (up_n q2) (fun y hy => up_n (fun q => ?_))
      have := (h3 j x y q1 hx hy).1
      rw [q, hf] at this; cases this
    · obtain ⟨q1, q2⟩ := key j x hj hx
      have := h3 j x y q1 hx hy
      refine ⟨?_, this.2⟩
      rw [up_n (fun q => by rw [q, hf] at this; cases this.1)]; exact this.1
    · exact h4 j j' x x' y (key j x hj hx).1 hx (key j' x' hj' hx').1 hx' hy hy'
  · obtain ⟨h1, ow, h2, h3, h4⟩ := h
    have key : ∀ j x, up f n e j = some x → rawE x = false → f j = some x ∧ j ≠ n := fun j x hj hx => by
      by_cases c : j = n
      · subst c; rw [up_s] at hj; cases hj; rw [hr] at hx; cases hx
      · rw [up_n c] at hj; exact ⟨hj, c⟩
    refine ⟨fun j x hj hx => ?_, ow, fun j x hj hx => ?_, fun j x y hj hx hy => ?_, fun j j' x x' y hj hx hj' hx' hy hy' => ?_⟩
    · by_cases c : j = n
      · subst c; rw [up_s] at hj ⊢; exact hj
      · rw [up_n c] at hj ⊢; exact h1 j x hj hx
    · obtain ⟨q1, q2⟩ := key j x hj hx
      exact (h2 j x q1 hx).ext (up_n q2) (fun y hy => up_n (fun q => by have := (h3 j x y q1 hx hy).2; omega))
    · obtain ⟨q1, q2⟩ := key j x hj hx
      have := h3 j x y q1 hx hy
      exact ⟨by rw [up_n (by omega)]; exact this.1, by omega⟩
    · exact h4 j j' x x' y (key j x hj hx).1 hx (key j' x' hj' hx').1 hx' hy hy'
  · obtain ⟨h1, ow, h2, h3, h4⟩ := h
    cases hf : f id with
    | none => rfl
    | some e =>
      cases hr : rawE e with
      | true => have := h1 id e hf hr; rw [hn id hid] at this; cases this
      | false => obtain ⟨c, fs, q⟩ := (h2 id e hf hr).some; rw [hn id hid] at q; cases q
/-- one container has changed, or a raw cell has become one -/
theorem RelP.set {n n' : Nat} {f g g' : Hp} {id : Nat} {e' : E_} {o ow' : List Nat} {ow : Nat → List Nat} (h1 : ∀ id e, f id = some e → rawE e = true → g id = some e) (h2 : ∀ id e, f id = some e → rawE e = false → shp e g id (ow id)) (h3 : ∀ id e x, f id = some e → rawE e = false → x ∈ ow id → f x = none ∧ x < n) (h4 : ∀ id id' e e' x, f id = some e → rawE e = false → f id' = some e' → rawE e' = false → x ∈ ow id → x ∈ ow id' → id = id')
    (hn0 : ∀ id, n ≤ id → g id = none) (hid : ∃ e, f id = some e ∧ (rawE e = true ∧ o = [] ∨ rawE e = false ∧ o = ow id)) (hs : shp e' g' id ow') (hg : ∀ x, x ≠ id → x ∉ o → x < n → g' x = g x) (ho : ∀ x ∈ ow', x ∈ o ∨ n ≤ x ∧ x < n') (hn : n ≤ n') : RelP n' (up f id e') g' := by
  obtain ⟨e, hf, he⟩ := hid
  have lt : ∀ j x, f j = some x → j < n := fun j x hj => by
    by_cases c : j < n
    · exact c
    · have hz := hn0 j (by omega)
      cases hr : rawE x with
      | true => rw [h1 j x hj hr] at hz; cases hz
      | false => obtain ⟨a, b, q⟩ := (h2 j x hj hr).some; rw [q] at hz; cases hz
  -- what is owned here is owned by none else, nor seen
  have oo : ∀ x ∈ o, f x = none ∧ x < n := fun x hx => by
    rcases he with ⟨-, q⟩ | ⟨q1, q⟩
    · rw [q] at hx; cases hx
    · rw [q] at hx; exact h3 id e x hf q1 hx
  have od : ∀ j x y, j ≠ id → f j = some x → rawE x = false → y ∈ ow j → y ∉ o := fun j x y hj hx hr hy hyo => by
    rcases he with ⟨-, q⟩ | ⟨q1, q⟩
    · rw [q] at hyo; cases hyo
    · rw [q] at hyo; exact hj (h4 j id x e y hx hr hf q1 hy hyo)
  have on : ∀ j x, j ≠ id → f j = some x → g' j = g j := fun j x hj hx => hg j hj (fun q => by have := (oo j q).1; rw [hx] at this; cases this) (lt j x hx)
  have key : ∀ j x, j ≠ id → up f id e' j = some x → f j = some x := fun j x hj hx => by rwa [up_n hj] at hx
  refine ⟨fun j x hj hx => ?_, fun j => if j = id then ow' else ow j, fun j x hj hx => ?_, fun j x y hj hx hy => ?_, fun j j' x x' y hj hx hj' hx' hy hy' => ?_⟩
  · by_cases c : j = id
    · subst c; rw [up_s] at hj; cases hj; rw [hs.raw] at hx; cases hx
    · have q := key j x c hj
      rw [on j x c q]; exact h1 j x q hx
  · by_cases c : j = id
    · subst c; rw [up_s] at hj; cases hj
      simp only [if_pos]; exact hs
    · have q := key j x c hj
      simp only [if_neg c]
      exact (h2 j x q hx).ext (on j x c q) (fun y hy => hg y (fun z => by have := (h3 j x y q hx hy).1; rw [z, hf] at this; cases this) (od j x y c q hx hy) (h3 j x y q hx hy).2)
  · by_cases c : j = id
    · subst c
      simp only [if_pos] at hy
      have hyid : y ≠ j := fun z => hs.nid (by rw [← z]; exact hy)
      rw [up_n hyid]
      rcases ho y hy with q | q
      · exact ⟨(oo y q).1, by have := (oo y q).2; omega⟩
      · refine ⟨?_, q.2⟩
        cases hfy : f y with
        | none => rfl
        | some z => have := lt y z hfy; omega
    · have q := key j x c hj
      simp only [if_neg c] at hy
      have := h3 j x y q hx hy
      exact ⟨by rw [up_n (fun z => by rw [z, hf] at this; cases this.1)]; exact this.1, by omega⟩
  · have cross : ∀ j x y, j ≠ id → up f id e' j = some x → rawE x = false → y ∈ ow j → y ∈ ow' → False := fun j x y c hj hx hy hyo => by
      have q := key j x c hj
      rcases ho y hyo with z | z
      · exact od j x y c q hx hy z
      · have := (h3 j x y q hx hy).2; omega
    by_cases c : j = id
    · by_cases c' : j' = id
      · rw [c, c']
      · simp only [if_pos c] at hy
        simp only [if_neg c'] at hy'
        exact (cross j' x' y c' hj' hx' hy' hy).elim
    · by_cases c' : j' = id
      · simp only [if_neg c] at hy
        simp only [if_pos c'] at hy'
        exact (cross j x y c hj hx hy hy').elim
      · simp only [if_neg c] at hy
        simp only [if_neg c'] at hy'
        exact h4 j j' x x' y (key j x c hj) hx (key j' x' c' hj') hx' hy hy'
def cLL (l : List Nat) : E_ := .inl (112, l.map Value.ref)
def cAL (N : Nat) (l : List Nat) : E_ := .inl (115, zI (N : Int) :: l.map Value.ref)
def cAD (l : List Nat) : E_ := .inl (117, l.map Value.ref)
def cBS (N : Nat) (b : Nat → Bool) : E_ := .inr (106, N, fun i => vB (b i))
theorem mapref_inj {a b : List Nat} (h : a.map Value.ref = b.map Value.ref) : a = b := (List.map_inj_right (fun x y q => by cases q; rfl)).mp h
theorem shp.ll {g : Hp} {id : Nat} {ow l : List Nat} (h : shp (cLL l) g id ow) : LLs g id l ow := by
  rcases h with ⟨l', e1, h⟩ | ⟨Nq, l', e1, -⟩ | ⟨l', e1, -⟩ | ⟨N, b, e1, -⟩
  · have : l.map Value.ref = l'.map Value.ref := by unfold cLL at e1; injection e1 with e1; exact (Prod.mk.inj e1).2
    rw [mapref_inj this]; exact h
  · unfold cLL at e1; cases e1
  · unfold cLL at e1; cases e1
  · unfold cLL at e1; cases e1
theorem rcv_ll {Rel : Nat → Hp → Hp → Prop} (hP : Rel = RelP) {n : Nat} {f : Hp} {id : Nat} {l : List Nat} (h : f id = some (cLL l)) : Rcv Rel RJ13 n f id := fun g hg => by
  subst hP
  obtain ⟨-, ow, h2, -⟩ := hg
  obtain ⟨mc, q⟩ := (h2 id _ h rfl).ll.2.2.1
  exact ⟨12, _, _, q, rfl, rfl⟩
theorem zI_injN {a b : Nat} (ha : a < 2147483648) (hb : b < 2147483648) (h : zI (a : Int) = zI (b : Int)) : a = b := by
  unfold zI at h
  injection h with h
  have := congrArg Int32.toInt h
  rw [zn, zn, nI_toInt ha, nI_toInt hb] at this
  exact Int.ofNat.inj this
theorem shp.al {g : Hp} {id N : Nat} {ow l : List Nat} (hN : N < 1000000) (h : shp (cAL N l) g id ow) : ALs g id N l ow := by
  rcases h with ⟨l', e1, -⟩ | ⟨N', l', e1, hN', h⟩ | ⟨l', e1, -⟩ | ⟨N', b, e1, -⟩
  · unfold cAL at e1; cases e1
  · unfold cAL at e1
    injection e1 with e1
    have e2 := List.cons.inj (Prod.mk.inj e1).2
    rw [mapref_inj e2.2, zI_injN (a := N) (b := N') (by omega) (by omega) e2.1]; exact h
  · unfold cAL at e1; cases e1
  · unfold cAL at e1; cases e1
theorem shp.ad {g : Hp} {id : Nat} {ow l : List Nat} (h : shp (cAD l) g id ow) : ADs g id l ow := by
  rcases h with ⟨l', e1, -⟩ | ⟨N', l', e1, -⟩ | ⟨l', e1, h⟩ | ⟨N', b, e1, -⟩
  · unfold cAD at e1; cases e1
  · unfold cAD at e1; cases e1
  · have : l.map Value.ref = l'.map Value.ref := by unfold cAD at e1; injection e1 with e1; exact (Prod.mk.inj e1).2
    rw [mapref_inj this]; exact h
  · unfold cAD at e1; cases e1
theorem vB_inj {a b : Bool} (h : vB a = vB b) : a = b := by
  cases a <;> cases b <;> first | rfl | (exact absurd h (by decide))
theorem shp.bs {g : Hp} {id N : Nat} {ow : List Nat} {b : Nat → Bool} (h : shp (cBS N b) g id ow) : BSs g id N b ow := by
  rcases h with ⟨l', e1, -⟩ | ⟨N', l', e1, -⟩ | ⟨l', e1, -⟩ | ⟨N', b', e1, h⟩
  · unfold cBS at e1; cases e1
  · unfold cBS at e1; cases e1
  · unfold cBS at e1; cases e1
  · unfold cBS at e1
    injection e1 with e1
    obtain ⟨e2, e3⟩ := Prod.mk.inj (Prod.mk.inj e1).2
    have : b = b' := by
      funext i
      exact vB_inj (congrFun e3 i)
    rw [e2, this]; exact h
theorem rcv_al {Rel : Nat → Hp → Hp → Prop} (hP : Rel = RelP) {n : Nat} {f : Hp} {id N : Nat} {l : List Nat} (hN : N < 1000000) (h : f id = some (cAL N l)) : Rcv Rel RJ14 n f id := fun g hg => by
  subst hP
  obtain ⟨-, ow, h2, -⟩ := hg
  obtain ⟨mc, q⟩ := (h2 id _ h rfl).al hN
  rcases q with ⟨-, -, -, q⟩ | ⟨arr, w, -, -, q, -⟩
  · exact ⟨15, _, _, q, rfl, rfl⟩
  · exact ⟨15, _, _, q, rfl, rfl⟩
theorem rcv_ad {Rel : Nat → Hp → Hp → Prop} (hP : Rel = RelP) {n : Nat} {f : Hp} {id : Nat} {l : List Nat} (h : f id = some (cAD l)) : Rcv Rel RJ16 n f id := fun g hg => by
  subst hP
  obtain ⟨-, ow, h2, -⟩ := hg
  obtain ⟨arr, N, a, w, -, -, q, -⟩ := (h2 id _ h rfl).ad
  exact ⟨17, _, _, q, rfl, rfl⟩
theorem rcv_bs {Rel : Nat → Hp → Hp → Prop} (hP : Rel = RelP) {n : Nat} {f : Hp} {id N : Nat} {b : Nat → Bool} (h : f id = some (cBS N b)) : Rcv Rel RJ15 n f id := fun g hg => by
  subst hP
  obtain ⟨-, ow, h2, -⟩ := hg
  obtain ⟨wd, k, w, -, -, q, -⟩ := (h2 id _ h rfl).bs
  exact ⟨16, _, _, q, rfl, rfl⟩
