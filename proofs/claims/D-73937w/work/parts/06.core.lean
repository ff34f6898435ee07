set_option maxRecDepth 100000
/-! ===== the abstract machine: ids for cells, a heap as a function of ids, one judgement Wx with small goals ===== -/
/-- a cell: an object (class number, fields), or an array (type number, length, contents) -/
abbrev E_ : Type := (Nat × List Value) ⊕ (Nat × Nat × (Nat → Value))
abbrev Hp : Type := Nat → Option E_
/-- ghosts: the base, addresses of what was there before, classes and slots, array classes, the base heap -/
abbrev GT : Type := Nat × (Nat → Nat) × va_G × (Nat → ClassId) × Heap × (State → Prop)
def g_b (G : GT) : Nat := G.1
def g_p (G : GT) : Nat → Nat := G.2.1
def g_D (G : GT) : va_G := G.2.2.1
def g_A (G : GT) : Nat → ClassId := G.2.2.2.1
def g_H (G : GT) : Heap := G.2.2.2.2.1
/-- what else holds of the machine all through -/
def g_X (G : GT) : State → Prop := G.2.2.2.2.2
def StX (X : State → Prop) : Prop := (∀ u U : State, u.WarmedH U.vm → X u → X U) ∧ ∀ u U : State, u.vm = U.vm → X u → X U
/-- ids below 300 were there before; from 300 on the program's own, in the order in which they are made -/
def ad (G : GT) (k : Nat) : Nat := if k < 300 then g_p G k else g_b G + (k - 300)
def cv (G : GT) : Value → Value
  | .ref k => .ref (ad G k)
  | v => v
/-- an int, a long by a whole number -/
def zI (z : Int) : Value := .int (Int32.ofInt z)
def zL (z : Int) : Value := .long (Int64.ofInt z)
def tyA : Nat → FieldType := fun k => match k with
  | 0 => .int
  | 1 => .byte
  | 2 => .short
  | 3 => .long
  | 4 => .boolean
  | 5 => .object "java/lang/Object"
  | 6 => .object "java/util/BitSet"
  | _ => .object "BackLogic$Cascade"
abbrev cls : List vw_C := [(RX0, TX0, 18), (RX1, TX1, 8), (RX2, TX2, 8), (RX3, TX3, 12), (RX4, TX4, 1), (RX5, TX5, 3), (RX6, TX6, 6), (RX7, TX7, 9), (RX8, TX8, 5), (RX9, TX9, 56), (RX10, TX10, 3), (RX11, TX11, 3), (RJ13, TJ13, 4), (RJ24, TJ24, 3), (RJ28, TJ28, 5), (RJ14, TJ14, 3), (RJ15, TJ15, 3), (RJ16, TJ16, 3), (RJ10, TJ10, 2), (RJ18, TJ18, 4), (RJ33, TJ33, 1)]
/-- what a class of the list has beside its row -/
def ClOK (C : String) (T : u_T) (N : Nat) (ty : Nat → FieldType) : Prop := (∀ w ∈ u_ws C T N, w ∈ lw_all) ∧ (∀ k, k < N → parseFieldDescriptor (T k).2.2.1 = some (ty k)) ∧ (∀ a, a < N → ∀ b, b < N → a ≠ b → (T a).2.1 ≠ (T b).2.1)
def tyC : Nat → Nat → FieldType := fun c => match c with
  | 0 => tyX0
  | 1 => tyX1
  | 2 => tyX2
  | 3 => tyX3
  | 4 => tyX4
  | 5 => tyX5
  | 6 => tyX6
  | 7 => tyX7
  | 8 => tyX8
  | 9 => tyX9
  | 10 => tyX10
  | 11 => tyX11
  | 12 => tyJ13
  | 13 => tyJ24
  | 14 => tyJ28
  | 15 => tyJ14
  | 16 => tyJ15
  | 17 => tyJ16
  | 18 => tyJ10
  | 19 => tyJ18
  | _ => tyJ33
theorem cls_ok {ci : Nat} {C : String} {T : u_T} {N : Nat} (h : cls[ci]? = some (C, T, N)) : ClOK C T N (tyC ci) := by
  match ci, h with
  | 0, h => cases h; exact ⟨in_X0, tyX0_ok, nmX0⟩
  | 1, h => cases h; exact ⟨in_X1, tyX1_ok, nmX1⟩
  | 2, h => cases h; exact ⟨in_X2, tyX2_ok, nmX2⟩
  | 3, h => cases h; exact ⟨in_X3, tyX3_ok, nmX3⟩
  | 4, h => cases h; exact ⟨in_X4, tyX4_ok, nmX4⟩
  | 5, h => cases h; exact ⟨in_X5, tyX5_ok, nmX5⟩
  | 6, h => cases h; exact ⟨in_X6, tyX6_ok, nmX6⟩
  | 7, h => cases h; exact ⟨in_X7, tyX7_ok, nmX7⟩
  | 8, h => cases h; exact ⟨in_X8, tyX8_ok, nmX8⟩
  | 9, h => cases h; exact ⟨in_X9, tyX9_ok, nmX9⟩
  | 10, h => cases h; exact ⟨in_X10, tyX10_ok, nmX10⟩
  | 11, h => cases h; exact ⟨in_X11, tyX11_ok, nmX11⟩
  | 12, h => cases h; exact ⟨in_J13, tyJ13_ok, nmJ13⟩
  | 13, h => cases h; exact ⟨in_J24, tyJ24_ok, nmJ24⟩
  | 14, h => cases h; exact ⟨in_J28, tyJ28_ok, nmJ28⟩
  | 15, h => cases h; exact ⟨in_J14, tyJ14_ok, nmJ14⟩
  | 16, h => cases h; exact ⟨in_J15, tyJ15_ok, nmJ15⟩
  | 17, h => cases h; exact ⟨in_J16, tyJ16_ok, nmJ16⟩
  | 18, h => cases h; exact ⟨in_J10, tyJ10_ok, nmJ10⟩
  | 19, h => cases h; exact ⟨in_J18, tyJ18_ok, nmJ18⟩
  | 20, h => cases h; exact ⟨in_J33, tyJ33_ok, nmJ33⟩
  | k + 21, h => simp [cls] at h
/-- a cell of the picture at its address -/
def at1 (G : GT) (id : Nat) (e : E_) (H : Heap) : Prop := match e with
  | .inl o => ∃ r : vw_C, cls[o.1]? = some r ∧ t_OB (ad G id) ((g_D G).1 o.1) r.2.2 ((g_D G).2 o.1) H (vp_V (o.2.map (cv G)))
  | .inr a => H[ad G id]? = some (arrV (g_A G a.1) a.2.1 (fun j => cv G (a.2.2 j)))
theorem at1.kept {G : GT} {id : Nat} {e : E_} {H H1 : Heap} (h : at1 G id e H) (hq : H1[ad G id]? = H[ad G id]?) : at1 G id e H1 := by
  cases e with
  | inl o => obtain ⟨r, h1, h2⟩ := h; exact ⟨r, h1, h2.kept hq⟩
  | inr a => exact hq.trans h
theorem at1.lt {G : GT} {id : Nat} {e : E_} {H : Heap} (h : at1 G id e H) : ad G id < H.size := by
  cases e with
  | inl o => obtain ⟨r, h1, cell, h2, -⟩ := h; exact (Array.getElem?_eq_some_iff.mp h2).1
  | inr a => exact (Array.getElem?_eq_some_iff.mp h).1
def up (f : Hp) (k : Nat) (e : E_) : Hp := fun j => if j = k then some e else f j
/-- raw cells: those of the machine's own classes (numbers below 100), and arrays of its types -/
def rawE : E_ → Bool
  | .inl o => decide (o.1 < 100)
  | .inr a => decide (a.1 < 100)
/-- a relation between a picture and the cells beneath it that leaves raw cells alone -/
def RelOK (Rel : Nat → Hp → Hp → Prop) : Prop :=
  (∀ n f g id e, Rel n f g → f id = some e → rawE e = true → g id = some e) ∧
  (∀ n f g id e e', Rel n f g → f id = some e → rawE e = true → rawE e' = true → Rel n (up f id e') (up g id e')) ∧
  (∀ n f g e, Rel n f g → (∀ id, n ≤ id → g id = none) → rawE e = true → Rel (n + 1) (up f n e) (up g n e)) ∧
  (∀ n f g, Rel n f g → (∀ id, n ≤ id → g id = none) → ∀ id, n ≤ id → f id = none)
def HP (G : GT) (Rel : Nat → Hp → Hp → Prop) (n : Nat) (f : Hp) (H : Heap) : Prop :=
  (H.size + 300 = g_b G + n ∧ 300 ≤ n) ∧ (∀ q, q < g_b G → H[q]? = (g_H G)[q]?) ∧ ∃ g : Hp, Rel n f g ∧ (∀ id, n ≤ id → g id = none) ∧ (∀ id, id < 300 → g id = none) ∧ ∀ id e, g id = some e → at1 G id e H
abbrev KT : Type := Program × Launch × Env × Room × State × MethodId × Array Value × List Frame × Method × Code × (State → Prop) × GT × (Nat → Hp → Hp → Prop)
abbrev kp (K : KT) : Program := K.1
abbrev kl (K : KT) : Launch := K.2.1
abbrev ke (K : KT) : Env := K.2.2.1
abbrev kR (K : KT) : Room := K.2.2.2.1
abbrev ks (K : KT) : State := K.2.2.2.2.1
abbrev km (K : KT) : MethodId := K.2.2.2.2.2.1
abbrev ka (K : KT) : Array Value := K.2.2.2.2.2.2.1
abbrev kb (K : KT) : List Frame := K.2.2.2.2.2.2.2.1
abbrev kme (K : KT) : Method := K.2.2.2.2.2.2.2.2.1
abbrev kc (K : KT) : Code := K.2.2.2.2.2.2.2.2.2.1
abbrev kQ (K : KT) : State → Prop := K.2.2.2.2.2.2.2.2.2.2.1
abbrev kG (K : KT) : GT := K.2.2.2.2.2.2.2.2.2.2.2.1
abbrev kRel (K : KT) : Nat → Hp → Hp → Prop := K.2.2.2.2.2.2.2.2.2.2.2.2
/-- the locals: as many as the list, what is listed is held -/
def lh (G : GT) (ls : Array Slot) (L : List (Option Value)) : Prop := ls.size = L.length ∧ lv_wf ls ∧ ∀ (i : Nat) (v : Value), L[i]? = some (some v) → ls[i]? = some (.val (cv G v))
/-- the machine at pc with locals L, stack st, heap f (n ids), u units used, comes to its end -/
def Wx (K : KT) (pc : Nat) (L : List (Option Value)) (st : List Value) (n : Nat) (f : Hp) (u : Nat) : Prop :=
  ∀ (H : Heap) (locs : List Loc) (ls : Array Slot), HP (kG K) (kRel K) n f H → va_S (fun q => g_b (kG K) ≤ q) (ks K).heap H locs → lh (kG K) ls L →
    W (kp K) (kl K) (ke K) (kR K) (ks K) (km K) (ka K) (kb K) (kme K) (kc K) H locs u (12 * u) (kQ K) (F0 (km K) pc ls (st.map (cv (kG K))))
/-- words of the tables that don't ride in the lists -/
def TB (S : State) : Prop := (∀ a i x h, Cond.methodLinkNest a i x h ∈ lw_tbl → va_Nw (.methodLinkNest a i x h) S) ∧ (∀ x, Cond.declares x ∈ lw_tbl → va_Nw (.declares x) S) ∧ (∀ C, Cond.arrayOver (.object C) ∈ lw_tbl → va_AO C S)
/-- the statics that are read: class, name, type, value -/
def stTab : List (String × String × String × Value) := []
/-- the cells that were there before, by their ids -/
def preE : Nat → Option E_ := fun k => none
def GS (G : GT) (S : State) : Prop :=
  va_K (g_D G) cls [] S ∧ (∀ k, k < 8 → ArrOfT S (g_A G k) (tyA k) ∧ va_RA S (g_A G k) (tyA k)) ∧ TB S ∧ (∀ q ∈ stTab, va_Z q.1 q.2.1 q.2.2.1 (cv G q.2.2.2) (fun a => g_b G ≤ a) S (g_H G)) ∧
  (∀ k e, preE k = some e → k < 300 ∧ g_p G k < g_b G ∧ at1 G k e (g_H G)) ∧ (g_H G).size = g_b G ∧ g_X G S ∧ StX (g_X G)
/-- what holds all through a method: own class, code, locals, depth d, room U -/
def Gd (K : KT) (own : String) (cc : ByteArray) (nL d U : Nat) : Prop :=
  (kp K).tables.exec = Jvm.exec ∧ (kc K).code = cc ∧ (kc K).maxLocals = nL ∧ (ks K).vm.findClass own = some (km K).cls ∧ (∀ w ∈ lw_all, w.before (ka K) (ks K) = true) ∧ GS (kG K) (ks K) ∧
  (d ≤ (kR K).frames ∧ 64 * d ≤ (kR K).locals ∧ U ≤ (kR K).cells ∧ 12 * U ≤ (kR K).slots) ∧ (kme K).locks = false ∧ RelOK (kRel K) ∧ g_b (kG K) ≤ (ks K).heap.size
theorem ad_own {G : GT} {k : Nat} (h : 300 ≤ k) : ad G k = g_b G + (k - 300) := by
  unfold ad; rw [if_neg (by omega)]
/-- own ids have addresses of their own -/
theorem ad_ne {G : GT} {j k : Nat} (hj : 300 ≤ j) (hk : 300 ≤ k) (h : j ≠ k) : ad G j ≠ ad G k := by
  rw [ad_own hj, ad_own hk]; omega
theorem HP.ge {G : GT} {g : Hp} (h0 : ∀ id, id < 300 → g id = none) {id : Nat} {e : E_} (h : g id = some e) : 300 ≤ id := by
  rcases Nat.lt_or_ge id 300 with q | q
  · rw [h0 id q] at h; cases h
  · exact q
/-- one own cell has changed -/
theorem HP.put {G : GT} {Rel : Nat → Hp → Hp → Prop} (hR : RelOK Rel) {n : Nat} {f : Hp} {H H1 : Heap} (h : HP G Rel n f H) {id : Nat} {e e' : E_} (hf : f id = some e) (hr : rawE e = true) (hr' : rawE e' = true) (hz : H1.size = H.size) (ho : ∀ q, q ≠ ad G id → H1[q]? = H[q]?) (he : at1 G id e' H1) : HP G Rel n (up f id e') H1 := by
  obtain ⟨⟨h1, h1b⟩, h2, g, h3, h4, h5, h6⟩ := h
  have hg := hR.1 _ _ _ _ _ h3 hf hr
  have hid : 300 ≤ id := HP.ge (G := G) h5 hg
  have hn : id < n := by
    rcases Nat.lt_or_ge id n with q | q
    · exact q
    · rw [h4 id q] at hg; cases hg
  refine ⟨⟨by rw [hz]; exact h1, h1b⟩, fun q hq => ?_, up g id e', hR.2.1 _ _ _ _ _ _ h3 hf hr hr', fun j hj => ?_, fun j hj => ?_, fun j x hx => ?_⟩
  · rw [ho q (by rw [ad_own hid]; omega)]; exact h2 q hq
  · unfold up; rw [if_neg (by omega)]; exact h4 j hj
  · unfold up; rw [if_neg (by omega)]; exact h5 j hj
  · unfold up at hx
    by_cases hji : j = id
    · rw [if_pos hji] at hx; cases hx; rw [hji]; exact he
    · rw [if_neg hji] at hx
      have := HP.ge (G := G) h5 hx
      exact (h6 j x hx).kept (ho _ (ad_ne this hid hji))
/-- one own cell more -/
theorem HP.new {G : GT} {Rel : Nat → Hp → Hp → Prop} (hR : RelOK Rel) {n : Nat} {f : Hp} {H H1 : Heap} (h : HP G Rel n f H) {e' : E_} (hr' : rawE e' = true) (hz : H1.size = H.size + 1) (ho : ∀ q, q < H.size → H1[q]? = H[q]?) (he : at1 G n e' H1) : HP G Rel (n + 1) (up f n e') H1 := by
  obtain ⟨⟨h1, h1b⟩, h2, g, h3, h4, h5, h6⟩ := h
  refine ⟨⟨by omega, by omega⟩, fun q hq => ?_, up g n e', hR.2.2.1 _ _ _ _ h3 h4 hr', fun j hj => ?_, fun j hj => ?_, fun j x hx => ?_⟩
  · rw [ho q (by omega)]; exact h2 q hq
  · unfold up; rw [if_neg (by omega)]; exact h4 j (by omega)
  · unfold up; rw [if_neg (by omega)]; exact h5 j hj
  · unfold up at hx
    by_cases hji : j = n
    · rw [if_pos hji] at hx; cases hx; rw [hji]; exact he
    · rw [if_neg hji] at hx
      have h7 := h6 j x hx
      exact h7.kept (ho _ h7.lt)
theorem HP.at {G : GT} {Rel : Nat → Hp → Hp → Prop} (hR : RelOK Rel) {n : Nat} {f : Hp} {H : Heap} (h : HP G Rel n f H) {id : Nat} {e : E_} (hf : f id = some e) (hr : rawE e = true) : at1 G id e H := by
  obtain ⟨-, -, g, h3, -, -, h6⟩ := h
  exact h6 id e (hR.1 _ _ _ _ _ h3 hf hr)
theorem HP.own {G : GT} {Rel : Nat → Hp → Hp → Prop} (hR : RelOK Rel) {n : Nat} {f : Hp} {H : Heap} (h : HP G Rel n f H) {id : Nat} {e : E_} (hf : f id = some e) (hr : rawE e = true) : 300 ≤ id ∧ id < n := by
  obtain ⟨-, -, g, h3, h4, h5, h6⟩ := h
  have hg := hR.1 _ _ _ _ _ h3 hf hr
  refine ⟨HP.ge (G := G) h5 hg, ?_⟩
  rcases Nat.lt_or_ge id n with q | q
  · exact q
  · rw [h4 id q] at hg; cases hg
theorem HP.next {G : GT} {Rel : Nat → Hp → Hp → Prop} {n : Nat} {f : Hp} {H : Heap} (h : HP G Rel n f H) : H.size = ad G n := by
  obtain ⟨⟨h1, h1b⟩, -⟩ := h
  rw [ad_own h1b]; omega
