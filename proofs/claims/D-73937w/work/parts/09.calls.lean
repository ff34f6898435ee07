set_option maxRecDepth 100000
/-! ===== contracts over the abstract heap; entry, returns, calls ===== -/
theorem TB.moved {u U : State} (hW : u.WarmedH U.vm) (h : TB u) : TB U :=
  ⟨fun a i x hh q => va_Nw.warmM hW (h.1 a i x hh q), fun x q => va_Nw.warmD hW (h.2.1 x q), fun C q => (h.2.2 C q).moved hW.alike⟩
theorem TB.same {u U : State} (e : u.vm = U.vm) (h : TB u) : TB U :=
  ⟨fun a i x hh q => va_Nw.same rfl e (h.1 a i x hh q), fun x q => va_Nw.same rfl e (h.2.1 x q), fun C q => (h.2.2 C q).moved (e ▸ Vm.Alike.refl u.vm)⟩
theorem GS.moved {G : GT} {u U : State} (hW : u.WarmedH U.vm) (h : GS G u) : GS G U :=
  ⟨va_K.moved hW.alike h.1, fun k hk => ⟨arrOfT_moved hW.alike (h.2.1 k hk).1, (h.2.1 k hk).2.moved hW.alike⟩, h.2.2.1.moved hW, fun q hq => (h.2.2.2.1 q hq).moved hW.alike, h.2.2.2.2.1, h.2.2.2.2.2.1, h.2.2.2.2.2.2.2.1 u U hW h.2.2.2.2.2.2.1, h.2.2.2.2.2.2.2⟩
theorem GS.same {G : GT} {u U : State} (e : u.vm = U.vm) (h : GS G u) : GS G U := by
  have ha : u.vm.Alike U.vm := e ▸ Vm.Alike.refl u.vm
  exact ⟨va_K.moved ha h.1, fun k hk => ⟨arrOfT_moved ha (h.2.1 k hk).1, (h.2.1 k hk).2.moved ha⟩, h.2.2.1.same e, fun q hq => (h.2.2.2.1 q hq).moved ha, h.2.2.2.2.1, h.2.2.2.2.2.1, h.2.2.2.2.2.2.2.2 u U e h.2.2.2.2.2.2.1, h.2.2.2.2.2.2.2⟩
def rmd (d U : Nat) : Room := { frames := d, cells := U, slots := 12 * U, locals := 64 * d }
abbrev Pt_ : Type := Option Value → Nat → Hp → Prop
def QcP (G : GT) (Rel : Nat → Hp → Hp → Prop) (P : Pt_) : Array Value → State → Outcome → State → Prop := fun _ st o t => ∃ (r : Option Value) (n : Nat) (f : Hp), o = .returned (r.map (cv G)) ∧ P r n f ∧ HP G Rel n f t.heap ∧ va_F (fun q => g_b G ≤ q) st t
def PcP (G : GT) (Rel : Nat → Hp → Hp → Prop) (As : List Value) (n : Nat) (f : Hp) : Array Value → State → Prop := va_Pc (As.map (cv G)) (fun S => HP G Rel n f S.heap ∧ GS G S)
/-- method y, called with As on the heap f of n ids: returns, and P of the answer and the heap; at most U units are new, d frames deep -/
def Ct (G : GT) (Rel : Nat → Hp → Hp → Prop) (y : MethodName) (cc : ByteArray) (nL : Nat) (rt : Option FieldType) (d U : Nat) (As : List Value) (n : Nat) (f : Hp) (P : Pt_) : Prop :=
  ∀ l : Launch, Met l y (ws_ y cc nL rt) (rmd d U) (PcP G Rel As n f) (QcP G Rel P) U (12 * U) (fun q => g_b G ≤ q)
def Rt (K : KT) (rt : Option FieldType) (U : Nat) (P : Pt_) : Prop := (kme K).sig.returnType = rt ∧ ∀ (H : Heap) (locs : List Loc) (a b : Nat) (g : JFrame),
  W (kp K) (kl K) (ke K) (kR K) (ks K) (km K) (ka K) (kb K) (kme K) (kc K) H locs a b (MQ (kb K) (QcP (kG K) (kRel K) P) (ka K) (ks K) U (12 * U) (fun q => g_b (kG K) ≤ q)) g → W (kp K) (kl K) (ke K) (kR K) (ks K) (km K) (ka K) (kb K) (kme K) (kc K) H locs a b (kQ K) g
/-- the locals at a method's entry -/
def ent : List Value → List (Option Value)
  | [] => []
  | v :: vs => if v.category = 2 then some v :: none :: ent vs else some v :: ent vs
theorem ent_len : ∀ (G : GT) (As : List Value), (lg_sl (As.map (cv G))).length = (ent As).length
  | G, [] => rfl
  | G, v :: vs => by
    have ih := ent_len G vs
    unfold lg_sl at ih ⊢
    rw [List.map_cons, List.flatMap_cons, List.length_append, ih, cv_cat]
    show _ = (if v.category = 2 then some v :: none :: ent vs else some v :: ent vs).length
    split <;> simp <;> omega
theorem ent_at : ∀ (G : GT) (As : List Value) (k i : Nat) (v : Value), (ent As)[i]? = some (some v) → (k + i, cv G v) ∈ lv_args k (As.map (cv G))
  | G, [], k, i, v, h => by simp [ent] at h
  | G, w :: vs, k, i, v, h => by
    have ih := ent_at G vs
    show _ ∈ (k, cv G w) :: lv_args (if (cv G w).category = 2 then k + 2 else k + 1) (vs.map (cv G))
    rw [cv_cat]
    have h : (if w.category = 2 then some w :: none :: ent vs else some w :: ent vs)[i]? = some (some v) := h
    by_cases hc : w.category = 2
    · rw [if_pos hc] at h ⊢
      match i, h with
      | 0, h => simp at h; subst h; exact List.mem_cons_self
      | 1, h => simp at h
      | i + 2, h =>
        have := ih (k + 2) i v (by simpa using h)
        rw [show k + (i + 2) = k + 2 + i by omega]
        exact List.mem_cons_of_mem _ this
    · rw [if_neg hc] at h ⊢
      match i, h with
      | 0, h => simp at h; subst h; exact List.mem_cons_self
      | i + 1, h =>
        have := ih (k + 1) i v (by simpa using h)
        rw [show k + (i + 1) = k + 1 + i by omega]
        exact List.mem_cons_of_mem _ this
theorem ct_intro {G : GT} {Rel : Nat → Hp → Hp → Prop} {y : MethodName} {cc : ByteArray} {nL : Nat} {rt : Option FieldType} {d U : Nat} {As : List Value} {n : Nat} {f : Hp} {P : Pt_} (L0 : List (Option Value)) (hR : RelOK Rel) (hL : ent As ++ List.replicate (nL - (ent As).length) none = L0) (hlen : (ent As).length ≤ nL)
    (body : ∀ K : KT, kG K = G → kRel K = Rel → Gd K y.cls cc nL d U → Rt K rt U P → (kme K).name = y.name → Wx K 0 L0 [] n f 0) (hy : plainName y.cls = true := by decide) : Ct G Rel y cc nL rt d U As n f P := by
  intro l
  refine Met.ofW (cc := cc) (maxL := nL) (ret := rt) hy rfl ?_
  intro p e s m args below meth c s₁ B hml hv
  obtain ⟨rfl, hH, hGS⟩ := hv
  have hts := atoms_spec (ws := ws_ y cc nL rt) B.pre
  have hts : ∀ w ∈ lw_all, w.before _ s = true := fun w h => hts w (List.mem_cons_of_mem _ h)
  have hb := body (p, l, e, (headSpec (ws_ y cc nL rt) (rmd d U)).room, s, m, (As.map (cv G)).toArray, below, meth, c, MQ below (QcP G Rel P) (As.map (cv G)).toArray s U (12 * U) (fun q => g_b G ≤ q), G, Rel) rfl rfl
    ⟨B.exec, B.bytes, hml, findClass_of_methodNamed B.named, hts, hGS, ⟨Nat.le_refl _, Nat.le_refl _, Nat.le_refl _, Nat.le_refl _⟩, B.notSynchronized, hR, by have := hH.1; show g_b G ≤ s.heap.size; omega⟩
    ⟨B.returns, fun H locs a b g h => h⟩ (name_of_methodNamed B.named B.method).1
  have hl := lv_entry (As.map (cv G)) (n := nL) (by rw [ent_len]; exact hlen)
  rw [lg_entry_eq]
  generalize (lg_sl (As.map (cv G)) ++ List.replicate (nL - (lg_sl (As.map (cv G))).length) Slot.unset).toArray = ls at hl ⊢
  refine hb s.heap [] ls hH va_S.rf ⟨?_, hl.2.1, fun i v hi => ?_⟩
  · rw [hl.1, ← hL]; simp; omega
  · rw [← hL] at hi
    have hi' : (ent As)[i]? = some (some v) := by
      rcases Nat.lt_or_ge i (ent As).length with q | q
      · rw [List.getElem?_append_left q] at hi; exact hi
      · rw [List.getElem?_append_right q, List.getElem?_replicate] at hi
        split at hi <;> cases hi
    have := ent_at G As 0 i v hi'
    rw [Nat.zero_add] at this
    exact hl.2.2 _ this
theorem Ct.mono {G : GT} {Rel : Nat → Hp → Hp → Prop} {y : MethodName} {cc : ByteArray} {nL : Nat} {rt : Option FieldType} {d U : Nat} {As : List Value} {n : Nat} {f : Hp} {P P' : Pt_} (h : Ct G Rel y cc nL rt d U As n f P) (hp : ∀ r n f, P r n f → P' r n f) : Ct G Rel y cc nL rt d U As n f P' := by
  intro l p e ha hc hk s m args below hf happ hpre hK
  obtain ⟨t, o, h1, h2, h3, ⟨⟨r, n', f', e1, e2, e3⟩, h4⟩⟩ := h l p e ha hc hk s m args below hf happ hpre hK
  exact ⟨t, o, h1, h2, h3, ⟨⟨r, n', f', e1, hp _ _ _ e2, e3⟩, h4⟩⟩
section RC
variable {K : KT} {own : String} {cc : ByteArray} {nL d U pc : Nat} {L : List (Option Value)} {st rest : List Value} {n : Nat} {f : Hp} {u : Nat} {P : Pt_}
/-- ends -/
theorem r_iret {z : Int} (hK : Gd K own cc nL d U) (hR : Rt K (some .int) U P) (hd : decode cc pc = .ok (.ireturn, 1)) (hp : P (some (zI z)) n f) (hu : u ≤ U := by decide) : Wx K pc L [zI z] n f u := fun H locs ls hH hS hl =>
  W.widen hu (Nat.mul_le_mul_left 12 hu) (hR.2 _ _ _ _ _ (W.iret (v := Int32.ofInt z) hK.1 hK.2.1 hR.1 (fun t ht hW => ⟨some (zI z), n, f, rfl, hp, by rw [ht]; exact hH, hS.F ht⟩) hS.2.2 hd hK.2.2.2.2.2.2.2.1))
theorem r_zret {z : Int} {ty : FieldType} (hK : Gd K own cc nL d U) (hR : Rt K (some ty) U P) (hd : decode cc pc = .ok (.ireturn, 1)) (hn : narrow ty (zI z) = zI z) (hp : P (some (zI z)) n f) (hu : u ≤ U := by decide) : Wx K pc L [zI z] n f u := fun H locs ls hH hS hl =>
  W.widen hu (Nat.mul_le_mul_left 12 hu) (hR.2 _ _ _ _ _ (W.zret (v := Int32.ofInt z) hK.1 hK.2.1 hR.1 hn (fun t ht hW => ⟨some (zI z), n, f, rfl, hp, by rw [ht]; exact hH, hS.F ht⟩) hS.2.2 hd hK.2.2.2.2.2.2.2.1))
theorem r_vret (hK : Gd K own cc nL d U) (hR : Rt K none U P) (hd : decode cc pc = .ok (.return_, 1)) (hp : P none n f) (hu : u ≤ U := by decide) : Wx K pc L [] n f u := fun H locs ls hH hS hl =>
  W.widen hu (Nat.mul_le_mul_left 12 hu) (hR.2 _ _ _ _ _ (W.vret hK.1 hK.2.1 hR.1 (fun t ht hW => ⟨none, n, f, rfl, hp, by rw [ht]; exact hH, hS.F ht⟩) hS.2.2 hd hK.2.2.2.2.2.2.2.1))
theorem r_lret {z : Int} (hK : Gd K own cc nL d U) (hR : Rt K (some .long) U P) (hd : decode cc pc = .ok (.lreturn, 1)) (hp : P (some (zL z)) n f) (hu : u ≤ U := by decide) : Wx K pc L [zL z] n f u := fun H locs ls hH hS hl =>
  W.widen hu (Nat.mul_le_mul_left 12 hu) (hR.2 _ _ _ _ _ (W.lret (v := Int64.ofInt z) hK.1 hK.2.1 hR.1 (fun t ht hW => ⟨some (zL z), n, f, rfl, hp, by rw [ht]; exact hH, hS.F ht⟩) hS.2.2 hd hK.2.2.2.2.2.2.2.1))
theorem r_run {st0 : List Value} {U' : Nat} {av : Array Value} (hrun : ∀ (H : Heap) (locs : List Loc) (ls : Array Slot), HP (kG K) (kRel K) n f H → va_S (fun q => g_b (kG K) ≤ q) (ks K).heap H locs → lh (kG K) ls L → va_Run (kp K) (kl K) (ke K) (kR K) (ks K) (km K) (ka K) (kb K) (kme K) (kc K) H locs u (12 * u) U' (12 * U') (F0 (km K) pc ls (st0.map (cv (kG K)))) (rest.map (cv (kG K))) (QcP (kG K) (kRel K) P av) (fun q => g_b (kG K) ≤ q))
    (kk : ∀ r n' f', P r n' f' → Wx K (pc + 3) L (r.toList ++ rest) n' f' (u + U')) : Wx K pc L st0 n f u := by
  intro H locs ls hH hS hl T hT X
  obtain ⟨v, st₀, t, T', Lx, h0, X', hL, e1, e2, ⟨r, n', f', hv, hP, hH', hz, hk⟩, stp⟩ := hrun H locs ls hH hS hl T hT X
  cases hv
  rw [h0] at hz hk
  have hX : Stand (kp K) (kl K) (ke K) (kR K) (ks K) (km K) (ka K) (kb K) (kme K) (kc K) T' (locs ++ Lx) (u + U') (12 * (u + U')) := by rw [Nat.mul_add]; exact X'
  obtain ⟨t2, a1, b1⟩ := kk r n' f' hP T'.heap (locs ++ Lx) ls (by rw [e1]; exact hH') ⟨Nat.le_trans hS.1 (by rw [e1]; exact hz), fun q h1 h2 => by rw [e1, hk q (Nat.lt_of_lt_of_le h1 hS.1) h2]; exact hS.2.1 q h1 h2, fun q hq => by
      rcases List.mem_append.mp hq with h | h
      · exact hS.2.2 q h
      · exact hL q h⟩ hl T' rfl hX
  refine ⟨t2, stp t2 ?_, b1⟩
  cases r with
  | none => exact a1
  | some v => exact a1
/-- the receiver's class -/
def Rcv (Rel : Nat → Hp → Hp → Prop) (C : String) (n : Nat) (f : Hp) (id : Nat) : Prop := ∀ g, Rel n f g → ∃ ci fs r, g id = some (.inl (ci, fs)) ∧ cls[ci]? = some r ∧ r.1 = C
theorem Rcv.raw {Rel : Nat → Hp → Hp → Prop} (hR : RelOK Rel) {ci id : Nat} {fs : List Value} {r : vw_C} (hf : f id = some (.inl (ci, fs))) (hc : cls[ci]? = some r) (hr : rawE (.inl (ci, fs)) = true := by rfl) : Rcv Rel r.1 n f id := fun g hg => ⟨ci, fs, r, hR.1 _ _ _ _ _ hg hf hr, hc, rfl⟩
theorem Rcv.cell {C : String} {id : Nat} {H : Heap} (hK : Gd K own cc nL d U) (h : Rcv (kRel K) C n f id) (hH : HP (kG K) (kRel K) n f H) : ∃ cellB : Cell, H[ad (kG K) id]? = some cellB ∧ cellB.vm.isStatics = false ∧ (ks K).vm.findClass C = some cellB.cls := by
  obtain ⟨-, -, g, h3, h4, h5, h6⟩ := hH
  obtain ⟨ci, fs, r, e1, e2, e3⟩ := h g h3
  obtain ⟨r', g1, cell, g2, g3, g4, -⟩ := h6 id _ e1
  refine ⟨cell, g2, by rw [g4]; rfl, ?_⟩
  rw [g3, ← e3]
  exact (hK.2.2.2.2.2.1.1.1 ci r e2).2.1
theorem pc_blind (G : GT) (Rel : Nat → Hp → Hp → Prop) (As : List Value) (n : Nat) (f : Hp) : FrameBlind (PcP G Rel As n f) := fun a U g mk q => ⟨q.1, q.2.1, GS.same (u := U) (U := U.calling g mk a) rfl q.2.2⟩
theorem pc_at (hK : Gd K own cc nL d U) {As : List Value} {H : Heap} (hH : HP (kG K) (kRel K) n f H) : ∀ S : State, S.heap = H → (ks K).WarmedH S.vm → PcP (kG K) (kRel K) As n f (As.map (cv (kG K))).toArray S := fun S hS hW => ⟨rfl, by rw [hS]; exact hH, hK.2.2.2.2.2.1.moved hW⟩
/-- links of calls -/
def yOK (y : MethodName) (np : Nat) : Prop := y.cls ≠ "java/lang/invoke/MethodHandle" ∧ y.cls ≠ "java/lang/invoke/VarHandle" ∧ (parseMethodDescriptor y.desc).map (fun d => d.parameters.length) = some np
def LkV (own : String) (idx : Nat) (y : MethodName) (cc : ByteArray) (nL : Nat) (rt : Option FieldType) (np : Nat) : Prop := yOK y np ∧ Cond.methodLink own idx y ∈ lw_all ∧ Cond.instanceMethod y ∈ lw_all ∧ Cond.selects y.cls y y ∈ lw_all ∧ Cond.initialized y.cls ∈ lw_all ∧ Cond.code y cc nL rt ∈ lw_all
def LkS (own : String) (idx : Nat) (y : MethodName) (cc : ByteArray) (nL : Nat) (rt : Option FieldType) (np : Nat) : Prop := yOK y np ∧ Cond.methodLink own idx y ∈ lw_all ∧ Cond.static y ∈ lw_all ∧ Cond.initialized y.cls ∈ lw_all ∧ Cond.code y cc nL rt ∈ lw_all
def LkI (own : String) (idx : Nat) (y : MethodName) (cc : ByteArray) (nL : Nat) (np : Nat) : Prop := yOK y np ∧ y.name = "<init>" ∧ Cond.methodLink own idx y ∈ lw_all ∧ Cond.instanceMethod y ∈ lw_all ∧ Cond.initialized y.cls ∈ lw_all ∧ Cond.code y cc nL none ∈ lw_all
def LkSN (own : String) (idx : Nat) (y : MethodName) (cc : ByteArray) (nL : Nat) (rt : Option FieldType) (np : Nat) : Prop := yOK y np ∧ (∃ host, Cond.methodLinkNest own idx y host ∈ lw_tbl) ∧ Cond.static y ∈ lw_all ∧ Cond.initialized y.cls ∈ lw_all ∧ Cond.code y cc nL rt ∈ lw_all
def LkIN (own : String) (idx : Nat) (y : MethodName) (cc : ByteArray) (nL : Nat) (np : Nat) : Prop := yOK y np ∧ y.name = "<init>" ∧ (∃ host, Cond.methodLinkNest own idx y host ∈ lw_tbl) ∧ Cond.instanceMethod y ∈ lw_all ∧ Cond.initialized y.cls ∈ lw_all ∧ Cond.code y cc nL none ∈ lw_all
def catS (rest : List Value) : Nat := (rest.map fun v => v.category).sum
theorem cat_map (G : GT) (rest : List Value) : ((rest.map (cv G)).map fun v => v.category).sum = catS rest := by
  unfold catS
  rw [List.map_map]
  congr 2
  funext v
  exact cv_cat G v
variable {y : MethodName} {cc' : ByteArray} {nL' : Nat} {rt' : Option FieldType} {d' U' np idx id : Nat} {As : List Value}
theorem c_room {R : Room} {d d' U U' u nL' : Nat} (hR : d ≤ R.frames ∧ 64 * d ≤ R.locals ∧ U ≤ R.cells ∧ 12 * U ≤ R.slots) (hd : d' + 1 ≤ d) (hn : nL' ≤ 45) (hu : u + U' ≤ U) : ((rmd d' U').frames + 1 ≤ R.frames ∧ 8 + (nL' + 11) + (rmd d' U').locals ≤ R.locals) ∧ (u + U' ≤ R.cells ∧ 12 * u + 12 * U' ≤ R.slots) := by
  unfold rmd
  simp only
  omega
theorem g_callV (hK : Gd K own cc nL d U) (hC : Ct (kG K) (kRel K) y cc' nL' rt' d' U' (.ref id :: As) n f P) (hl : LkV own idx y cc' nL' rt' np) (hrc : Rcv (kRel K) y.cls n f id) (hd : decode cc pc = .ok (.invokevirtual idx, 3)) (kk : ∀ r n' f', P r n' f' → Wx K (pc + 3) L (r.toList ++ rest) n' f' (u + U')) (hst : st = As.reverse ++ .ref id :: rest) (hn : As.length = np) (hL : L.length = nL) (hdp : d' + 1 ≤ d) (hnl : nL' ≤ 45) (hu : u + U' ≤ U) (hcat : catS rest ≤ 8) : Wx K pc L st n f u := by
  refine r_run (av := ((Value.ref id :: As).map (cv (kG K))).toArray) (fun H locs ls hH hS hls => ?_) kk
  obtain ⟨hy, h1, h2, h3, h4, h5⟩ := hl
  have hro := c_room (R := kR K) hK.2.2.2.2.2.2.1 hdp hnl hu
  have hts := hK.2.2.2.2.1
  exact va_runV (As := As.map (cv (kG K))) (n := np) (C := y.cls) ⟨hK.1, hK.2.1, hK.2.2.1, hK.2.2.2.1, hts⟩ (hC (kl K)) (cwV np hts (lw_V h1 h2 h3 h4 h5) rfl rfl rfl ⟨rfl, hy⟩ hro.1) ⟨pc_blind _ _ _ _ _, hrc.cell hK hH, pc_at hK hH⟩ rfl (by simpa using hn) (by show ls.size = nL; rw [hls.1, hL]) (by show st.map _ = _; rw [hst]; simp [cv]) (lv_room (by rw [cat_map]; exact hcat)) hd hro.2
theorem g_callS (hK : Gd K own cc nL d U) (hC : Ct (kG K) (kRel K) y cc' nL' rt' d' U' As n f P) (hl : LkS own idx y cc' nL' rt' np) (hd : decode cc pc = .ok (.invokestatic idx, 3)) (kk : ∀ r n' f', P r n' f' → Wx K (pc + 3) L (r.toList ++ rest) n' f' (u + U')) (hst : st = As.reverse ++ rest) (hn : As.length = np) (hL : L.length = nL) (hdp : d' + 1 ≤ d) (hnl : nL' ≤ 45) (hu : u + U' ≤ U) (hcat : catS rest ≤ 8) : Wx K pc L st n f u := by
  refine r_run (av := (As.map (cv (kG K))).toArray) (fun H locs ls hH hS hls => ?_) kk
  obtain ⟨hy, h1, h2, h3, h4⟩ := hl
  have hro := c_room (R := kR K) hK.2.2.2.2.2.2.1 hdp hnl hu
  have hts := hK.2.2.2.2.1
  exact va_runS (As := As.map (cv (kG K))) (n := np) ⟨hK.1, hK.2.1, hK.2.2.1, hK.2.2.2.1, hts⟩ (hC (kl K)) (va_cwS np hts (lw_S h1 h2 h3 h4) rfl rfl rfl hy hro.1) ⟨pc_blind _ _ _ _ _, pc_at hK hH⟩ rfl (by simpa using hn) (by show ls.size = nL; rw [hls.1, hL]) (by show st.map _ = _; rw [hst]; simp) (lv_room (by rw [cat_map]; exact hcat)) hd hro.2
theorem g_callI (hK : Gd K own cc nL d U) (hC : Ct (kG K) (kRel K) y cc' nL' none d' U' (.ref id :: As) n f P) (hl : LkI own idx y cc' nL' np) (hd : decode cc pc = .ok (.invokespecial idx, 3)) (kk : ∀ r n' f', P r n' f' → Wx K (pc + 3) L (r.toList ++ rest) n' f' (u + U')) (hst : st = As.reverse ++ .ref id :: rest) (hn : As.length = np) (hL : L.length = nL) (hdp : d' + 1 ≤ d) (hnl : nL' ≤ 45) (hu : u + U' ≤ U) (hcat : catS rest ≤ 8) : Wx K pc L st n f u := by
  refine r_run (av := ((Value.ref id :: As).map (cv (kG K))).toArray) (fun H locs ls hH hS hls => ?_) kk
  obtain ⟨hy, hi, h1, h2, h3, h4⟩ := hl
  have hro := c_room (R := kR K) hK.2.2.2.2.2.2.1 hdp hnl hu
  have hts := hK.2.2.2.2.1
  exact va_runI (As := As.map (cv (kG K))) (n := np) ⟨hK.1, hK.2.1, hK.2.2.1, hK.2.2.2.1, hts⟩ (hC (kl K)) (cwI np hts (lw_meth h4) rfl rfl rfl (hts _ h3) (hts _ h1) (hts _ h2) hi hy hro.1) ⟨pc_blind _ _ _ _ _, pc_at hK hH⟩ rfl (by simpa using hn) (by show ls.size = nL; rw [hls.1, hL]) (by show st.map _ = _; rw [hst]; simp [cv]) (lv_room (by rw [cat_map]; exact hcat)) hd hro.2
theorem g_callSN (hK : Gd K own cc nL d U) (hC : Ct (kG K) (kRel K) y cc' nL' rt' d' U' As n f P) (hl : LkSN own idx y cc' nL' rt' np) (hd : decode cc pc = .ok (.invokestatic idx, 3)) (kk : ∀ r n' f', P r n' f' → Wx K (pc + 3) L (r.toList ++ rest) n' f' (u + U')) (hst : st = As.reverse ++ rest) (hn : As.length = np) (hL : L.length = nL) (hdp : d' + 1 ≤ d) (hnl : nL' ≤ 45) (hu : u + U' ≤ U) (hcat : catS rest ≤ 8) : Wx K pc L st n f u := by
  refine r_run (av := (As.map (cv (kG K))).toArray) (fun H locs ls hH hS hls => ?_) kk
  obtain ⟨hy, ⟨host, h1⟩, h2, h3, h4⟩ := hl
  have hro := c_room (R := kR K) hK.2.2.2.2.2.2.1 hdp hnl hu
  have hts := hK.2.2.2.2.1
  exact va_runSN (As := As.map (cv (kG K))) (n := np) ⟨hK.1, hK.2.1, hK.2.2.1, hK.2.2.2.1, hts⟩ (hC (kl K)) ⟨va_cnB np hts (lw_meth h4) rfl rfl rfl (hK.2.2.2.2.2.1.2.2.1.1 _ _ _ _ h1) (hts _ h3) hy hro.1, hts _ h2, trivial⟩ ⟨pc_blind _ _ _ _ _, pc_at hK hH⟩ rfl (by simpa using hn) (by show ls.size = nL; rw [hls.1, hL]) (by show st.map _ = _; rw [hst]; simp) (lv_room (by rw [cat_map]; exact hcat)) hd hro.2
theorem g_callIN (hK : Gd K own cc nL d U) (hC : Ct (kG K) (kRel K) y cc' nL' none d' U' (.ref id :: As) n f P) (hl : LkIN own idx y cc' nL' np) (hd : decode cc pc = .ok (.invokespecial idx, 3)) (kk : ∀ r n' f', P r n' f' → Wx K (pc + 3) L (r.toList ++ rest) n' f' (u + U')) (hst : st = As.reverse ++ .ref id :: rest) (hn : As.length = np) (hL : L.length = nL) (hdp : d' + 1 ≤ d) (hnl : nL' ≤ 45) (hu : u + U' ≤ U) (hcat : catS rest ≤ 8) : Wx K pc L st n f u := by
  refine r_run (av := ((Value.ref id :: As).map (cv (kG K))).toArray) (fun H locs ls hH hS hls => ?_) kk
  obtain ⟨hy, hi, ⟨host, h1⟩, h2, h3, h4⟩ := hl
  have hro := c_room (R := kR K) hK.2.2.2.2.2.2.1 hdp hnl hu
  have hts := hK.2.2.2.2.1
  exact va_runIN (As := As.map (cv (kG K))) (n := np) ⟨hK.1, hK.2.1, hK.2.2.1, hK.2.2.2.1, hts⟩ (hC (kl K)) ⟨va_cnB np hts (lw_meth h4) rfl rfl rfl (hK.2.2.2.2.2.1.2.2.1.1 _ _ _ _ h1) (hts _ h3) hy hro.1, hi, hts _ h2⟩ ⟨pc_blind _ _ _ _ _, pc_at hK hH⟩ rfl (by simpa using hn) (by show ls.size = nL; rw [hls.1, hL]) (by show st.map _ = _; rw [hst]; simp [cv]) (lv_room (by rw [cat_map]; exact hcat)) hd hro.2
theorem r_callV0 (hK : Gd K own cc nL d U) (hC : Ct (kG K) (kRel K) y cc' nL' rt' d' U' [.ref id] n f P) (hl : LkV own idx y cc' nL' rt' 0) (hrc : Rcv (kRel K) y.cls n f id) (hd : decode cc pc = .ok (.invokevirtual idx, 3)) (kk : ∀ r n' f', P r n' f' → Wx K (pc + 3) L (r.toList ++ rest) n' f' (u + U')) (hL : L.length = nL := by rfl) (hdp : d' + 1 ≤ d := by decide) (hnl : nL' ≤ 45 := by decide) (hu : u + U' ≤ U := by decide) (hcat : catS rest ≤ 8 := by exact Nat.le_of_ble_eq_true rfl) : Wx K pc L (.ref id :: rest) n f u := g_callV hK hC hl hrc hd kk rfl rfl hL hdp hnl hu hcat
theorem r_callI0 (hK : Gd K own cc nL d U) (hC : Ct (kG K) (kRel K) y cc' nL' none d' U' [.ref id] n f P) (hl : LkI own idx y cc' nL' 0) (hd : decode cc pc = .ok (.invokespecial idx, 3)) (kk : ∀ r n' f', P r n' f' → Wx K (pc + 3) L (r.toList ++ rest) n' f' (u + U')) (hL : L.length = nL := by rfl) (hdp : d' + 1 ≤ d := by decide) (hnl : nL' ≤ 45 := by decide) (hu : u + U' ≤ U := by decide) (hcat : catS rest ≤ 8 := by exact Nat.le_of_ble_eq_true rfl) : Wx K pc L (.ref id :: rest) n f u := g_callI hK hC hl hd kk rfl rfl hL hdp hnl hu hcat
theorem r_callIN0 (hK : Gd K own cc nL d U) (hC : Ct (kG K) (kRel K) y cc' nL' none d' U' [.ref id] n f P) (hl : LkIN own idx y cc' nL' 0) (hd : decode cc pc = .ok (.invokespecial idx, 3)) (kk : ∀ r n' f', P r n' f' → Wx K (pc + 3) L (r.toList ++ rest) n' f' (u + U')) (hL : L.length = nL := by rfl) (hdp : d' + 1 ≤ d := by decide) (hnl : nL' ≤ 45 := by decide) (hu : u + U' ≤ U := by decide) (hcat : catS rest ≤ 8 := by exact Nat.le_of_ble_eq_true rfl) : Wx K pc L (.ref id :: rest) n f u := g_callIN hK hC hl hd kk rfl rfl hL hdp hnl hu hcat
theorem r_callS0 (hK : Gd K own cc nL d U) (hC : Ct (kG K) (kRel K) y cc' nL' rt' d' U' [] n f P) (hl : LkS own idx y cc' nL' rt' 0) (hd : decode cc pc = .ok (.invokestatic idx, 3)) (kk : ∀ r n' f', P r n' f' → Wx K (pc + 3) L (r.toList ++ rest) n' f' (u + U')) (hL : L.length = nL := by rfl) (hdp : d' + 1 ≤ d := by decide) (hnl : nL' ≤ 45 := by decide) (hu : u + U' ≤ U := by decide) (hcat : catS rest ≤ 8 := by exact Nat.le_of_ble_eq_true rfl) : Wx K pc L (rest) n f u := g_callS hK hC hl hd kk rfl rfl hL hdp hnl hu hcat
theorem r_callSN0 (hK : Gd K own cc nL d U) (hC : Ct (kG K) (kRel K) y cc' nL' rt' d' U' [] n f P) (hl : LkSN own idx y cc' nL' rt' 0) (hd : decode cc pc = .ok (.invokestatic idx, 3)) (kk : ∀ r n' f', P r n' f' → Wx K (pc + 3) L (r.toList ++ rest) n' f' (u + U')) (hL : L.length = nL := by rfl) (hdp : d' + 1 ≤ d := by decide) (hnl : nL' ≤ 45 := by decide) (hu : u + U' ≤ U := by decide) (hcat : catS rest ≤ 8 := by exact Nat.le_of_ble_eq_true rfl) : Wx K pc L (rest) n f u := g_callSN hK hC hl hd kk rfl rfl hL hdp hnl hu hcat
theorem r_callV1 {x0 : Value} (hK : Gd K own cc nL d U) (hC : Ct (kG K) (kRel K) y cc' nL' rt' d' U' [.ref id, x0] n f P) (hl : LkV own idx y cc' nL' rt' 1) (hrc : Rcv (kRel K) y.cls n f id) (hd : decode cc pc = .ok (.invokevirtual idx, 3)) (kk : ∀ r n' f', P r n' f' → Wx K (pc + 3) L (r.toList ++ rest) n' f' (u + U')) (hL : L.length = nL := by rfl) (hdp : d' + 1 ≤ d := by decide) (hnl : nL' ≤ 45 := by decide) (hu : u + U' ≤ U := by decide) (hcat : catS rest ≤ 8 := by exact Nat.le_of_ble_eq_true rfl) : Wx K pc L (x0 :: .ref id :: rest) n f u := g_callV hK hC hl hrc hd kk rfl rfl hL hdp hnl hu hcat
theorem r_callI1 {x0 : Value} (hK : Gd K own cc nL d U) (hC : Ct (kG K) (kRel K) y cc' nL' none d' U' [.ref id, x0] n f P) (hl : LkI own idx y cc' nL' 1) (hd : decode cc pc = .ok (.invokespecial idx, 3)) (kk : ∀ r n' f', P r n' f' → Wx K (pc + 3) L (r.toList ++ rest) n' f' (u + U')) (hL : L.length = nL := by rfl) (hdp : d' + 1 ≤ d := by decide) (hnl : nL' ≤ 45 := by decide) (hu : u + U' ≤ U := by decide) (hcat : catS rest ≤ 8 := by exact Nat.le_of_ble_eq_true rfl) : Wx K pc L (x0 :: .ref id :: rest) n f u := g_callI hK hC hl hd kk rfl rfl hL hdp hnl hu hcat
theorem r_callIN1 {x0 : Value} (hK : Gd K own cc nL d U) (hC : Ct (kG K) (kRel K) y cc' nL' none d' U' [.ref id, x0] n f P) (hl : LkIN own idx y cc' nL' 1) (hd : decode cc pc = .ok (.invokespecial idx, 3)) (kk : ∀ r n' f', P r n' f' → Wx K (pc + 3) L (r.toList ++ rest) n' f' (u + U')) (hL : L.length = nL := by rfl) (hdp : d' + 1 ≤ d := by decide) (hnl : nL' ≤ 45 := by decide) (hu : u + U' ≤ U := by decide) (hcat : catS rest ≤ 8 := by exact Nat.le_of_ble_eq_true rfl) : Wx K pc L (x0 :: .ref id :: rest) n f u := g_callIN hK hC hl hd kk rfl rfl hL hdp hnl hu hcat
theorem r_callS1 {x0 : Value} (hK : Gd K own cc nL d U) (hC : Ct (kG K) (kRel K) y cc' nL' rt' d' U' [x0] n f P) (hl : LkS own idx y cc' nL' rt' 1) (hd : decode cc pc = .ok (.invokestatic idx, 3)) (kk : ∀ r n' f', P r n' f' → Wx K (pc + 3) L (r.toList ++ rest) n' f' (u + U')) (hL : L.length = nL := by rfl) (hdp : d' + 1 ≤ d := by decide) (hnl : nL' ≤ 45 := by decide) (hu : u + U' ≤ U := by decide) (hcat : catS rest ≤ 8 := by exact Nat.le_of_ble_eq_true rfl) : Wx K pc L (x0 :: rest) n f u := g_callS hK hC hl hd kk rfl rfl hL hdp hnl hu hcat
theorem r_callSN1 {x0 : Value} (hK : Gd K own cc nL d U) (hC : Ct (kG K) (kRel K) y cc' nL' rt' d' U' [x0] n f P) (hl : LkSN own idx y cc' nL' rt' 1) (hd : decode cc pc = .ok (.invokestatic idx, 3)) (kk : ∀ r n' f', P r n' f' → Wx K (pc + 3) L (r.toList ++ rest) n' f' (u + U')) (hL : L.length = nL := by rfl) (hdp : d' + 1 ≤ d := by decide) (hnl : nL' ≤ 45 := by decide) (hu : u + U' ≤ U := by decide) (hcat : catS rest ≤ 8 := by exact Nat.le_of_ble_eq_true rfl) : Wx K pc L (x0 :: rest) n f u := g_callSN hK hC hl hd kk rfl rfl hL hdp hnl hu hcat
theorem r_callV2 {x0 x1 : Value} (hK : Gd K own cc nL d U) (hC : Ct (kG K) (kRel K) y cc' nL' rt' d' U' [.ref id, x0, x1] n f P) (hl : LkV own idx y cc' nL' rt' 2) (hrc : Rcv (kRel K) y.cls n f id) (hd : decode cc pc = .ok (.invokevirtual idx, 3)) (kk : ∀ r n' f', P r n' f' → Wx K (pc + 3) L (r.toList ++ rest) n' f' (u + U')) (hL : L.length = nL := by rfl) (hdp : d' + 1 ≤ d := by decide) (hnl : nL' ≤ 45 := by decide) (hu : u + U' ≤ U := by decide) (hcat : catS rest ≤ 8 := by exact Nat.le_of_ble_eq_true rfl) : Wx K pc L (x1 :: x0 :: .ref id :: rest) n f u := g_callV hK hC hl hrc hd kk rfl rfl hL hdp hnl hu hcat
theorem r_callI2 {x0 x1 : Value} (hK : Gd K own cc nL d U) (hC : Ct (kG K) (kRel K) y cc' nL' none d' U' [.ref id, x0, x1] n f P) (hl : LkI own idx y cc' nL' 2) (hd : decode cc pc = .ok (.invokespecial idx, 3)) (kk : ∀ r n' f', P r n' f' → Wx K (pc + 3) L (r.toList ++ rest) n' f' (u + U')) (hL : L.length = nL := by rfl) (hdp : d' + 1 ≤ d := by decide) (hnl : nL' ≤ 45 := by decide) (hu : u + U' ≤ U := by decide) (hcat : catS rest ≤ 8 := by exact Nat.le_of_ble_eq_true rfl) : Wx K pc L (x1 :: x0 :: .ref id :: rest) n f u := g_callI hK hC hl hd kk rfl rfl hL hdp hnl hu hcat
theorem r_callIN2 {x0 x1 : Value} (hK : Gd K own cc nL d U) (hC : Ct (kG K) (kRel K) y cc' nL' none d' U' [.ref id, x0, x1] n f P) (hl : LkIN own idx y cc' nL' 2) (hd : decode cc pc = .ok (.invokespecial idx, 3)) (kk : ∀ r n' f', P r n' f' → Wx K (pc + 3) L (r.toList ++ rest) n' f' (u + U')) (hL : L.length = nL := by rfl) (hdp : d' + 1 ≤ d := by decide) (hnl : nL' ≤ 45 := by decide) (hu : u + U' ≤ U := by decide) (hcat : catS rest ≤ 8 := by exact Nat.le_of_ble_eq_true rfl) : Wx K pc L (x1 :: x0 :: .ref id :: rest) n f u := g_callIN hK hC hl hd kk rfl rfl hL hdp hnl hu hcat
theorem r_callS2 {x0 x1 : Value} (hK : Gd K own cc nL d U) (hC : Ct (kG K) (kRel K) y cc' nL' rt' d' U' [x0, x1] n f P) (hl : LkS own idx y cc' nL' rt' 2) (hd : decode cc pc = .ok (.invokestatic idx, 3)) (kk : ∀ r n' f', P r n' f' → Wx K (pc + 3) L (r.toList ++ rest) n' f' (u + U')) (hL : L.length = nL := by rfl) (hdp : d' + 1 ≤ d := by decide) (hnl : nL' ≤ 45 := by decide) (hu : u + U' ≤ U := by decide) (hcat : catS rest ≤ 8 := by exact Nat.le_of_ble_eq_true rfl) : Wx K pc L (x1 :: x0 :: rest) n f u := g_callS hK hC hl hd kk rfl rfl hL hdp hnl hu hcat
theorem r_callSN2 {x0 x1 : Value} (hK : Gd K own cc nL d U) (hC : Ct (kG K) (kRel K) y cc' nL' rt' d' U' [x0, x1] n f P) (hl : LkSN own idx y cc' nL' rt' 2) (hd : decode cc pc = .ok (.invokestatic idx, 3)) (kk : ∀ r n' f', P r n' f' → Wx K (pc + 3) L (r.toList ++ rest) n' f' (u + U')) (hL : L.length = nL := by rfl) (hdp : d' + 1 ≤ d := by decide) (hnl : nL' ≤ 45 := by decide) (hu : u + U' ≤ U := by decide) (hcat : catS rest ≤ 8 := by exact Nat.le_of_ble_eq_true rfl) : Wx K pc L (x1 :: x0 :: rest) n f u := g_callSN hK hC hl hd kk rfl rfl hL hdp hnl hu hcat
theorem r_callV3 {x0 x1 x2 : Value} (hK : Gd K own cc nL d U) (hC : Ct (kG K) (kRel K) y cc' nL' rt' d' U' [.ref id, x0, x1, x2] n f P) (hl : LkV own idx y cc' nL' rt' 3) (hrc : Rcv (kRel K) y.cls n f id) (hd : decode cc pc = .ok (.invokevirtual idx, 3)) (kk : ∀ r n' f', P r n' f' → Wx K (pc + 3) L (r.toList ++ rest) n' f' (u + U')) (hL : L.length = nL := by rfl) (hdp : d' + 1 ≤ d := by decide) (hnl : nL' ≤ 45 := by decide) (hu : u + U' ≤ U := by decide) (hcat : catS rest ≤ 8 := by exact Nat.le_of_ble_eq_true rfl) : Wx K pc L (x2 :: x1 :: x0 :: .ref id :: rest) n f u := g_callV hK hC hl hrc hd kk rfl rfl hL hdp hnl hu hcat
theorem r_callI3 {x0 x1 x2 : Value} (hK : Gd K own cc nL d U) (hC : Ct (kG K) (kRel K) y cc' nL' none d' U' [.ref id, x0, x1, x2] n f P) (hl : LkI own idx y cc' nL' 3) (hd : decode cc pc = .ok (.invokespecial idx, 3)) (kk : ∀ r n' f', P r n' f' → Wx K (pc + 3) L (r.toList ++ rest) n' f' (u + U')) (hL : L.length = nL := by rfl) (hdp : d' + 1 ≤ d := by decide) (hnl : nL' ≤ 45 := by decide) (hu : u + U' ≤ U := by decide) (hcat : catS rest ≤ 8 := by exact Nat.le_of_ble_eq_true rfl) : Wx K pc L (x2 :: x1 :: x0 :: .ref id :: rest) n f u := g_callI hK hC hl hd kk rfl rfl hL hdp hnl hu hcat
theorem r_callIN3 {x0 x1 x2 : Value} (hK : Gd K own cc nL d U) (hC : Ct (kG K) (kRel K) y cc' nL' none d' U' [.ref id, x0, x1, x2] n f P) (hl : LkIN own idx y cc' nL' 3) (hd : decode cc pc = .ok (.invokespecial idx, 3)) (kk : ∀ r n' f', P r n' f' → Wx K (pc + 3) L (r.toList ++ rest) n' f' (u + U')) (hL : L.length = nL := by rfl) (hdp : d' + 1 ≤ d := by decide) (hnl : nL' ≤ 45 := by decide) (hu : u + U' ≤ U := by decide) (hcat : catS rest ≤ 8 := by exact Nat.le_of_ble_eq_true rfl) : Wx K pc L (x2 :: x1 :: x0 :: .ref id :: rest) n f u := g_callIN hK hC hl hd kk rfl rfl hL hdp hnl hu hcat
theorem r_callS3 {x0 x1 x2 : Value} (hK : Gd K own cc nL d U) (hC : Ct (kG K) (kRel K) y cc' nL' rt' d' U' [x0, x1, x2] n f P) (hl : LkS own idx y cc' nL' rt' 3) (hd : decode cc pc = .ok (.invokestatic idx, 3)) (kk : ∀ r n' f', P r n' f' → Wx K (pc + 3) L (r.toList ++ rest) n' f' (u + U')) (hL : L.length = nL := by rfl) (hdp : d' + 1 ≤ d := by decide) (hnl : nL' ≤ 45 := by decide) (hu : u + U' ≤ U := by decide) (hcat : catS rest ≤ 8 := by exact Nat.le_of_ble_eq_true rfl) : Wx K pc L (x2 :: x1 :: x0 :: rest) n f u := g_callS hK hC hl hd kk rfl rfl hL hdp hnl hu hcat
theorem r_callSN3 {x0 x1 x2 : Value} (hK : Gd K own cc nL d U) (hC : Ct (kG K) (kRel K) y cc' nL' rt' d' U' [x0, x1, x2] n f P) (hl : LkSN own idx y cc' nL' rt' 3) (hd : decode cc pc = .ok (.invokestatic idx, 3)) (kk : ∀ r n' f', P r n' f' → Wx K (pc + 3) L (r.toList ++ rest) n' f' (u + U')) (hL : L.length = nL := by rfl) (hdp : d' + 1 ≤ d := by decide) (hnl : nL' ≤ 45 := by decide) (hu : u + U' ≤ U := by decide) (hcat : catS rest ≤ 8 := by exact Nat.le_of_ble_eq_true rfl) : Wx K pc L (x2 :: x1 :: x0 :: rest) n f u := g_callSN hK hC hl hd kk rfl rfl hL hdp hnl hu hcat
theorem r_callV4 {x0 x1 x2 x3 : Value} (hK : Gd K own cc nL d U) (hC : Ct (kG K) (kRel K) y cc' nL' rt' d' U' [.ref id, x0, x1, x2, x3] n f P) (hl : LkV own idx y cc' nL' rt' 4) (hrc : Rcv (kRel K) y.cls n f id) (hd : decode cc pc = .ok (.invokevirtual idx, 3)) (kk : ∀ r n' f', P r n' f' → Wx K (pc + 3) L (r.toList ++ rest) n' f' (u + U')) (hL : L.length = nL := by rfl) (hdp : d' + 1 ≤ d := by decide) (hnl : nL' ≤ 45 := by decide) (hu : u + U' ≤ U := by decide) (hcat : catS rest ≤ 8 := by exact Nat.le_of_ble_eq_true rfl) : Wx K pc L (x3 :: x2 :: x1 :: x0 :: .ref id :: rest) n f u := g_callV hK hC hl hrc hd kk rfl rfl hL hdp hnl hu hcat
theorem r_callI4 {x0 x1 x2 x3 : Value} (hK : Gd K own cc nL d U) (hC : Ct (kG K) (kRel K) y cc' nL' none d' U' [.ref id, x0, x1, x2, x3] n f P) (hl : LkI own idx y cc' nL' 4) (hd : decode cc pc = .ok (.invokespecial idx, 3)) (kk : ∀ r n' f', P r n' f' → Wx K (pc + 3) L (r.toList ++ rest) n' f' (u + U')) (hL : L.length = nL := by rfl) (hdp : d' + 1 ≤ d := by decide) (hnl : nL' ≤ 45 := by decide) (hu : u + U' ≤ U := by decide) (hcat : catS rest ≤ 8 := by exact Nat.le_of_ble_eq_true rfl) : Wx K pc L (x3 :: x2 :: x1 :: x0 :: .ref id :: rest) n f u := g_callI hK hC hl hd kk rfl rfl hL hdp hnl hu hcat
theorem r_callIN4 {x0 x1 x2 x3 : Value} (hK : Gd K own cc nL d U) (hC : Ct (kG K) (kRel K) y cc' nL' none d' U' [.ref id, x0, x1, x2, x3] n f P) (hl : LkIN own idx y cc' nL' 4) (hd : decode cc pc = .ok (.invokespecial idx, 3)) (kk : ∀ r n' f', P r n' f' → Wx K (pc + 3) L (r.toList ++ rest) n' f' (u + U')) (hL : L.length = nL := by rfl) (hdp : d' + 1 ≤ d := by decide) (hnl : nL' ≤ 45 := by decide) (hu : u + U' ≤ U := by decide) (hcat : catS rest ≤ 8 := by exact Nat.le_of_ble_eq_true rfl) : Wx K pc L (x3 :: x2 :: x1 :: x0 :: .ref id :: rest) n f u := g_callIN hK hC hl hd kk rfl rfl hL hdp hnl hu hcat
theorem r_callS4 {x0 x1 x2 x3 : Value} (hK : Gd K own cc nL d U) (hC : Ct (kG K) (kRel K) y cc' nL' rt' d' U' [x0, x1, x2, x3] n f P) (hl : LkS own idx y cc' nL' rt' 4) (hd : decode cc pc = .ok (.invokestatic idx, 3)) (kk : ∀ r n' f', P r n' f' → Wx K (pc + 3) L (r.toList ++ rest) n' f' (u + U')) (hL : L.length = nL := by rfl) (hdp : d' + 1 ≤ d := by decide) (hnl : nL' ≤ 45 := by decide) (hu : u + U' ≤ U := by decide) (hcat : catS rest ≤ 8 := by exact Nat.le_of_ble_eq_true rfl) : Wx K pc L (x3 :: x2 :: x1 :: x0 :: rest) n f u := g_callS hK hC hl hd kk rfl rfl hL hdp hnl hu hcat
theorem r_callSN4 {x0 x1 x2 x3 : Value} (hK : Gd K own cc nL d U) (hC : Ct (kG K) (kRel K) y cc' nL' rt' d' U' [x0, x1, x2, x3] n f P) (hl : LkSN own idx y cc' nL' rt' 4) (hd : decode cc pc = .ok (.invokestatic idx, 3)) (kk : ∀ r n' f', P r n' f' → Wx K (pc + 3) L (r.toList ++ rest) n' f' (u + U')) (hL : L.length = nL := by rfl) (hdp : d' + 1 ≤ d := by decide) (hnl : nL' ≤ 45 := by decide) (hu : u + U' ≤ U := by decide) (hcat : catS rest ≤ 8 := by exact Nat.le_of_ble_eq_true rfl) : Wx K pc L (x3 :: x2 :: x1 :: x0 :: rest) n f u := g_callSN hK hC hl hd kk rfl rfl hL hdp hnl hu hcat
theorem r_callV5 {x0 x1 x2 x3 x4 : Value} (hK : Gd K own cc nL d U) (hC : Ct (kG K) (kRel K) y cc' nL' rt' d' U' [.ref id, x0, x1, x2, x3, x4] n f P) (hl : LkV own idx y cc' nL' rt' 5) (hrc : Rcv (kRel K) y.cls n f id) (hd : decode cc pc = .ok (.invokevirtual idx, 3)) (kk : ∀ r n' f', P r n' f' → Wx K (pc + 3) L (r.toList ++ rest) n' f' (u + U')) (hL : L.length = nL := by rfl) (hdp : d' + 1 ≤ d := by decide) (hnl : nL' ≤ 45 := by decide) (hu : u + U' ≤ U := by decide) (hcat : catS rest ≤ 8 := by exact Nat.le_of_ble_eq_true rfl) : Wx K pc L (x4 :: x3 :: x2 :: x1 :: x0 :: .ref id :: rest) n f u := g_callV hK hC hl hrc hd kk rfl rfl hL hdp hnl hu hcat
theorem r_callI5 {x0 x1 x2 x3 x4 : Value} (hK : Gd K own cc nL d U) (hC : Ct (kG K) (kRel K) y cc' nL' none d' U' [.ref id, x0, x1, x2, x3, x4] n f P) (hl : LkI own idx y cc' nL' 5) (hd : decode cc pc = .ok (.invokespecial idx, 3)) (kk : ∀ r n' f', P r n' f' → Wx K (pc + 3) L (r.toList ++ rest) n' f' (u + U')) (hL : L.length = nL := by rfl) (hdp : d' + 1 ≤ d := by decide) (hnl : nL' ≤ 45 := by decide) (hu : u + U' ≤ U := by decide) (hcat : catS rest ≤ 8 := by exact Nat.le_of_ble_eq_true rfl) : Wx K pc L (x4 :: x3 :: x2 :: x1 :: x0 :: .ref id :: rest) n f u := g_callI hK hC hl hd kk rfl rfl hL hdp hnl hu hcat
theorem r_callIN5 {x0 x1 x2 x3 x4 : Value} (hK : Gd K own cc nL d U) (hC : Ct (kG K) (kRel K) y cc' nL' none d' U' [.ref id, x0, x1, x2, x3, x4] n f P) (hl : LkIN own idx y cc' nL' 5) (hd : decode cc pc = .ok (.invokespecial idx, 3)) (kk : ∀ r n' f', P r n' f' → Wx K (pc + 3) L (r.toList ++ rest) n' f' (u + U')) (hL : L.length = nL := by rfl) (hdp : d' + 1 ≤ d := by decide) (hnl : nL' ≤ 45 := by decide) (hu : u + U' ≤ U := by decide) (hcat : catS rest ≤ 8 := by exact Nat.le_of_ble_eq_true rfl) : Wx K pc L (x4 :: x3 :: x2 :: x1 :: x0 :: .ref id :: rest) n f u := g_callIN hK hC hl hd kk rfl rfl hL hdp hnl hu hcat
theorem r_callS5 {x0 x1 x2 x3 x4 : Value} (hK : Gd K own cc nL d U) (hC : Ct (kG K) (kRel K) y cc' nL' rt' d' U' [x0, x1, x2, x3, x4] n f P) (hl : LkS own idx y cc' nL' rt' 5) (hd : decode cc pc = .ok (.invokestatic idx, 3)) (kk : ∀ r n' f', P r n' f' → Wx K (pc + 3) L (r.toList ++ rest) n' f' (u + U')) (hL : L.length = nL := by rfl) (hdp : d' + 1 ≤ d := by decide) (hnl : nL' ≤ 45 := by decide) (hu : u + U' ≤ U := by decide) (hcat : catS rest ≤ 8 := by exact Nat.le_of_ble_eq_true rfl) : Wx K pc L (x4 :: x3 :: x2 :: x1 :: x0 :: rest) n f u := g_callS hK hC hl hd kk rfl rfl hL hdp hnl hu hcat
theorem r_callSN5 {x0 x1 x2 x3 x4 : Value} (hK : Gd K own cc nL d U) (hC : Ct (kG K) (kRel K) y cc' nL' rt' d' U' [x0, x1, x2, x3, x4] n f P) (hl : LkSN own idx y cc' nL' rt' 5) (hd : decode cc pc = .ok (.invokestatic idx, 3)) (kk : ∀ r n' f', P r n' f' → Wx K (pc + 3) L (r.toList ++ rest) n' f' (u + U')) (hL : L.length = nL := by rfl) (hdp : d' + 1 ≤ d := by decide) (hnl : nL' ≤ 45 := by decide) (hu : u + U' ≤ U := by decide) (hcat : catS rest ≤ 8 := by exact Nat.le_of_ble_eq_true rfl) : Wx K pc L (x4 :: x3 :: x2 :: x1 :: x0 :: rest) n f u := g_callSN hK hC hl hd kk rfl rfl hL hdp hnl hu hcat
/-- Object() -/
theorem r_objInit {id : Nat} (hK : Gd K own cc nL d U) (hq : Cond.methodLink own idx Lib.objectInit ∈ lw_all ∧ Cond.instanceMethod Lib.objectInit ∈ lw_all ∧ Cond.code Lib.objectInit ⟨#[0xb1]⟩ 1 none ∈ lw_all) (hd : decode cc pc = .ok (.invokespecial idx, 3)) (kk : Wx K (pc + 3) L st n f u) (hL : L.length = nL := by rfl) (hdp : 1 ≤ d := by decide) (hcat : catS st ≤ 40 := by exact Nat.le_of_ble_eq_true rfl) : Wx K pc L (.ref id :: st) n f u := by
  intro H locs ls hH hS hl
  have hts := hK.2.2.2.2.1
  have hR := hK.2.2.2.2.2.2.1
  refine W.objInit hK.1 hK.2.1 hK.2.2.2.1 (hts _ hq.1) (hts _ hq.2.1) (hts _ hq.2.2) rfl (by show ls.size = _; rw [hK.2.2.1, hl.1, hL]) rfl hd (by omega) ?_ (kk H locs ls hH hS hl)
  show 2 * 0 + _ + 12 ≤ _
  rw [cat_map]
  omega
end RC
