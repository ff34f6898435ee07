set_option maxRecDepth 100000
/-! ===== contracts that return or throw the fault (id 301); a body with a handler ===== -/
abbrev Xt_ : Type := Nat → Hp → Prop
def XcP (G : GT) (Rel : Nat → Hp → Hp → Prop) (X : Xt_) : Addr → String → State → State → Prop := fun q E st t => E = RX1 ∧ q = ad G 301 ∧ ∃ (n : Nat) (f : Hp), X n f ∧ HP G Rel n f t.heap ∧ va_F (fun q => g_b G ≤ q) st t
/-- method y, called with As on the heap f of n ids: returns with P, or throws the fault with X -/
def Cx (G : GT) (Rel : Nat → Hp → Hp → Prop) (y : MethodName) (cc : ByteArray) (nL : Nat) (rt : Option FieldType) (d U : Nat) (As : List Value) (n : Nat) (f : Hp) (P : Pt_) (X : Xt_) : Prop :=
  ∀ l : Launch, vy_Met l y (ws_ y cc nL rt) (rmd d U) (PcP G Rel As n f) (QcP G Rel P) (XcP G Rel X) U (12 * U) (fun q => g_b G ≤ q)
/-- the fault leaves the method -/
def Rx (K : KT) (U : Nat) (X : Xt_) : Prop := ∀ (H : Heap) (locs : List Loc) (a pc n : Nat) (f : Hp) (ls : Array Slot) (rest : List Value), a ≤ U → HP (kG K) (kRel K) n f H → va_S (fun q => g_b (kG K) ≤ q) (ks K).heap H locs → X n f → (∃ fs, f 301 = some (.inl (1, fs))) →
  vy_W (kp K) (kl K) (ke K) (kR K) (ks K) (km K) (ka K) (kb K) (kme K) (kc K) H locs a (12 * a) (kQ K) (F0 (km K) pc ls rest) (ad (kG K) 301)
theorem fault_cell {K : KT} {own : String} {cc : ByteArray} {nL d U n : Nat} {f : Hp} {H : Heap} {fs : List Value} (hK : Gd K own cc nL d U) (hH : HP (kG K) (kRel K) n f H) (hf : f 301 = some (.inl (1, fs))) : ∃ ce : Cell, H[ad (kG K) 301]? = some ce ∧ ce.vm = .none ∧ (ks K).vm.findClass RX1 = some ce.cls := by
  obtain ⟨r, g1, cell, g2, g3, g4, -⟩ := hH.at hK.2.2.2.2.2.2.2.2.1 hf rfl
  have hC := (hK.2.2.2.2.2.1.1.1 1 r g1).2.1
  cases g1
  exact ⟨cell, g2, g4, by rw [g3]; exact hC⟩
theorem cx_intro {G : GT} {Rel : Nat → Hp → Hp → Prop} {y : MethodName} {cc : ByteArray} {nL : Nat} {rt : Option FieldType} {d U : Nat} {As : List Value} {n : Nat} {f : Hp} {P : Pt_} {X : Xt_} (L0 : List (Option Value)) (hR : RelOK Rel) (hL : ent As ++ List.replicate (nL - (ent As).length) none = L0) (hlen : (ent As).length ≤ nL)
    (body : ∀ K : KT, kG K = G → kRel K = Rel → Gd K y.cls cc nL d U → Rt K rt U P → Rx K U X → (kme K).name = y.name → Wx K 0 L0 [] n f 0) (hy : plainName y.cls = true := by decide) : Cx G Rel y cc nL rt d U As n f P X := by
  intro l
  refine vy_ofW (cc := cc) (maxL := nL) (ret := rt) hy rfl ?_
  intro p e s m args below meth c s₁ B hml hnt hv
  obtain ⟨rfl, hH, hGS⟩ := hv
  have hts := atoms_spec (ws := ws_ y cc nL rt) B.pre
  have hts : ∀ w ∈ lw_all, w.before _ s = true := fun w h => hts w (List.mem_cons_of_mem _ h)
  obtain ⟨K, hKd⟩ : ∃ K : KT, K = (p, l, e, (headSpec (ws_ y cc nL rt) (rmd d U)).room, s, m, (As.map (cv G)).toArray, below, meth, c, vy_MQ below (QcP G Rel P) (XcP G Rel X) (As.map (cv G)).toArray s U (12 * U) (fun q => g_b G ≤ q), G, Rel) := ⟨_, rfl⟩
  have hGd : Gd K y.cls cc nL d U := by rw [hKd]; exact ⟨B.exec, B.bytes, hml, findClass_of_methodNamed B.named, hts, hGS, ⟨Nat.le_refl _, Nat.le_refl _, Nat.le_refl _, Nat.le_refl _⟩, B.notSynchronized, hR, by have := hH.1; show g_b G ≤ s.heap.size; omega⟩
  have hRx : Rx K U X := by
    intro H locs a pc n' f' ls rest ha hH' hS hX hf
    obtain ⟨fs, hf⟩ := hf
    obtain ⟨ce, c1, c2, c3⟩ := fault_cell hGd hH' hf
    subst hKd
    refine vy_widen ha (Nat.mul_le_mul_left 12 ha) (vy_out (E := RX1) (fun x hx => (hnt x hx).elim) B.notSynchronized c1 c2 c3 (fun t ht hW => ⟨rfl, rfl, n', f', hX, by rw [ht]; exact hH', hS.F ht⟩) hS.2.2 (Nat.le_refl _) (Nat.le_refl _))
  have hb := body K (by rw [hKd]) (by rw [hKd]) hGd (by rw [hKd]; exact ⟨B.returns, fun H locs a b g h => vy_ret h⟩) hRx (by rw [hKd]; exact (name_of_methodNamed B.named B.method).1)
  subst hKd
  have hl := lv_entry (As.map (cv G)) (n := nL) (by rw [ent_len]; exact hlen)
  rw [lg_entry_eq]
  generalize (lg_sl (As.map (cv G)) ++ List.replicate (nL - (lg_sl (As.map (cv G))).length) Slot.unset).toArray = ls at hl ⊢
  refine hb s.heap [] ls hH va_S.rf ⟨?_, hl.2.1, fun i v hi => ?_⟩
  · rw [hl.1, ← hL]; simp; omega
  · rw [← hL] at hi
    have hi' : (ent As)[i]? = some (some v) := by
      rcases Nat.lt_or_ge i (ent As).length with q | q
      · rw [List.getElem?_append_left q] at hi; exact hi
      · rw [List.getElem?_append_right q, List.getElem?_replicate] at hi
        split at hi <;> cases hi
    have := ent_at G As 0 i v hi'
    rw [Nat.zero_add] at this
    exact hl.2.2 _ this
theorem Cx.mono {G : GT} {Rel : Nat → Hp → Hp → Prop} {y : MethodName} {cc : ByteArray} {nL : Nat} {rt : Option FieldType} {d U : Nat} {As : List Value} {n : Nat} {f : Hp} {P P' : Pt_} {X X' : Xt_} (h : Cx G Rel y cc nL rt d U As n f P X) (hp : ∀ r n f, P r n f → P' r n f) (hx : ∀ n f, X n f → X' n f) : Cx G Rel y cc nL rt d U As n f P' X' := by
  intro l p e ha hc hk s m args below hf happ hpre hK
  obtain ⟨t, o, h1, h2, h3, h4⟩ := h l p e ha hc hk s m args below hf happ hpre hK
  refine ⟨t, o, h1, h2, h3, ?_⟩
  rcases h4 with ⟨⟨r, n', f', e1, e2, e3⟩, h4⟩ | ⟨q, e1, E, ce, L, ⟨x1, x2, n', f', x3, x4⟩, h5⟩
  · exact Or.inl ⟨⟨r, n', f', e1, hp _ _ _ e2, e3⟩, h4⟩
  · exact Or.inr ⟨q, e1, E, ce, L, ⟨x1, x2, n', f', hx _ _ x3, x4⟩, h5⟩
section RX_
variable {K : KT} {own : String} {cc : ByteArray} {nL d U pc : Nat} {L : List (Option Value)} {st rest : List Value} {n : Nat} {f : Hp} {u : Nat} {P : Pt_} {X X0 : Xt_}
variable {y : MethodName} {cc' : ByteArray} {nL' : Nat} {rt' : Option FieldType} {d' U' np idx id : Nat} {As : List Value}
/-- the fault is thrown -/
theorem r_throw (hK : Gd K own cc nL d U) (hR : Rx K U X) (hd : decode cc pc = .ok (.athrow, 1)) (hx : X n f) (hf : ∃ fs, f 301 = some (.inl (1, fs))) (hu : u ≤ U := by omega) : Wx K pc L (.ref 301 :: st) n f u := fun H locs ls hH hS hl =>
  vy_athrow hK.1 hK.2.1 hd (hR H locs u pc n f ls _ hu hH hS hx hf)
theorem g_xV (hK : Gd K own cc nL d U) (hC : Cx (kG K) (kRel K) y cc' nL' rt' d' U' (.ref id :: As) n f P X) (hl : LkV own idx y cc' nL' rt' np) (hrc : Rcv (kRel K) y.cls n f id) (hd : decode cc pc = .ok (.invokevirtual idx, 3))
    (kx : ∀ (H : Heap) (locs : List Loc) (ls : Array Slot) (n' : Nat) (f' : Hp), HP (kG K) (kRel K) n' f' H → va_S (fun q => g_b (kG K) ≤ q) (ks K).heap H locs → lh (kG K) ls L → X n' f' → vy_W (kp K) (kl K) (ke K) (kR K) (ks K) (km K) (ka K) (kb K) (kme K) (kc K) H locs (u + U') (12 * (u + U')) (kQ K) (F0 (km K) pc ls (rest.map (cv (kG K)))) (ad (kG K) 301))
    (kk : ∀ r n' f', P r n' f' → Wx K (pc + 3) L (r.toList ++ rest) n' f' (u + U')) (hst : st = As.reverse ++ .ref id :: rest) (hn : As.length = np) (hL : L.length = nL) (hdp : d' + 1 ≤ d) (hnl : nL' ≤ 45) (hu : u + U' ≤ U) (hcat : catS rest ≤ 8) : Wx K pc L st n f u := by
  intro H locs ls hH hS hls T hT Xs
  obtain ⟨hy, h1, h2, h3, h4, h5⟩ := hl
  have hro := c_room (R := kR K) hK.2.2.2.2.2.2.1 hdp hnl hu
  have hts := hK.2.2.2.2.1
  have hrun : vy_Run (kp K) (kl K) (ke K) (kR K) (ks K) (km K) (ka K) (kb K) (kme K) (kc K) H locs u (12 * u) U' (12 * U') (F0 (km K) pc ls (st.map (cv (kG K)))) (rest.map (cv (kG K))) (QcP (kG K) (kRel K) P ((Value.ref id :: As).map (cv (kG K))).toArray) (XcP (kG K) (kRel K) X) (fun q => g_b (kG K) ≤ q) := vy_runV (As := As.map (cv (kG K))) (n := np) (C := y.cls) ⟨hK.1, hK.2.1, hK.2.2.1, hK.2.2.2.1, hts⟩ (hC (kl K)) (cwV np hts (lw_V h1 h2 h3 h4 h5) rfl rfl rfl ⟨rfl, hy⟩ hro.1) ⟨pc_blind _ _ _ _ _, hrc.cell hK hH, pc_at hK hH⟩ rfl (by simpa using hn) (by show ls.size = nL; rw [hls.1, hL]) (by show st.map _ = _; rw [hst]; simp [cv]) (lv_room (by rw [cat_map]; exact hcat)) hd hro.2
  rcases hrun T hT Xs with ⟨v, st₀, t, T', Lx, h0, X', hLx, e1, e2, ⟨r, n', f', hv, hP, hH', hz, hk⟩, stp⟩ | ⟨q, st₀, t, T', Lx, E, ce, h0, X', hLx, e1, e2, ⟨hE, hq, n', f', hX, hH', hz, hk⟩, hce, hcv, hcl, stp⟩
  · cases hv
    rw [h0] at hz hk
    have hX : Stand (kp K) (kl K) (ke K) (kR K) (ks K) (km K) (ka K) (kb K) (kme K) (kc K) T' (locs ++ Lx) (u + U') (12 * (u + U')) := by rw [Nat.mul_add]; exact X'
    obtain ⟨t2, a1, b1⟩ := kk r n' f' hP T'.heap (locs ++ Lx) ls (by rw [e1]; exact hH') ⟨Nat.le_trans hS.1 (by rw [e1]; exact hz), fun q h1 h2 => by rw [e1, hk q (Nat.lt_of_lt_of_le h1 hS.1) h2]; exact hS.2.1 q h1 h2, fun q hq => by
        rcases List.mem_append.mp hq with h | h
        · exact hS.2.2 q h
        · exact hLx q h⟩ hls T' rfl hX
    refine ⟨t2, stp t2 ?_, b1⟩
    cases r with
    | none => exact a1
    | some v => exact a1
  · subst hq
    rw [h0] at hz hk
    have hXs : Stand (kp K) (kl K) (ke K) (kR K) (ks K) (km K) (ka K) (kb K) (kme K) (kc K) T' (locs ++ Lx) (u + U') (12 * (u + U')) := by rw [Nat.mul_add]; exact X'
    obtain ⟨t2, a1, b1⟩ := kx T'.heap (locs ++ Lx) ls n' f' (by rw [e1]; exact hH') ⟨Nat.le_trans hS.1 (by rw [e1]; exact hz), fun q h1 h2 => by rw [e1, hk q (Nat.lt_of_lt_of_le h1 hS.1) h2]; exact hS.2.1 q h1 h2, fun q hq => by
        rcases List.mem_append.mp hq with h | h
        · exact hS.2.2 q h
        · exact hLx q h⟩ hls hX T' rfl hXs
    exact ⟨t2, stp.trans a1, b1⟩
/-- the fault goes on to the caller -/
theorem r_xV0 (hK : Gd K own cc nL d U) (hR : Rx K U X0) (hC : Cx (kG K) (kRel K) y cc' nL' rt' d' U' [.ref id] n f P X) (hl : LkV own idx y cc' nL' rt' 0) (hrc : Rcv (kRel K) y.cls n f id) (hd : decode cc pc = .ok (.invokevirtual idx, 3)) (kx : ∀ n' f', X n' f' → X0 n' f' ∧ ∃ fs, f' 301 = some (.inl (1, fs))) (kk : ∀ r n' f', P r n' f' → Wx K (pc + 3) L (r.toList ++ rest) n' f' (u + U')) (hL : L.length = nL := by rfl) (hdp : d' + 1 ≤ d := by decide) (hnl : nL' ≤ 45 := by decide) (hu : u + U' ≤ U := by omega) (hcat : catS rest ≤ 8 := by exact Nat.le_of_ble_eq_true rfl) : Wx K pc L (.ref id :: rest) n f u :=
  g_xV hK hC hl hrc hd (fun H locs ls n' f' h1 h2 h3 h4 => hR H locs _ pc n' f' ls _ hu h1 h2 (kx n' f' h4).1 (kx n' f' h4).2) kk rfl rfl hL hdp hnl hu hcat
theorem r_xV1 {x0 : Value} (hK : Gd K own cc nL d U) (hR : Rx K U X0) (hC : Cx (kG K) (kRel K) y cc' nL' rt' d' U' [.ref id, x0] n f P X) (hl : LkV own idx y cc' nL' rt' 1) (hrc : Rcv (kRel K) y.cls n f id) (hd : decode cc pc = .ok (.invokevirtual idx, 3)) (kx : ∀ n' f', X n' f' → X0 n' f' ∧ ∃ fs, f' 301 = some (.inl (1, fs))) (kk : ∀ r n' f', P r n' f' → Wx K (pc + 3) L (r.toList ++ rest) n' f' (u + U')) (hL : L.length = nL := by rfl) (hdp : d' + 1 ≤ d := by decide) (hnl : nL' ≤ 45 := by decide) (hu : u + U' ≤ U := by omega) (hcat : catS rest ≤ 8 := by exact Nat.le_of_ble_eq_true rfl) : Wx K pc L (x0 :: .ref id :: rest) n f u :=
  g_xV hK hC hl hrc hd (fun H locs ls n' f' h1 h2 h3 h4 => hR H locs _ pc n' f' ls _ hu h1 h2 (kx n' f' h4).1 (kx n' f' h4).2) kk rfl rfl hL hdp hnl hu hcat
/-- the fault is caught by the method's one handler -/
theorem r_xCatch {h0 a b ct : Nat} (hK : Gd K own cc nL d U) (hX : GX (kG K)) (hT : (kc K).exceptionTable.toList = tableOf [(a, b, h0, ct)]) (hC : Cx (kG K) (kRel K) y cc' nL' rt' d' U' [.ref id] n f P X) (hl : LkV own idx y cc' nL' rt' 0) (hrc : Rcv (kRel K) y.cls n f id) (hd : decode cc pc = .ok (.invokevirtual idx, 3)) (hcl : Cond.classLink own ct RX1 ∈ lw_all) (hcv : (tableOf [(a, b, h0, ct)]).all (fun x => covers x pc && x.handlerPc == h0 && x.catchType == ct) = true) (hct : ct ≠ 0)
    (kx : ∀ n' f', X n' f' → (∃ fs, f' 301 = some (.inl (1, fs))) ∧ Wx K h0 L [.ref 301] n' f' (u + U')) (kk : ∀ r n' f', P r n' f' → Wx K (pc + 3) L (r.toList ++ rest) n' f' (u + U')) (hL : L.length = nL := by rfl) (hdp : d' + 1 ≤ d := by decide) (hnl : nL' ≤ 45 := by decide) (hu : u + U' ≤ U := by omega) (hcat : catS rest ≤ 8 := by exact Nat.le_of_ble_eq_true rfl) : Wx K pc L (.ref id :: rest) n f u := by
  refine g_xV hK hC hl hrc hd (fun H locs ls n' f' h1 h2 h3 h4 => ?_) kk rfl rfl hL hdp hnl hu hcat
  obtain ⟨⟨fs, k1⟩, k2⟩ := kx n' f' h4
  obtain ⟨ce, c1, c2, c3⟩ := fault_cell hK h1 k1
  obtain ⟨x, hx⟩ : ∃ x, tableOf [(a, b, h0, ct)] = [x] := ⟨_, rfl⟩
  rw [hx] at hcv hT
  have hcv' : (covers x pc && x.handlerPc == h0 && x.catchType == ct) = true := by rw [List.all_cons, List.all_nil, Bool.and_true] at hcv; exact hcv
  have hcv2 := Bool.and_eq_true_iff.mp hcv'
  have hcv3 := Bool.and_eq_true_iff.mp hcv2.1
  have e1 : covers x pc = true := hcv3.1
  have e2 : x.handlerPc = h0 := eq_of_beq hcv3.2
  have e3 : x.catchType = ct := eq_of_beq hcv2.2
  refine vy_catch (own := own) (name := RX1) (E := RX1) hK.2.2.2.1 [] x [] hT (fun z hz => by cases hz) e1 (by rw [e3]; exact hct) (by rw [e3]; exact hK.2.2.2.2.1 _ hcl) (((hK.px hX).2.1 _ _ q190).use rfl) c1 c2 c3 ?_
  rw [e2]
  exact k2 H locs ls h1 h2 h3
end RX_
/-- a method with a handler -/
def CtW (G : GT) (Rel : Nat → Hp → Hp → Prop) (y : MethodName) (cc : ByteArray) (nL : Nat) (rt : Option FieldType) (hh : List (Nat × Nat × Nat × Nat)) (d U : Nat) (As : List Value) (n : Nat) (f : Hp) (P : Pt_) : Prop :=
  ∀ l : Launch, Met l y (wsW_ y cc nL rt hh) (rmd d U) (PcP G Rel As n f) (QcP G Rel P) U (12 * U) (fun q => g_b G ≤ q)
theorem ctw_intro {G : GT} {Rel : Nat → Hp → Hp → Prop} {y : MethodName} {cc : ByteArray} {nL : Nat} {rt : Option FieldType} {hh : List (Nat × Nat × Nat × Nat)} {d U : Nat} {As : List Value} {n : Nat} {f : Hp} {P : Pt_} (L0 : List (Option Value)) (hR : RelOK Rel) (hL : ent As ++ List.replicate (nL - (ent As).length) none = L0) (hlen : (ent As).length ≤ nL)
    (body : ∀ K : KT, kG K = G → kRel K = Rel → Gd K y.cls cc nL d U → Rt K rt U P → (kc K).exceptionTable.toList = tableOf hh → Wx K 0 L0 [] n f 0) (hy : plainName y.cls = true := by decide) : CtW G Rel y cc nL rt hh d U As n f P := by
  intro l
  refine vy_ofWH (cc := cc) (maxL := nL) (ret := rt) (hh := hh) hy rfl ?_
  intro p e s m args below meth c s₁ B hml hv
  obtain ⟨rfl, hH, hGS⟩ := hv
  have hts0 := atoms_spec (ws := wsW_ y cc nL rt hh) B.pre
  have hts : ∀ w ∈ lw_all, w.before _ s = true := fun w h => hts0 w (List.mem_cons_of_mem _ h)
  have htab := vy_table (x := y) B (hts0 _ List.mem_cons_self)
  have hb := body (p, l, e, (headSpec (wsW_ y cc nL rt hh) (rmd d U)).room, s, m, (As.map (cv G)).toArray, below, meth, c, MQ below (QcP G Rel P) (As.map (cv G)).toArray s U (12 * U) (fun q => g_b G ≤ q), G, Rel) rfl rfl
    ⟨B.exec, B.bytes, hml, findClass_of_methodNamed B.named, hts, hGS, ⟨Nat.le_refl _, Nat.le_refl _, Nat.le_refl _, Nat.le_refl _⟩, B.notSynchronized, hR, by have := hH.1; show g_b G ≤ s.heap.size; omega⟩
    ⟨B.returns, fun H locs a b g h => h⟩ htab
  have hl := lv_entry (As.map (cv G)) (n := nL) (by rw [ent_len]; exact hlen)
  rw [lg_entry_eq]
  generalize (lg_sl (As.map (cv G)) ++ List.replicate (nL - (lg_sl (As.map (cv G))).length) Slot.unset).toArray = ls at hl ⊢
  refine hb s.heap [] ls hH va_S.rf ⟨?_, hl.2.1, fun i v hi => ?_⟩
  · rw [hl.1, ← hL]; simp; omega
  · rw [← hL] at hi
    have hi' : (ent As)[i]? = some (some v) := by
      rcases Nat.lt_or_ge i (ent As).length with q | q
      · rw [List.getElem?_append_left q] at hi; exact hi
      · rw [List.getElem?_append_right q, List.getElem?_replicate] at hi
        split at hi <;> cases hi
    have := ent_at G As 0 i v hi'
    rw [Nat.zero_add] at this
    exact hl.2.2 _ this
/-- a call of a method with a handler -/
theorem r_callVW0 {K : KT} {own : String} {cc : ByteArray} {nL d U pc : Nat} {L : List (Option Value)} {rest : List Value} {n : Nat} {f : Hp} {u : Nat} {P : Pt_} {y : MethodName} {cc' : ByteArray} {nL' : Nat} {rt' : Option FieldType} {hh : List (Nat × Nat × Nat × Nat)} {d' U' idx id : Nat} (hK : Gd K own cc nL d U) (hC : CtW (kG K) (kRel K) y cc' nL' rt' hh d' U' [.ref id] n f P) (hy : yOK y 0) (h1 : Cond.methodLink own idx y ∈ lw_all) (h2 : Cond.instanceMethod y ∈ lw_all) (h3 : Cond.selects y.cls y y ∈ lw_all) (h4 : Cond.initialized y.cls ∈ lw_all) (h5 : Cond.codeWith y cc' nL' rt' hh ∈ lw_all) (hrc : Rcv (kRel K) y.cls n f id) (hd : decode cc pc = .ok (.invokevirtual idx, 3)) (kk : ∀ r n' f', P r n' f' → Wx K (pc + 3) L (r.toList ++ rest) n' f' (u + U')) (hL : L.length = nL := by rfl) (hdp : d' + 1 ≤ d := by decide) (hnl : nL' ≤ 45 := by decide) (hu : u + U' ≤ U := by omega) (hcat : catS rest ≤ 8 := by exact Nat.le_of_ble_eq_true rfl) : Wx K pc L (.ref id :: rest) n f u := by
  refine r_run (st0 := .ref id :: rest) (rest := rest) (av := ((Value.ref id :: []).map (cv (kG K))).toArray) (fun H locs ls hH hS hls => ?_) kk
  have hro := c_room (R := kR K) hK.2.2.2.2.2.2.1 hdp hnl hu
  have hts := hK.2.2.2.2.1
  exact vy_runVW (As := []) (n := 0) (C := y.cls) (hh := hh) ⟨hK.1, hK.2.1, hK.2.2.1, hK.2.2.2.1, hts⟩ (hC (kl K)) (vy_cwVW 0 hts (lw_VW h1 h2 h3 h4 h5) rfl rfl rfl ⟨rfl, hy⟩ hro.1) ⟨pc_blind _ _ _ _ _, hrc.cell hK hH, pc_at hK hH⟩ rfl rfl (by show ls.size = nL; rw [hls.1, hL]) rfl (lv_room (by rw [cat_map]; exact hcat)) hd hro.2
