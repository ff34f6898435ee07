set_option maxRecDepth 100000
/-! ===== pictures: cells as they are, lifting, more rows ===== -/
/-- the picture is the cells themselves -/
def RelId : Nat → Hp → Hp → Prop := fun _ f g => f = g
theorem RelId_ok : RelOK RelId := by
  refine ⟨fun n f g id e h hf _ => ?_, fun n f g id e e' h _ _ _ => ?_, fun n f g e h _ _ => ?_, fun n f g h hn => ?_⟩
  · rw [← (show f = g from h)]; exact hf
  · rw [show f = g from h]; rfl
  · rw [show f = g from h]; rfl
  · rw [show f = g from h]; exact hn
/-- a contract over the cells is one over the picture -/
theorem Ct.lift {G : GT} {Rel : Nat → Hp → Hp → Prop} {y : MethodName} {cc : ByteArray} {nL : Nat} {rt : Option FieldType} {d U : Nat} {As : List Value} {n : Nat} {f : Hp} {P : Pt_}
    (h : ∀ g, Rel n f g → (∀ id, n ≤ id → g id = none) → (∀ id, id < 300 → g id = none) → Ct G RelId y cc nL rt d U As n g (fun r n' g' => (∀ id, n' ≤ id → g' id = none) → ∃ f', P r n' f' ∧ Rel n' f' g')) : Ct G Rel y cc nL rt d U As n f P := by
  intro l p e ha hc hk s m args below hf happ hpre hK
  obtain ⟨hA, ⟨h1, h2, g, h3, h4, h5, h6⟩, hGS⟩ := hpre
  obtain ⟨t, o, k1, k2, k3, ⟨⟨r, n', g', e1, e2, ⟨q1, q2, g2, q3, q4, q5, q6⟩, e4⟩, k4⟩⟩ := h g h3 h4 h5 l p e ha hc hk s m args below hf happ ⟨hA, ⟨h1, h2, g, rfl, h4, h5, h6⟩, hGS⟩ hK
  have q3 : g' = g2 := q3
  subst q3
  obtain ⟨f', p1, p2⟩ := e2 q4
  exact ⟨t, o, k1, k2, k3, ⟨⟨r, n', f', e1, p1, ⟨q1, q2, _, p2, q4, q5, q6⟩, e4⟩, k4⟩⟩
theorem up_s (f : Hp) (k : Nat) (e : E_) : up f k e k = some e := by unfold up; rw [if_pos rfl]
theorem up_n {f : Hp} {k j : Nat} {e : E_} (h : j ≠ k) : up f k e j = f j := by unfold up; rw [if_neg h]
theorem up_up (f : Hp) (k : Nat) (e e' : E_) : up (up f k e) k e' = up f k e' := by
  funext j; unfold up; by_cases h : j = k
  · rw [if_pos h, if_pos h]
  · rw [if_neg h, if_neg h, if_neg h]
section RR
variable {K : KT} {own : String} {cc : ByteArray} {nL d U pc : Nat} {L : List (Option Value)} {st rest : List Value} {n : Nat} {f : Hp} {u : Nat} {P : Pt_}
/-- a cast to the very class -/
theorem r_cast {C : String} {idx id : Nat} (hK : Gd K own cc nL d U) (hl : Cond.classLink own idx C ∈ lw_all) (hrc : Rcv (kRel K) C n f id) (hd : decode cc pc = .ok (.checkcast idx, 3)) (kk : Wx K (pc + 3) L (.ref id :: st) n f u) : Wx K pc L (.ref id :: st) n f u := fun H locs ls hH hS hls =>
  va_castE hK.1 hK.2.1 hK.2.2.2.1 (hK.2.2.2.2.1 _ hl) (hrc.cell hK hH) hd (kk H locs ls hH hS hls)
/-- links of calls of inherited and overridden methods -/
def LkU (own : String) (idx : Nat) (x : MethodName) (owner C : String) (y : MethodName) (cc : ByteArray) (nL : Nat) (rt : Option FieldType) (np : Nat) : Prop := (owner ≠ "java/lang/invoke/MethodHandle" ∧ owner ≠ "java/lang/invoke/VarHandle" ∧ (parseMethodDescriptor x.desc).map (fun d => d.parameters.length) = some np) ∧ Cond.methodLink own idx x ∈ lw_all ∧ Cond.sameMethod x.cls owner x.name x.desc ∈ lw_all ∧ Cond.declares ⟨owner, x.name, x.desc⟩ ∈ lw_tbl ∧ Cond.selects C x y ∈ lw_all ∧ Cond.instanceMethod y ∈ lw_all ∧ Cond.initialized y.cls ∈ lw_all ∧ Cond.code y cc nL rt ∈ lw_all
theorem lw_U {own : String} {idx : Nat} {C owner : String} {x y : MethodName} {b : ByteArray} {L : Nat} {r : Option FieldType} (h1 : Cond.methodLink own idx x ∈ lw_all) (h2 : Cond.sameMethod x.cls owner x.name x.desc ∈ lw_all) (h3 : Cond.selects C x y ∈ lw_all) (h4 : Cond.instanceMethod y ∈ lw_all) (h5 : Cond.initialized y.cls ∈ lw_all) (h6 : Cond.code y b L r ∈ lw_all) : GoodIn lw_all (va_wsU own idx C owner x y (ws_ y b L r)) := by
  refine lw_app ?_ (lw_meth h6)
  intro w hw
  simp only [List.mem_cons, List.not_mem_nil, or_false] at hw
  rcases hw with e | e | e | e | e
  · rw [e]; exact h1
  · rw [e]; exact h2
  · rw [e]; exact h3
  · rw [e]; exact h4
  · rw [e]; exact h5
variable {x y : MethodName} {cc' : ByteArray} {nL' : Nat} {rt' : Option FieldType} {d' U' np idx id : Nat} {As : List Value} {owner C : String}
theorem g_callU (hK : Gd K own cc nL d U) (hC : Ct (kG K) (kRel K) y cc' nL' rt' d' U' (.ref id :: As) n f P) (hl : LkU own idx x owner C y cc' nL' rt' np) (hrc : Rcv (kRel K) C n f id) (hd : decode cc pc = .ok (.invokevirtual idx, 3)) (kk : ∀ r n' f', P r n' f' → Wx K (pc + 3) L (r.toList ++ rest) n' f' (u + U')) (hst : st = As.reverse ++ .ref id :: rest) (hn : As.length = np) (hL : L.length = nL) (hdp : d' + 1 ≤ d) (hnl : nL' ≤ 45) (hu : u + U' ≤ U) (hcat : catS rest ≤ 8) : Wx K pc L st n f u := by
  refine r_run (av := ((Value.ref id :: As).map (cv (kG K))).toArray) (fun H locs ls hH hS hls => ?_) kk
  obtain ⟨hy, h1, h2, h3, h4, h5, h6, h7⟩ := hl
  have hro := c_room (R := kR K) hK.2.2.2.2.2.2.1 hdp hnl hu
  have hts := hK.2.2.2.2.1
  exact va_runU (As := As.map (cv (kG K))) (n := np) (C := C) ⟨hK.1, hK.2.1, hK.2.2.1, hK.2.2.2.1, hts⟩ (hC (kl K)) (va_cwA np hts (lw_U h1 h2 h4 h5 h6 h7) rfl rfl rfl (hK.2.2.2.2.2.1.2.2.1.2.1 _ h3) hy hro.1) ⟨pc_blind _ _ _ _ _, hrc.cell hK hH, pc_at hK hH⟩ rfl (by simpa using hn) (by show ls.size = nL; rw [hls.1, hL]) (by show st.map _ = _; rw [hst]; simp [cv]) (lv_room (by rw [cat_map]; exact hcat)) hd hro.2
theorem r_callU0 (hK : Gd K own cc nL d U) (hC : Ct (kG K) (kRel K) y cc' nL' rt' d' U' [.ref id] n f P) (hl : LkU own idx x owner C y cc' nL' rt' 0) (hrc : Rcv (kRel K) C n f id) (hd : decode cc pc = .ok (.invokevirtual idx, 3)) (kk : ∀ r n' f', P r n' f' → Wx K (pc + 3) L (r.toList ++ rest) n' f' (u + U')) (hL : L.length = nL := by rfl) (hdp : d' + 1 ≤ d := by decide) (hnl : nL' ≤ 45 := by decide) (hu : u + U' ≤ U := by decide) (hcat : catS rest ≤ 8 := by exact Nat.le_of_ble_eq_true rfl) : Wx K pc L (.ref id :: rest) n f u := g_callU hK hC hl hrc hd kk rfl rfl hL hdp hnl hu hcat
theorem r_callU1 {x0 : Value} (hK : Gd K own cc nL d U) (hC : Ct (kG K) (kRel K) y cc' nL' rt' d' U' [.ref id, x0] n f P) (hl : LkU own idx x owner C y cc' nL' rt' 1) (hrc : Rcv (kRel K) C n f id) (hd : decode cc pc = .ok (.invokevirtual idx, 3)) (kk : ∀ r n' f', P r n' f' → Wx K (pc + 3) L (r.toList ++ rest) n' f' (u + U')) (hL : L.length = nL := by rfl) (hdp : d' + 1 ≤ d := by decide) (hnl : nL' ≤ 45 := by decide) (hu : u + U' ≤ U := by decide) (hcat : catS rest ≤ 8 := by exact Nat.le_of_ble_eq_true rfl) : Wx K pc L (x0 :: .ref id :: rest) n f u := g_callU hK hC hl hrc hd kk rfl rfl hL hdp hnl hu hcat
/-- calls through an interface: five bytes -/
theorem r_run5 {st0 : List Value} {U' : Nat} {av : Array Value} (hrun : ∀ (H : Heap) (locs : List Loc) (ls : Array Slot), HP (kG K) (kRel K) n f H → va_S (fun q => g_b (kG K) ≤ q) (ks K).heap H locs → lh (kG K) ls L → va_Run5 (kp K) (kl K) (ke K) (kR K) (ks K) (km K) (ka K) (kb K) (kme K) (kc K) H locs u (12 * u) U' (12 * U') (F0 (km K) pc ls (st0.map (cv (kG K)))) (rest.map (cv (kG K))) (QcP (kG K) (kRel K) P av) (fun q => g_b (kG K) ≤ q))
    (kk : ∀ r n' f', P r n' f' → Wx K (pc + 5) L (r.toList ++ rest) n' f' (u + U')) : Wx K pc L st0 n f u := by
  intro H locs ls hH hS hl T hT X
  obtain ⟨v, st₀, t, T', Lx, h0, X', hL, e1, e2, ⟨r, n', f', hv, hP, hH', hz, hk⟩, stp⟩ := hrun H locs ls hH hS hl T hT X
  cases hv
  rw [h0] at hz hk
  have hX : Stand (kp K) (kl K) (ke K) (kR K) (ks K) (km K) (ka K) (kb K) (kme K) (kc K) T' (locs ++ Lx) (u + U') (12 * (u + U')) := by rw [Nat.mul_add]; exact X'
  obtain ⟨t2, a1, b1⟩ := kk r n' f' hP T'.heap (locs ++ Lx) ls (by rw [e1]; exact hH') ⟨Nat.le_trans hS.1 (by rw [e1]; exact hz), fun q h1 h2 => by rw [e1, hk q (Nat.lt_of_lt_of_le h1 hS.1) h2]; exact hS.2.1 q h1 h2, fun q hq => by
      rcases List.mem_append.mp hq with h | h
      · exact hS.2.2 q h
      · exact hL q h⟩ hl T' rfl hX
  refine ⟨t2, stp t2 ?_, b1⟩
  cases r with
  | none => exact a1
  | some v => exact a1
def LkF (own : String) (idx : Nat) (x : MethodName) (C : String) (y : MethodName) (cc : ByteArray) (nL : Nat) (rt : Option FieldType) (np : Nat) : Prop := (x.cls ≠ "java/lang/invoke/MethodHandle" ∧ x.cls ≠ "java/lang/invoke/VarHandle" ∧ (parseMethodDescriptor x.desc).map (fun d => d.parameters.length) = some np) ∧ Cond.methodLink own idx x ∈ lw_all ∧ Cond.selects C x y ∈ lw_all ∧ Cond.instanceMethod y ∈ lw_all ∧ Cond.initialized y.cls ∈ lw_all ∧ Cond.code y cc nL rt ∈ lw_all
theorem lw_F {own : String} {idx : Nat} {C : String} {x y : MethodName} {b : ByteArray} {L : Nat} {r : Option FieldType} (h1 : Cond.methodLink own idx x ∈ lw_all) (h3 : Cond.selects C x y ∈ lw_all) (h4 : Cond.instanceMethod y ∈ lw_all) (h5 : Cond.initialized y.cls ∈ lw_all) (h6 : Cond.code y b L r ∈ lw_all) : GoodIn lw_all (va_wsF own idx C x y (ws_ y b L r)) := by
  refine lw_app ?_ (lw_meth h6)
  intro w hw
  simp only [List.mem_cons, List.not_mem_nil, or_false] at hw
  rcases hw with e | e | e | e
  · rw [e]; exact h1
  · rw [e]; exact h3
  · rw [e]; exact h4
  · rw [e]; exact h5
theorem g_callF {count ci : Nat} {r0 : vw_C} (hK : Gd K own cc nL d U) (hC : Ct (kG K) (kRel K) y cc' nL' rt' d' U' (.ref id :: As) n f P) (hl : LkF own idx x C y cc' nL' rt' np) (hFw : va_Fw C x y (ks K)) (hci : cls[ci]? = some r0 ∧ r0.1 = C) (hrc : Rcv (kRel K) C n f id) (hd : decode cc pc = .ok (.invokeinterface idx count, 5)) (kk : ∀ r n' f', P r n' f' → Wx K (pc + 5) L (r.toList ++ rest) n' f' (u + U')) (hst : st = As.reverse ++ .ref id :: rest) (hn : As.length = np) (hL : L.length = nL) (hdp : d' + 1 ≤ d) (hnl : nL' ≤ 45) (hu : u + U' ≤ U) (hcat : catS rest ≤ 8) : Wx K pc L st n f u := by
  refine r_run5 (av := ((Value.ref id :: As).map (cv (kG K))).toArray) (fun H locs ls hH hS hls => ?_) kk
  obtain ⟨hy, h1, h3, h4, h5, h6⟩ := hl
  have hro := c_room (R := kR K) hK.2.2.2.2.2.2.1 hdp hnl hu
  have hts := hK.2.2.2.2.1
  have hat : ∃ cC, ClassAt (ks K) C cC := by
    obtain ⟨e1, e2⟩ := hci
    have := hK.2.2.2.2.2.1.1.1 ci r0 e1
    rw [e2] at this
    exact ⟨_, this.2⟩
  obtain ⟨cC, hat⟩ := hat
  exact va_runF (As := As.map (cv (kG K))) (n := np) (C := C) hat ⟨hK.1, hK.2.1, hK.2.2.1, hK.2.2.2.1, hts⟩ (hC (kl K)) (va_cwF np hts (lw_F h1 h3 h4 h5 h6) rfl rfl rfl hFw hy hro.1) ⟨pc_blind _ _ _ _ _, hrc.cell hK hH, pc_at hK hH⟩ rfl (by simpa using hn) (by show ls.size = nL; rw [hls.1, hL]) (by show st.map _ = _; rw [hst]; simp [cv]) (lv_room (by rw [cat_map]; exact hcat)) hd hro.2
theorem r_callF0 {count ci : Nat} {r0 : vw_C} (hK : Gd K own cc nL d U) (hC : Ct (kG K) (kRel K) y cc' nL' rt' d' U' [.ref id] n f P) (hl : LkF own idx x C y cc' nL' rt' 0) (hFw : va_Fw C x y (ks K)) (hci : cls[ci]? = some r0 ∧ r0.1 = C) (hrc : Rcv (kRel K) C n f id) (hd : decode cc pc = .ok (.invokeinterface idx count, 5)) (kk : ∀ r n' f', P r n' f' → Wx K (pc + 5) L (r.toList ++ rest) n' f' (u + U')) (hL : L.length = nL := by rfl) (hdp : d' + 1 ≤ d := by decide) (hnl : nL' ≤ 45 := by decide) (hu : u + U' ≤ U := by decide) (hcat : catS rest ≤ 8 := by exact Nat.le_of_ble_eq_true rfl) : Wx K pc L (.ref id :: rest) n f u := g_callF hK hC hl hFw hci hrc hd kk rfl rfl hL hdp hnl hu hcat
theorem r_callF1 {count ci : Nat} {r0 : vw_C} {x0 : Value} (hK : Gd K own cc nL d U) (hC : Ct (kG K) (kRel K) y cc' nL' rt' d' U' [.ref id, x0] n f P) (hl : LkF own idx x C y cc' nL' rt' 1) (hFw : va_Fw C x y (ks K)) (hci : cls[ci]? = some r0 ∧ r0.1 = C) (hrc : Rcv (kRel K) C n f id) (hd : decode cc pc = .ok (.invokeinterface idx count, 5)) (kk : ∀ r n' f', P r n' f' → Wx K (pc + 5) L (r.toList ++ rest) n' f' (u + U')) (hL : L.length = nL := by rfl) (hdp : d' + 1 ≤ d := by decide) (hnl : nL' ≤ 45 := by decide) (hu : u + U' ≤ U := by decide) (hcat : catS rest ≤ 8 := by exact Nat.le_of_ble_eq_true rfl) : Wx K pc L (x0 :: .ref id :: rest) n f u := g_callF hK hC hl hFw hci hrc hd kk rfl rfl hL hdp hnl hu hcat
end RR
