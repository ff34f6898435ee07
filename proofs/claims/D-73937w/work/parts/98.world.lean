set_option maxRecDepth 100000
/-! ===== the component's world ===== -/
def x0C (pl : Int) (w : Nat) : E_ := .inl (0, [.ref 301, .ref 302, .ref 310, .ref 318, .ref 320, .ref 322, .ref 324, .ref 329, .ref 347, .ref 350, .ref 352, .ref 353, .ref 354, .ref 355, .ref 356, zI pl, zI (w : Int), .ref 357])
def Wc (f : Hp) (gs : List Gt) : Prop := ∃ l, CC f 318 319 l gs
def Wt (f : Hp) : Prop := ∃ l g2, CC f 320 321 l g2
def Wf (f : Hp) : Prop := ∃ R W s l1 l2, FI f 324 325 326 327 328 R W s l1 l2
def Wsh (f : Hp) : Prop := (∃ w0 R0, w0 ≤ 3 ∧ SHX f w0 R0 ∧ (R0 = 0 ∨ (R0 = rN w0 ∧ SHL f w0))) ∧ ∃ h1 h2 : Nat → Value, f 343 = some (.inr (0, 8, h1)) ∧ f 344 = some (.inr (0, 8, h2))
def Wte (f : Hp) : Prop := ∃ R all M S ch, CX f 347 348 349 R all M S ch ∧ ∀ x, S x < 65536
def Wa (f : Hp) : Prop := (∃ h : Nat → Value, f 354 = some (.inr (0, 64, h))) ∧ (∃ h : Nat → Value, f 355 = some (.inr (0, 16, h))) ∧ (∃ h : Nat → Value, f 356 = some (.inr (0, 16, h))) ∧ ∃ h : Nat → Value, f 357 = some (.inr (0, 4, h))
/-- a cascade that is kept -/
def cK (f : Hp) (c : Nat) (gs : List Gt) : Prop := 392 ≤ c ∧ ∃ ll l, 392 ≤ ll ∧ CC f c ll l gs
def Wp (f : Hp) (pa : List (List Gt)) : Prop := ∃ lp, f 350 = some (cAD lp) ∧ lp.length = pa.length ∧ ∀ i, i < lp.length → cK f (lp.getD i 0) (pa.getD i [])
def Ws (f : Hp) (sl : Nat → Option (List Gt)) : Prop := ∃ hs : Nat → Value, f 352 = some (.inr (7, 3, hs)) ∧ ∀ k, k < 3 → (sl k = none ∧ hs k = .null) ∨ ∃ c gs, hs k = .ref c ∧ sl k = some gs ∧ cK f c gs
def Wpr (f : Hp) (p : Nat → Nat) : Prop := ∃ hp : Nat → Value, f 353 = some (.inr (0, 4, hp)) ∧ ∀ i, i < 4 → hp i = zI ((p i : Nat) : Int)
def WO (f : Hp) (w : Nat) (gs : List Gt) (pa : List (List Gt)) (sl : Nat → Option (List Gt)) (ni no : Nat) (v p : Nat → Nat) (tp : Nat) (T : Nat → Nat) (pl : Int) : Prop :=
  f 300 = some (x0C pl w) ∧ PW f tp T ∧ Wc f gs ∧ CT f 322 323 ni no v ∧ Wp f pa ∧ Ws f sl ∧ Wpr f p ∧ Wt f ∧ Wf f ∧ Wsh f ∧ Wte f ∧ Wa f
/-- ids of the world -/
def fxB (id : Nat) : Bool := decide (300 ≤ id) && decide (id ≤ 357) && !(id == 332 || id == 334 || id == 336 || id == 338 || id == 340 || id == 351)
theorem ngI {c : Nat} {fs : List Value} (h : c ≠ 11) (q : Gt) : (some (.inl (c, fs)) : Option E_) ≠ some (cG q) := fun z => by
  have := Option.some.inj z
  unfold cG at this
  exact h (Prod.mk.inj (Sum.inl.inj this)).1
theorem ngA {t N : Nat} {g : Nat → Value} (q : Gt) : (some (.inr (t, N, g)) : Option E_) ≠ some (cG q) := fun z => by
  have := Option.some.inj z
  unfold cG at this
  cases this
theorem fx_cases {id : Nat} (h : fxB id = true) : id = 300 ∨ id = 301 ∨ id = 302 ∨ id = 303 ∨ id = 304 ∨ id = 305 ∨ id = 306 ∨ id = 307 ∨ id = 308 ∨ id = 309 ∨ id = 310 ∨ id = 311 ∨ id = 312 ∨ id = 313 ∨ id = 314 ∨ id = 315 ∨ id = 316 ∨ id = 317 ∨ id = 318 ∨ id = 319 ∨ id = 320 ∨ id = 321 ∨ id = 322 ∨ id = 323 ∨ id = 324 ∨ id = 325 ∨ id = 326 ∨ id = 327 ∨ id = 328 ∨ id = 329 ∨ id = 330 ∨ (∃ k, k < 5 ∧ id = 331 + 2 * k) ∨ id = 341 ∨ id = 342 ∨ id = 343 ∨ id = 344 ∨ id = 345 ∨ id = 346 ∨ id = 347 ∨ id = 348 ∨ id = 349 ∨ id = 350 ∨ id = 352 ∨ id = 353 ∨ id = 354 ∨ id = 355 ∨ id = 356 ∨ id = 357 := by
  unfold fxB at h
  simp only [Bool.and_eq_true, decide_eq_true_eq, Bool.not_eq_true', Bool.or_eq_false_iff, beq_eq_false_iff_ne] at h
  by_cases c : 331 ≤ id ∧ id < 341
  · refine (by
      have : ∃ k, k < 5 ∧ id = 331 + 2 * k := ⟨(id - 331) / 2, by omega, by omega⟩
      simp only [this, true_or, or_true])
  · omega
theorem WO.ng {f : Hp} {w : Nat} {gs : List Gt} {pa : List (List Gt)} {sl : Nat → Option (List Gt)} {ni no : Nat} {v p : Nat → Nat} {tp : Nat} {T : Nat → Nat} {pl : Int} (h : WO f w gs pa sl ni no v p tp T pl) {id : Nat} (hf : fxB id = true) (q : Gt) : f id ≠ some (cG q) := by
  obtain ⟨h0, ⟨⟨⟨a1, a2, a3, a4, a5, hP⟩, ⟨b1, hPr⟩, ⟨b2, hNm⟩, NL, ll, hL, -⟩, ⟨c1, c2, hF⟩, ⟨mn, hO⟩, hTw, hTt, ⟨S, A, B, W, hTa⟩, hC, ⟨lg, hLL⟩, d1, d2, d3, hCT, -⟩, ⟨l, hc⟩, hT, ⟨lp, hp, -⟩, ⟨hs, hs1, -⟩, ⟨hp1, hp2, -⟩, ⟨l2, g2, ht⟩, ⟨e1, e2, e3, e4, e5, hfi⟩, ⟨⟨w0, R0, -, hsh, -⟩, x1, x2, hx1, hx2⟩, ⟨y1, y2, y3, y4, y5, hte⟩, ⟨z1, ha1⟩, ⟨z2, ha2⟩, ⟨z3, ha3⟩, z4, ha4⟩ := h
  obtain ⟨s1, ⟨s2, s3⟩, ⟨s4, s5, s6, -⟩, ⟨s7, s8, s9, -⟩, ⟨s10, s11, s12, -⟩, s13, s14⟩ := hsh
  obtain ⟨i1, ⟨o1, i2, -⟩, ⟨o2, i3⟩, i4, i5, -⟩ := hfi
  rcases fx_cases hf with e | e | e | e | e | e | e | e | e | e | e | e | e | e | e | e | e | e | e | e | e | e | e | e | e | e | e | e | e | e | e | ⟨k, hk, e⟩ | e | e | e | e | e | e | e | e | e | e | e | e | e | e | e | e <;> rw [e]
  · rw [h0]; exact ngI (by decide) q
  · rw [hF]; exact ngI (by decide) q
  · rw [hO]; exact ngI (by decide) q
  · rw [hTw.2]; exact ngA q
  · rw [hTw.1]; exact ngI (by decide) q
  · rw [hTt]; exact ngA q
  · rw [hTa.1]; exact ngA q
  · rw [hTa.2.1]; exact ngA q
  · rw [hTa.2.2.1]; exact ngA q
  · rw [hTa.2.2.2]; exact ngA q
  · rw [hP]; exact ngI (by decide) q
  · rw [hC]; exact ngI (by decide) q
  · rw [hLL]; exact ngI (by decide) q
  · rw [hCT.1]; exact ngI (by decide) q
  · rw [hCT.2]; exact ngA q
  · rw [hPr]; exact ngA q
  · rw [hNm]; exact ngA q
  · rw [hL]; exact ngI (by decide) q
  · rw [hc.1]; exact ngI (by decide) q
  · rw [hc.2.1]; exact ngI (by decide) q
  · rw [ht.1]; exact ngI (by decide) q
  · rw [ht.2.1]; exact ngI (by decide) q
  · rw [hT.1]; exact ngI (by decide) q
  · rw [hT.2]; exact ngA q
  · rw [i1]; exact ngI (by decide) q
  · rw [i2]; exact ngA q
  · rw [i3]; exact ngA q
  · rw [i4]; exact ngI (by decide) q
  · rw [i5]; exact ngI (by decide) q
  · rw [s1]; exact ngI (by decide) q
  · rw [s2]; exact ngA q
  · obtain ⟨b, hb⟩ := s3 k hk
    rw [hb]; exact ngA q
  · rw [s6]; exact ngI (by decide) q
  · rw [s9]; exact ngI (by decide) q
  · rw [hx1]; exact ngA q
  · rw [hx2]; exact ngA q
  · rw [s14]; exact ngA q
  · rw [s12]; exact ngI (by decide) q
  · rw [hte.1.1]; exact ngI (by decide) q
  · rw [hte.1.2.1]; exact ngA q
  · rw [hte.1.2.2.1]; exact ngA q
  · rw [hp]; exact ngI (by decide) q
  · rw [hs1]; exact ngA q
  · rw [hp2]; exact ngA q
  · rw [ha1]; exact ngA q
  · rw [ha2]; exact ngA q
  · rw [ha3]; exact ngA q
  · rw [ha4]; exact ngA q
/-- what stays -/
def KE (S : List Nat) (f f' : Hp) : Prop := (∀ id q, f id = some (cG q) → f' id = some (cG q)) ∧ (∀ id e, 392 ≤ id → f id = some e → f' id = some e) ∧ ∀ id, id < 392 → id ∉ S → f' id = f id
theorem KE.rf (S : List Nat) (f : Hp) : KE S f f := ⟨fun _ _ h => h, fun _ _ _ h => h, fun _ _ _ => rfl⟩
theorem KE.tr {S : List Nat} {f f1 f2 : Hp} (h : KE S f f1) (h' : KE S f1 f2) : KE S f f2 := ⟨fun id q e => h'.1 id q (h.1 id q e), fun id e a b => h'.2.1 id e a (h.2.1 id e a b), fun id a b => (h'.2.2 id a b).trans (h.2.2 id a b)⟩
theorem KE.mono {S S' : List Nat} {f f1 : Hp} (h : KE S f f1) (hs : ∀ x ∈ S, x ∈ S') : KE S' f f1 := ⟨h.1, h.2.1, fun id a b => h.2.2 id a (fun q => b (hs id q))⟩
theorem KE.of {S : List Nat} {n : Nat} {f f' : Hp} (hno : ∀ id, n ≤ id → f id = none) (hn : 392 ≤ n) (hF : ∀ id, id < n → id ∉ S → f' id = f id) (hS : ∀ x ∈ S, x < 392 ∧ ∀ q, f x ≠ some (cG q)) : KE S f f' := by
  refine ⟨fun id q e => ?_, fun id e a b => ?_, fun id a b => hF id (by omega) b⟩
  · have h1 : id < n := Nat.lt_of_not_le (fun z => by rw [hno id z] at e; cases e)
    rw [hF id h1 (fun z => (hS id z).2 q e)]; exact e
  · have h1 : id < n := Nat.lt_of_not_le (fun z => by rw [hno id z] at b; cases b)
    rw [hF id h1 (fun z => by have := (hS id z).1; omega)]; exact b
theorem GL.ke {S : List Nat} {f f' : Hp} {l : List Nat} {gs : List Gt} (h : GL f l gs) (hk : KE S f f') : GL f' l gs := ⟨h.1, fun i hi => hk.1 _ _ (h.2 i hi)⟩
theorem CC.ke {S : List Nat} {f f' : Hp} {c ll : Nat} {l : List Nat} {gs : List Gt} (h : CC f c ll l gs) (hk : KE S f f') (h1 : c < 392 → c ∉ S) (h2 : ll < 392 → ll ∉ S) : CC f' c ll l gs := by
  have g : ∀ id e, (id < 392 → id ∉ S) → f id = some e → f' id = some e := fun id e a b => by
    by_cases c : id < 392
    · rw [hk.2.2 id c (a c)]; exact b
    · exact hk.2.1 id e (by omega) b
  exact ⟨g _ _ h1 h.1, g _ _ h2 h.2.1, h.2.2.1.ke hk, h.2.2.2⟩
theorem cK.ke {S : List Nat} {f f' : Hp} {c : Nat} {gs : List Gt} (h : cK f c gs) (hk : KE S f f') : cK f' c gs := by
  obtain ⟨h1, ll, l, h2, h3⟩ := h
  exact ⟨h1, ll, l, h2, h3.ke hk (fun q => by omega) (fun q => by omega)⟩
theorem Wc.ke {S : List Nat} {f f' : Hp} {gs : List Gt} (h : Wc f gs) (hk : KE S f f') (hS : 318 ∉ S ∧ 319 ∉ S) : Wc f' gs := by
  obtain ⟨l, h⟩ := h
  exact ⟨l, h.ke hk (fun _ => hS.1) (fun _ => hS.2)⟩
theorem Wt.ke {S : List Nat} {f f' : Hp} (h : Wt f) (hk : KE S f f') (hS : 320 ∉ S ∧ 321 ∉ S) : Wt f' := by
  obtain ⟨l, g, h⟩ := h
  exact ⟨l, g, h.ke hk (fun _ => hS.1) (fun _ => hS.2)⟩
theorem Wf.ke {S : List Nat} {f f' : Hp} (h : Wf f) (hk : KE S f f') (hS : ∀ x, 324 ≤ x → x ≤ 328 → x ∉ S) : Wf f' := by
  obtain ⟨R, W, s, l1, l2, h1, ⟨h2, h3, h4⟩, ⟨h5, h6⟩, h7, h8, h9, h10, h11, h12⟩ := h
  have g := fun id (a : 324 ≤ id) (b : id ≤ 328) => hk.2.2 id (by omega) (hS id a b)
  exact ⟨R, W, s, l1, l2, (g 324 (by decide) (by decide)).trans h1, ⟨h2, (g 325 (by decide) (by decide)).trans h3, h4⟩, ⟨h5, (g 326 (by decide) (by decide)).trans h6⟩, (g 327 (by decide) (by decide)).trans h7, (g 328 (by decide) (by decide)).trans h8, h9.ke hk, h10.ke hk, h11, h12⟩
theorem Wsh.ke {S : List Nat} {f f' : Hp} (h : Wsh f) (hk : KE S f f') (hS : ∀ x, 329 ≤ x → x ≤ 346 → x ∉ S) : Wsh f' := by
  obtain ⟨⟨w0, R0, h0, h1, h2⟩, x1, x2, h3, h4⟩ := h
  have g := fun id (a : 329 ≤ id) (b : id ≤ 346) => hk.2.2 id (by omega) (hS id a b)
  refine ⟨⟨w0, R0, h0, ?_, ?_⟩, x1, x2, (g 343 (by decide) (by decide)).trans h3, (g 344 (by decide) (by decide)).trans h4⟩
  · obtain ⟨s1, ⟨s2, s3⟩, ⟨s4, s5, s6, s6'⟩, ⟨s7, s8, s9, s9'⟩, ⟨s10, s11, s12, s12'⟩, s13, s14⟩ := h1
    exact ⟨(g 329 (by decide) (by decide)).trans s1, ⟨(g 330 (by decide) (by decide)).trans s2, fun k hk => by rw [g _ (by omega) (by omega)]; exact s3 k hk⟩, ⟨s4, s5, (g 341 (by decide) (by decide)).trans s6, s6'⟩, ⟨s7, s8, (g 342 (by decide) (by decide)).trans s9, s9'⟩, ⟨s10, s11, (g 346 (by decide) (by decide)).trans s12, s12'⟩, s13, (g 345 (by decide) (by decide)).trans s14⟩
  · rcases h2 with z | ⟨z1, z2⟩
    · exact Or.inl z
    · refine Or.inr ⟨z1, z2.kp (fun id e a _ _ _ b => ?_) ?_⟩
      · rcases b with ⟨b1, b2⟩ | ⟨b1, -⟩
        · rw [g id b1 b2]; exact a
        · exact hk.2.1 id e b1 a
      · obtain ⟨-, -, -, -, -, s13, s14⟩ := h1
        exact ⟨s13, (g 345 (by decide) (by decide)).trans s14⟩
theorem Wte.ke {S : List Nat} {f f' : Hp} (h : Wte f) (hk : KE S f f') (hS : ∀ x, 347 ≤ x → x ≤ 349 → x ∉ S) : Wte f' := by
  obtain ⟨a, b, c, d, e, ⟨h1, h2, h3, h4⟩, h5⟩ := h
  have g := fun id (a : 347 ≤ id) (b : id ≤ 349) => hk.2.2 id (by omega) (hS id a b)
  exact ⟨a, b, c, d, e, ⟨(g 347 (by decide) (by decide)).trans h1, (g 348 (by decide) (by decide)).trans h2, (g 349 (by decide) (by decide)).trans h3, h4⟩, h5⟩
theorem Wa.ke {S : List Nat} {f f' : Hp} (h : Wa f) (hk : KE S f f') (hS : ∀ x, 354 ≤ x → x ≤ 357 → x ∉ S) : Wa f' := by
  obtain ⟨⟨a, h1⟩, ⟨b, h2⟩, ⟨c, h3⟩, d, h4⟩ := h
  have g := fun id (a : 354 ≤ id) (b : id ≤ 357) => hk.2.2 id (by omega) (hS id a b)
  exact ⟨⟨a, (g 354 (by decide) (by decide)).trans h1⟩, ⟨b, (g 355 (by decide) (by decide)).trans h2⟩, ⟨c, (g 356 (by decide) (by decide)).trans h3⟩, d, (g 357 (by decide) (by decide)).trans h4⟩
theorem Wp.ke {S : List Nat} {f f' : Hp} {pa : List (List Gt)} (h : Wp f pa) (hk : KE S f f') (hS : 350 ∉ S) : Wp f' pa := by
  obtain ⟨lp, h1, h2, h3⟩ := h
  exact ⟨lp, (hk.2.2 350 (by decide) hS).trans h1, h2, fun i hi => (h3 i hi).ke hk⟩
theorem Ws.ke {S : List Nat} {f f' : Hp} {sl : Nat → Option (List Gt)} (h : Ws f sl) (hk : KE S f f') (hS : 352 ∉ S) : Ws f' sl := by
  obtain ⟨hs, h1, h2⟩ := h
  refine ⟨hs, (hk.2.2 352 (by decide) hS).trans h1, fun k a => ?_⟩
  rcases h2 k a with z | ⟨c, g, z1, z2, z3⟩
  · exact Or.inl z
  · exact Or.inr ⟨c, g, z1, z2, z3.ke hk⟩
theorem Wpr.ke {S : List Nat} {f f' : Hp} {p : Nat → Nat} (h : Wpr f p) (hk : KE S f f') (hS : 353 ∉ S) : Wpr f' p := by
  obtain ⟨hp, h1, h2⟩ := h
  exact ⟨hp, (hk.2.2 353 (by decide) hS).trans h1, h2⟩
theorem PW.ke {S : List Nat} {f f' : Hp} {tp : Nat} {T : Nat → Nat} (h : PW f tp T) (hk : KE S f f') (hS : ∀ x, 301 ≤ x → x ≤ 317 → x ∉ S) : PW f' tp T := by
  have g := fun id (a : 301 ≤ id) (b : id ≤ 317) => hk.2.2 id (by omega) (hS id a b)
  refine h.of ?_ ?_ (fun id q => g id (by omega) (by omega))
  · obtain ⟨⟨⟨a1, a2, a3, a4, a5, hP⟩, ⟨b1, hPr⟩, ⟨b2, hNm⟩, NL, ll, hL, hL2⟩, -⟩ := h
    exact ⟨⟨a1, a2, a3, a4, a5, (g 310 (by decide) (by decide)).trans hP⟩, ⟨b1, (g 315 (by decide) (by decide)).trans hPr⟩, ⟨b2, (g 316 (by decide) (by decide)).trans hNm⟩, NL, ll, (g 317 (by decide) (by decide)).trans hL, hL2⟩
  · obtain ⟨-, ⟨a, b, hF⟩, -⟩ := h
    exact ⟨a, b, (g 301 (by decide) (by decide)).trans hF⟩
theorem CT.ke {S : List Nat} {f f' : Hp} {ni no : Nat} {v : Nat → Nat} (h : CT f 322 323 ni no v) (hk : KE S f f') (hS : 322 ∉ S ∧ 323 ∉ S) : CT f' 322 323 ni no v := ⟨(hk.2.2 322 (by decide) hS.1).trans h.1, (hk.2.2 323 (by decide) hS.2).trans h.2⟩
/-- only scratch was touched -/
theorem WO.ke {S : List Nat} {f f' : Hp} {w : Nat} {gs : List Gt} {pa : List (List Gt)} {sl : Nat → Option (List Gt)} {ni no : Nat} {v p : Nat → Nat} {tp : Nat} {T : Nat → Nat} {pl : Int} (h : WO f w gs pa sl ni no v p tp T pl) (hk : KE S f f') (hS : ∀ x ∈ S, x = 320 ∨ x = 321 ∨ (324 ≤ x ∧ x ≤ 349) ∨ (354 ≤ x ∧ x ≤ 357))
    (ht : (320 ∉ S ∧ 321 ∉ S) ∨ Wt f') (hf : (∀ x, 324 ≤ x → x ≤ 328 → x ∉ S) ∨ Wf f') (hsh : (∀ x, 329 ≤ x → x ≤ 346 → x ∉ S) ∨ Wsh f') (hte : (∀ x, 347 ≤ x → x ≤ 349 → x ∉ S) ∨ Wte f') (ha : (∀ x, 354 ≤ x → x ≤ 357 → x ∉ S) ∨ Wa f') : WO f' w gs pa sl ni no v p tp T pl := by
  obtain ⟨h0, h1, h2, h3, h4, h5, h6, h7, h8, h9, h10, h11⟩ := h
  have g : ∀ x, (x < 320 ∨ x = 322 ∨ x = 323 ∨ (350 ≤ x ∧ x ≤ 353)) → x ∉ S := fun x q z => by have := hS x z; omega
  exact ⟨(hk.2.2 300 (by decide) (g _ (by omega))).trans h0, h1.ke hk (fun x a b => g x (by omega)), h2.ke hk ⟨g _ (by omega), g _ (by omega)⟩, h3.ke hk ⟨g _ (by omega), g _ (by omega)⟩, h4.ke hk (g _ (by omega)), h5.ke hk (g _ (by omega)), h6.ke hk (g _ (by omega)), ht.elim (h7.ke hk) id, hf.elim (h8.ke hk) id, hsh.elim (h9.ke hk) id, hte.elim (h10.ke hk) id, ha.elim (h11.ke hk) id⟩
/-- answers, and what is left -/
def Qw (v : Value) (S : List Nat) (n : Nat) (f : Hp) (Z : Hp → Prop) : Pt_ := fun r n' f' => r = some v ∧ n ≤ n' ∧ KE S f f' ∧ Z f'
