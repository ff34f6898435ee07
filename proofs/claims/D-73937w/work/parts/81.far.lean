set_option maxRecDepth 100000
/-! ===== plain words: how far an order is, found by halves ===== -/
theorem Pm.onto {R : Nat} {p : Nat → Nat} (h : Pm R p) : onto R p := by
  refine ⟨h.1, fun x hx => ?_⟩
  by_cases c : ∃ z, z < R ∧ p z = x
  · exact c
  · obtain ⟨i, j, h1, h2, h3⟩ := pigeon R (fun i => if i < R then p i else x) (fun i hi => by
      show (if i < R then p i else x) < R
      split
      · rename_i q; exact h.1 i q
      · exact hx)
    have h3 : (if i < R then p i else x) = (if j < R then p j else x) := h3
    rw [if_pos (show i < R by omega)] at h3
    by_cases c2 : j < R
    · rw [if_pos c2] at h3; exact absurd h3 (h.2 i j h1 c2)
    · rw [if_neg c2] at h3; exact absurd ⟨i, by omega, h3⟩ c
/-- orders within four gates, all of them; those within three have their neighbours there -/
def H4 (w m : Nat) (ps : Nat → Nat → Nat) (e W T : Nat → Nat) : Prop := BQ w m ps e W T ∧ (∀ j, j < m → e j ≤ 4) ∧ ∀ j g, j < m → e j < 4 → gq w g → nbQ w m ps j g
theorem H4.near {w m : Nat} {ps : Nat → Nat → Nat} {e W T : Nat → Nat} (h : H4 w m ps e W T) : ∀ d q, d ≤ 4 → IsD w q d → ∃ i, i < m ∧ e i = d ∧ ∀ x, x < rN w → ps i x = q x
  | 0, q, _, hq => by
    obtain ⟨ws, w1, w2, w3⟩ := hq.1
    have : ws = [] := List.eq_nil_of_length_eq_zero w1
    subst this
    have eq : ∀ x, x < rN w → ps 0 x = q x := fun x hx => by rw [h.1.2.1 x hx, w3 x hx]; rfl
    refine ⟨0, h.1.1, ?_, eq⟩
    exact ((h.1.2.2.1 0 h.1.1).2.2.ext eq).uni hq
  | d + 1, q, hd, hq => by
    obtain ⟨g, p, g1, g2, g3⟩ := hq.1.last
    have hp : IsD w p d := ⟨g2, fun j hj z => hq.2 (j + 1) (by omega) (z.snoc g1 g3)⟩
    obtain ⟨i, i1, i2, i3⟩ := h.near d p (by omega) hp
    obtain ⟨i', j1, j2⟩ := h.2.2 i g i1 (by omega) g1
    have eq : ∀ x, x < rN w → ps i' x = q x := fun x hx => by rw [j2 x hx, i3 x hx, g3 x hx]
    exact ⟨i', j1, ((h.1.2.2.1 i' j1).2.2.ext eq).uni hq, eq⟩
theorem H4.tab {w m : Nat} (hw : w ≤ 3) {ps : Nat → Nat → Nat} {e W T : Nat → Nat} (h : H4 w m ps e W T) {p : Nat → Nat} {d : Nat} (hp : IsD w p d) : T (plc p (rN w)) = if d ≤ 4 then d else 99 := by
  by_cases c : d ≤ 4
  · rw [if_pos c]
    obtain ⟨i, i1, i2, i3⟩ := h.near d p c hp
    rw [← plc_ext i3, ← (h.1.2.2.1 i i1).1, (h.1.2.2.1 i i1).2.1, i2]
  · rw [if_neg c]
    refine h.1.2.2.2.2.2 _ (plc_b (rN_le (k := 3) hw) p) (fun j hj z => ?_)
    rw [(h.1.2.2.1 j hj).1] at z
    have h1 := plc_inj hp.1.pm (h.1.2.2.1 j hj).2.2.1.pm z
    have h2 := ((h.1.2.2.1 j hj).2.2.ext (fun i hi => (h1 i hi).symm)).uni hp
    have := h.2.1 j hj
    omega
theorem rch.comp {w a b : Nat} {p q r : Nat → Nat} (hq : rch w a q) (hr : rch w b r) (e : ∀ i, i < rN w → p i = q (r i)) : rch w (b + a) p := by
  obtain ⟨u, u1, u2, u3⟩ := hq
  obtain ⟨v, v1, v2, v3⟩ := hr
  refine ⟨v ++ u, by rw [List.length_append, u1, v1], fun g hg => (List.mem_append.mp hg).elim (v2 g) (u2 g), fun i hi => ?_⟩
  rw [run_app, e i hi, v3 i hi, u3 _ (run_lt (fun g hg => (v2 g hg).1) hi)]
theorem far_le {w a b d : Nat} {p q r : Nat → Nat} (hp : IsD w p d) (hq : rch w a q) (hr : rch w b r) (e : ∀ i, i < rN w → q (r i) = p i) : d ≤ b + a := by
  by_cases c : d ≤ b + a
  · exact c
  · exact absurd (hq.comp hr (fun i hi => (e i hi).symm)) (hp.2 (b + a) (by omega))
theorem far_ex {w m : Nat} {ps : Nat → Nat → Nat} {e W T : Nat → Nat} (h : H4 w m ps e W T) {p : Nat → Nat} {d : Nat} (hp : IsD w p d) (h4 : 4 < d) (h8 : d ≤ 8) : ∃ j, j < m ∧ e j = d - 4 ∧ ∀ q, (∀ x, x < rN w → q (ps j x) = p x) → IsD w q 4 := by
  obtain ⟨ws, w1, w2, w3⟩ := hp.1
  have hv : rch w (d - 4) (run (ws.take (d - 4))) := ⟨ws.take (d - 4), by rw [List.length_take, w1]; omega, fun g hg => w2 g (List.mem_of_mem_take hg), fun _ _ => rfl⟩
  have hu : rch w 4 (run (ws.drop (d - 4))) := ⟨ws.drop (d - 4), by rw [List.length_drop, w1]; omega, fun g hg => w2 g (List.mem_of_mem_drop hg), fun _ _ => rfl⟩
  have hsp : ∀ x, x < rN w → p x = run (ws.drop (d - 4)) (run (ws.take (d - 4)) x) := fun x hx => by rw [← run_app, List.take_append_drop, w3 x hx]
  have hvD : IsD w (run (ws.take (d - 4))) (d - 4) := ⟨hv, fun j hj z => hp.2 (j + 4) (by omega) (hu.comp z hsp)⟩
  obtain ⟨j, j1, j2, j3⟩ := h.near (d - 4) _ (by omega) hvD
  refine ⟨j, j1, j2, fun q hq => ?_⟩
  have hpj := (h.1.2.2.1 j j1).2.2.1
  have eq : ∀ y, y < rN w → q y = run (ws.drop (d - 4)) y := fun y hy => by
    obtain ⟨x, hx, ex⟩ := hpj.pm.onto.2 y hy
    rw [← ex, hq x hx, hsp x hx, j3 x hx]
  refine ⟨hu.ext (fun y hy => (eq y hy).symm), fun k hk z => ?_⟩
  exact hp.2 (e j + k) (by omega) (z.comp hpj (fun x hx => (hq x hx).symm))
theorem tab_ex (w : Nat) (hD : D8 w) : ∃ T, TabR w T := by
  have ex : ∀ c : Nat, ∃ k : Nat, ∀ p, Pm (rN w) p → plc p (rN w) = c → k ≤ 8 ∧ IsD w p k := fun c => by
    by_cases q : ∃ p, Pm (rN w) p ∧ plc p (rN w) = c
    · obtain ⟨p, p1, p2⟩ := q
      obtain ⟨k, k1, k2⟩ := hD.isD p1
      exact ⟨k, fun p' a1 a2 => ⟨k1, k2.ext (plc_inj p1 a1 (by rw [p2, a2]))⟩⟩
    · exact ⟨0, fun p a1 a2 => absurd ⟨p, a1, a2⟩ q⟩
  obtain ⟨T, hT⟩ := Classical.axiomOfChoice ex
  exact ⟨T, fun p hp => hT _ p hp rfl⟩
theorem TabR.uni {w : Nat} {T T' : Nat → Nat} (h : TabR w T) (h' : TabR w T') {p : Nat → Nat} (hp : Pm (rN w) p) : T (plc p (rN w)) = T' (plc p (rN w)) := (h p hp).2.uni (h' p hp).2
/-- the gates of w wires without off-controls, in their order -/
def glF (R : Nat) : Nat → Nat → List Gt
  | 0, _ => []
  | m + 1, c => if (c % R).testBit (c / R) then glF R m (c + 1) else (c / R, c % R, 0) :: glF R m (c + 1)
def gl (w : Nat) : List Gt := glF (rN w) (w * rN w) 0
theorem gl_len : ∀ w, w < 4 → (gl w).length ≤ 12 := by decide
theorem glF_q {w : Nat} : ∀ m c, c + m = w * rN w → ∀ g ∈ glF (rN w) m c, gq w g
  | 0, c, _, g, hg => by cases hg
  | m + 1, c, h, g, hg => by
    have hr := rN_pos w
    obtain ⟨d1, d2⟩ := dR (R := rN w) (c := c) (by omega) (w := w) (by omega)
    unfold glF at hg
    by_cases q : (c % rN w).testBit (c / rN w) = true
    · rw [if_pos q] at hg; exact glF_q m (c + 1) (by omega) g hg
    · rw [if_neg q] at hg
      rcases List.mem_cons.mp hg with z | z
      · rw [z]; exact ⟨d1, d2, Bool.eq_false_iff.mpr q, rfl⟩
      · exact glF_q m (c + 1) (by omega) g z
theorem gl_q {w : Nat} : ∀ g ∈ gl w, gq w g := glF_q _ _ (by rw [Nat.zero_add])
theorem glF_all {R t on : Nat} (hon : on < R) (hb : on.testBit t = false) : ∀ m c, c ≤ t * R + on → t * R + on < c + m → (t, on, 0) ∈ glF R m c
  | 0, c, h1, h2 => by omega
  | m + 1, c, h1, h2 => by
    unfold glF
    by_cases e : c = t * R + on
    · have e1 : c / R = t := by rw [e, Nat.mul_comm, Nat.mul_add_div (by omega), Nat.div_eq_of_lt hon, Nat.add_zero]
      have e2 : c % R = on := by rw [e, Nat.mul_comm, Nat.mul_add_mod, Nat.mod_eq_of_lt hon]
      rw [e1, e2, if_neg (by rw [hb]; decide)]
      exact List.mem_cons_self
    · have := glF_all hon hb m (c + 1) (by omega) (by omega)
      split
      · exact this
      · exact List.mem_cons_of_mem _ this
theorem gl_all {w : Nat} {g : Gt} (h : gq w g) : g ∈ gl w := by
  obtain ⟨t, on, off⟩ := g
  obtain ⟨h1, h2, h3, h4⟩ := h
  simp only at h1 h2 h3 h4
  subst h4
  refine glF_all h2 h3 _ _ (Nat.zero_le _) ?_
  have : (t + 1) * rN w ≤ w * rN w := Nat.mul_le_mul_right _ h1
  rw [Nat.add_mul, Nat.one_mul] at this
  omega
theorem fsI_find {T : Nat → Nat} {R : Nat} {p : Nat → Nat} {left : Nat} : ∀ m c, fsI T R p left m c = ((glF R m c).find? (fun g => decide (T (plc (fun r => p (mk g r)) R) = left))).map (fun g => (g.1, g.2.1))
  | 0, c => rfl
  | m + 1, c => by
    unfold fsI glF
    by_cases q : (c % R).testBit (c / R) = true
    · rw [if_pos q, if_pos q]; exact fsI_find m (c + 1)
    · rw [if_neg q, if_neg q]
      by_cases z : T (plc (fun r => p (mk (c / R, c % R, 0) r)) R) = left
      · rw [if_pos z, List.find?_cons_of_pos (by simpa using z)]; rfl
      · rw [if_neg z, List.find?_cons_of_neg (by simpa using z)]; exact fsI_find m (c + 1)
/-- one gate less is left behind some gate, and never more than one -/
theorem near_ex {w d : Nat} {p : Nat → Nat} (hp : IsD w p (d + 1)) : ∃ g, g ∈ gl w ∧ IsD w (fun r => p (mk g r)) d := by
  obtain ⟨ws, w1, w2, w3⟩ := hp.1
  match ws, w1 with
  | g :: ws, w1 =>
    have hg := w2 g List.mem_cons_self
    refine ⟨g, gl_all hg, ⟨ws, by simpa using w1, fun g' h' => w2 g' (List.mem_cons_of_mem _ h'), fun i hi => ?_⟩, fun j hj z => ?_⟩
    · show p (mk g i) = _
      rw [w3 _ (mk_lt hg.1 hi), run_cons, hg.ok.mm]
    · refine hp.2 (j + 1) (by omega) (z.cons hg (fun i hi => ?_))
      show p i = p (mk g (mk g i))
      rw [hg.ok.mm]
theorem near_ge {w d k : Nat} {p : Nat → Nat} {g : Gt} (hg : gq w g) (hp : IsD w p (d + 1)) (hk : IsD w (fun r => p (mk g r)) k) : d ≤ k := by
  by_cases c : d ≤ k
  · exact c
  · refine absurd (hk.1.cons hg (q := p) (fun i hi => ?_)) (hp.2 (k + 1) (by omega))
    show p i = p (mk g (mk g i))
    rw [hg.ok.mm]
/-! the number of an order, as the component counts it -/
def hdS (p : Nat → Nat) : Nat → Nat
  | 0 => 0
  | x + 1 => hdS p x ||| rN (p x)
theorem cL_split {p : Nat → Nat} {y a : Nat} : ∀ m, cL p y 0 (a + m) = cL p y 0 a + cL p y a m
  | 0 => rfl
  | m + 1 => by
    show cL p y 0 (a + m) + (if p (0 + (a + m)) < y then 1 else 0) = cL p y 0 a + (cL p y a m + (if p (a + m) < y then 1 else 0))
    rw [cL_split m, Nat.zero_add, Nat.add_assoc]
theorem hd_b : ∀ a, a < 256 → ∀ v, v < 8 → (a.testBit v = true ∨ a ||| rN v < 256 ∧ ∀ y, y < 8 → bits ((a ||| rN v) &&& (rN y - 1)) = bits (a &&& (rN y - 1)) + (if v < y then 1 else 0)) := by decide +kernel
theorem hd_lt {R : Nat} {p : Nat → Nat} (hR : R ≤ 8) (hp : Pm R p) : ∀ x, x ≤ R → hdS p x < 256 ∧ (∀ v, (hdS p x).testBit v = true ↔ ∃ i, i < x ∧ p i = v) ∧ ∀ y, y < 8 → bits (hdS p x &&& (rN y - 1)) = cL p y 0 x
  | 0, _ => ⟨by show 0 < 256; decide, fun v => by show (0 : Nat).testBit v = true ↔ _; rw [Nat.zero_testBit]; exact ⟨fun h => (by cases h), fun ⟨i, h, _⟩ => absurd h (Nat.not_lt_zero _)⟩, fun y hy => by show bits (0 &&& _) = 0; rw [Nat.zero_and]; exact bits_0⟩
  | x + 1, hx => by
    obtain ⟨h1, h2, h3⟩ := hd_lt hR hp x (by omega)
    have hpx := hp.1 x (by omega)
    have hno : ¬ (hdS p x).testBit (p x) = true := fun q => by
      obtain ⟨i, i1, i2⟩ := (h2 _).mp q
      exact hp.2 i x i1 (by omega) i2
    rcases hd_b _ h1 (p x) (by omega) with q | ⟨q1, q2⟩
    · exact absurd q hno
    · refine ⟨q1, fun v => ?_, fun y hy => ?_⟩
      · show (hdS p x ||| rN (p x)).testBit v = true ↔ _
        rw [Nat.testBit_or, Bool.or_eq_true, h2, rN_pow, Nat.testBit_two_pow]
        constructor
        · rintro (⟨i, i1, i2⟩ | z)
          · exact ⟨i, by omega, i2⟩
          · exact ⟨x, by omega, of_decide_eq_true z⟩
        · rintro ⟨i, i1, i2⟩
          by_cases c : i = x
          · right; rw [c] at i2; exact decide_eq_true i2
          · left; exact ⟨i, by omega, i2⟩
      · show bits ((hdS p x ||| rN (p x)) &&& (rN y - 1)) = cL p y 0 x + (if p (0 + x) < y then 1 else 0)
        rw [q2 y hy, h3 y hy, Nat.zero_add]
theorem num_step {R x : Nat} {p : Nat → Nat} (hR : R ≤ 8) (hp : Pm R p) (hx : x < R) : bits (hdS p x &&& (rN (p x) - 1)) ≤ p x ∧ p x - bits (hdS p x &&& (rN (p x) - 1)) = cL p (p x) (x + 1) (R - (x + 1)) := by
  have hpx := hp.1 x hx
  rw [(hd_lt hR hp x (by omega)).2.2 (p x) (by omega)]
  have h1 := cL_full hp (y := p x) (by omega)
  have h2 := cL_split (p := p) (y := p x) (a := x) (R - x)
  rw [show x + (R - x) = R by omega, h1, rk_i hx] at h2
  omega
