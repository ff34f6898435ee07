set_option maxRecDepth 100000
/-! ===== the component's gates ===== -/
/-- a gate as a cell -/
def cG (g : Gt) : E_ := .inl (11, [zI (g.1 : Int), zI (g.2.1 : Int), zI (g.2.2 : Int)])
def gB (g : Gt) : Prop := g.1 < 6 ∧ g.2.1 < 64 ∧ g.2.2 < 64
theorem gok.gB {w : Nat} {g : Gt} (hw : w ≤ 6) (h : gok w g) : gB g := by
  have hr : rN w ≤ 64 := rN_le (k := 6) hw
  exact ⟨by have := h.1; omega, by have := h.2.1; omega, by have := h.2.2.1; omega⟩
theorem mk64 {g : Gt} {x : Nat} (hg : g.1 < 6) (hx : x < 64) : mk g x < 64 := mk_lt (w := 6) hg hx
/-- one control told the other way: without it -/
def wo (a b : Gt) : Option Gt := if a.1 = b.1 ∧ (a.2.1 ||| a.2.2) = (b.2.1 ||| b.2.2) ∧ bits (a.2.1 ^^^ b.2.1) = 1 then some (a.1, clr a.2.1 (a.2.1 ^^^ b.2.1), clr a.2.2 (a.2.1 ^^^ b.2.1)) else none
/-- one control more: with it turned -/
def tu (a b : Gt) : Option Gt := if a.1 = b.1 ∧ bits (clr (a.2.1 ||| a.2.2) (b.2.1 ||| b.2.2)) = 1 ∧ clr a.2.1 (clr (a.2.1 ||| a.2.2) (b.2.1 ||| b.2.2)) = b.2.1 ∧ clr a.2.2 (clr (a.2.1 ||| a.2.2) (b.2.1 ||| b.2.2)) = b.2.2 then some (a.1, a.2.1 ^^^ clr (a.2.1 ||| a.2.2) (b.2.1 ||| b.2.2), a.2.2 ^^^ clr (a.2.1 ||| a.2.2) (b.2.1 ||| b.2.2)) else none
/-- a gate or none: the answer, what is new -/
def Po (o : Option Gt) (n : Nat) (f : Hp) : Pt_ := fun r n' f' => match o with
  | none => r = some .null ∧ n' = n ∧ f' = f
  | some g => r = some (.ref n) ∧ n' = n + 1 ∧ f' = up f n (cG g)
set_option maxHeartbeats 4000000 in
theorem ct_gInit {G : GT} {Rel : Nat → Hp → Hp → Prop} (hR : RelOK Rel) {n : Nat} {f : Hp} {k t on off : Nat} {a b c : Value} (h : f k = some (.inl (11, [a, b, c]))) : Ct G Rel yX11_init cX11_init 4 none (1) (0) [.ref k, zI (t : Int), zI (on : Int), zI (off : Int)] n (f) (Pv n (up f k (cG (t, on, off)))) := by
  refine ct_intro [some (.ref k), some (zI (t : Int)), some (zI (on : Int)), some (zI (off : Int))] hR rfl (Nat.le_of_ble_eq_true rfl) ?_
  intro K hG hRel hK hRt hnm
  refine r_aload_0 hK dX11_init_0 ?_
  refine r_objInit hK oi_X11_1 dX11_init_1 ?_
  refine r_aload_0 hK dX11_init_4 ?_
  refine r_iload_1 hK dX11_init_5 ?_
  refine r_put hK fl_X11_7 dX11_init_6 h (by simp) ?_ (hfin := ⟨_, rfl, Or.inr ⟨hnm, rfl⟩⟩)
  refine r_aload_0 hK dX11_init_9 ?_
  refine r_iload_2 hK dX11_init_10 ?_
  refine r_put hK fl_X11_13 dX11_init_11 (up_s _ _ _) (by simp) ?_ (hfin := ⟨_, rfl, Or.inr ⟨hnm, rfl⟩⟩)
  refine r_aload_0 hK dX11_init_14 ?_
  refine r_iload_3 hK dX11_init_15 ?_
  refine r_put hK fl_X11_16 dX11_init_16 (up_s _ _ _) (by simp) ?_ (hfin := ⟨_, rfl, Or.inr ⟨hnm, rfl⟩⟩)
  exact r_vret hK hRt dX11_init_19 ⟨rfl, rfl, by rw [up_up, up_up]; rfl⟩
set_option maxHeartbeats 4000000 in
theorem ct_gMade {G : GT} {Rel : Nat → Hp → Hp → Prop} (hR : RelOK Rel) {n : Nat} {f : Hp} {k x : Nat} {g : Gt} (h : f k = some (cG g)) (hg : gB g) (hx : x < 64) : Ct G Rel yX11_made cX11_made 2 (some .int) (1) (0) [.ref k, zI (x : Int)] n (f) (Pu (zI ((mk g x : Nat) : Int)) n f) := by
  refine ct_intro [some (.ref k), some (zI (x : Int))] hR rfl (Nat.le_of_ble_eq_true rfl) ?_
  intro K hG hRel hK hRt hnm
  obtain ⟨t, on, off⟩ := g
  obtain ⟨b1, b2, b3⟩ := hg
  simp only at b1 b2 b3
  have h : f k = some (.inl (11, [zI (t : Int), zI (on : Int), zI (off : Int)])) := h
  have a1 : x &&& on < 64 := and_lt hx
  have a2 : x &&& off < 64 := and_lt hx
  refine r_iload_1 hK dX11_made_0 ?_
  refine r_aload_0 hK dX11_made_1 ?_
  refine r_get hK fl_X11_13 dX11_made_2 (h) rfl ?_
  first | refine r_iand hK dX11_made_5 ?_ | refine r_andnot hK dX11_made_5 (by omega) ?_
  refine r_aload_0 hK dX11_made_6 ?_
  refine r_get hK fl_X11_13 dX11_made_7 (h) rfl ?_
  refine r_icmp_ne 33 hK dX11_made_10 (by omega) (by omega) (fun h10 => ?_) (fun h10 => ?_)
  · refine r_iload_1 hK dX11_made_33 ?_
    exact r_iret hK hRt dX11_made_34 ⟨by unfold mk; rw [if_neg (by simp only; omega)], rfl, rfl⟩
  · refine r_iload_1 hK dX11_made_13 ?_
    refine r_aload_0 hK dX11_made_14 ?_
    refine r_get hK fl_X11_16 dX11_made_15 (h) rfl ?_
    first | refine r_iand hK dX11_made_18 ?_ | refine r_andnot hK dX11_made_18 (by omega) ?_
    refine r_if_ne 33 hK dX11_made_19 (by omega) (fun h19 => ?_) (fun h19 => ?_)
    · refine r_iload_1 hK dX11_made_33 ?_
      exact r_iret hK hRt dX11_made_34 ⟨by unfold mk; rw [if_neg (by simp only; omega)], rfl, rfl⟩
    · refine r_iload_1 hK dX11_made_22 ?_
      refine r_iconstN (c := 1) hK dX11_made_23 ?_
      refine r_aload_0 hK dX11_made_24 ?_
      refine r_get hK fl_X11_7 dX11_made_25 (h) rfl ?_
      refine r_ishl hK dX11_made_28 (by omega) (by first | exact sh1 (by omega) | omega) ?_
      first | refine r_ixor hK dX11_made_29 ?_ | refine r_not hK dX11_made_29 ?_
      refine r_goto 34 hK dX11_made_30 ?_
      exact r_iret hK hRt dX11_made_34 ⟨by unfold mk; rw [if_pos (by simp only; omega)], rfl, rfl⟩
set_option maxHeartbeats 4000000 in
theorem ct_gCtl {G : GT} {Rel : Nat → Hp → Hp → Prop} (hR : RelOK Rel) {n : Nat} {f : Hp} {k : Nat} {g : Gt} (h : f k = some (cG g)) : Ct G Rel yX11_controls cX11_controls 1 (some .int) (1) (0) [.ref k] n (f) (Pu (zI ((g.2.1 ||| g.2.2 : Nat) : Int)) n f) := by
  refine ct_intro [some (.ref k)] hR rfl (Nat.le_of_ble_eq_true rfl) ?_
  intro K hG hRel hK hRt hnm
  refine r_aload_0 hK dX11_controls_0 ?_
  refine r_get hK fl_X11_13 dX11_controls_1 (h) rfl ?_
  refine r_aload_0 hK dX11_controls_4 ?_
  refine r_get hK fl_X11_16 dX11_controls_5 (h) rfl ?_
  refine r_ior hK dX11_controls_8 ?_
  exact r_iret hK hRt dX11_controls_9 ⟨rfl, rfl, rfl⟩
set_option maxHeartbeats 4000000 in
theorem ct_gWir {G : GT} {Rel : Nat → Hp → Hp → Prop} (hR : RelOK Rel) {n : Nat} {f : Hp} {k : Nat} {g : Gt} (h : f k = some (cG g)) (hg : g.1 < 6) : Ct G Rel yX11_wires cX11_wires 1 (some .int) (1) (0) [.ref k] n (f) (Pu (zI ((wir g : Nat) : Int)) n f) := by
  refine ct_intro [some (.ref k)] hR rfl (Nat.le_of_ble_eq_true rfl) ?_
  intro K hG hRel hK hRt hnm
  refine r_aload_0 hK dX11_wires_0 ?_
  refine r_get hK fl_X11_13 dX11_wires_1 (h) rfl ?_
  refine r_aload_0 hK dX11_wires_4 ?_
  refine r_get hK fl_X11_16 dX11_wires_5 (h) rfl ?_
  refine r_ior hK dX11_wires_8 ?_
  refine r_iconstN (c := 1) hK dX11_wires_9 ?_
  refine r_aload_0 hK dX11_wires_10 ?_
  refine r_get hK fl_X11_7 dX11_wires_11 (h) rfl ?_
  refine r_ishl hK dX11_wires_14 (by omega) (by first | exact sh1 (by omega) | omega) ?_
  refine r_ior hK dX11_wires_15 ?_
  exact r_iret hK hRt dX11_wires_16 ⟨rfl, rfl, rfl⟩
set_option maxHeartbeats 4000000 in
theorem ct_gAlike {G : GT} {Rel : Nat → Hp → Hp → Prop} (hR : RelOK Rel) {n : Nat} {f : Hp} {k j : Nat} {a b : Gt} (h : f k = some (cG a)) (h' : f j = some (cG b)) (ha : gB a) (hb : gB b) : Ct G Rel yX11_isAlike cX11_isAlike 2 (some .boolean) (1) (0) [.ref k, .ref j] n (f) (Pu (zB (a = b)) n f) := by
  refine ct_intro [some (.ref k), some (.ref j)] hR rfl (Nat.le_of_ble_eq_true rfl) ?_
  intro K hG hRel hK hRt hnm
  obtain ⟨t, on, off⟩ := a
  obtain ⟨t', on', off'⟩ := b
  obtain ⟨a1, a2, a3⟩ := ha
  obtain ⟨b1, b2, b3⟩ := hb
  simp only at a1 a2 a3 b1 b2 b3
  have e : zB ((t, on, off) = (t', on', off')) = zB (t = t' ∧ on = on' ∧ off = off') := zB_iff (by simp)
  have h : f k = some (.inl (11, [zI (t : Int), zI (on : Int), zI (off : Int)])) := h
  have h' : f j = some (.inl (11, [zI (t' : Int), zI (on' : Int), zI (off' : Int)])) := h'
  refine r_aload_0 hK dX11_isAlike_0 ?_
  refine r_get hK fl_X11_7 dX11_isAlike_1 (h) rfl ?_
  refine r_aload_1 hK dX11_isAlike_4 ?_
  refine r_get hK fl_X11_7 dX11_isAlike_5 (h') rfl ?_
  refine r_icmp_ne 37 hK dX11_isAlike_8 (by omega) (by omega) (fun h8 => ?_) (fun h8 => ?_)
  · refine r_iconstN (c := 0) hK dX11_isAlike_37 ?_
    exact r_zret hK hRt dX11_isAlike_38 rfl ⟨by rw [e, zB_f (by omega)]; rfl, rfl, rfl⟩
  · refine r_aload_0 hK dX11_isAlike_11 ?_
    refine r_get hK fl_X11_13 dX11_isAlike_12 (h) rfl ?_
    refine r_aload_1 hK dX11_isAlike_15 ?_
    refine r_get hK fl_X11_13 dX11_isAlike_16 (h') rfl ?_
    refine r_icmp_ne 37 hK dX11_isAlike_19 (by omega) (by omega) (fun h19 => ?_) (fun h19 => ?_)
    · refine r_iconstN (c := 0) hK dX11_isAlike_37 ?_
      exact r_zret hK hRt dX11_isAlike_38 rfl ⟨by rw [e, zB_f (by omega)]; rfl, rfl, rfl⟩
    · refine r_aload_0 hK dX11_isAlike_22 ?_
      refine r_get hK fl_X11_16 dX11_isAlike_23 (h) rfl ?_
      refine r_aload_1 hK dX11_isAlike_26 ?_
      refine r_get hK fl_X11_16 dX11_isAlike_27 (h') rfl ?_
      refine r_icmp_ne 37 hK dX11_isAlike_30 (by omega) (by omega) (fun h30 => ?_) (fun h30 => ?_)
      · refine r_iconstN (c := 0) hK dX11_isAlike_37 ?_
        exact r_zret hK hRt dX11_isAlike_38 rfl ⟨by rw [e, zB_f (by omega)]; rfl, rfl, rfl⟩
      · refine r_iconstN (c := 1) hK dX11_isAlike_33 ?_
        refine r_goto 38 hK dX11_isAlike_34 ?_
        exact r_zret hK hRt dX11_isAlike_38 rfl ⟨by rw [e, zB_t (by omega)]; rfl, rfl, rfl⟩
set_option maxHeartbeats 4000000 in
theorem ct_gAgrees {G : GT} {Rel : Nat → Hp → Hp → Prop} (hR : RelOK Rel) {n : Nat} {f : Hp} {k j w : Nat} {a b : Gt} (h : f k = some (cG a)) (h' : f j = some (cG b)) (hw : w ≤ 4) (ha : gok w a) (hb : gok w b) : Ct G Rel yX11_agrees cX11_agrees 4 (some .boolean) (2) (0) [.ref k, .ref j, zI ((rN w : Nat) : Int)] n (f) (Pu (zB (agr w a b = true)) n f) := by
  refine ct_intro [some (.ref k), some (.ref j), some (zI ((rN w : Nat) : Int)), none] hR rfl (Nat.le_of_ble_eq_true rfl) ?_
  intro K hG hRel hK hRt hnm
  have hr : rN w ≤ 16 := rN_le (k := 4) hw
  have gA := ha.gB (by omega)
  have gB' := hb.gB (by omega)
  have lp : ∀ (m x : Nat), x + m = rN w → (∀ y, y < x → mk a (mk b y) = mk b (mk a y)) → Wx K 2 [some (.ref k), some (.ref j), some (zI ((rN w : Nat) : Int)), some (zI (x : Int))] [] n f 0 := by
    intro m
    induction m with
    | zero =>
      intro x hx hy
      refine r_iload_3 hK dX11_agrees_2 ?_
      refine r_iload_2 hK dX11_agrees_3 ?_
      refine r_icmp_ge 36 hK dX11_agrees_4 (by omega) (by omega) (fun h4 => ?_) (fun h4 => ?_)
      · refine r_iconstN (c := 1) hK dX11_agrees_36 ?_
        exact r_zret hK hRt dX11_agrees_37 rfl ⟨by rw [zB_t (agr_iff.mpr (fun y hy2 => hy y (by omega)))]; rfl, rfl, rfl⟩
      · exact absurd h4 (by omega)
    | succ m ih =>
      intro x hx hy
      have hxr : x < rN w := by omega
      have m1 : mk a x < rN w := mk_lt ha.1 hxr
      have m2 : mk b x < rN w := mk_lt hb.1 hxr
      have m3 : mk b (mk a x) < rN w := mk_lt hb.1 m1
      have m4 : mk a (mk b x) < rN w := mk_lt ha.1 m2
      refine r_iload_3 hK dX11_agrees_2 ?_
      refine r_iload_2 hK dX11_agrees_3 ?_
      refine r_icmp_ge 36 hK dX11_agrees_4 (by omega) (by omega) (fun h4 => ?_) (fun h4 => ?_)
      · exact absurd h4 (by omega)
      · refine r_aload_1 hK dX11_agrees_7 ?_
        refine r_aload_0 hK dX11_agrees_8 ?_
        refine r_iload_3 hK dX11_agrees_9 ?_
        refine r_pV1 hK (ct_gMade hK.rel h gA (by omega)) lk_X11_19 (Rcv.raw hK.rel h rfl) dX11_agrees_10 ?_
        refine r_pV1 hK (ct_gMade hK.rel h' gB' (by omega)) lk_X11_19 (Rcv.raw hK.rel h' rfl) dX11_agrees_13 ?_
        refine r_aload_0 hK dX11_agrees_16 ?_
        refine r_aload_1 hK dX11_agrees_17 ?_
        refine r_iload_3 hK dX11_agrees_18 ?_
        refine r_pV1 hK (ct_gMade hK.rel h' gB' (by omega)) lk_X11_19 (Rcv.raw hK.rel h' rfl) dX11_agrees_19 ?_
        refine r_pV1 hK (ct_gMade hK.rel h gA (by omega)) lk_X11_19 (Rcv.raw hK.rel h rfl) dX11_agrees_22 ?_
        refine r_icmp_eq 30 hK dX11_agrees_25 (by omega) (by omega) (fun h25 => ?_) (fun h25 => ?_)
        · first | refine r_incN_3 hK dX11_agrees_30 ?_ | refine r_iinc_3 hK dX11_agrees_30 ?_
          refine r_goto 2 hK dX11_agrees_33 ?_
          exact ih (x + 1) (by omega) (fun y hy2 => by
            by_cases c : y = x
            · rw [c]; omega
            · exact hy y (by omega))
        · refine r_iconstN (c := 0) hK dX11_agrees_28 ?_
          exact r_zret hK hRt dX11_agrees_29 rfl ⟨by rw [zB_f (fun q => by have := agr_iff.mp q x hxr; omega)]; rfl, rfl, rfl⟩
  refine r_iconstN (c := 0) hK dX11_agrees_0 ?_
  refine r_istore_3 hK dX11_agrees_1 ?_
  exact lp (rN w) 0 (by omega) (fun y hy => absurd hy (Nat.not_lt_zero _))
theorem new11 {G : GT} : ∃ r, cls[11]? = some r ∧ r.2.2 ≤ 12 * 1 ∧ 1 ≤ 1 ∧ ∀ j, j < r.2.2 → defaultValue (tyC 11 j) = cv G (vp_V [zI 0, zI 0, zI 0] j) := ⟨_, rfl, by decide, by decide, fun j hj => by
  have h3 : j = 0 ∨ j = 1 ∨ j = 2 := by have : j < 3 := hj; omega
  rcases h3 with e | e | e <;> subst e <;> rfl⟩
set_option maxHeartbeats 4000000 in
theorem ct_gWithout {G : GT} {Rel : Nat → Hp → Hp → Prop} (hR : RelOK Rel) {n : Nat} {f : Hp} {k j : Nat} {a b : Gt} (h : f k = some (cG a)) (h' : f j = some (cG b)) (ha : gB a) (hb : gB b) (hkn : k ≠ n) : Ct G Rel yX11_without cX11_without 3 (some (.object "BackLogic$Gate")) (3) (1) [.ref k, .ref j] n (f) (Po (wo a b) n f) := by
  refine ct_intro [some (.ref k), some (.ref j), none] hR rfl (Nat.le_of_ble_eq_true rfl) ?_
  intro K hG hRel hK hRt hnm
  obtain ⟨t, on, off⟩ := a
  obtain ⟨t', on', off'⟩ := b
  obtain ⟨a1, a2, a3⟩ := ha
  obtain ⟨b1, b2, b3⟩ := hb
  simp only at a1 a2 a3 b1 b2 b3
  have h0 := h
  have h0' := h'
  have h : f k = some (.inl (11, [zI (t : Int), zI (on : Int), zI (off : Int)])) := h
  have h' : f j = some (.inl (11, [zI (t' : Int), zI (on' : Int), zI (off' : Int)])) := h'
  have x1 : on ^^^ on' < 64 := xor_lt (w := 6) a2 b2
  have x2 : on ||| off < 64 := or_lt (w := 6) a2 a3
  have x3 : on' ||| off' < 64 := or_lt (w := 6) b2 b3
  have x4 := bits_le (on ^^^ on')
  have no : ¬ (t = t' ∧ (on ||| off) = (on' ||| off') ∧ bits (on ^^^ on') = 1) → Wx K 40 [some (.ref k), some (.ref j), some (zI ((on ^^^ on' : Nat) : Int))] [] n f 0 := by
    intro q
    refine r_null hK dX11_without_40 ?_
    refine r_aret hK hRt dX11_without_41 ?_
    unfold wo; rw [if_neg q]; exact ⟨rfl, rfl, rfl⟩
  refine r_aload_0 hK dX11_without_0 ?_
  refine r_get hK fl_X11_13 dX11_without_1 (h) rfl ?_
  refine r_aload_1 hK dX11_without_4 ?_
  refine r_get hK fl_X11_13 dX11_without_5 (h') rfl ?_
  first | refine r_ixor hK dX11_without_8 ?_ | refine r_not hK dX11_without_8 ?_
  refine r_istore_2 hK dX11_without_9 ?_
  refine r_aload_0 hK dX11_without_10 ?_
  refine r_get hK fl_X11_7 dX11_without_11 (h) rfl ?_
  refine r_aload_1 hK dX11_without_14 ?_
  refine r_get hK fl_X11_7 dX11_without_15 (h') rfl ?_
  refine r_icmp_ne 40 hK dX11_without_18 (by omega) (by omega) (fun h18 => ?_) (fun h18 => ?_)
  · exact no (by omega)
  · refine r_aload_0 hK dX11_without_21 ?_
    refine r_pV0 hK (ct_gCtl hK.rel h0) lk_X11_23 (Rcv.raw hK.rel h0 rfl) dX11_without_22 ?_
    refine r_aload_1 hK dX11_without_25 ?_
    refine r_pV0 hK (ct_gCtl hK.rel h0') lk_X11_23 (Rcv.raw hK.rel h0' rfl) dX11_without_26 ?_
    dsimp only
    refine r_icmp_ne 40 hK dX11_without_29 (by omega) (by omega) (fun h29 => ?_) (fun h29 => ?_)
    · exact no (by omega)
    · refine r_iload_2 hK dX11_without_32 ?_
      refine r_pSN1 hK (ct_many0 hK.rel (by omega)) lk_X11_27 dX11_without_33 ?_
      refine r_iconstN (c := 1) hK dX11_without_36 ?_
      refine r_icmp_eq 42 hK dX11_without_37 (by omega) (by omega) (fun h37 => ?_) (fun h37 => ?_)
      · have yes : t = t' ∧ (on ||| off) = (on' ||| off') ∧ bits (on ^^^ on') = 1 := by omega
        refine r_new (fs := [zI 0, zI 0, zI 0]) 1 hK nw_X11_8 dX11_without_42 (by decide) ?_ (hw := new11)
        refine r_dup hK dX11_without_45 ?_
        refine r_aload_0 hK dX11_without_46 ?_
        refine r_get hK fl_X11_7 dX11_without_47 ((up_n hkn).trans h) rfl ?_
        refine r_aload_0 hK dX11_without_50 ?_
        refine r_get hK fl_X11_13 dX11_without_51 ((up_n hkn).trans h) rfl ?_
        refine r_iload_2 hK dX11_without_54 ?_
        refine r_iconst hK dX11_without_55 ?_
        first | refine r_ixor hK dX11_without_56 ?_ | refine r_not hK dX11_without_56 ?_
        first | refine r_iand hK dX11_without_57 ?_ | refine r_andnot hK dX11_without_57 (by omega) ?_
        refine r_aload_0 hK dX11_without_58 ?_
        refine r_get hK fl_X11_16 dX11_without_59 ((up_n hkn).trans h) rfl ?_
        refine r_iload_2 hK dX11_without_62 ?_
        refine r_iconst hK dX11_without_63 ?_
        first | refine r_ixor hK dX11_without_64 ?_ | refine r_not hK dX11_without_64 ?_
        first | refine r_iand hK dX11_without_65 ?_ | refine r_andnot hK dX11_without_65 (by omega) ?_
        refine r_callI3 hK (ct_gInit hK.rel (up_s _ _ _)) lk_X11_32 dX11_without_66 (fun r n1 f1 hp => ?_)
        obtain ⟨rfl, rfl, rfl⟩ := hp
        refine r_aret hK hRt dX11_without_69 ?_
        unfold wo; rw [if_pos yes]; exact ⟨rfl, rfl, by rw [up_up]⟩
      · exact no (by omega)
set_option maxHeartbeats 4000000 in
theorem ct_gTurned {G : GT} {Rel : Nat → Hp → Hp → Prop} (hR : RelOK Rel) {n : Nat} {f : Hp} {k j : Nat} {a b : Gt} (h : f k = some (cG a)) (h' : f j = some (cG b)) (ha : gB a) (hb : gB b) (hkn : k ≠ n) : Ct G Rel yX11_turned cX11_turned 3 (some (.object "BackLogic$Gate")) (3) (1) [.ref k, .ref j] n (f) (Po (tu a b) n f) := by
  refine ct_intro [some (.ref k), some (.ref j), none] hR rfl (Nat.le_of_ble_eq_true rfl) ?_
  intro K hG hRel hK hRt hnm
  obtain ⟨t, on, off⟩ := a
  obtain ⟨t', on', off'⟩ := b
  obtain ⟨a1, a2, a3⟩ := ha
  obtain ⟨b1, b2, b3⟩ := hb
  simp only at a1 a2 a3 b1 b2 b3
  have h0 := h
  have h0' := h'
  have h : f k = some (.inl (11, [zI (t : Int), zI (on : Int), zI (off : Int)])) := h
  have h' : f j = some (.inl (11, [zI (t' : Int), zI (on' : Int), zI (off' : Int)])) := h'
  have x2 : on ||| off < 64 := or_lt (w := 6) a2 a3
  have x3 : on' ||| off' < 64 := or_lt (w := 6) b2 b3
  obtain ⟨mo, hmo⟩ : ∃ mo, mo = clr (on ||| off) (on' ||| off') := ⟨_, rfl⟩
  have x5 : mo < 64 := by rw [hmo]; exact clr_lt (w := 6) x2
  have x4 := bits_le mo
  have x6 : clr on mo < 64 := clr_lt (w := 6) a2
  have x7 : clr off mo < 64 := clr_lt (w := 6) a3
  have no : ¬ (t = t' ∧ bits mo = 1 ∧ clr on mo = on' ∧ clr off mo = off') → Wx K 61 [some (.ref k), some (.ref j), some (zI ((mo : Nat) : Int))] [] n f 0 := by
    intro q
    rw [hmo] at q
    refine r_null hK dX11_turned_61 ?_
    refine r_aret hK hRt dX11_turned_62 ?_
    unfold tu; rw [if_neg q]; exact ⟨rfl, rfl, rfl⟩
  refine r_aload_0 hK dX11_turned_0 ?_
  refine r_pV0 hK (ct_gCtl hK.rel h0) lk_X11_23 (Rcv.raw hK.rel h0 rfl) dX11_turned_1 ?_
  refine r_aload_1 hK dX11_turned_4 ?_
  refine r_pV0 hK (ct_gCtl hK.rel h0') lk_X11_23 (Rcv.raw hK.rel h0' rfl) dX11_turned_5 ?_
  dsimp only
  refine r_iconst hK dX11_turned_8 ?_
  first | refine r_ixor hK dX11_turned_9 ?_ | refine r_not hK dX11_turned_9 ?_
  first | refine r_iand hK dX11_turned_10 ?_ | refine r_andnot hK dX11_turned_10 (by omega) ?_
  rw [← hmo]
  refine r_istore_2 hK dX11_turned_11 ?_
  refine r_aload_0 hK dX11_turned_12 ?_
  refine r_get hK fl_X11_7 dX11_turned_13 (h) rfl ?_
  refine r_aload_1 hK dX11_turned_16 ?_
  refine r_get hK fl_X11_7 dX11_turned_17 (h') rfl ?_
  refine r_icmp_ne 61 hK dX11_turned_20 (by omega) (by omega) (fun h20 => ?_) (fun h20 => ?_)
  · exact no (by omega)
  · refine r_iload_2 hK dX11_turned_23 ?_
    refine r_pSN1 hK (ct_many0 hK.rel (by omega)) lk_X11_27 dX11_turned_24 ?_
    refine r_iconstN (c := 1) hK dX11_turned_27 ?_
    refine r_icmp_ne 61 hK dX11_turned_28 (by omega) (by omega) (fun h28 => ?_) (fun h28 => ?_)
    · exact no (by omega)
    · refine r_aload_0 hK dX11_turned_31 ?_
      refine r_get hK fl_X11_13 dX11_turned_32 (h) rfl ?_
      refine r_iload_2 hK dX11_turned_35 ?_
      refine r_iconst hK dX11_turned_36 ?_
      first | refine r_ixor hK dX11_turned_37 ?_ | refine r_not hK dX11_turned_37 ?_
      first | refine r_iand hK dX11_turned_38 ?_ | refine r_andnot hK dX11_turned_38 (by omega) ?_
      refine r_aload_1 hK dX11_turned_39 ?_
      refine r_get hK fl_X11_13 dX11_turned_40 (h') rfl ?_
      refine r_icmp_ne 61 hK dX11_turned_43 (by omega) (by omega) (fun h43 => ?_) (fun h43 => ?_)
      · exact no (by omega)
      · refine r_aload_0 hK dX11_turned_46 ?_
        refine r_get hK fl_X11_16 dX11_turned_47 (h) rfl ?_
        refine r_iload_2 hK dX11_turned_50 ?_
        refine r_iconst hK dX11_turned_51 ?_
        first | refine r_ixor hK dX11_turned_52 ?_ | refine r_not hK dX11_turned_52 ?_
        first | refine r_iand hK dX11_turned_53 ?_ | refine r_andnot hK dX11_turned_53 (by omega) ?_
        refine r_aload_1 hK dX11_turned_54 ?_
        refine r_get hK fl_X11_16 dX11_turned_55 (h') rfl ?_
        refine r_icmp_eq 63 hK dX11_turned_58 (by omega) (by omega) (fun h58 => ?_) (fun h58 => ?_)
        · have yes : t = t' ∧ bits mo = 1 ∧ clr on mo = on' ∧ clr off mo = off' := by omega
          refine r_new (fs := [zI 0, zI 0, zI 0]) 1 hK nw_X11_8 dX11_turned_63 (by decide) ?_ (hw := new11)
          refine r_dup hK dX11_turned_66 ?_
          refine r_aload_0 hK dX11_turned_67 ?_
          refine r_get hK fl_X11_7 dX11_turned_68 ((up_n hkn).trans h) rfl ?_
          refine r_aload_0 hK dX11_turned_71 ?_
          refine r_get hK fl_X11_13 dX11_turned_72 ((up_n hkn).trans h) rfl ?_
          refine r_iload_2 hK dX11_turned_75 ?_
          first | refine r_ixor hK dX11_turned_76 ?_ | refine r_not hK dX11_turned_76 ?_
          refine r_aload_0 hK dX11_turned_77 ?_
          refine r_get hK fl_X11_16 dX11_turned_78 ((up_n hkn).trans h) rfl ?_
          refine r_iload_2 hK dX11_turned_81 ?_
          first | refine r_ixor hK dX11_turned_82 ?_ | refine r_not hK dX11_turned_82 ?_
          refine r_callI3 hK (ct_gInit hK.rel (up_s _ _ _)) lk_X11_32 dX11_turned_83 (fun r n1 f1 hp => ?_)
          obtain ⟨rfl, rfl, rfl⟩ := hp
          refine r_aret hK hRt dX11_turned_86 ?_
          rw [hmo] at yes ⊢
          unfold tu; rw [if_pos yes]; exact ⟨rfl, rfl, by rw [up_up]⟩
        · exact no (by omega)
set_option maxHeartbeats 4000000 in
theorem ct_gTold {G : GT} {Rel : Nat → Hp → Hp → Prop} (hR : RelOK Rel) {n : Nat} {f : Hp} {k : Nat} {g : Gt} {z : Int} (h : f k = some (cG g)) (hz : inR z) : Ct G Rel yX11_told cX11_told 2 (some .int) (1) (0) [.ref k, zI z] n (f) (Pu (zI (tellG g z)) n f) := by
  refine ct_intro [some (.ref k), some (zI z)] hR rfl (Nat.le_of_ble_eq_true rfl) ?_
  intro K hG hRel hK hRt hnm
  refine r_iload_1 hK dX11_told_0 ?_
  refine r_if_ne 11 hK dX11_told_1 (by omega) (fun h1 => ?_) (fun h1 => ?_)
  · refine r_iload_1 hK dX11_told_11 ?_
    refine r_iconstN (c := 1) hK dX11_told_12 ?_
    refine r_icmp_ne 23 hK dX11_told_13 (by omega) (by omega) (fun h13 => ?_) (fun h13 => ?_)
    · refine r_aload_0 hK dX11_told_23 ?_
      refine r_get hK fl_X11_16 dX11_told_24 (h) rfl ?_
      exact r_iret hK hRt dX11_told_27 ⟨by unfold tellG; rw [if_neg (by omega), if_neg (by omega)], rfl, rfl⟩
    · refine r_aload_0 hK dX11_told_16 ?_
      refine r_get hK fl_X11_13 dX11_told_17 (h) rfl ?_
      refine r_goto 27 hK dX11_told_20 ?_
      exact r_iret hK hRt dX11_told_27 ⟨by unfold tellG; rw [if_neg (by omega), if_pos (by omega)], rfl, rfl⟩
  · refine r_aload_0 hK dX11_told_4 ?_
    refine r_get hK fl_X11_7 dX11_told_5 (h) rfl ?_
    refine r_goto 27 hK dX11_told_8 ?_
    exact r_iret hK hRt dX11_told_27 ⟨by unfold tellG; rw [if_pos (by omega)], rfl, rfl⟩
