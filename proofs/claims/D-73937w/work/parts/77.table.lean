set_option maxRecDepth 100000
/-! ===== class Table ===== -/
theorem RelP.sub {n : Nat} {f f' g : Hp} (h : RelP n f g) (hs : ∀ j e, f' j = some e → f j = some e) : RelP n f' g := by
  obtain ⟨h1, ow, h2, h3, h4⟩ := h
  refine ⟨fun id e hf hr => h1 id e (hs _ _ hf) hr, ow, fun id e hf hr => h2 id e (hs _ _ hf) hr, fun id e x hf hr hx => ⟨?_, (h3 id e x (hs _ _ hf) hr hx).2⟩, fun id id' e e' x hf hr hf' hr' hx hx' => h4 id id' e e' x (hs _ _ hf) hr (hs _ _ hf') hr' hx hx'⟩
  have := (h3 id e x (hs _ _ hf) hr hx).1
  cases hq : f' x with
  | none => rfl
  | some e2 => rw [hs _ _ hq] at this; cases this
/-- garbage is forgotten -/
theorem r_sub {K : KT} {pc : Nat} {L : List (Option Value)} {st : List Value} {n : Nat} {f f' : Hp} {u : Nat} (hQ : kRel K = RelP) (hs : ∀ j e, f' j = some e → f j = some e) (k : Wx K pc L st n f' u) : Wx K pc L st n f u := by
  intro H locs ls hH hS hl
  obtain ⟨h1, h2, g, h3, h4, h5, h6⟩ := hH
  exact k H locs ls ⟨h1, h2, g, by rw [hQ] at h3 ⊢; exact h3.sub hs, h4, h5, h6⟩ hS hl
theorem new16 {G : GT} : ∃ r, cls[16]? = some r ∧ r.2.2 ≤ 12 * 1 ∧ 1 ≤ 1 ∧ ∀ j, j < r.2.2 → defaultValue (tyC 16 j) = cv G (vp_V [.null, zI 0, zI 0] j) := ⟨_, rfl, by decide, by decide, fun j hj => by
  have h3 : j = 0 ∨ j = 1 ∨ j = 2 := by have : j < 3 := hj; omega
  rcases h3 with e | e | e <;> subst e <;> rfl⟩
/-- a table c, its values in va -/
def CT (f : Hp) (c va ni no : Nat) (v : Nat → Nat) : Prop := f c = some (.inl (5, [zI (ni : Int), zI (no : Int), .ref va])) ∧ f va = some (.inr (0, 8, fun j => zI ((v j : Nat) : Int)))
theorem CT.up {f : Hp} {c va ni no k : Nat} {v : Nat → Nat} {e : E_} (h : CT f c va ni no v) (h1 : c ≠ k) (h2 : va ≠ k) : CT (up f k e) c va ni no v := ⟨by rw [up_n h1]; exact h.1, by rw [up_n h2]; exact h.2⟩
/-- most that are alike, by rows -/
def cpR (v : Nat → Nat) (R : Nat) : Nat → Nat
  | 0 => 0
  | x + 1 => max (cpR v R x) (cnt v (v x) R)
theorem cpR_le (v : Nat → Nat) (R : Nat) : ∀ k, cpR v R k ≤ R
  | 0 => Nat.zero_le _
  | k + 1 => by have := cpR_le v R k; have := cnt_le v (v k) R; show max (cpR v R k) (cnt v (v k) R) ≤ R; omega
theorem cpM_ge2 (v : Nat → Nat) (R : Nat) : ∀ k y, y < k → cnt v y R ≤ cpM v R k
  | 0, y, h => by omega
  | k + 1, y, h => by
    show _ ≤ max (cpM v R k) (cnt v k R)
    rcases Nat.lt_or_ge y k with q | q
    · have := cpM_ge2 v R k y q; omega
    · rw [show y = k by omega]; omega
theorem cpR_ge (v : Nat → Nat) (R : Nat) : ∀ k x, x < k → cnt v (v x) R ≤ cpR v R k
  | 0, x, h => by omega
  | k + 1, x, h => by
    show _ ≤ max (cpR v R k) (cnt v (v k) R)
    rcases Nat.lt_or_ge x k with q | q
    · have := cpR_ge v R k x q; omega
    · rw [show x = k by omega]; omega
theorem cnt_pos {v : Nat → Nat} {y : Nat} : ∀ {R : Nat}, 0 < cnt v y R → ∃ x, x < R ∧ v x = y
  | 0, h => absurd h (Nat.lt_irrefl _)
  | R + 1, h => by
    have e : cnt v y (R + 1) = if v R = y then cnt v y R + 1 else cnt v y R := rfl
    rw [e] at h
    by_cases c : v R = y
    · exact ⟨R, by omega, c⟩
    · rw [if_neg c] at h
      obtain ⟨x, h1, h2⟩ := cnt_pos h
      exact ⟨x, by omega, h2⟩
theorem cp_le1 (v : Nat → Nat) (R : Nat) : ∀ k, cpM v R k ≤ cpR v R R
  | 0 => Nat.zero_le _
  | k + 1 => by
    have := cp_le1 v R k
    show max (cpM v R k) (cnt v k R) ≤ _
    rcases Nat.eq_zero_or_pos (cnt v k R) with q | q
    · omega
    · obtain ⟨x, h1, h2⟩ := cnt_pos q
      have := cpR_ge v R R x h1
      rw [h2] at this; omega
theorem cp_eq {v : Nat → Nat} {R : Nat} (hv : ∀ x, x < R → v x < 8) : cpR v R R = cpM v R 8 := by
  refine Nat.le_antisymm ?_ (cp_le1 v R 8)
  have : ∀ k, k ≤ R → cpR v R k ≤ cpM v R 8 := by
    intro k
    induction k with
    | zero => intro _; exact Nat.zero_le _
    | succ k ih =>
      intro hk
      have h1 := ih (by omega)
      have h2 := cpM_ge2 v R 8 (v k) (hv k (by omega))
      show max (cpR v R k) (cnt v (v k) R) ≤ _
      omega
  exact this R (Nat.le_refl _)
/-- the next one that isn't made -/
theorem nx_sp {m R k LL : Nat} {v : Nat → Nat} (hr : R + k < LL) (hL : LL ≤ 64) : ∀ (d y : Nat), d = LL - y → y = k + cM m v R y → ∀ e, LL - y ≤ e → ∃ t, nxU m v R e y = t ∧ y ≤ t ∧ t < LL ∧ isM m v t R = false ∧ (∀ i, y ≤ i → i < t → isM m v i R = true) ∧ t + 1 = k + 1 + cM m v R (t + 1) := by
  intro d
  induction d with
  | zero => intro y hd hy e he; have := cM_R m v R y; omega
  | succ d ih =>
    intro y hd hy e he
    have e2 : cM m v R (y + 1) = if isM m v y R then cM m v R y + 1 else cM m v R y := rfl
    obtain ⟨e', rfl⟩ : ∃ e', e = e' + 1 := ⟨e - 1, by omega⟩
    cases hm : isM m v y R with
    | false =>
      rw [hm, if_neg (by decide)] at e2
      exact ⟨y, nxU_at hm, Nat.le_refl _, by omega, hm, fun i h1 h2 => by omega, by omega⟩
    | true =>
      rw [hm, if_pos rfl] at e2
      obtain ⟨t, t1, t2, t3, t4, t5, t6⟩ := ih (y + 1) (by omega) (by omega) e' (by omega)
      refine ⟨t, by rw [nxU_step hm]; exact t1, by omega, t3, t4, fun i h1 h2 => ?_, t6⟩
      rcases Nat.eq_or_lt_of_le h1 with q | q
      · rw [← q]; exact hm
      · exact t5 i q h2
set_option maxHeartbeats 4000000 in
theorem tb_rows {G : GT} {Rel : Nat → Hp → Hp → Prop} (hR : RelOK Rel) {n : Nat} {f : Hp} {c va ni no : Nat} {v : Nat → Nat} (h : CT f c va ni no v) (hi : ni ≤ 3) : Ct G Rel yX5_rows cX5_rows 1 (some .int) (1) (0) [.ref c] n (f) (Pu (zI ((rN ni : Nat) : Int)) n f) := by
  refine ct_intro [some (.ref c)] hR rfl (Nat.le_of_ble_eq_true rfl) ?_
  intro K hG hRel hK hRt hnm
  refine r_iconstN (c := 1) hK dX5_rows_0 ?_
  refine r_aload_0 hK dX5_rows_1 ?_
  refine r_get hK fl_X5_15 dX5_rows_2 (h.1) rfl ?_
  refine r_ishl hK dX5_rows_5 (by omega) (sh1 (by omega)) ?_
  show Wx K _ _ (zI ((rN ni : Nat) : Int) :: _) _ _ _
  exact r_iret hK hRt dX5_rows_6 ⟨rfl, rfl, rfl⟩
set_option maxHeartbeats 4000000 in
theorem tb_isThere {G : GT} {Rel : Nat → Hp → Hp → Prop} (hR : RelOK Rel) {n : Nat} {f : Hp} {c va ni no : Nat} {v : Nat → Nat} (h : CT f c va ni no v) (hi : ni ≤ 3) : Ct G Rel yX5_isThere cX5_isThere 1 (some .boolean) (1) (0) [.ref c] n (f) (Pu (zB (0 < ni)) n f) := by
  refine ct_intro [some (.ref c)] hR rfl (Nat.le_of_ble_eq_true rfl) ?_
  intro K hG hRel hK hRt hnm
  refine r_aload_0 hK dX5_isThere_0 ?_
  refine r_get hK fl_X5_15 dX5_isThere_1 (h.1) rfl ?_
  refine r_if_le 11 hK dX5_isThere_4 (by omega) (fun h4 => ?_) (fun h4 => ?_)
  · refine r_iconstN (c := 0) hK dX5_isThere_11 ?_
    exact r_zret hK hRt dX5_isThere_12 rfl ⟨by rw [zB_f (by omega)]; rfl, rfl, rfl⟩
  · refine r_iconstN (c := 1) hK dX5_isThere_7 ?_
    refine r_goto 12 hK dX5_isThere_8 ?_
    exact r_zret hK hRt dX5_isThere_12 rfl ⟨by rw [zB_t (by omega)]; rfl, rfl, rfl⟩
set_option maxHeartbeats 4000000 in
theorem tb_alike {G : GT} {Rel : Nat → Hp → Hp → Prop} (hR : RelOK Rel) {n : Nat} {f : Hp} {c va ni no x k : Nat} {v : Nat → Nat} (h : CT f c va ni no v) (hx : x < 8) (hk : k ≤ 8) (hv : ∀ x, x < 8 → v x < 10000) : Ct G Rel yX5_alike cX5_alike 5 (some .int) (1) (0) [.ref c, zI (x : Int), zI (k : Int)] n (f) (Pu (zI ((cnt v (v x) k : Nat) : Int)) n f) := by
  refine ct_intro [some (.ref c), some (zI (x : Int)), some (zI (k : Int)), none, none] hR rfl (Nat.le_of_ble_eq_true rfl) ?_
  intro K hG hRel hK hRt hnm
  have lp : ∀ (d j : Nat), d = k - j → j ≤ k → Wx K 5 [some (.ref c), some (zI (x : Int)), some (zI (k : Int)), some (zI ((cnt v (v x) j : Nat) : Int)), some (zI (j : Int))] [] n f 0 := by
    intro d
    induction d using Nat.strongRecOn with
    | _ d ih =>
      intro j hd hj
      have e : cnt v (v x) (j + 1) = if v j = v x then cnt v (v x) j + 1 else cnt v (v x) j := rfl
      have hvx := hv x hx
      refine r_iload_4 hK dX5_alike_5 ?_
      refine r_iload_2 hK dX5_alike_7 ?_
      refine r_icmp_ge 41 hK dX5_alike_8 (by omega) (by omega) (fun h8 => ?_) (fun h8 => ?_)
      · refine r_iload_3 hK dX5_alike_41 ?_
        exact r_iret hK hRt dX5_alike_42 ⟨by rw [show j = k by omega], rfl, rfl⟩
      · refine r_iload_3 hK dX5_alike_11 ?_
        refine r_aload_0 hK dX5_alike_12 ?_
        refine r_get hK fl_X5_9 dX5_alike_13 (h.1) rfl ?_
        refine r_iload_4 hK dX5_alike_16 ?_
        refine r_iald hK dX5_alike_18 h.2 (by omega) ?_
        refine r_aload_0 hK dX5_alike_19 ?_
        refine r_get hK fl_X5_9 dX5_alike_20 (h.1) rfl ?_
        refine r_iload_1 hK dX5_alike_23 ?_
        refine r_iald hK dX5_alike_24 h.2 (by omega) ?_
        refine r_icmp_ne 32 hK dX5_alike_25 (by have := hv j (by omega); omega) (by omega) (fun h25 => ?_) (fun h25 => ?_)
        · refine r_iconstN (c := 0) hK dX5_alike_32 ?_
          first | refine r_iaddN hK dX5_alike_33 ?_ | refine r_iadd hK dX5_alike_33 ?_
          refine r_istore_3 hK dX5_alike_34 ?_
          first | refine r_incN_4 hK dX5_alike_35 ?_ | refine r_iinc_4 hK dX5_alike_35 ?_
          refine r_goto 5 hK dX5_alike_38 ?_
          have := ih (k - (j + 1)) (by omega) (j + 1) rfl (by omega)
          rw [e, if_neg (by omega)] at this
          exact this
        · refine r_iconstN (c := 1) hK dX5_alike_28 ?_
          refine r_goto 33 hK dX5_alike_29 ?_
          first | refine r_iaddN hK dX5_alike_33 ?_ | refine r_iadd hK dX5_alike_33 ?_
          refine r_istore_3 hK dX5_alike_34 ?_
          first | refine r_incN_4 hK dX5_alike_35 ?_ | refine r_iinc_4 hK dX5_alike_35 ?_
          refine r_goto 5 hK dX5_alike_38 ?_
          have := ih (k - (j + 1)) (by omega) (j + 1) rfl (by omega)
          rw [e, if_pos (by omega)] at this
          exact this
  refine r_iconstN (c := 0) hK dX5_alike_0 ?_
  refine r_istore_3 hK dX5_alike_1 ?_
  refine r_iconstN (c := 0) hK dX5_alike_2 ?_
  refine r_istore_4 hK dX5_alike_3 ?_
  exact lp k 0 rfl (by omega)
set_option maxHeartbeats 4000000 in
theorem tb_copies {G : GT} {Rel : Nat → Hp → Hp → Prop} (hR : RelOK Rel) {n : Nat} {f : Hp} {c va ni no : Nat} {v : Nat → Nat} (h : CT f c va ni no v) (hi : ni ≤ 3) (hv : ∀ x, x < 8 → v x < 10000) (hv8 : ∀ x, x < rN ni → v x < 8) : Ct G Rel yX5_copies cX5_copies 3 (some .int) (2) (0) [.ref c] n (f) (Pu (zI ((cpM v (rN ni) 8 : Nat) : Int)) n f) := by
  refine ct_intro [some (.ref c), none, none] hR rfl (Nat.le_of_ble_eq_true rfl) ?_
  intro K hG hRel hK hRt hnm
  have hr : rN ni ≤ 8 := rN_le (k := 3) hi
  have lp : ∀ (d x : Nat), d = rN ni - x → x ≤ rN ni → Wx K 4 [some (.ref c), some (zI ((cpR v (rN ni) x : Nat) : Int)), some (zI (x : Int))] [] n f 0 := by
    intro d
    induction d using Nat.strongRecOn with
    | _ d ih =>
      intro x hd hx
      have e : max (cpR v (rN ni) x) (cnt v (v x) (rN ni)) = cpR v (rN ni) (x + 1) := rfl
      have l1 := cpR_le v (rN ni) x
      have l2 := cnt_le v (v x) (rN ni)
      refine r_iload_2 hK dX5_copies_4 ?_
      refine r_aload_0 hK dX5_copies_5 ?_
      refine r_pV0 hK (tb_rows hK.rel h hi) lk_X5_28 (Rcv.raw hK.rel h.1 rfl) dX5_copies_6 ?_
      refine r_icmp_ge 32 hK dX5_copies_9 (by omega) (by omega) (fun h9 => ?_) (fun h9 => ?_)
      · refine r_iload_1 hK dX5_copies_32 ?_
        exact r_iret hK hRt dX5_copies_33 ⟨by rw [show x = rN ni by omega, cp_eq hv8], rfl, rfl⟩
      · refine r_iload_1 hK dX5_copies_12 ?_
        refine r_aload_0 hK dX5_copies_13 ?_
        refine r_iload_2 hK dX5_copies_14 ?_
        refine r_aload_0 hK dX5_copies_15 ?_
        refine r_pV0 hK (tb_rows hK.rel h hi) lk_X5_28 (Rcv.raw hK.rel h.1 rfl) dX5_copies_16 ?_
        refine r_pV2 hK (tb_alike hK.rel h (by omega) (by omega) hv) lk_X5_32 (Rcv.raw hK.rel h.1 rfl) dX5_copies_19 ?_
        refine r_mmax hK lk_X5_36 dX5_copies_22 (by omega) (by omega) ?_
        rw [e]
        refine r_istore_1 hK dX5_copies_25 ?_
        first | refine r_incN_2 hK dX5_copies_26 ?_ | refine r_iinc_2 hK dX5_copies_26 ?_
        refine r_goto 4 hK dX5_copies_29 ?_
        exact ih (rN ni - (x + 1)) (by omega) (x + 1) rfl (by omega)
  refine r_iconstN (c := 0) hK dX5_copies_0 ?_
  refine r_istore_1 hK dX5_copies_1 ?_
  refine r_iconstN (c := 0) hK dX5_copies_2 ?_
  refine r_istore_2 hK dX5_copies_3 ?_
  exact lp (rN ni) 0 rfl (by omega)
set_option maxHeartbeats 4000000 in
theorem tb_garbage {G : GT} {Rel : Nat → Hp → Hp → Prop} (hR : RelOK Rel) {n : Nat} {f : Hp} {c va ni no : Nat} {v : Nat → Nat} (h : CT f c va ni no v) (hi : ni ≤ 3) (hv : ∀ x, x < 8 → v x < 10000) (hv8 : ∀ x, x < rN ni → v x < 8) : Ct G Rel yX5_garbage cX5_garbage 2 (some .int) (3) (0) [.ref c] n (f) (Pu (zI ((gbg (cpM v (rN ni) 8) : Nat) : Int)) n f) := by
  refine ct_intro [some (.ref c), none] hR rfl (Nat.le_of_ble_eq_true rfl) ?_
  intro K hG hRel hK hRt hnm
  have hr : rN ni ≤ 8 := rN_le (k := 3) hi
  have hc := cpM_le v (rN ni) 8
  have lp : ∀ m g, g + m = 4 → gbg (cpM v (rN ni) 8) = gbF (cpM v (rN ni) 8) m g → (g = 4 → 16 < cpM v (rN ni) 8) → Wx K 2 [some (.ref c), some (zI (g : Int))] [] n f 0 := by
    intro m
    induction m with
    | zero => intro g hg _ h4; have := h4 (by omega); omega
    | succ m ih =>
      intro g hg he _
      have e : gbF (cpM v (rN ni) 8) (m + 1) g = if rN g < cpM v (rN ni) 8 then gbF (cpM v (rN ni) 8) m (g + 1) else g := rfl
      rw [e] at he
      have hg3 : rN g ≤ 8 := rN_le (k := 3) (by omega)
      refine r_iconstN (c := 1) hK dX5_garbage_2 ?_
      refine r_iload_1 hK dX5_garbage_3 ?_
      refine r_ishl hK dX5_garbage_4 (by omega) (sh1 (by omega)) ?_
      show Wx K _ _ (zI ((rN g : Nat) : Int) :: _) _ _ _
      refine r_aload_0 hK dX5_garbage_5 ?_
      refine r_pV0 hK (tb_copies hK.rel h hi hv hv8) lk_X5_41 (Rcv.raw hK.rel h.1 rfl) dX5_garbage_6 ?_
      refine r_icmp_ge 18 hK dX5_garbage_9 (by omega) (by omega) (fun h9 => ?_) (fun h9 => ?_)
      · refine r_iload_1 hK dX5_garbage_18 ?_
        exact r_iret hK hRt dX5_garbage_19 ⟨by rw [he, if_neg (by omega)], rfl, rfl⟩
      · first | refine r_incN_1 hK dX5_garbage_12 ?_ | refine r_iinc_1 hK dX5_garbage_12 ?_
        refine r_goto 2 hK dX5_garbage_15 ?_
        refine ih (g + 1) (by omega) (by rw [he, if_pos (by omega)]) (fun h => ?_)
        have h3 : g = 3 := by omega
        subst h3
        have : rN 3 = 8 := rfl
        omega
  refine r_iconstN (c := 0) hK dX5_garbage_0 ?_
  refine r_istore_1 hK dX5_garbage_1 ?_
  exact lp 4 0 rfl rfl (by omega)
set_option maxHeartbeats 4000000 in
theorem tb_lines {G : GT} {Rel : Nat → Hp → Hp → Prop} (hR : RelOK Rel) {n : Nat} {f : Hp} {c va ni no : Nat} {v : Nat → Nat} (h : CT f c va ni no v) (hi : ni ≤ 3) (ho : no ≤ 3) (hv : ∀ x, x < 8 → v x < 10000) (hv8 : ∀ x, x < rN ni → v x < 8) : Ct G Rel yX5_lines cX5_lines 1 (some .int) (4) (0) [.ref c] n (f) (Pu (zI ((lnN ni no v : Nat) : Int)) n f) := by
  refine ct_intro [some (.ref c)] hR rfl (Nat.le_of_ble_eq_true rfl) ?_
  intro K hG hRel hK hRt hnm
  have hr : rN ni ≤ 8 := rN_le (k := 3) hi
  have hc := cpM_le v (rN ni) 8
  have hg := gbg_ok (cpM v (rN ni) 8) (by omega)
  refine r_aload_0 hK dX5_lines_0 ?_
  refine r_get hK fl_X5_15 dX5_lines_1 (h.1) rfl ?_
  refine r_aload_0 hK dX5_lines_4 ?_
  refine r_get hK fl_X5_19 dX5_lines_5 (h.1) rfl ?_
  refine r_aload_0 hK dX5_lines_8 ?_
  refine r_pV0 hK (tb_garbage hK.rel h hi hv hv8) lk_X5_44 (Rcv.raw hK.rel h.1 rfl) dX5_lines_9 ?_
  first | refine r_iaddN hK dX5_lines_12 ?_ | refine r_iadd hK dX5_lines_12 ?_
  refine r_mmax hK lk_X5_36 dX5_lines_13 (by omega) (by omega) ?_
  exact r_iret hK hRt dX5_lines_16 ⟨by unfold lnN; rw [show max ni (no + gbg (cpM v (rN ni) 8)) = if no + gbg (cpM v (rN ni) 8) < ni then ni else no + gbg (cpM v (rN ni) 8) from by split <;> omega], rfl, rfl⟩
set_option maxHeartbeats 4000000 in
theorem tb_becomes {G : GT} {Rel : Nat → Hp → Hp → Prop} (hR : RelOK Rel) {n : Nat} {f : Hp} {c va ni no c2 va2 ni2 no2 : Nat} {v v2 : Nat → Nat} (h : CT f c va ni no v) (h2 : CT f c2 va2 ni2 no2 v2) (hne : c2 ≠ c) : Ct G Rel yX5_becomes cX5_becomes 2 none (1) (0) [.ref c, .ref c2] n (f) (fun r n' f' => r = none ∧ n' = n ∧ f' = up (up f c (.inl (5, [zI (ni2 : Int), zI (no2 : Int), .ref va]))) va (.inr (0, 8, fun j => zI ((if j < 8 then v2 j else v j : Nat) : Int)))) := by
  refine ct_intro [some (.ref c), some (.ref c2)] hR rfl (Nat.le_of_ble_eq_true rfl) ?_
  intro K hG hRel hK hRt hnm
  have hva : va ≠ c := fun q => by have := h.2; rw [q, h.1] at this; cases this
  have hva2 : va2 ≠ c := fun q => by have := h2.2; rw [q, h.1] at this; cases this
  refine r_aload_0 hK dX5_becomes_0 ?_
  refine r_aload_1 hK dX5_becomes_1 ?_
  refine r_get hK fl_X5_15 dX5_becomes_2 (h2.1) rfl ?_
  refine r_put hK fl_X5_15 dX5_becomes_5 (h.1) (by simp) ?_
  refine r_aload_0 hK dX5_becomes_8 ?_
  refine r_aload_1 hK dX5_becomes_9 ?_
  refine r_get hK fl_X5_19 dX5_becomes_10 ((by rw [up_n hne]; exact h2.1)) rfl ?_
  refine r_put hK fl_X5_19 dX5_becomes_13 (up_s _ _ _) (by simp) ?_
  refine r_aload_1 hK dX5_becomes_16 ?_
  refine r_get hK fl_X5_9 dX5_becomes_17 ((by rw [up_n hne, up_n hne]; exact h2.1)) rfl ?_
  refine r_iconstN (c := 0) hK dX5_becomes_20 ?_
  refine r_aload_0 hK dX5_becomes_21 ?_
  refine r_get hK fl_X5_9 dX5_becomes_22 (up_s _ _ _) rfl ?_
  refine r_iconstN (c := 0) hK dX5_becomes_25 ?_
  refine r_bipushN (c := 8) hK dX5_becomes_26 ?_
  refine r_acpyI hK q1445 dX5_becomes_28 (by rw [up_n hva2, up_n hva2]; exact h2.2) (by rw [up_n hva, up_n hva]; exact h.2) (by decide) (by decide) (fun i _ => ⟨_, rfl⟩) ?_
  refine r_vret hK hRt dX5_becomes_31 ⟨rfl, rfl, ?_⟩
  rw [up_up]
  congr 4
  funext j
  unfold va_cpy
  by_cases q : j < 8
  · rw [if_pos (by omega), if_pos q, Nat.zero_add, Nat.sub_zero]
  · rw [if_neg (by omega), if_neg q]
theorem fil_nx (m : Nat) (v : Nat → Nat) (R k : Nat) : fil m v R k = nxU m v R 64 (if k = 0 then 0 else fil m v R (k - 1) + 1) := by
  cases k with
  | zero => rfl
  | succ k => rfl
set_option linter.unusedVariables false in
set_option maxHeartbeats 4000000 in
theorem tb_lays {G : GT} {Rel : Nat → Hp → Hp → Prop} (hR : RelOK Rel) (hP : Rel = RelP) (hX : GX G) {n : Nat} {f : Hp} {c va ni no o : Nat} {v : Nat → Nat} {h0 : Nat → Value} (h : CT f c va ni no v) (hi : ni ≤ 3) (ho : no ≤ 3) (hv : ∀ x, x < 8 → v x < 10000) (hv8 : ∀ x, x < rN ni → v x < 8) (hL : lnN ni no v ≤ 6) (hnL : ni ≤ lnN ni no v) (ht : ∀ x, x < rN ni → t1 no v x < rN (lnN ni no v)) (hO : f o = some (.inr (0, 64, h0))) (hov : va ≠ o) : Ct G Rel yX5_lays cX5_lays 4 none (5) (2) [.ref c, .ref o] n (f) (fun r n' f' => r = none ∧ n ≤ n' ∧ f' = up f o (.inr (0, 64, oA (rN (lnN ni no v)) (told ni no v) h0))) := by
  refine ct_intro [some (.ref c), some (.ref o), none, none] hR rfl (Nat.le_of_ble_eq_true rfl) ?_
  intro K hG hRel hK hRt hnm
  have hQ : kRel K = RelP := by rw [hRel]; exact hP
  have hXK : GX (kG K) := by rw [hG]; exact hX
  obtain ⟨LL, hLL⟩ : ∃ LL, LL = lnN ni no v := ⟨_, rfl⟩
  rw [← hLL] at hL hnL ht hRt
  have hr : rN ni ≤ 8 := rN_le (k := 3) hi
  have hr64 : rN LL ≤ 64 := rN_le (k := 6) hL
  have hr1 := rN_pos LL
  have hrr : rN ni ≤ rN LL := rN_mono hnL
  refine r_fact hK (fun _ hno => ?_)
  have hfn : f n = none := hno n (Nat.le_refl n)
  have hon : o ≠ n := fun q => by rw [q, hfn] at hO; cases hO
  have hcn : c ≠ n := fun q => by have := h.1; rw [q, hfn] at this; cases this
  have hvn : va ≠ n := fun q => by have := h.2; rw [q, hfn] at this; cases this
  have hco : c ≠ o := fun q => by have := h.1; rw [q, hO] at this; cases this
  obtain ⟨T, hT⟩ : ∃ T, T = told ni no v := ⟨_, rfl⟩
  obtain ⟨FF, hFF⟩ : ∃ FF : (Nat → Bool) → Nat → Hp, FF = fun b x => up (up f n (cBS 1 b)) o (.inr (0, 64, oA x T h0)) := ⟨_, rfl⟩
  have fC : ∀ b x, CT (FF b x) c va ni no v := fun b x => by rw [hFF]; exact (h.up hcn hvn).up hco hov
  have fB : ∀ b x, FF b x n = some (cBS 1 b) := fun b x => by rw [hFF]; show up _ _ _ _ = _; rw [up_n (Ne.symm hon), up_s]
  have fO : ∀ b x, FF b x o = some (.inr (0, 64, oA x T h0)) := fun b x => by rw [hFF]; exact up_s _ _ _
  have f1 : ∀ b x b', up (FF b x) n (cBS 1 b') = FF b' x := fun b x b' => by rw [hFF]; show up (up _ _ _) _ _ = up _ _ _; rw [up_comm hon, up_up]
  have f2 : ∀ b x, up (FF b x) o (.inr (0, 64, oA (x + 1) T h0)) = FF b (x + 1) := fun b x => by rw [hFF]; exact up_up _ _ _ _
  have LB : ∀ (d k n1 y0 : Nat) (b : Nat → Bool), d = rN LL - (rN ni + k) → rN ni + k ≤ rN LL → n ≤ n1 → y0 = (if k = 0 then 0 else fil no v (rN ni) (k - 1) + 1) → y0 = k + cM no v (rN ni) y0 → (∀ y, y < 64 → b y = (decide (y < rN LL) && !isM no v y (rN ni) && decide (y0 ≤ y))) → Wx K 23 [some (.ref c), some (.ref o), some (.ref n), some (zI ((rN ni + k : Nat) : Int))] [] n1 (FF b (rN ni + k)) 2 := by
    intro d
    induction d using Nat.strongRecOn with
    | _ d ih =>
      intro k n1 y0 b hd hk hn1 hy0 hcy hb
      have hC := fC b (rN ni + k)
      refine r_iload_3 hK dX5_lays_23 ?_
      refine r_iconstN (c := 1) hK dX5_lays_24 ?_
      refine r_aload_0 hK dX5_lays_25 ?_
      refine r_pV0 hK (tb_lines hK.rel hC hi ho hv hv8) lk_X5_52 (Rcv.raw hK.rel hC.1 rfl) dX5_lays_26 ?_
      refine r_ishl hK dX5_lays_29 (by omega) (sh1 (by omega)) ?_
      rw [← hLL]
      show Wx K _ _ (zI ((rN LL : Nat) : Int) :: _) _ _ _
      refine r_icmp_ge 86 hK dX5_lays_30 (by omega) (by omega) (fun h30 => ?_) (fun h30 => ?_)
      · refine r_sub hQ (f' := up f o (.inr (0, 64, oA (rN LL) T h0))) (fun j e hj => ?_) ?_
        · have e1 : rN ni + k = rN LL := by omega
          rw [e1, hFF]
          show up (up f n (cBS 1 b)) o (.inr (0, 64, oA (rN LL) T h0)) j = some e
          by_cases q : j = o
          · rw [q] at hj ⊢; rw [up_s] at hj ⊢; exact hj
          · rw [up_n q] at hj ⊢
            by_cases q2 : j = n
            · rw [q2, hfn] at hj; cases hj
            · rw [up_n q2]; exact hj
        exact r_vret hK hRt dX5_lays_86 ⟨rfl, hn1, by rw [hT]⟩
      · refine r_iload_3 hK dX5_lays_33 ?_
        refine r_aload_0 hK dX5_lays_34 ?_
        refine r_pV0 hK (tb_rows hK.rel hC hi) lk_X5_28 (Rcv.raw hK.rel hC.1 rfl) dX5_lays_35 ?_
        refine r_icmp_ge 65 hK dX5_lays_38 (by omega) (by omega) (fun h38 => ?_) (fun h38 => ?_)
        · obtain ⟨t, t1, t2, t3, t4, t5, t6⟩ := nx_sp (m := no) (v := v) (R := rN ni) (k := k) (LL := rN LL) (by omega) hr64 (rN LL - y0) y0 rfl hcy 64 (by omega)
          have hfil : fil no v (rN ni) k = t := by rw [fil_nx, ← hy0]; exact t1
          have hTt : T (rN ni + k) = t := by rw [hT]; unfold told; rw [if_neg (by omega), show rN ni + k - rN ni = k by omega]; exact hfil
          have hb0 : ∀ i, i < t → b i = false := fun i hi2 => by
            rw [hb i (by omega)]
            by_cases q : y0 ≤ i
            · rw [t5 i q hi2]; simp
            · simp [q]
          refine r_aload_1 hK dX5_lays_65 ?_
          refine r_iload_3 hK dX5_lays_66 ?_
          refine r_aload_2 hK dX5_lays_67 ?_
          refine r_iconstN (c := 0) hK dX5_lays_68 ?_
          refine r_pV1 hK (pb_next hQ hXK (fB _ _) (t := t) (by omega) (by rw [hb t (by omega), t4]; simp [t3, t2]) hb0) lk_X5_59 (rcv_bs hQ (fB _ _)) dX5_lays_69 ?_
          refine r_iast hK dX5_lays_72 (fO _ _) (by omega) ?_
          rw [← hTt, oA_s, f2]
          refine r_aload_2 hK dX5_lays_73 ?_
          refine r_aload_1 hK dX5_lays_74 ?_
          refine r_iload_3 hK dX5_lays_75 ?_
          refine r_iald hK dX5_lays_76 (fO _ _) (by omega) ?_
          rw [show oA (rN ni + k + 1) T h0 (rN ni + k) = zI ((T (rN ni + k) : Nat) : Int) from by unfold oA; rw [if_pos (by omega)], hTt]
          refine r_callV1 hK (pb_clear2 hQ hXK (fB _ _) (i := t) (by omega)) lk_X5_63 (rcv_bs hQ (fB _ _)) dX5_lays_77 (fun r n2 f2 hp => ?_)
          obtain ⟨rfl, rfl, rfl⟩ := hp
          rw [f1]
          first | refine r_incN_3 hK dX5_lays_80 ?_ | refine r_iinc_3 hK dX5_lays_80 ?_
          refine r_goto 23 hK dX5_lays_83 ?_
          refine ih (rN LL - (rN ni + (k + 1))) (by omega) (k + 1) _ (t + 1) _ rfl (by omega) hn1 (by rw [if_neg (by omega), Nat.add_sub_cancel, hfil]) t6 (fun y hy => ?_)
          rw [hb y hy]
          by_cases q1 : y = t
          · subst q1; simp
          · by_cases q2 : y0 ≤ y
            · by_cases q3 : y < t
              · rw [t5 y q2 q3]; simp
              · simp [q1, q2, show t + 1 ≤ y by omega]
            · simp [q2, show ¬ t + 1 ≤ y by omega]
        · omega --!
  have LA : ∀ (d x n1 : Nat) (b : Nat → Bool), d = rN ni - x → x ≤ rN ni → n ≤ n1 → (∀ y, y < 64 → b y = (decide (y < rN LL) && !isM no v y x)) → Wx K 23 [some (.ref c), some (.ref o), some (.ref n), some (zI (x : Int))] [] n1 (FF b x) 2 := by
    intro d
    induction d using Nat.strongRecOn with
    | _ d ih =>
      intro x n1 b hd hx hn1 hb
      rcases Nat.eq_or_lt_of_le hx with hxe | hxl
      · have := LB (rN LL - rN ni) 0 n1 0 b rfl hrr hn1 rfl rfl (fun y hy => by rw [hb y hy, hxe]; simp)
        rw [hxe]; exact this
      have hC := fC b x
      have hc := cnt_le v (v x) x
      have htx := ht x hxl
      have hvx := hv x (by omega)
      have hsh : cnt v (v x) x <<< no < 4294967296 := by
        unfold t1 at htx; omega
      have hTx : T x = t1 no v x := by rw [hT]; unfold told; rw [if_pos hxl]
      refine r_iload_3 hK dX5_lays_23 ?_
      refine r_iconstN (c := 1) hK dX5_lays_24 ?_
      refine r_aload_0 hK dX5_lays_25 ?_
      refine r_pV0 hK (tb_lines hK.rel hC hi ho hv hv8) lk_X5_52 (Rcv.raw hK.rel hC.1 rfl) dX5_lays_26 ?_
      refine r_ishl hK dX5_lays_29 (by omega) (sh1 (by omega)) ?_
      rw [← hLL]
      show Wx K _ _ (zI ((rN LL : Nat) : Int) :: _) _ _ _
      refine r_icmp_ge 86 hK dX5_lays_30 (by omega) (by omega) (fun h30 => ?_) (fun h30 => ?_)
      · omega --!
      · refine r_iload_3 hK dX5_lays_33 ?_
        refine r_aload_0 hK dX5_lays_34 ?_
        refine r_pV0 hK (tb_rows hK.rel hC hi) lk_X5_28 (Rcv.raw hK.rel hC.1 rfl) dX5_lays_35 ?_
        refine r_icmp_ge 65 hK dX5_lays_38 (by omega) (by omega) (fun h38 => ?_) (fun h38 => ?_)
        · omega --!
        · refine r_aload_1 hK dX5_lays_41 ?_
          refine r_iload_3 hK dX5_lays_42 ?_
          refine r_aload_0 hK dX5_lays_43 ?_
          refine r_get hK fl_X5_9 dX5_lays_44 (hC.1) rfl ?_
          refine r_iload_3 hK dX5_lays_47 ?_
          refine r_iald hK dX5_lays_48 hC.2 (by omega) ?_
          refine r_aload_0 hK dX5_lays_49 ?_
          refine r_iload_3 hK dX5_lays_50 ?_
          refine r_iload_3 hK dX5_lays_51 ?_
          refine r_pV2 hK (tb_alike hK.rel hC (by omega) (by omega) hv) lk_X5_32 (Rcv.raw hK.rel hC.1 rfl) dX5_lays_52 ?_
          refine r_aload_0 hK dX5_lays_55 ?_
          refine r_get hK fl_X5_19 dX5_lays_56 (hC.1) rfl ?_
          refine r_ishl hK dX5_lays_59 (by omega) hsh ?_
          first | refine r_iaddN hK dX5_lays_60 ?_ | refine r_iadd hK dX5_lays_60 ?_
          refine r_iast hK dX5_lays_61 (fO _ _) (by omega) ?_
          rw [show v x + cnt v (v x) x <<< no = T x from hTx.symm, oA_s, f2]
          refine r_goto 73 hK dX5_lays_62 ?_
          refine r_aload_2 hK dX5_lays_73 ?_
          refine r_aload_1 hK dX5_lays_74 ?_
          refine r_iload_3 hK dX5_lays_75 ?_
          refine r_iald hK dX5_lays_76 (fO _ _) (by omega) ?_
          rw [show oA (x + 1) T h0 x = zI ((T x : Nat) : Int) from by unfold oA; rw [if_pos (by omega)]]
          refine r_callV1 hK (pb_clear2 hQ hXK (fB _ _) (i := T x) (by rw [hTx]; omega)) lk_X5_63 (rcv_bs hQ (fB _ _)) dX5_lays_77 (fun r n2 f2 hp => ?_)
          obtain ⟨rfl, rfl, rfl⟩ := hp
          rw [f1]
          first | refine r_incN_3 hK dX5_lays_80 ?_ | refine r_iinc_3 hK dX5_lays_80 ?_
          refine r_goto 23 hK dX5_lays_83 ?_
          refine ih (rN ni - (x + 1)) (by omega) (x + 1) _ _ rfl (by omega) hn1 (fun y hy => ?_)
          have e3 : isM no v y (x + 1) = (isM no v y x || decide (t1 no v x = y)) := rfl
          rw [hb y hy, e3, hTx]
          by_cases q1 : y = t1 no v x
          · simp [q1]
          · simp [q1, Ne.symm q1]
  refine r_new (fs := [.null, zI 0, zI 0]) 1 hK nw_X5_47 dX5_lays_0 (by decide) ?_ (hw := new16)
  refine r_dup hK dX5_lays_3 ?_
  refine r_bipushN (c := 64) hK dX5_lays_4 ?_
  refine r_callI1 hK (pb_init hQ (N := 1) (up_s _ _ _) (by omega) (by decide) (by decide) (by decide) (by decide)) lk_X5_49 dX5_lays_6 (fun r n1 f1' hp => ?_)
  obtain ⟨rfl, rfl, rfl⟩ := hp
  rw [up_up]
  refine r_astore_2 hK dX5_lays_9 ?_
  refine r_aload_2 hK dX5_lays_10 ?_
  refine r_iconstN (c := 0) hK dX5_lays_11 ?_
  refine r_iconstN (c := 1) hK dX5_lays_12 ?_
  refine r_aload_0 hK dX5_lays_13 ?_
  have hC := h.up (k := n) (e := cBS 1 (fun _ => false)) hcn hvn
  refine r_pV0 hK (tb_lines hK.rel hC hi ho hv hv8) lk_X5_52 (Rcv.raw hK.rel hC.1 rfl) dX5_lays_14 ?_
  refine r_ishl hK dX5_lays_17 (by omega) (sh1 (by omega)) ?_
  rw [← hLL]
  show Wx K _ _ (zI ((rN LL : Nat) : Int) :: _) _ _ _
  refine r_callV2 hK (pb_set2 hQ hXK (up_s _ _ _) (e := rN LL) (by omega)) lk_X5_55 (rcv_bs hQ (up_s _ _ _)) dX5_lays_18 (fun r n2 f2' hp => ?_)
  obtain ⟨rfl, rfl, rfl⟩ := hp
  rw [up_up]
  refine r_iconstN (c := 0) hK dX5_lays_21 ?_
  refine r_istore_3 hK dX5_lays_22 ?_
  have := LA (rN ni) 0 (n + 1 + 1) (fun j => decide (j < rN LL) || false) rfl (by omega) (by omega) (fun y hy => by simp [isM])
  rw [hFF] at this
  simp only [oA_0] at this
  rw [up_self (by rw [up_n hon]; exact hO)] at this
  exact this
