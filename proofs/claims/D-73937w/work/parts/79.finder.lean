set_option maxRecDepth 100000
/-! ===== class Finder ===== -/
def gz (q : Nat × Nat) : Gt := (q.1, q.2, 0)
def FI (f : Hp) (c oa fa la lb R W : Nat) (s : FS) (l1 l2 : List Nat) : Prop := f c = some (.inl (6, [.ref oa, .ref fa, zI (R : Int), zI (W : Int), .ref la, .ref lb])) ∧ (∃ h : Nat → Value, f oa = some (.inr (0, 64, h)) ∧ ∀ x, x < R → h x = zI ((s.1 x : Nat) : Int)) ∧ (∃ h : Nat → Value, f fa = some (.inr (0, 64, h))) ∧ f la = some (cLL l1) ∧ f lb = some (cLL l2) ∧ GL f l1 (s.2.1.map gz) ∧ GL f l2 (s.2.2.map gz) ∧ oa ≠ fa ∧ la ≠ lb
theorem FI.ne {f : Hp} {c oa fa la lb R W : Nat} {s : FS} {l1 l2 : List Nat} (h : FI f c oa fa la lb R W s l1 l2) : (c ≠ oa ∧ c ≠ fa ∧ c ≠ la ∧ c ≠ lb) ∧ (oa ≠ la ∧ oa ≠ lb ∧ fa ≠ la ∧ fa ≠ lb) := by
  obtain ⟨h1, ⟨ho, h2, -⟩, ⟨hf, h3⟩, h4, h5, -⟩ := h
  refine ⟨⟨fun q => ?_, fun q => ?_, fun q => ?_, fun q => ?_⟩, fun q => ?_, fun q => ?_, fun q => ?_, fun q => ?_⟩
  · rw [q, h2] at h1; cases h1
  · rw [q, h3] at h1; cases h1
  · rw [q, h4] at h1; cases h1
  · rw [q, h5] at h1; cases h1
  · rw [q, h4] at h2; cases h2
  · rw [q, h5] at h2; cases h2
  · rw [q, h4] at h3; cases h3
  · rw [q, h5] at h3; cases h3
theorem GL.upn {f : Hp} {l : List Nat} {gs : List Gt} {k : Nat} {e : E_} (h : GL f l gs) (hk : ∀ q, f k ≠ some (cG q)) : GL (up f k e) l gs := ⟨h.1, fun i hi => by rw [up_n (fun q => hk _ (by rw [← q]; exact h.2 i hi))]; exact h.2 i hi⟩
theorem FI.fresh {f : Hp} {c oa fa la lb R W k : Nat} {s : FS} {l1 l2 : List Nat} {e : E_} (h : FI f c oa fa la lb R W s l1 l2) (hk : f k = none) : FI (up f k e) c oa fa la lb R W s l1 l2 := by
  obtain ⟨h1, ⟨ho, h2, h2b⟩, ⟨hf, h3⟩, h4, h5, h6, h7, h8⟩ := h
  have nn : ∀ x v, f x = some v → x ≠ k := fun x v hx q => by rw [q, hk] at hx; cases hx
  exact ⟨by rw [up_n (nn _ _ h1)]; exact h1, ⟨ho, by rw [up_n (nn _ _ h2)]; exact h2, h2b⟩, ⟨hf, by rw [up_n (nn _ _ h3)]; exact h3⟩, by rw [up_n (nn _ _ h4)]; exact h4, by rw [up_n (nn _ _ h5)]; exact h5, h6.upn (fun q hq => by rw [hk] at hq; cases hq), h7.upn (fun q hq => by rw [hk] at hq; cases hq), h8⟩
theorem GL.app {f : Hp} {l : List Nat} {gs : List Gt} {k : Nat} {g : Gt} (h : GL f l gs) (hk : f k = some (cG g)) : GL f (l ++ [k]) (gs ++ [g]) := by
  refine ⟨by simp [h.1], fun i hi => ?_⟩
  have hi' : i ≤ l.length := by simp at hi; omega
  rw [getD_app hi']
  by_cases c : i = l.length
  · rw [if_pos c, hk]; unfold gt; rw [List.getD_eq_getElem?_getD, List.getElem?_append_right (by rw [← h.1]; omega), c, h.1]; simp
  · rw [if_neg c, h.2 i (by omega)]; unfold gt; rw [List.getD_eq_getElem?_getD, List.getD_eq_getElem?_getD, List.getElem?_append_left (by rw [← h.1]; omega)]
theorem GL.cons {f : Hp} {l : List Nat} {gs : List Gt} {k : Nat} {g : Gt} (h : GL f l gs) (hk : f k = some (cG g)) : GL f (k :: l) (g :: gs) := by
  refine ⟨by simp [h.1], fun i hi => ?_⟩
  cases i with
  | zero => exact hk
  | succ i => exact h.2 i (by simpa using hi)
theorem or_bit {y k : Nat} (h : y.testBit k = false) : y ||| (1 <<< k) = mk (k, y, 0) y := by
  unfold mk
  rw [if_pos ⟨Nat.and_self _, Nat.and_zero _⟩]
  apply Nat.eq_of_testBit_eq
  intro i
  rw [Nat.testBit_or, Nat.testBit_xor, Nat.one_shiftLeft, Nat.testBit_two_pow]
  by_cases e : k = i
  · subst e; rw [h]; simp
  · simp [e]
theorem clr_mk {y k : Nat} (h : y.testBit k = true) : clr y (1 <<< k) = mk (k, clr y (1 <<< k), 0) y := by
  have e1 : y &&& clr y (1 <<< k) = clr y (1 <<< k) := by
    apply Nat.eq_of_testBit_eq
    intro i
    rw [Nat.testBit_and, tb_clr]
    cases y.testBit i <;> rfl
  unfold mk
  rw [if_pos ⟨e1, Nat.and_zero _⟩]
  apply Nat.eq_of_testBit_eq
  intro i
  rw [tb_clr, Nat.testBit_xor, Nat.one_shiftLeft, Nat.testBit_two_pow]
  by_cases e : k = i
  · subst e; rw [h]; simp
  · simp [e]
set_option maxHeartbeats 4000000 in
theorem ct_fFrom {G : GT} {Rel : Nat → Hp → Hp → Prop} (hR : RelOK Rel) {n : Nat} {f : Hp} {c oa fa la lb R W x : Nat} {s : FS} {l1 l2 : List Nat} (h : FI f c oa fa la lb R W s l1 l2) (hR64 : R ≤ 64) (hp : onto R s.1) (hx : x < R) : Ct G Rel yX6_from cX6_from 3 (some .int) (1) (0) [.ref c, zI (x : Int)] n (f) (Pu (zI ((fst1 s.1 x : Nat) : Int)) n f) := by
  refine ct_intro [some (.ref c), some (zI (x : Int)), none] hR rfl (Nat.le_of_ble_eq_true rfl) ?_
  intro K hG hRel hK hRt hnm
  obtain ⟨h1, ⟨ho, h2, h2b⟩, -⟩ := id h
  obtain ⟨z0, hz0, ez0⟩ := hp.2 x hx
  have lp : ∀ (d z : Nat), z + d = 64 → z ≤ z0 → fst1 s.1 x = invF s.1 x d z → Wx K 2 [some (.ref c), some (zI (x : Int)), some (zI (z : Int))] [] n f 0 := by
    intro d
    induction d with
    | zero => intro z hd hz; omega
    | succ d ih =>
      intro z hd hz he
      have hpz := hp.1 z (by omega)
      refine r_aload_0 hK dX6_from_2 ?_
      refine r_get hK fl_X6_9 dX6_from_3 (h1) rfl ?_
      refine r_iload_2 hK dX6_from_6 ?_
      refine r_iald hK dX6_from_7 h2 (by omega) ?_
      rw [h2b z (by omega)]
      refine r_iload_1 hK dX6_from_8 ?_
      refine r_icmp_eq 18 hK dX6_from_9 (by omega) (by omega) (fun h9 => ?_) (fun h9 => ?_)
      · refine r_iload_2 hK dX6_from_18 ?_
        exact r_iret hK hRt dX6_from_19 ⟨by rw [he, invF_at (by omega)], rfl, rfl⟩
      · first | refine r_incN_2 hK dX6_from_12 ?_ | refine r_iinc_2 hK dX6_from_12 ?_
        refine r_goto 2 hK dX6_from_15 ?_
        have hne : s.1 z ≠ x := fun q => h9 (by rw [q])
        refine ih (z + 1) (by omega) ?_ (by rw [he, invF_step hne])
        rcases Nat.eq_or_lt_of_le hz with q | q
        · exact absurd ez0 (by rw [← q]; exact hne)
        · exact q
  refine r_iconstN (c := 0) hK dX6_from_0 ?_
  refine r_istore_2 hK dX6_from_1 ?_
  exact lp 64 0 rfl (Nat.zero_le _) rfl
set_option maxHeartbeats 4000000 in
theorem ct_fNotesT {G : GT} {Rel : Nat → Hp → Hp → Prop} (hR : RelOK Rel) (hP : Rel = RelP) (hX : GX G) {n : Nat} {f : Hp} {c oa fa la lb L g t on : Nat} {s : FS} {l1 l2 : List Nat} (h : FI f c oa fa la lb (rN L) L s l1 l2) (hL : L ≤ 6) (hp : onto (rN L) s.1) (hg : f g = some (cG (t, on, 0))) (hf : fok L t on) : Ct G Rel yX6_notes cX6_notes 4 none (4) (1) [.ref c, .ref g, zI ((1 : Nat) : Int)] n (f) (fun r n' f' => r = none ∧ n ≤ n' ∧ FI f' c oa fa la lb (rN L) L (note true t on s) (l1 ++ [g]) l2 ∧ ∀ x, x < n → x ∉ [c, oa, fa, la, lb] → f' x = f x) := by
  refine ct_intro [some (.ref c), some (.ref g), some (zI ((1 : Nat) : Int)), none] hR rfl (Nat.le_of_ble_eq_true rfl) ?_
  intro K hG hRel hK hRt hnm
  have hQ : kRel K = RelP := by rw [hRel]; exact hP
  have hXK : GX (kG K) := by rw [hG]; exact hX
  have hr64 : rN L ≤ 64 := rN_le (k := 6) hL
  have hgB : gB (t, on, 0) := ⟨by have := hf.1; show t < 6; omega, by have := hf.2.1; show on < 64; omega, Nat.zero_lt_succ _⟩
  have hmk : ∀ x, x < rN L → mk (t, on, 0) x < rN L := fun x hx => mk_lt hf.1 hx
  obtain ⟨⟨n1, n2, n3, n4⟩, n5, n6, n7, n8⟩ := h.ne
  obtain ⟨h1, ⟨ho, h2, h2b⟩, ⟨hf0, h3⟩, h4, h5, h6, h7, h8, h9⟩ := id h
  have gc : ∀ k e, f k = some e → (∀ q, e ≠ cG q) → ∀ q, f k ≠ some (cG q) := fun k e hk he q hq => by rw [hk] at hq; cases hq; exact he q rfl
  have nfa : ∀ q, f fa ≠ some (cG q) := gc _ _ h3 (fun q e => by unfold cG at e; cases e)
  have noa : ∀ q, f oa ≠ some (cG q) := gc _ _ h2 (fun q e => by unfold cG at e; cases e)
  have nla : ∀ q, f la ≠ some (cG q) := gc _ _ h4 (fun q e => by unfold cG cLL at e; cases e)
  have gfa : g ≠ fa := fun q => nfa _ (by rw [← q]; exact hg)
  have goa : g ≠ oa := fun q => noa _ (by rw [← q]; exact hg)
  have gla : g ≠ la := fun q => nla _ (by rw [← q]; exact hg)
  obtain ⟨pp, hpp⟩ : ∃ pp : Nat → Nat, pp = fun x => s.1 (mk (t, on, 0) x) := ⟨_, rfl⟩
  have lp : ∀ (d x : Nat), d = rN L - x → x ≤ rN L → Wx K 6 [some (.ref c), some (.ref g), some (zI ((1 : Nat) : Int)), some (zI (x : Int))] [] n (up f fa (.inr (0, 64, oA x pp hf0))) 0 := by
    intro d
    induction d using Nat.strongRecOn with
    | _ d ih =>
      intro x hd hx
      have c1 : up f fa (.inr (0, 64, oA x pp hf0)) c = some (.inl (6, [.ref oa, .ref fa, zI ((rN L : Nat) : Int), zI (L : Int), .ref la, .ref lb])) := by rw [up_n n2]; exact h1
      refine r_iload_3 hK dX6_notes_6 ?_
      refine r_aload_0 hK dX6_notes_7 ?_
      refine r_get hK fl_X6_38 dX6_notes_8 (c1) rfl ?_
      refine r_icmp_ge 36 hK dX6_notes_11 (by omega) (by omega) (fun h11 => ?_) (fun h11 => ?_)
      · have ex : x = rN L := by omega
        subst ex
        refine r_aload_0 hK dX6_notes_36 ?_
        refine r_get hK fl_X6_15 dX6_notes_37 (c1) rfl ?_
        refine r_iconstN (c := 0) hK dX6_notes_40 ?_
        refine r_aload_0 hK dX6_notes_41 ?_
        refine r_get hK fl_X6_9 dX6_notes_42 (c1) rfl ?_
        refine r_iconstN (c := 0) hK dX6_notes_45 ?_
        refine r_aload_0 hK dX6_notes_46 ?_
        refine r_get hK fl_X6_38 dX6_notes_47 (c1) rfl ?_
        refine r_acpyI hK q1653 dX6_notes_50 (up_s _ _ _) (by rw [up_n h8]; exact h2) (by omega) (by omega) (fun i hi => ⟨_, by unfold oA; rw [if_pos (by omega)]⟩) ?_
        refine r_aload_0 hK dX6_notes_53 ?_
        refine r_get hK fl_X6_21 dX6_notes_54 ((by rw [up_n n1]; exact c1)) rfl ?_
        refine r_aload_1 hK dX6_notes_57 ?_
        refine r_callV1 hK (pl_addLast hQ (l := l1) (by rw [up_n (Ne.symm n5), up_n (Ne.symm n7)]; exact h4)) lk_X6_83 (rcv_ll hQ (l := l1) (by rw [up_n (Ne.symm n5), up_n (Ne.symm n7)]; exact h4)) dX6_notes_58 (fun r m1 f1 hp1 => ?_)
        obtain ⟨rfl, hle, rfl⟩ := hp1
        refine r_goto 104 hK dX6_notes_61 ?_
        refine r_vret hK hRt dX6_notes_104 ⟨rfl, hle, ⟨?_, ⟨va_cpy (oA (rN L) pp hf0) ho 0 0 (rN L), ?_, ?_⟩, ⟨oA (rN L) pp hf0, ?_⟩, up_s _ _ _, ?_, ?_, ?_, h8, h9⟩, fun y _ hy => ?_⟩
        · rw [up_n n3, up_n n1]; exact c1
        · rw [up_n n5, up_s]
        · intro y hy
          unfold va_cpy
          rw [if_pos (by omega), Nat.zero_add, Nat.sub_zero]
          unfold oA
          rw [if_pos hy, hpp]; rfl
        · rw [up_n n7, up_n (Ne.symm h8), up_s]
        · rw [up_n (Ne.symm h9), up_n (Ne.symm n6), up_n (Ne.symm n8)]; exact h5
        · rw [show (note true t on s).2.1.map gz = s.2.1.map gz ++ [(t, on, 0)] from by unfold note; simp [gz]]
          have g1 := ((h6.upn (e := .inr (0, 64, oA (rN L) pp hf0)) nfa).upn (k := oa) (e := .inr (0, 64, va_cpy (oA (rN L) pp hf0) ho 0 0 (rN L))) (fun q => by rw [up_n h8]; exact noa q)).upn (k := la) (e := cLL (l1 ++ [g])) (fun q => by rw [up_n (Ne.symm n5), up_n (Ne.symm n7)]; exact nla q)
          exact g1.app (by rw [up_n gla, up_n goa, up_n gfa]; exact hg)
        · exact ((h7.upn (e := .inr (0, 64, oA (rN L) pp hf0)) nfa).upn (k := oa) (e := .inr (0, 64, va_cpy (oA (rN L) pp hf0) ho 0 0 (rN L))) (fun q => by rw [up_n h8]; exact noa q)).upn (k := la) (e := cLL (l1 ++ [g])) (fun q => by rw [up_n (Ne.symm n5), up_n (Ne.symm n7)]; exact nla q)
        · simp only [List.mem_cons, List.not_mem_nil, or_false, not_or] at hy
          rw [up_n hy.2.2.2.1, up_n hy.2.1, up_n hy.2.2.1]
      · refine r_aload_0 hK dX6_notes_14 ?_
        refine r_get hK fl_X6_15 dX6_notes_15 (c1) rfl ?_
        refine r_iload_3 hK dX6_notes_18 ?_
        refine r_aload_0 hK dX6_notes_19 ?_
        refine r_get hK fl_X6_9 dX6_notes_20 (c1) rfl ?_
        refine r_aload_1 hK dX6_notes_23 ?_
        refine r_iload_3 hK dX6_notes_24 ?_
        refine r_pV1 hK (ct_gMade hK.rel (by rw [up_n gfa]; exact hg) hgB (by omega)) lk_X6_80 (Rcv.raw (ci := 11) hK.rel ((up_n gfa).trans hg) rfl) dX6_notes_25 ?_
        refine r_iald hK dX6_notes_28 (by rw [up_n h8]; exact h2) (by have := hmk x (by omega); omega) ?_
        rw [h2b _ (hmk x (by omega)), show s.1 (mk (t, on, 0) x) = pp x from by rw [hpp]]
        refine r_iast hK dX6_notes_29 (up_s _ _ _) (by omega) ?_
        rw [up_up, oA_s]
        first | refine r_incN_3 hK dX6_notes_30 ?_ | refine r_iinc_3 hK dX6_notes_30 ?_
        refine r_goto 6 hK dX6_notes_33 ?_
        exact ih (rN L - (x + 1)) (by omega) (x + 1) rfl (by omega)
  refine r_iload_2 hK dX6_notes_0 ?_
  refine r_if_eq 64 hK dX6_notes_1 (by decide) (fun h1 => ?_) (fun h1 => ?_)
  · exact absurd h1 (by decide) --!
  · refine r_iconstN (c := 0) hK dX6_notes_4 ?_
    refine r_istore_3 hK dX6_notes_5 ?_
    have := lp (rN L) 0 rfl (Nat.zero_le _)
    rw [oA_0, up_self h3] at this
    exact this
set_option maxHeartbeats 4000000 in
theorem ct_fNotesF {G : GT} {Rel : Nat → Hp → Hp → Prop} (hR : RelOK Rel) (hP : Rel = RelP) (hX : GX G) {n : Nat} {f : Hp} {c oa fa la lb L g t on : Nat} {s : FS} {l1 l2 : List Nat} (h : FI f c oa fa la lb (rN L) L s l1 l2) (hL : L ≤ 6) (hp : onto (rN L) s.1) (hg : f g = some (cG (t, on, 0))) (hf : fok L t on) : Ct G Rel yX6_notes cX6_notes 4 none (4) (1) [.ref c, .ref g, zI ((0 : Nat) : Int)] n (f) (fun r n' f' => r = none ∧ n ≤ n' ∧ FI f' c oa fa la lb (rN L) L (note false t on s) l1 (g :: l2) ∧ ∀ x, x < n → x ∉ [c, oa, fa, la, lb] → f' x = f x) := by
  refine ct_intro [some (.ref c), some (.ref g), some (zI ((0 : Nat) : Int)), none] hR rfl (Nat.le_of_ble_eq_true rfl) ?_
  intro K hG hRel hK hRt hnm
  have hQ : kRel K = RelP := by rw [hRel]; exact hP
  have hXK : GX (kG K) := by rw [hG]; exact hX
  have hr64 : rN L ≤ 64 := rN_le (k := 6) hL
  have hgB : gB (t, on, 0) := ⟨by have := hf.1; show t < 6; omega, by have := hf.2.1; show on < 64; omega, Nat.zero_lt_succ _⟩
  have hmk : ∀ x, x < rN L → mk (t, on, 0) x < rN L := fun x hx => mk_lt hf.1 hx
  obtain ⟨⟨n1, n2, n3, n4⟩, n5, n6, n7, n8⟩ := h.ne
  obtain ⟨h1, ⟨ho, h2, h2b⟩, ⟨hf0, h3⟩, h4, h5, h6, h7, h8, h9⟩ := id h
  have gc : ∀ k e, f k = some e → (∀ q, e ≠ cG q) → ∀ q, f k ≠ some (cG q) := fun k e hk he q hq => by rw [hk] at hq; cases hq; exact he q rfl
  have nfa : ∀ q, f fa ≠ some (cG q) := gc _ _ h3 (fun q e => by unfold cG at e; cases e)
  have noa : ∀ q, f oa ≠ some (cG q) := gc _ _ h2 (fun q e => by unfold cG at e; cases e)
  have nlb : ∀ q, f lb ≠ some (cG q) := gc _ _ h5 (fun q e => by unfold cG cLL at e; cases e)
  have gfa : g ≠ fa := fun q => nfa _ (by rw [← q]; exact hg)
  have goa : g ≠ oa := fun q => noa _ (by rw [← q]; exact hg)
  have glb : g ≠ lb := fun q => nlb _ (by rw [← q]; exact hg)
  obtain ⟨pp, hpp⟩ : ∃ pp : Nat → Nat, pp = fun x => mk (t, on, 0) (s.1 x) := ⟨_, rfl⟩
  have lp : ∀ (d x : Nat), d = rN L - x → x ≤ rN L → Wx K 66 [some (.ref c), some (.ref g), some (zI ((0 : Nat) : Int)), some (zI (x : Int))] [] n (up f oa (.inr (0, 64, oA x pp ho))) 0 := by
    intro d
    induction d using Nat.strongRecOn with
    | _ d ih =>
      intro x hd hx
      have c1 : up f oa (.inr (0, 64, oA x pp ho)) c = some (.inl (6, [.ref oa, .ref fa, zI ((rN L : Nat) : Int), zI (L : Int), .ref la, .ref lb])) := by rw [up_n n1]; exact h1
      refine r_iload_3 hK dX6_notes_66 ?_
      refine r_aload_0 hK dX6_notes_67 ?_
      refine r_get hK fl_X6_38 dX6_notes_68 (c1) rfl ?_
      refine r_icmp_ge 96 hK dX6_notes_71 (by omega) (by omega) (fun h71 => ?_) (fun h71 => ?_)
      · have ex : x = rN L := by omega
        subst ex
        refine r_aload_0 hK dX6_notes_96 ?_
        refine r_get hK fl_X6_25 dX6_notes_97 (c1) rfl ?_
        refine r_aload_1 hK dX6_notes_100 ?_
        refine r_callV1 hK (pl_addFirst hQ (l := l2) (by rw [up_n (Ne.symm n6)]; exact h5)) lk_X6_87 (rcv_ll hQ (l := l2) (by rw [up_n (Ne.symm n6)]; exact h5)) dX6_notes_101 (fun r m1 f1 hp1 => ?_)
        obtain ⟨rfl, hle, rfl⟩ := hp1
        refine r_vret hK hRt dX6_notes_104 ⟨rfl, hle, ⟨?_, ⟨oA (rN L) pp ho, ?_, ?_⟩, ⟨hf0, ?_⟩, ?_, up_s _ _ _, ?_, ?_, h8, h9⟩, fun y _ hy => ?_⟩
        · rw [up_n n4]; exact c1
        · rw [up_n n6, up_s]
        · intro y hy
          unfold oA
          rw [if_pos hy, hpp]; rfl
        · rw [up_n n8, up_n (Ne.symm h8)]; exact h3
        · rw [up_n h9, up_n (Ne.symm n5)]; exact h4
        · exact (h6.upn (e := .inr (0, 64, oA (rN L) pp ho)) noa).upn (k := lb) (e := cLL (g :: l2)) (fun q => by rw [up_n (Ne.symm n6)]; exact nlb q)
        · rw [show (note false t on s).2.2.map gz = (t, on, 0) :: s.2.2.map gz from by unfold note; simp [gz]]
          have g1 := (h7.upn (e := .inr (0, 64, oA (rN L) pp ho)) noa).upn (k := lb) (e := cLL (g :: l2)) (fun q => by rw [up_n (Ne.symm n6)]; exact nlb q)
          exact g1.cons (by rw [up_n glb, up_n goa]; exact hg)
        · simp only [List.mem_cons, List.not_mem_nil, or_false, not_or] at hy
          rw [up_n hy.2.2.2.2, up_n hy.2.1]
      · refine r_aload_0 hK dX6_notes_74 ?_
        refine r_get hK fl_X6_9 dX6_notes_75 (c1) rfl ?_
        refine r_iload_3 hK dX6_notes_78 ?_
        refine r_aload_1 hK dX6_notes_79 ?_
        refine r_aload_0 hK dX6_notes_80 ?_
        refine r_get hK fl_X6_9 dX6_notes_81 (c1) rfl ?_
        refine r_iload_3 hK dX6_notes_84 ?_
        refine r_iald hK dX6_notes_85 (up_s _ _ _) (by omega) ?_
        have hsx := hp.1 x (by omega)
        rw [show oA x pp ho x = zI ((s.1 x : Nat) : Int) from by unfold oA; rw [if_neg (Nat.lt_irrefl _)]; exact h2b x (by omega)]
        refine r_pV1 hK (ct_gMade hK.rel (by rw [up_n goa]; exact hg) hgB (by omega)) lk_X6_80 (Rcv.raw (ci := 11) hK.rel ((up_n goa).trans hg) rfl) dX6_notes_86 ?_
        rw [show mk (t, on, 0) (s.1 x) = pp x from by rw [hpp]]
        refine r_iast hK dX6_notes_89 (up_s _ _ _) (by omega) ?_
        rw [up_up, oA_s]
        first | refine r_incN_3 hK dX6_notes_90 ?_ | refine r_iinc_3 hK dX6_notes_90 ?_
        refine r_goto 66 hK dX6_notes_93 ?_
        exact ih (rN L - (x + 1)) (by omega) (x + 1) rfl (by omega)
  refine r_iload_2 hK dX6_notes_0 ?_
  refine r_if_eq 64 hK dX6_notes_1 (by decide) (fun h1 => ?_) (fun h1 => ?_)
  · refine r_iconstN (c := 0) hK dX6_notes_64 ?_
    refine r_istore_3 hK dX6_notes_65 ?_
    have := lp (rN L) 0 rfl (Nat.zero_le _)
    rw [oA_0, up_self h2] at this
    exact this
  · exact absurd rfl h1 --!
theorem ct_fNotes {G : GT} {Rel : Nat → Hp → Hp → Prop} (hR : RelOK Rel) (hP : Rel = RelP) (hX : GX G) {n : Nat} {f : Hp} {c oa fa la lb L g t on : Nat} {b : Bool} {s : FS} {l1 l2 : List Nat} (h : FI f c oa fa la lb (rN L) L s l1 l2) (hL : L ≤ 6) (hp : onto (rN L) s.1) (hg : f g = some (cG (t, on, 0))) (hf : fok L t on) : Ct G Rel yX6_notes cX6_notes 4 none 4 1 [.ref c, .ref g, vB b] n f (fun r n' f' => r = none ∧ n ≤ n' ∧ (∃ l1' l2', FI f' c oa fa la lb (rN L) L (note b t on s) l1' l2') ∧ ∀ x, x < n → x ∉ [c, oa, fa, la, lb] → f' x = f x) := by
  cases b with
  | true =>
    refine (ct_fNotesT hR hP hX h hL hp hg hf).mono ?_
    rintro r n' f' ⟨e1, e2, e3, e4⟩
    exact ⟨e1, e2, ⟨_, _, e3⟩, e4⟩
  | false =>
    refine (ct_fNotesF hR hP hX h hL hp hg hf).mono ?_
    rintro r n' f' ⟨e1, e2, e3, e4⟩
    exact ⟨e1, e2, ⟨_, _, e3⟩, e4⟩
theorem ld1_s {L : Nat} {b : Bool} {to m : Nat} {q : Nat × FS} : ld1 L b to (m + 1) q = ld1 L b to m (if to.testBit (L - (m + 1)) = true ∧ q.1.testBit (L - (m + 1)) = false then (mk (L - (m + 1), q.1, 0) q.1, note b (L - (m + 1)) q.1 q.2) else q) := rfl
theorem ld2_s {L : Nat} {b : Bool} {to m : Nat} {q : Nat × FS} : ld2 L b to (m + 1) q = ld2 L b to m (if to.testBit (L - (m + 1)) = false ∧ q.1.testBit (L - (m + 1)) = true then (mk (L - (m + 1), clr q.1 (1 <<< (L - (m + 1))), 0) q.1, note b (L - (m + 1)) (clr q.1 (1 <<< (L - (m + 1)))) q.2) else q) := rfl
set_option maxHeartbeats 4000000 in
theorem ct_fLeads {G : GT} {Rel : Nat → Hp → Hp → Prop} (hR : RelOK Rel) (hP : Rel = RelP) (hX : GX G) {n : Nat} {f : Hp} {c oa fa la lb L y0 to : Nat} {b : Bool} {s : FS} {l1 l2 : List Nat} (h : FI f c oa fa la lb (rN L) L s l1 l2) (hL : L ≤ 6) (hp : onto (rN L) s.1) (hy0 : y0 < rN L) (hto : to < rN L) : Ct G Rel yX6_leads cX6_leads 6 none (5) (24) [.ref c, zI (y0 : Int), zI (to : Int), vB b] n (f) (fun r n' f' => r = none ∧ n ≤ n' ∧ (∃ l1' l2', FI f' c oa fa la lb (rN L) L (ld2 L b to L (ld1 L b to L (y0, s))).2 l1' l2') ∧ onto (rN L) (ld2 L b to L (ld1 L b to L (y0, s))).2.1 ∧ ∀ x, x < n → x ∉ [c, oa, fa, la, lb] → f' x = f x) := by
  refine ct_intro [some (.ref c), some (zI (y0 : Int)), some (zI (to : Int)), some (vB b), none, none] hR rfl (Nat.le_of_ble_eq_true rfl) ?_
  intro K hG hRel hK hRt hnm
  have hQ : kRel K = RelP := by rw [hRel]; exact hP
  have hXK : GX (kG K) := by rw [hG]; exact hX
  have hr64 : rN L ≤ 64 := rN_le (k := 6) hL
  obtain ⟨qE, hqE⟩ : ∃ qE, qE = (ld2 L b to L (ld1 L b to L (y0, s))).2 := ⟨_, rfl⟩
  rw [← hqE] at hRt
  have P2 : ∀ (m k : Nat) (y : Nat) (s1 : FS) (l1 l2 : List Nat) (n1 : Nat) (f1 : Hp) (u : Nat), k + m = L → FI f1 c oa fa la lb (rN L) L s1 l1 l2 → y < rN L → onto (rN L) s1.1 → n ≤ n1 → (∀ x, x < n → x ∉ [c, oa, fa, la, lb] → f1 x = f x) → u ≤ 2 * L + 2 * k → (ld2 L b to m (y, s1)).2 = qE → Wx K 72 [some (.ref c), some (zI (y0 : Int)), some (zI (to : Int)), some (vB b), some (zI (y : Int)), some (zI (k : Int))] [] n1 f1 u := by
    intro m
    induction m with
    | zero =>
      intro k y s1 l1 l2 n1 f1 u hk hF hy hs hn hfr hu he
      have he2 : s1 = qE := he
      refine r_iload_5 hK dX6_leads_72 ?_
      refine r_aload_0 hK dX6_leads_74 ?_
      refine r_get hK fl_X6_48 dX6_leads_75 (hF.1) rfl ?_
      refine r_icmp_ge 137 hK dX6_leads_78 (by omega) (by omega) (fun h78 => ?_) (fun h78 => ?_)
      · exact r_vret hK hRt dX6_leads_137 ⟨rfl, hn, ⟨l1, l2, by rw [← he2]; exact hF⟩, by rw [← he2]; exact hs, hfr⟩ (by omega)
      · omega --!
    | succ m ih =>
      intro k y s1 l1 l2 n1 f1 u hk hF hy hs hn hfr hu he
      have hkL : L - (m + 1) = k := by omega
      rw [ld2_s, hkL] at he
      have skip : (¬ (to.testBit k = false ∧ y.testBit k = true)) → Wx K 131 [some (.ref c), some (zI (y0 : Int)), some (zI (to : Int)), some (vB b), some (zI (y : Int)), some (zI (k : Int))] [] n1 f1 u := by
        intro hc
        rw [if_neg hc] at he
        first | refine r_incN_5 hK dX6_leads_131 ?_ | refine r_iinc_5 hK dX6_leads_131 ?_
        refine r_goto 72 hK dX6_leads_134 ?_
        exact ih (k + 1) y s1 l1 l2 n1 f1 u (by omega) hF hy hs hn hfr (by omega) he
      refine r_iload_5 hK dX6_leads_72 ?_
      refine r_aload_0 hK dX6_leads_74 ?_
      refine r_get hK fl_X6_48 dX6_leads_75 (hF.1) rfl ?_
      refine r_icmp_ge 137 hK dX6_leads_78 (by omega) (by omega) (fun h78 => ?_) (fun h78 => ?_)
      · omega --!
      · refine r_iload_2 hK dX6_leads_81 ?_
        refine r_iload_5 hK dX6_leads_82 ?_
        refine r_pSN2 hK (ct_has0 hK.rel (by omega) (by omega)) lk_X6_69 dX6_leads_84 ?_
        refine r_ifB_ne 131 hK dX6_leads_87 (fun h87 => ?_) (fun h87 => ?_)
        · exact skip (fun q => by rw [h87] at q; cases q.1) --!
        · refine r_iload_4 hK dX6_leads_90 ?_
          refine r_iload_5 hK dX6_leads_92 ?_
          refine r_pSN2 hK (ct_has0 hK.rel (by omega) (by omega)) lk_X6_69 dX6_leads_94 ?_
          refine r_ifB_ne 103 hK dX6_leads_97 (fun h97 => ?_) (fun h97 => ?_)
          · have hc : to.testBit k = false ∧ y.testBit k = true := ⟨Bool.eq_false_iff.mpr h87, h97⟩
            rw [if_pos hc] at he
            have hck := clr_mk hc.2
            have hcl : clr y (1 <<< k) < rN L := clr_lt hy
            have hfok : fok L k (clr y (1 <<< k)) := ⟨by omega, hcl, clr_bit y k⟩
            refine r_iload_4 hK dX6_leads_103 ?_
            refine r_iconstN (c := 1) hK dX6_leads_105 ?_
            refine r_iload_5 hK dX6_leads_106 ?_
            refine r_ishl hK dX6_leads_108 (by omega) (by first | exact sh1 (by omega) | omega) ?_
            refine r_iconst hK dX6_leads_109 ?_
            first | refine r_ixor hK dX6_leads_110 ?_ | refine r_not hK dX6_leads_110 ?_
            first | refine r_iand hK dX6_leads_111 ?_ | refine r_andnot hK dX6_leads_111 (by omega) ?_
            refine r_istore_4 hK dX6_leads_112 ?_
            refine r_aload_0 hK dX6_leads_114 ?_
            refine r_fact hK (fun _ hno1 => ?_)
            refine r_new (fs := [zI 0, zI 0, zI 0]) 1 hK nw_X6_36 dX6_leads_115 (by omega) ?_ (hw := new11)
            refine r_dup hK dX6_leads_118 ?_
            refine r_iload_5 hK dX6_leads_119 ?_
            refine r_iload_4 hK dX6_leads_121 ?_
            refine r_iconstN (c := 0) hK dX6_leads_123 ?_
            refine r_callI3 hK (ct_gInit hK.rel (up_s _ _ _)) lk_X6_73 dX6_leads_124 (fun r m1 g1 hp1 => ?_) (hu := by omega)
            obtain ⟨rfl, e2, e3⟩ := hp1
            rw [e2, e3, up_up]
            have hF2 := hF.fresh (e := cG (k, clr y (1 <<< k), 0)) (hno1 n1 (Nat.le_refl _))
            refine r_iload_3 hK dX6_leads_127 ?_
            refine r_callV2 hK (ct_fNotes hK.rel hQ hXK (b := b) hF2 hL hs (up_s _ _ _) hfok) lk_X6_76 (Rcv.raw hK.rel hF2.1 rfl) dX6_leads_128 (fun r m2 g2 hp2 => ?_) (hu := by omega)
            obtain ⟨rfl, hle2, ⟨l1', l2', hF3⟩, hfr3⟩ := hp2
            first | refine r_incN_5 hK dX6_leads_131 ?_ | refine r_iinc_5 hK dX6_leads_131 ?_
            refine r_goto 72 hK dX6_leads_134 ?_
            refine ih (k + 1) _ _ l1' l2' _ _ _ (by omega) hF3 hcl (onto_note hs hfok) (by omega) (fun x hx hxn => ?_) (by omega) ?_
            · rw [hfr3 x (by omega) hxn, up_n (by omega)]; exact hfr x hx hxn
            · rw [← hck] at he; exact he
          · exact r_goto 131 hK dX6_leads_100 (skip (fun q => h97 q.2)) --!
  have P1 : ∀ (m k : Nat) (y : Nat) (s1 : FS) (l1 l2 : List Nat) (n1 : Nat) (f1 : Hp) (u : Nat), k + m = L → FI f1 c oa fa la lb (rN L) L s1 l1 l2 → y < rN L → onto (rN L) s1.1 → n ≤ n1 → (∀ x, x < n → x ∉ [c, oa, fa, la, lb] → f1 x = f x) → u ≤ 2 * k → (ld2 L b to L (ld1 L b to m (y, s1))).2 = qE → Wx K 6 [some (.ref c), some (zI (y0 : Int)), some (zI (to : Int)), some (vB b), some (zI (y : Int)), some (zI (k : Int))] [] n1 f1 u := by
    intro m
    induction m with
    | zero =>
      intro k y s1 l1 l2 n1 f1 u hk hF hy hs hn hfr hu he
      refine r_iload_5 hK dX6_leads_6 ?_
      refine r_aload_0 hK dX6_leads_8 ?_
      refine r_get hK fl_X6_48 dX6_leads_9 (hF.1) rfl ?_
      refine r_icmp_ge 69 hK dX6_leads_12 (by omega) (by omega) (fun h12 => ?_) (fun h12 => ?_)
      · refine r_iconstN (c := 0) hK dX6_leads_69 ?_
        refine r_istore_5 hK dX6_leads_70 ?_
        exact P2 L 0 y s1 l1 l2 n1 f1 u (by omega) hF hy hs hn hfr (by omega) he
      · omega --!
    | succ m ih =>
      intro k y s1 l1 l2 n1 f1 u hk hF hy hs hn hfr hu he
      have hkL : L - (m + 1) = k := by omega
      rw [ld1_s, hkL] at he
      have skip : (¬ (to.testBit k = true ∧ y.testBit k = false)) → Wx K 63 [some (.ref c), some (zI (y0 : Int)), some (zI (to : Int)), some (vB b), some (zI (y : Int)), some (zI (k : Int))] [] n1 f1 u := by
        intro hc
        rw [if_neg hc] at he
        first | refine r_incN_5 hK dX6_leads_63 ?_ | refine r_iinc_5 hK dX6_leads_63 ?_
        refine r_goto 6 hK dX6_leads_66 ?_
        exact ih (k + 1) y s1 l1 l2 n1 f1 u (by omega) hF hy hs hn hfr (by omega) he
      refine r_iload_5 hK dX6_leads_6 ?_
      refine r_aload_0 hK dX6_leads_8 ?_
      refine r_get hK fl_X6_48 dX6_leads_9 (hF.1) rfl ?_
      refine r_icmp_ge 69 hK dX6_leads_12 (by omega) (by omega) (fun h12 => ?_) (fun h12 => ?_)
      · omega --!
      · refine r_iload_2 hK dX6_leads_15 ?_
        refine r_iload_5 hK dX6_leads_16 ?_
        refine r_pSN2 hK (ct_has0 hK.rel (by omega) (by omega)) lk_X6_69 dX6_leads_18 ?_
        refine r_ifB_eq 63 hK dX6_leads_21 (fun h21 => ?_) (fun h21 => ?_)
        · exact skip (fun q => h21 q.1) --!
        · refine r_iload_4 hK dX6_leads_24 ?_
          refine r_iload_5 hK dX6_leads_26 ?_
          refine r_pSN2 hK (ct_has0 hK.rel (by omega) (by omega)) lk_X6_69 dX6_leads_28 ?_
          refine r_ifB_eq 37 hK dX6_leads_31 (fun h31 => ?_) (fun h31 => ?_)
          · have hc : to.testBit k = true ∧ y.testBit k = false := ⟨h21, Bool.eq_false_iff.mpr h31⟩
            rw [if_pos hc] at he
            have hck := or_bit hc.2
            have hmk : mk (k, y, 0) y < rN L := mk_lt (by show k < L; omega) hy
            have hfok : fok L k y := ⟨by omega, hy, hc.2⟩
            refine r_aload_0 hK dX6_leads_37 ?_
            refine r_fact hK (fun _ hno1 => ?_)
            refine r_new (fs := [zI 0, zI 0, zI 0]) 1 hK nw_X6_36 dX6_leads_38 (by omega) ?_ (hw := new11)
            refine r_dup hK dX6_leads_41 ?_
            refine r_iload_5 hK dX6_leads_42 ?_
            refine r_iload_4 hK dX6_leads_44 ?_
            refine r_iconstN (c := 0) hK dX6_leads_46 ?_
            refine r_callI3 hK (ct_gInit hK.rel (up_s _ _ _)) lk_X6_73 dX6_leads_47 (fun r m1 g1 hp1 => ?_) (hu := by omega)
            obtain ⟨rfl, e2, e3⟩ := hp1
            rw [e2, e3, up_up]
            have hF2 := hF.fresh (e := cG (k, y, 0)) (hno1 n1 (Nat.le_refl _))
            refine r_iload_3 hK dX6_leads_50 ?_
            refine r_callV2 hK (ct_fNotes hK.rel hQ hXK (b := b) hF2 hL hs (up_s _ _ _) hfok) lk_X6_76 (Rcv.raw hK.rel hF2.1 rfl) dX6_leads_51 (fun r m2 g2 hp2 => ?_) (hu := by omega)
            obtain ⟨rfl, hle2, ⟨l1', l2', hF3⟩, hfr3⟩ := hp2
            refine r_iload_4 hK dX6_leads_54 ?_
            refine r_iconstN (c := 1) hK dX6_leads_56 ?_
            refine r_iload_5 hK dX6_leads_57 ?_
            refine r_ishl hK dX6_leads_59 (by omega) (sh1 (by omega)) ?_
            refine r_ior hK dX6_leads_60 ?_
            rw [hck]
            refine r_istore_4 hK dX6_leads_61 ?_
            first | refine r_incN_5 hK dX6_leads_63 ?_ | refine r_iinc_5 hK dX6_leads_63 ?_
            refine r_goto 6 hK dX6_leads_66 ?_
            refine ih (k + 1) _ _ l1' l2' _ _ _ (by omega) hF3 hmk (onto_note hs hfok) (by omega) (fun x hx hxn => ?_) (by omega) he
            rw [hfr3 x (by omega) hxn, up_n (by omega)]; exact hfr x hx hxn
          · exact r_goto 63 hK dX6_leads_34 (skip (fun q => by rw [h31] at q; cases q.2)) --!
  refine r_iload_1 hK dX6_leads_0 ?_
  refine r_istore_4 hK dX6_leads_1 ?_
  refine r_iconstN (c := 0) hK dX6_leads_3 ?_
  refine r_istore_5 hK dX6_leads_4 ?_
  exact P1 L 0 y0 s l1 l2 n f 0 (by omega) h hy0 hp (Nat.le_refl _) (fun _ _ _ => rfl) (by omega) hqE.symm
theorem fdF_s {L : Nat} {both : Bool} {m : Nat} {s : FS} : fdF L both (m + 1) s = fdF L both m (fdRow L both (rN L - (m + 1)) s) := rfl
set_option maxHeartbeats 4000000 in
theorem ct_fFinds {G : GT} {Rel : Nat → Hp → Hp → Prop} (hR : RelOK Rel) (hP : Rel = RelP) (hX : GX G) {n : Nat} {f : Hp} {c oa fa la lb R0 W0 a N L : Nat} {both : Bool} {s0 : FS} {l1 l2 : List Nat} {p : Nat → Nat} {ha0 : Nat → Value} (h : FI f c oa fa la lb R0 W0 s0 l1 l2) (hL : L ≤ 6) (hp : onto (rN L) p) (ha : f a = some (.inr (0, N, ha0))) (haN : rN L ≤ N) (hN : N < 1000) (hap : ∀ x, x < rN L → ha0 x = zI ((p x : Nat) : Int)) (hao : a ≠ oa) : Ct G Rel yX6_finds cX6_finds 7 none (6) (1536) [.ref c, .ref a, zI ((rN L : Nat) : Int), vB both] n (f) (fun r n' f' => r = none ∧ n ≤ n' ∧ (∃ l1' l2', FI f' c oa fa la lb (rN L) L (fdAll L both p) l1' l2') ∧ ∀ x, x < n → x ∉ [c, oa, fa, la, lb] → f' x = f x) := by
  refine ct_intro [some (.ref c), some (.ref a), some (zI ((rN L : Nat) : Int)), some (vB both), none, none, none] hR rfl (Nat.le_of_ble_eq_true rfl) ?_
  intro K hG hRel hK hRt hnm
  have hQ : kRel K = RelP := by rw [hRel]; exact hP
  have hXK : GX (kG K) := by rw [hG]; exact hX
  have hr64 : rN L ≤ 64 := rN_le (k := 6) hL
  obtain ⟨⟨n1, n2, n3, n4⟩, n5, n6, n7, n8⟩ := h.ne
  obtain ⟨h1, ⟨ho, h2, h2b⟩, ⟨hf0, h3⟩, h4, h5, h6, h7, h8, h9⟩ := id h
  have hac : a ≠ c := fun q => by rw [q, h1] at ha; cases ha
  obtain ⟨sE, hsE⟩ : ∃ sE, sE = fdAll L both p := ⟨_, rfl⟩
  rw [← hsE] at hRt
  have lp : ∀ (m x : Nat) (s : FS) (l1 l2 : List Nat) (n1 : Nat) (f1 : Hp) (u : Nat) (a5 a6 : Option Value), x + m = rN L → FI f1 c oa fa la lb (rN L) L s l1 l2 → onto (rN L) s.1 → n ≤ n1 → (∀ x, x < n → x ∉ [c, oa, fa, la, lb] → f1 x = f x) → u ≤ 24 * x → fdF L both m s = sE → nl a5 = true → Wx K 41 [some (.ref c), some (.ref a), some (zI ((rN L : Nat) : Int)), some (vB both), some (zI (x : Int)), a5, a6] [] n1 f1 u := by
    intro m
    induction m with
    | zero =>
      intro x s l1 l2 n1 f1 u a5 a6 hx hF hs hn hfr hu he hnl
      have he2 : s = sE := he
      refine r_iload_4 hK dX6_finds_41 ?_
      refine r_aload_0 hK dX6_finds_43 ?_
      refine r_get hK fl_X6_38 dX6_finds_44 (hF.1) rfl ?_
      refine r_icmp_ge 117 hK dX6_finds_47 (by omega) (by omega) (fun h47 => ?_) (fun h47 => ?_)
      · exact r_vret hK hRt dX6_finds_117 ⟨rfl, hn, ⟨l1, l2, by rw [← he2]; exact hF⟩, hfr⟩ (by omega)
      · omega --!
    | succ m ih =>
      intro x s l1 l2 n1 f1 u a5 a6 hx hF hs hn hfr hu he hnl
      have hxL : rN L - (m + 1) = x := by omega
      rw [fdF_s, hxL] at he
      have hsx := hs.1 x (by omega)
      have hfx := fst1_lt hr64 hs (x := x) (by omega)
      have hz1 : x ^^^ fst1 s.1 x < rN L := xor_lt (by omega) hfx
      have hz2 : x ^^^ s.1 x < rN L := xor_lt (by omega) hsx
      obtain ⟨k1, ⟨ho1, k2, k2b⟩, -⟩ := id hF
      have bl : ∀ k, bits k ≤ 32 := fun k => by
        have : ∀ m k, bitsF m k ≤ m := by
          intro m
          induction m with
          | zero => intro k; exact Nat.le_refl _
          | succ m ih => intro k; have := ih (k / 2); show k % 2 + bitsF m (k / 2) ≤ m + 1; omega
        exact this 32 k
      have b1 := bl (x ^^^ fst1 s.1 x)
      have b2 := bl (x ^^^ s.1 x)
      have fin : ∀ (ah : Bool), isAh both s.1 x = ah → Wx K (if ah then 90 else 102) [some (.ref c), some (.ref a), some (zI ((rN L : Nat) : Int)), some (vB both), some (zI (x : Int)), some (zI ((s.1 x : Nat) : Int)), some (zI ((fst1 s.1 x : Nat) : Int))] [] n1 f1 u := by
        intro ah hah
        have hrow : fdRow L both x s = (ld2 L ah x L (ld1 L ah x L (if ah then fst1 s.1 x else s.1 x, s))).2 := by unfold fdRow; rw [hah]
        cases ah with
        | true =>
          rw [if_pos rfl] at hrow ⊢
          refine r_aload_0 hK dX6_finds_90 ?_
          refine r_iload_6 hK dX6_finds_91 ?_
          refine r_iload_4 hK dX6_finds_93 ?_
          refine r_iconstN (c := 1) hK dX6_finds_95 ?_
          refine r_callV3 hK (ct_fLeads hK.rel hQ hXK (b := true) hF hL hs hfx (by omega)) lk_X6_65 (Rcv.raw hK.rel hF.1 rfl) dX6_finds_96 (fun r m2 g2 hp2 => ?_) (hu := by omega)
          obtain ⟨rfl, hle2, ⟨l1', l2', hF3⟩, hon3, hfr3⟩ := hp2
          refine r_goto 111 hK dX6_finds_99 ?_
          first | refine r_incN_4 hK dX6_finds_111 ?_ | refine r_iinc_4 hK dX6_finds_111 ?_
          refine r_goto 41 hK dX6_finds_114 ?_
          rw [← hrow] at hF3 hon3
          exact ih (x + 1) _ l1' l2' _ _ _ _ _ (by omega) hF3 hon3 (by omega) (fun y hy hyn => by rw [hfr3 y (by omega) hyn]; exact hfr y hy hyn) (by omega) he rfl
        | false =>
          rw [if_neg (by decide)] at hrow ⊢
          refine r_aload_0 hK dX6_finds_102 ?_
          refine r_iload_5 hK dX6_finds_103 ?_
          refine r_iload_4 hK dX6_finds_105 ?_
          refine r_iconstN (c := 0) hK dX6_finds_107 ?_
          refine r_callV3 hK (ct_fLeads hK.rel hQ hXK (b := false) hF hL hs hsx (by omega)) lk_X6_65 (Rcv.raw hK.rel hF.1 rfl) dX6_finds_108 (fun r m2 g2 hp2 => ?_) (hu := by omega)
          obtain ⟨rfl, hle2, ⟨l1', l2', hF3⟩, hon3, hfr3⟩ := hp2
          first | refine r_incN_4 hK dX6_finds_111 ?_ | refine r_iinc_4 hK dX6_finds_111 ?_
          refine r_goto 41 hK dX6_finds_114 ?_
          rw [← hrow] at hF3 hon3
          exact ih (x + 1) _ l1' l2' _ _ _ _ _ (by omega) hF3 hon3 (by omega) (fun y hy hyn => by rw [hfr3 y (by omega) hyn]; exact hfr y hy hyn) (by omega) he rfl
      refine r_iload_4 hK dX6_finds_41 ?_
      refine r_aload_0 hK dX6_finds_43 ?_
      refine r_get hK fl_X6_38 dX6_finds_44 (hF.1) rfl ?_
      refine r_icmp_ge 117 hK dX6_finds_47 (by omega) (by omega) (fun h47 => ?_) (fun h47 => ?_)
      · omega --!
      · refine r_aload_0 hK dX6_finds_50 ?_
        refine r_get hK fl_X6_9 dX6_finds_51 (hF.1) rfl ?_
        refine r_iload_4 hK dX6_finds_54 ?_
        refine r_iald hK dX6_finds_56 k2 (by omega) ?_
        rw [k2b x (by omega)]
        refine r_istore_5 hK dX6_finds_57 ?_
        refine r_aload_0 hK dX6_finds_59 ?_
        refine r_iload_4 hK dX6_finds_60 ?_
        refine r_pV1 hK (ct_fFrom hK.rel hF hr64 hs (by omega)) lk_X6_60 (Rcv.raw hK.rel hF.1 rfl) dX6_finds_62 ?_
        refine r_istore_6 hK dX6_finds_65 ?_
        refine r_iload_3 hK dX6_finds_67 ?_
        cases hbt : both with
        | false =>
          have := fin false (by unfold isAh; rw [hbt]; rfl)
          rw [if_neg (by decide), hbt] at this
          exact r_if_eq 102 hK dX6_finds_68 (by decide) (fun _ => this) (fun q => absurd rfl q)
        | true =>
          have hah : isAh both s.1 x = decide (bits (x ^^^ fst1 s.1 x) < bits (x ^^^ s.1 x)) := by unfold isAh; rw [hbt, Bool.true_and]
          refine r_if_eq 102 hK dX6_finds_68 (by decide) (fun q => absurd q (by decide)) (fun _ => ?_)
          refine r_iload_4 hK dX6_finds_71 ?_
          refine r_iload_6 hK dX6_finds_73 ?_
          refine r_ixor hK dX6_finds_75 ?_
          refine r_pSN1 hK (ct_many0 hK.rel (by omega)) lk_X6_62 dX6_finds_76 ?_
          refine r_iload_4 hK dX6_finds_79 ?_
          refine r_iload_5 hK dX6_finds_81 ?_
          refine r_ixor hK dX6_finds_83 ?_
          refine r_pSN1 hK (ct_many0 hK.rel (by omega)) lk_X6_62 dX6_finds_84 ?_
          refine r_icmp_ge 102 hK dX6_finds_87 (by omega) (by omega) (fun hge => ?_) (fun hlt => ?_)
          · have := fin false (by rw [hah]; exact decide_eq_false (by omega))
            rw [if_neg (by decide), hbt] at this
            exact this
          · have := fin true (by rw [hah]; exact decide_eq_true (by omega))
            rw [if_pos rfl, hbt] at this
            exact this
  refine r_aload_0 hK dX6_finds_0 ?_
  refine r_iload_2 hK dX6_finds_1 ?_
  refine r_put hK fl_X6_38 dX6_finds_2 (h1) (by simp) ?_
  refine r_aload_0 hK dX6_finds_5 ?_
  refine r_iload_2 hK dX6_finds_6 ?_
  refine r_pS1 hK (ct_ntz hK.rel (by omega)) lk_X6_42 dX6_finds_7 ?_
  refine r_put hK fl_X6_48 dX6_finds_10 (up_s _ _ _) (by simp) ?_
  refine r_aload_1 hK dX6_finds_13 ?_
  refine r_iconstN (c := 0) hK dX6_finds_14 ?_
  refine r_aload_0 hK dX6_finds_15 ?_
  refine r_get hK fl_X6_9 dX6_finds_16 (up_s _ _ _) rfl ?_
  refine r_iconstN (c := 0) hK dX6_finds_19 ?_
  refine r_iload_2 hK dX6_finds_20 ?_
  refine r_acpyI hK q1653 dX6_finds_21 (by rw [up_n hac, up_n hac]; exact ha) (by rw [up_n (Ne.symm n1), up_n (Ne.symm n1)]; exact h2) (by omega) (by omega) (fun i hi => ⟨_, by rw [Nat.zero_add]; exact hap i hi⟩) ?_ (by omega)
  rw [up_up]
  refine r_aload_0 hK dX6_finds_24 ?_
  refine r_get hK fl_X6_21 dX6_finds_25 ((by rw [up_n n1, up_s])) rfl ?_
  refine r_callV0 hK (pl_clear hQ (l := l1) (by rw [up_n (Ne.symm n5), up_n (Ne.symm n3)]; exact h4)) lk_X6_57 (rcv_ll hQ (l := l1) (by rw [up_n (Ne.symm n5), up_n (Ne.symm n3)]; exact h4)) dX6_finds_28 (fun r m1 g1 hp1 => ?_)
  obtain ⟨rfl, e2, e3⟩ := hp1
  rw [e2, e3]
  refine r_aload_0 hK dX6_finds_31 ?_
  refine r_get hK fl_X6_25 dX6_finds_32 ((by rw [up_n n3, up_n n1, up_s])) rfl ?_
  refine r_callV0 hK (pl_clear hQ (l := l2) (by rw [up_n (Ne.symm h9), up_n (Ne.symm n6), up_n (Ne.symm n4)]; exact h5)) lk_X6_57 (rcv_ll hQ (l := l2) (by rw [up_n (Ne.symm h9), up_n (Ne.symm n6), up_n (Ne.symm n4)]; exact h5)) dX6_finds_35 (fun r m1 g1 hp1 => ?_)
  obtain ⟨rfl, e2, e3⟩ := hp1
  rw [e2, e3]
  refine r_iconstN (c := 0) hK dX6_finds_38 ?_
  refine r_istore_4 hK dX6_finds_39 ?_
  refine lp (rN L) 0 (p, [], []) [] [] n _ _ _ _ (by omega) ⟨?_, ⟨va_cpy ha0 ho 0 0 (rN L), ?_, ?_⟩, ⟨hf0, ?_⟩, ?_, up_s _ _ _, ⟨rfl, fun i hi => absurd hi (Nat.not_lt_zero _)⟩, ⟨rfl, fun i hi => absurd hi (Nat.not_lt_zero _)⟩, h8, h9⟩ hp (Nat.le_refl _) (fun y hy hyn => ?_) (by omega) hsE.symm rfl
  · rw [up_n n4, up_n n3, up_n n1, up_s]; rfl
  · rw [up_n n6, up_n n5, up_s]
  · intro y hy
    unfold va_cpy
    rw [if_pos (by omega), Nat.zero_add, Nat.sub_zero]; exact hap y hy
  · rw [up_n n8, up_n n7, up_n (Ne.symm h8), up_n (Ne.symm n2)]; exact h3
  · rw [up_n h9, up_s]
  · simp only [List.mem_cons, List.not_mem_nil, or_false, not_or] at hyn
    rw [up_n hyn.2.2.2.2, up_n hyn.2.2.2.1, up_n hyn.2.1, up_n hyn.1]
set_option maxHeartbeats 4000000 in
theorem ct_fSize {G : GT} {Rel : Nat → Hp → Hp → Prop} (hR : RelOK Rel) (hP : Rel = RelP) (hX : GX G) {n : Nat} {f : Hp} {c oa fa la lb R W : Nat} {s : FS} {l1 l2 : List Nat} (h : FI f c oa fa la lb R W s l1 l2) : Ct G Rel yX6_size cX6_size 1 (some .int) (2) (0) [.ref c] n (f) (Pu (zI (((fdL s).length : Nat) : Int)) n f) := by
  refine ct_intro [some (.ref c)] hR rfl (Nat.le_of_ble_eq_true rfl) ?_
  intro K hG hRel hK hRt hnm
  have hQ : kRel K = RelP := by rw [hRel]; exact hP
  have hXK : GX (kG K) := by rw [hG]; exact hX
  obtain ⟨h1, -, -, h4, h5, h6, h7, -⟩ := id h
  refine r_aload_0 hK dX6_size_0 ?_
  refine r_get hK fl_X6_21 dX6_size_1 (h1) rfl ?_
  refine r_pV0 hK (pl_size hQ h4) lk_X6_28 (rcv_ll hQ h4) dX6_size_4 ?_
  refine r_aload_0 hK dX6_size_7 ?_
  refine r_get hK fl_X6_25 dX6_size_8 (h1) rfl ?_
  refine r_pV0 hK (pl_size hQ h5) lk_X6_28 (rcv_ll hQ h5) dX6_size_11 ?_
  first | refine r_iaddN hK dX6_size_14 ?_ | refine r_iadd hK dX6_size_14 ?_
  exact r_iret hK hRt dX6_size_15 ⟨by rw [show (fdL s).length = l1.length + l2.length from by rw [h6.1, h7.1]; unfold fdL; simp], rfl, rfl⟩
set_option maxHeartbeats 4000000 in
theorem ct_fAt {G : GT} {Rel : Nat → Hp → Hp → Prop} (hR : RelOK Rel) (hP : Rel = RelP) (hX : GX G) {n : Nat} {f : Hp} {c oa fa la lb R W i : Nat} {s : FS} {l1 l2 : List Nat} (h : FI f c oa fa la lb R W s l1 l2) (hi : i < (fdL s).length) (hs : (fdL s).length < 1000000) : Ct G Rel yX6_at cX6_at 2 (some (.object "BackLogic$Gate")) (4) (0) [.ref c, zI (i : Int)] n (f) (Pu (.ref ((l1 ++ l2).getD i 0)) n f) := by
  refine ct_intro [some (.ref c), some (zI (i : Int))] hR rfl (Nat.le_of_ble_eq_true rfl) ?_
  intro K hG hRel hK hRt hnm
  have hQ : kRel K = RelP := by rw [hRel]; exact hP
  have hXK : GX (kG K) := by rw [hG]; exact hX
  obtain ⟨h1, -, -, h4, h5, h6, h7, -⟩ := id h
  have hl : (fdL s).length = l1.length + l2.length := by rw [h6.1, h7.1]; unfold fdL; simp
  refine r_iload_1 hK dX6_at_0 ?_
  refine r_aload_0 hK dX6_at_1 ?_
  refine r_get hK fl_X6_21 dX6_at_2 (h1) rfl ?_
  refine r_pV0 hK (pl_size hQ h4) lk_X6_28 (rcv_ll hQ h4) dX6_at_5 ?_
  refine r_icmp_ge 25 hK dX6_at_8 (by omega) (by omega) (fun h8 => ?_) (fun h8 => ?_)
  · refine r_aload_0 hK dX6_at_25 ?_
    refine r_get hK fl_X6_25 dX6_at_26 (h1) rfl ?_
    refine r_iload_1 hK dX6_at_29 ?_
    refine r_aload_0 hK dX6_at_30 ?_
    refine r_get hK fl_X6_21 dX6_at_31 (h1) rfl ?_
    refine r_pV0 hK (pl_size hQ h4) lk_X6_28 (rcv_ll hQ h4) dX6_at_34 ?_
    first | refine r_isubN hK dX6_at_37 (by omega) ?_ | refine r_isub hK dX6_at_37 ?_
    refine r_pV1 hK (pl_get hQ h5 (i := i - l1.length) (by omega) (by omega)) lk_X6_32 (rcv_ll hQ h5) dX6_at_38 ?_
    refine r_cast hK cl_X6_36 (Rcv.raw hK.rel (h7.2 (i - l1.length) (by omega)) rfl) dX6_at_41 ?_
    refine r_aret hK hRt dX6_at_44 ⟨by rw [List.getD_eq_getElem?_getD, List.getD_eq_getElem?_getD, List.getElem?_append_right (by omega)], rfl, rfl⟩
  · refine r_aload_0 hK dX6_at_11 ?_
    refine r_get hK fl_X6_21 dX6_at_12 (h1) rfl ?_
    refine r_iload_1 hK dX6_at_15 ?_
    refine r_pV1 hK (pl_get hQ h4 (by omega) (by omega)) lk_X6_32 (rcv_ll hQ h4) dX6_at_16 ?_
    refine r_cast hK cl_X6_36 (Rcv.raw hK.rel (h6.2 i (by omega)) rfl) dX6_at_19 ?_
    refine r_goto 44 hK dX6_at_22 ?_
    refine r_aret hK hRt dX6_at_44 ⟨by rw [List.getD_eq_getElem?_getD, List.getD_eq_getElem?_getD, List.getElem?_append_left (by omega)], rfl, rfl⟩
