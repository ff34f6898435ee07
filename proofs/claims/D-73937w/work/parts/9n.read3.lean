set_option maxRecDepth 100000
/-! ===== BackLogic.read: the walk ===== -/
set_option maxHeartbeats 4000000 in
theorem ct_xRead {G : GT} {Rel : Nat → Hp → Hp → Prop} (hR : RelOK Rel) (hP : Rel = RelP) (hX : GX G) {n : Nat} {f : Hp} {w : Nat} {gs : List Gt} {pa : List (List Gt)} {sl : Nat → Option (List Gt)} {ni no : Nat} {v p : Nat → Nat} {tp : Nat} {T : Nat → Nat} {pl : Int} (h : WO f w gs pa sl ni no v p tp T pl) (hT2 : ∀ i, T i < 256) (htp : tp ≤ 2000) (hn0 : 392 ≤ n) : CtW G Rel yX0_read cX0_read 3 (some .int) [(7, 18, 21, 13)] 11 1217 [.ref 300] n f (RXP n f w gs pa sl ni no v p tp T) := by
  refine ctw_intro [some (.ref 300), none, none] hR rfl (Nat.le_of_ble_eq_true rfl) ?_
  intro K hG hRel hK hRt hTab
  have hQ : kRel K = RelP := by rw [hRel]; exact hP
  have hXK : GX (kG K) := by rw [hG]; exact hX
  have jn : ∀ (n1 : Nat) (f1 : Hp) (z : Int) (a2 : Option Value) (u w1 : Nat) (g1 : List Gt) (pa1 : List (List Gt)) (sl1 : Nat → Option (List Gt)) (ni1 no1 : Nat) (v1 p1 : Nat → Nat) (pl1 : Int), u ≤ 1217 → WO f1 w1 g1 pa1 sl1 ni1 no1 v1 p1 tp T pl1 → (∀ f2, (∀ id, 358 ≤ id → id < 392 → f2 id = f1 id) → WO f2 w1 g1 pa1 sl1 ni1 no1 v1 p1 0 T pl1 → RXP n f w gs pa sl ni no v p tp T (some (zI z)) n1 f2) → Wx K 35 [some (.ref 300), some (zI z), a2] [] n1 f1 u := by
    intro n1 f1 z a2 u w1 g1 pa1 sl1 ni1 no1 v1 p1 pl1 hu hW hpo
    obtain ⟨g0, gPW, -⟩ := id hW
    obtain ⟨mn, hO⟩ := gPW.2.2.1
    have hTt := gPW.2.2.2.2.1
    have hk := hW.tk 0 mn T
    have e : tkH f1 0 mn T = up f1 302 (tkE 0 mn) := by unfold tkH; rw [up_self (show f1 305 = some (tkT T) from hTt)]
    rw [e] at hk
    refine r_aload_0 hK dX0_read_35 ?_
    refine r_get hK fl_X0_25 dX0_read_36 g0 rfl ?_
    refine r_iconstN (c := 0) hK dX0_read_39 ?_
    refine r_put hK fl_X0_107 dX0_read_40 hO (by simp) ?_
    show Wx K _ _ _ _ (up f1 302 (tkE 0 mn)) _
    refine r_iload_1 hK dX0_read_43 ?_
    exact r_iret hK hRt dX0_read_44 (hpo _ (fun id a b => hk.1.2.2 id b (by simp; omega)) hk.2) hu
  have h0 := h.1
  have w1 := h.w (w' := w) (pl' := -1)
  obtain ⟨f1, hf1⟩ : ∃ f1, f1 = up f 300 (x0C (-1) w) := ⟨_, rfl⟩
  rw [← hf1] at w1
  have tw1 : ∀ id, 358 ≤ id → id < 392 → f1 id = f id := fun id a b => w1.1.2.2 id b (by simp; omega)
  have hPW1 := w1.2.2.1
  obtain ⟨⟨a1, a2, a3, a4, a5, hP310⟩, -⟩ := hPW1.1
  refine r_iconstN (c := 0) hK dX0_read_0 ?_
  refine r_istore_1 hK dX0_read_1 ?_
  refine r_aload_0 hK dX0_read_2 ?_
  refine r_iconst hK dX0_read_3 ?_
  refine r_put hK fl_X0_100 dX0_read_4 h0 (by simp) ?_
  show Wx K _ _ _ _ (up f 300 (x0C (-1) w)) _
  rw [← hf1]
  refine r_aload_0 hK dX0_read_7 ?_
  refine r_get hK fl_X0_34 dX0_read_8 w1.2.1 rfl ?_
  refine r_fact hK (fun _ hno => ?_)
  refine r_xCatch (a := 7) (b := 18) (h0 := 21) (ct := 13) hK hXK hTab (ct_pRead hK.rel hQ hXK hPW1 hT2 htp hn0) lk_X0_118 (Rcv.raw hK.rel hP310 rfl) dX0_read_11 cl_X0_13 (by decide) (by decide) (fun n2 f2 hx => ?_) (fun r n2 f2 hp => ?_)
  · obtain ⟨hn2, hpw2, hkp, e, hrd, hfa⟩ := hx
    refine ⟨⟨_, hfa⟩, ?_⟩
    have k2 := hkp.ke w1.2 hno hn0
    have hW2 := w1.2.par k2 hpw2
    have w3 := hW2.w (w' := w) (pl' := ((e.2 : Nat) : Int))
    refine r_astore_2 hK dX0_read_21 ?_
    refine r_aload_2 hK dX0_read_22 ?_
    refine r_get hK fl_X0_124 dX0_read_23 hfa rfl ?_
    refine r_istore_1 hK dX0_read_26 ?_
    refine r_aload_0 hK dX0_read_27 ?_
    refine r_aload_2 hK dX0_read_28 ?_
    refine r_get hK fl_X0_127 dX0_read_29 hfa rfl ?_
    refine r_put hK fl_X0_100 dX0_read_32 hW2.1 (by simp) ?_
    show Wx K _ _ _ _ (up f2 300 (x0C ((e.2 : Nat) : Int) w)) _
    refine jn n2 _ _ _ _ w gs pa sl ni no v p ((e.2 : Nat) : Int) (by omega) w3.2 (fun f4 hf4 hW4 => ⟨hn2, fun id a b => ?_, Or.inl ⟨e, hrd, rfl, hW4⟩⟩)
    rw [hf4 id a b, w3.1.2.2 id b (by simp; omega), hkp id (by omega) (by omega)]
    exact tw1 id a b
  · obtain ⟨rfl, hn2, hpw2, hkp, q, hrd, ⟨t, ng, wt, hP2⟩, ⟨lg, hlg, hgl⟩, ⟨ni', no', v', hct, htb, hvb⟩, hpp, hpp1, hpp2⟩ := hp
    obtain ⟨q4, q16, qok⟩ := rd_ok hrd
    have k2 := hkp.ke w1.2 hno hn0
    have hW2 := w1.2.par k2 hpw2
    have hlen := hgl.1
    refine r_aload_0 hK dX0_read_14 ?_
    refine r_callV0 hK (ct_xBegins hK.rel hQ hXK hW2 hP2 ⟨hpw2.2.2.2.2.2.2.1, hlg, hgl, by omega⟩ q16 hct hpp1 hpp2) lk_X0_121 (Rcv.raw hK.rel hW2.1 rfl) dX0_read_15 (fun r n3 f3 hp3 => ?_)
    obtain ⟨rfl, hn3, hk3, hW3⟩ := hp3
    refine r_goto 35 hK dX0_read_18 ?_
    refine jn n3 _ _ _ _ q.1 q.2.2.2.2 [] (fun _ => none) ni' no' _ q.2.2.1 (-1) (by omega) hW3 (fun f4 hf4 hW4 => ⟨by omega, fun id a b => ?_, Or.inr ⟨q, ni', no', _, hrd, rfl, ⟨htb.1, fun y => ⟨(htb.2 y).1, fun x hx => ?_⟩⟩, fun x hx => ?_, hW4⟩⟩)
    · rw [hf4 id a b, hk3.2.2 id b (by unfold SR; simp; omega), hkp id (by omega) (by omega)]
      exact tw1 id a b
    · have h8 : x < 8 := by
        rcases qok.2.2 with y1 | y1
        · omega
        · rw [y1.2.2.1] at hx
          have := rN_le8 y1.1.2
          omega
      show (if x < 8 then v' x else v x) = _
      rw [if_pos h8]; exact (htb.2 y).2 x hx
    · show (if x < 8 then v' x else v x) < 10000
      rw [if_pos hx]; exact hvb x hx
