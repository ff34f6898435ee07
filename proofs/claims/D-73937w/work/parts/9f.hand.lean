set_option maxRecDepth 100000
/-! ===== BackLogic: the tape; by hand ===== -/
/-- lists of gates as maps -/
theorem GL.mp {f : Hp} {l : List Nat} {gs : List Gt} : GL f l gs ↔ l.map f = gs.map (fun g => some (cG g)) := by
  constructor
  · rintro ⟨h1, h2⟩
    refine List.ext_getElem (by rw [List.length_map, List.length_map, h1]) (fun i a b => ?_)
    rw [List.length_map] at a b
    have := h2 i a
    rw [List.getD_eq_getElem?_getD, List.getElem?_eq_getElem a, gt_at b] at this
    rw [List.getElem_map, List.getElem_map]
    exact this
  · intro h
    have hl : l.length = gs.length := by have := congrArg List.length h; rwa [List.length_map, List.length_map] at this
    refine ⟨hl, fun i hi => ?_⟩
    have h2 := congrArg (fun q => q[i]?) h
    simp only [List.getElem?_map, List.getElem?_eq_getElem hi, List.getElem?_eq_getElem (show i < gs.length by omega), Option.map_some] at h2
    rw [List.getD_eq_getElem?_getD, List.getElem?_eq_getElem hi, gt_at (by omega)]
    exact Option.some.inj h2
theorem GL.ins {f : Hp} {l : List Nat} {gs : List Gt} {v : Nat} {g : Gt} (h : GL f l gs) (hv : f v = some (cG g)) (i : Nat) : GL f (l.take i ++ v :: l.drop i) (gs.take i ++ g :: gs.drop i) := by
  rw [GL.mp] at h ⊢
  rw [List.map_append, List.map_append, List.map_cons, List.map_cons, List.map_take, List.map_drop, List.map_take, List.map_drop, h, hv]
theorem GL.rev {f : Hp} {l : List Nat} {gs : List Gt} (h : GL f l gs) : GL f l.reverse gs.reverse := by
  rw [GL.mp] at h ⊢
  rw [List.map_reverse, List.map_reverse, h]
theorem KE.fr {f : Hp} {n : Nat} {e : E_} {S : List Nat} (hn : f n = none) (h : 392 ≤ n) : KE S f (up f n e) := ⟨fun id q z => by rw [up_n (fun y => by rw [y, hn] at z; cases z)]; exact z, fun id e' _ z => by rw [up_n (fun y => by rw [y, hn] at z; cases z)]; exact z, fun id a _ => up_n (by omega)⟩
theorem WO.no {S : List Nat} {f f' : Hp} {w : Nat} {gs : List Gt} {pa : List (List Gt)} {sl : Nat → Option (List Gt)} {ni no : Nat} {v p : Nat → Nat} {tp : Nat} {T : Nat → Nat} {pl : Int} (h : WO f w gs pa sl ni no v p tp T pl) (hk : KE S f f') (hS : S = []) : WO f' w gs pa sl ni no v p tp T pl := by
  subst hS
  exact h.ke hk (fun x hx => absurd hx List.not_mem_nil) (Or.inl ⟨List.not_mem_nil, List.not_mem_nil⟩) (Or.inl (fun _ _ _ => List.not_mem_nil)) (Or.inl (fun _ _ _ => List.not_mem_nil)) (Or.inl (fun _ _ _ => List.not_mem_nil)) (Or.inl (fun _ _ _ => List.not_mem_nil))
/-- the cascade becomes another one -/
theorem WO.cas {f : Hp} {w : Nat} {gs gs' : List Gt} {pa : List (List Gt)} {sl : Nat → Option (List Gt)} {ni no : Nat} {v p : Nat → Nat} {tp : Nat} {T : Nat → Nat} {pl : Int} {l' : List Nat} (h : WO f w gs pa sl ni no v p tp T pl) (hg : GL f l' gs') (hl : l'.length < 1000000) : KE [319] f (up f 319 (cLL l')) ∧ WO (up f 319 (cLL l')) w gs' pa sl ni no v p tp T pl := by
  have hk : KE [319] f (up f 319 (cLL l')) := KE.up1 (by decide) (fun q => h.ng (by decide) q)
  refine ⟨hk, ?_⟩
  obtain ⟨h0, h1, ⟨l, h2⟩, h3, h4, h5, h6, h7, h8, h9, h10, h11⟩ := h
  have g : ∀ x, x ≠ 319 → x ∉ [319] := fun x q z => q (List.mem_singleton.mp z)
  exact ⟨(up_n (by decide)).trans h0, h1.ke hk (fun x a b => g x (by omega)), ⟨l', (up_n (by decide)).trans h2.1, up_s _ _ _, hg.ke hk, hl⟩, h3.ke hk ⟨g _ (by decide), g _ (by decide)⟩, h4.ke hk (g _ (by decide)), h5.ke hk (g _ (by decide)), h6.ke hk (g _ (by decide)), h7.ke hk ⟨g _ (by decide), g _ (by decide)⟩, h8.ke hk (fun x a b => g x (by omega)), h9.ke hk (fun x a b => g x (by omega)), h10.ke hk (fun x a b => g x (by omega)), h11.ke hk (fun x a b => g x (by omega))⟩
theorem WO.past {f : Hp} {w : Nat} {gs : List Gt} {pa pa' : List (List Gt)} {sl : Nat → Option (List Gt)} {ni no : Nat} {v p : Nat → Nat} {tp : Nat} {T : Nat → Nat} {pl : Int} {lp : List Nat} (h : WO f w gs pa sl ni no v p tp T pl) (hl : lp.length = pa'.length) (hc : ∀ i, i < lp.length → cK f (lp.getD i 0) (pa'.getD i [])) : KE [350] f (up f 350 (cAD lp)) ∧ WO (up f 350 (cAD lp)) w gs pa' sl ni no v p tp T pl := by
  have hk : KE [350] f (up f 350 (cAD lp)) := KE.up1 (by decide) (fun q => h.ng (by decide) q)
  refine ⟨hk, ?_⟩
  obtain ⟨h0, h1, h2, h3, h4, h5, h6, h7, h8, h9, h10, h11⟩ := h
  have g : ∀ x, x ≠ 350 → x ∉ [350] := fun x q z => q (List.mem_singleton.mp z)
  exact ⟨(up_n (by decide)).trans h0, h1.ke hk (fun x a b => g x (by omega)), h2.ke hk ⟨g _ (by decide), g _ (by decide)⟩, h3.ke hk ⟨g _ (by decide), g _ (by decide)⟩, ⟨lp, up_s _ _ _, hl, fun i hi => (hc i hi).ke hk⟩, h5.ke hk (g _ (by decide)), h6.ke hk (g _ (by decide)), h7.ke hk ⟨g _ (by decide), g _ (by decide)⟩, h8.ke hk (fun x a b => g x (by omega)), h9.ke hk (fun x a b => g x (by omega)), h10.ke hk (fun x a b => g x (by omega)), h11.ke hk (fun x a b => g x (by omega))⟩
theorem WO.slot {f : Hp} {w : Nat} {gs : List Gt} {pa : List (List Gt)} {sl sl' : Nat → Option (List Gt)} {ni no : Nat} {v p : Nat → Nat} {tp : Nat} {T : Nat → Nat} {pl : Int} {hs : Nat → Value} (h : WO f w gs pa sl ni no v p tp T pl) (hc : ∀ k, k < 3 → (sl' k = none ∧ hs k = .null) ∨ ∃ c gs, hs k = .ref c ∧ sl' k = some gs ∧ cK f c gs) : KE [352] f (up f 352 (.inr (7, 3, hs))) ∧ WO (up f 352 (.inr (7, 3, hs))) w gs pa sl' ni no v p tp T pl := by
  have hk : KE [352] f (up f 352 (.inr (7, 3, hs))) := KE.up1 (by decide) (fun q => h.ng (by decide) q)
  refine ⟨hk, ?_⟩
  obtain ⟨h0, h1, h2, h3, h4, h5, h6, h7, h8, h9, h10, h11⟩ := h
  have g : ∀ x, x ≠ 352 → x ∉ [352] := fun x q z => q (List.mem_singleton.mp z)
  refine ⟨(up_n (by decide)).trans h0, h1.ke hk (fun x a b => g x (by omega)), h2.ke hk ⟨g _ (by decide), g _ (by decide)⟩, h3.ke hk ⟨g _ (by decide), g _ (by decide)⟩, h4.ke hk (g _ (by decide)), ⟨hs, up_s _ _ _, fun k a => ?_⟩, h6.ke hk (g _ (by decide)), h7.ke hk ⟨g _ (by decide), g _ (by decide)⟩, h8.ke hk (fun x a b => g x (by omega)), h9.ke hk (fun x a b => g x (by omega)), h10.ke hk (fun x a b => g x (by omega)), h11.ke hk (fun x a b => g x (by omega))⟩
  rcases hc k a with z | ⟨c, g, z1, z2, z3⟩
  · exact Or.inl z
  · exact Or.inr ⟨c, g, z1, z2, z3.ke hk⟩
/-- the tape and how much of it -/
def tkE (tp mn : Nat) : E_ := .inl (2, [.ref 304, .ref 305, zI (tp : Int), .ref 306, .ref 307, .ref 308, .ref 309, zI (mn : Int)])
def tkT (T : Nat → Nat) : E_ := .inr (1, 2000, fun j => zI (sx (T j)))
def tkH (f : Hp) (tp mn : Nat) (T : Nat → Nat) : Hp := up (up f 305 (tkT T)) 302 (tkE tp mn)
theorem tkH_o (f : Hp) (tp tp' mn : Nat) (T : Nat → Nat) : up (tkH f tp mn T) 302 (tkE tp' mn) = tkH f tp' mn T := up_up _ _ _ _
theorem tkH_t (f : Hp) (tp mn : Nat) (T T' : Nat → Nat) : up (tkH f tp mn T) 305 (tkT T') = tkH f tp mn T' := by
  unfold tkH
  rw [up_comm (j := 302) (k := 305) (by decide), up_up]
theorem tkH_id {f : Hp} {tp mn : Nat} {T : Nat → Nat} (h1 : TKo f tp mn) (h2 : TKt f T) : tkH f tp mn T = f := by
  unfold tkH
  rw [up_self (show f 305 = some (tkT T) from h2), up_self (show f 302 = some (tkE tp mn) from h1)]
theorem WO.tk {f : Hp} {w : Nat} {gs : List Gt} {pa : List (List Gt)} {sl : Nat → Option (List Gt)} {ni no : Nat} {v p : Nat → Nat} {tp : Nat} {T : Nat → Nat} {pl : Int} (h : WO f w gs pa sl ni no v p tp T pl) (tp' mn : Nat) (T' : Nat → Nat) : KE [302, 305] f (tkH f tp' mn T') ∧ WO (tkH f tp' mn T') w gs pa sl ni no v p tp' T' pl := by
  have hk1 : KE [305] f (up f 305 (tkT T')) := KE.up1 (by decide) (fun q => h.ng (by decide) q)
  have hk2 : KE [302] (up f 305 (tkT T')) (tkH f tp' mn T') := KE.up1 (by decide) (fun q => by rw [up_n (by decide)]; exact h.ng (by decide) q)
  have hk : KE [302, 305] f (tkH f tp' mn T') := (hk1.mono (fun x hx => by rw [List.mem_singleton.mp hx]; decide)).tr (hk2.mono (fun x hx => by rw [List.mem_singleton.mp hx]; decide))
  refine ⟨hk, ?_⟩
  obtain ⟨h0, h1, h2, h3, h4, h5, h6, h7, h8, h9, h10, h11⟩ := h
  have g : ∀ x, x ≠ 302 → x ≠ 305 → x ∉ [302, 305] := fun x q q2 z => by simp at z; omega
  have e := fun x (a : x < 392) (b : x ≠ 302) (c : x ≠ 305) => hk.2.2 x a (g x b c)
  refine ⟨(e 300 (by decide) (by decide) (by decide)).trans h0, ?_, h2.ke hk ⟨g _ (by decide) (by decide), g _ (by decide) (by decide)⟩, h3.ke hk ⟨g _ (by decide) (by decide), g _ (by decide) (by decide)⟩, h4.ke hk (g _ (by decide) (by decide)), h5.ke hk (g _ (by decide) (by decide)), h6.ke hk (g _ (by decide) (by decide)), h7.ke hk ⟨g _ (by decide) (by decide), g _ (by decide) (by decide)⟩, h8.ke hk (fun x a b => g x (by omega) (by omega)), h9.ke hk (fun x a b => g x (by omega) (by omega)), h10.ke hk (fun x a b => g x (by omega) (by omega)), h11.ke hk (fun x a b => g x (by omega) (by omega))⟩
  obtain ⟨⟨⟨a1, a2, a3, a4, a5, hP⟩, ⟨b1, hPr⟩, ⟨b2, hNm⟩, NL, ll, hL, hL2⟩, ⟨c1, c2, hF⟩, -, hTw, -, ⟨S, A, B, W, hTa⟩, hC, ⟨lg, hLL⟩, d1, d2, d3, hCT, hCv⟩ := h1
  exact ⟨⟨⟨a1, a2, a3, a4, a5, (e 310 (by decide) (by decide) (by decide)).trans hP⟩, ⟨b1, (e 315 (by decide) (by decide) (by decide)).trans hPr⟩, ⟨b2, (e 316 (by decide) (by decide) (by decide)).trans hNm⟩, NL, ll, (e 317 (by decide) (by decide) (by decide)).trans hL, hL2⟩, ⟨c1, c2, (e 301 (by decide) (by decide) (by decide)).trans hF⟩, ⟨mn, up_s _ _ _⟩, ⟨(e 304 (by decide) (by decide) (by decide)).trans hTw.1, (e 303 (by decide) (by decide) (by decide)).trans hTw.2⟩, (up_n (by decide)).trans (up_s _ _ _), ⟨S, A, B, W, (e 306 (by decide) (by decide) (by decide)).trans hTa.1, (e 307 (by decide) (by decide) (by decide)).trans hTa.2.1, (e 308 (by decide) (by decide) (by decide)).trans hTa.2.2.1, (e 309 (by decide) (by decide) (by decide)).trans hTa.2.2.2⟩, (e 311 (by decide) (by decide) (by decide)).trans hC, ⟨lg, (e 312 (by decide) (by decide) (by decide)).trans hLL⟩, d1, d2, d3, ⟨(e 313 (by decide) (by decide) (by decide)).trans hCT.1, (e 314 (by decide) (by decide) (by decide)).trans hCT.2⟩, hCv⟩
def tl4 (T : Nat → Nat) (t : Nat) (z : Int) : Nat → Nat := upN (upN (upN (upN T t (bN z 24)) (t + 1) (bN z 16)) (t + 2) (bN z 8)) (t + 3) (bN z 0)
theorem updV_sx (T : Nat → Nat) (i b : Nat) : updV (fun j => zI (sx (T j))) i (zI (sx b)) = fun j => zI (sx (upN T i b j)) := by
  funext j
  unfold updV upN
  split <;> rfl
set_option maxHeartbeats 4000000 in
theorem ct_xTyped {G : GT} {Rel : Nat → Hp → Hp → Prop} (hR : RelOK Rel) {n : Nat} {f : Hp} {pl z : Int} {w tp mn : Nat} {T : Nat → Nat} (h0 : f 300 = some (x0C pl w)) (ht : tp + 4 ≤ 2000) : Ct G Rel yX0_typed cX0_typed 3 none (1) (0) [.ref 300, zI z] n (tkH f tp mn T) (Pv n (tkH f (tp + 4) mn (tl4 T tp z))) := by
  refine ct_intro [some (.ref 300), some (zI z), none] hR rfl (Nat.le_of_ble_eq_true rfl) ?_
  intro K hG hRel hK hRt hnm
  have hX0 : ∀ tp T, tkH f tp mn T 300 = some (x0C pl w) := fun tp T => (up_n (by decide)).trans ((up_n (by decide)).trans h0)
  have hO : ∀ tp T, tkH f tp mn T 302 = some (tkE tp mn) := fun tp T => up_s _ _ _
  have hTt : ∀ tp T, tkH f tp mn T 305 = some (tkT T) := fun tp T => (up_n (by decide)).trans (up_s _ _ _)
  have st : ∀ (k : Int) (t1 : Nat) (T1 : Nat → Nat), 0 ≤ k ∧ k ≤ 24 → t1 < 2000 → Wx K 3 [some (.ref 300), some (zI z), some (zI (k + -8))] [] n (tkH f (t1 + 1) mn (upN T1 t1 (bN z k))) 0 → Wx K 3 [some (.ref 300), some (zI z), some (zI k)] [] n (tkH f t1 mn T1) 0 := by
    intro k t1 T1 hk ht1 kk
    refine r_iload_2 hK dX0_typed_3 ?_
    refine r_if_lt 45 hK dX0_typed_4 (by omega) (fun h4 => ?_) (fun h4 => ?_)
    · exact absurd h4 (by omega) --!
    · refine r_aload_0 hK dX0_typed_7 ?_
      refine r_get hK fl_X0_25 dX0_typed_8 (hX0 _ _) rfl ?_
      refine r_get hK fl_X0_114 dX0_typed_11 (hO _ _) rfl ?_
      refine r_aload_0 hK dX0_typed_14 ?_
      refine r_get hK fl_X0_25 dX0_typed_15 (hX0 _ _) rfl ?_
      refine r_get hK fl_X0_107 dX0_typed_18 (hO _ _) rfl ?_
      refine r_iload_1 hK dX0_typed_21 ?_
      refine r_iload_2 hK dX0_typed_22 ?_
      refine r_ishrR hK dX0_typed_23 ?_
      refine r_i2b hK dX0_typed_24 ?_
      refine r_top (i8_sx _) ?_
      show Wx K _ _ (zI (sx (bN z k)) :: _) _ _ _
      refine r_bast hK dX0_typed_25 (hTt _ _) ht1 (nar_b _ (bN_lt z k)) ?_
      rw [updV_sx]
      show Wx K _ _ _ _ (up (tkH f t1 mn T1) 305 (tkT (upN T1 t1 (bN z k)))) _
      rw [tkH_t]
      refine r_aload_0 hK dX0_typed_26 ?_
      refine r_get hK fl_X0_25 dX0_typed_27 (hX0 _ _) rfl ?_
      refine r_dup hK dX0_typed_30 ?_
      refine r_get hK fl_X0_107 dX0_typed_31 (hO _ _) rfl ?_
      refine r_iconstN (c := 1) hK dX0_typed_34 ?_
      first | refine r_iaddN hK dX0_typed_35 ?_ | refine r_iadd hK dX0_typed_35 ?_
      refine r_put hK fl_X0_107 dX0_typed_36 (hO _ _) (by simp) ?_
      show Wx K _ _ _ _ (up (tkH f t1 mn (upN T1 t1 (bN z k))) 302 (tkE (t1 + 1) mn)) _
      rw [tkH_o]
      refine r_iinc_2 hK dX0_typed_39 ?_
      refine r_goto 3 hK dX0_typed_42 ?_
      exact kk
  have fin : Wx K 3 [some (.ref 300), some (zI z), some (zI (-8))] [] n (tkH f (tp + 4) mn (tl4 T tp z)) 0 := by
    refine r_iload_2 hK dX0_typed_3 ?_
    refine r_if_lt 45 hK dX0_typed_4 ⟨by decide, by decide⟩ (fun h4 => ?_) (fun h4 => ?_)
    · exact r_vret hK hRt dX0_typed_45 ⟨rfl, rfl, rfl⟩
    · exact absurd h4 (by decide)
  refine r_bipushN (c := 24) hK dX0_typed_0 ?_
  refine r_istore_2 hK dX0_typed_2 ?_
  show Wx K 3 [some (.ref 300), some (zI z), some (zI 24)] [] n (tkH f tp mn T) 0
  refine st 24 tp T (by omega) (by omega) ?_
  refine st 16 _ _ (by omega) (by omega) ?_
  refine st 8 _ _ (by omega) (by omega) ?_
  refine st 0 _ _ (by omega) (by omega) ?_
  exact fin
def tl20 (T : Nat → Nat) (t : Nat) (a b c e g : Int) : Nat → Nat := tl4 (tl4 (tl4 (tl4 (tl4 T t a) (t + 4) b) (t + 8) c) (t + 12) e) (t + 16) g
set_option maxHeartbeats 4000000 in
theorem ct_xFeed {G : GT} {Rel : Nat → Hp → Hp → Prop} (hR : RelOK Rel) {n : Nat} {f : Hp} {w : Nat} {gs : List Gt} {pa : List (List Gt)} {sl : Nat → Option (List Gt)} {ni no : Nat} {v p : Nat → Nat} {tp : Nat} {T : Nat → Nat} {pl a b c e g : Int} (h : WO f w gs pa sl ni no v p tp T pl) (ht : tp ≤ 2000) : Ct G Rel yX0_feed cX0_feed 6 (some .int) (2) (0) [.ref 300, zI a, zI b, zI c, zI e, zI g] n (f) (fun r n' f' => n' = n ∧ KE [302, 305] f f' ∧ ((tp + 20 ≤ 2000 ∧ r = some (zI ((tp + 20 : Nat) : Int)) ∧ WO f' w gs pa sl ni no v p (tp + 20) (tl20 T tp a b c e g) pl) ∨ (¬ tp + 20 ≤ 2000 ∧ r = some (zI (-1)) ∧ WO f' w gs pa sl ni no v p tp T pl))) := by
  refine ct_intro [some (.ref 300), some (zI a), some (zI b), some (zI c), some (zI e), some (zI g)] hR rfl (Nat.le_of_ble_eq_true rfl) ?_
  intro K hG hRel hK hRt hnm
  obtain ⟨h0, hPW, -⟩ := id h
  obtain ⟨mn, hO⟩ := hPW.2.2.1
  have hT := hPW.2.2.2.2.1
  have hX0 : ∀ tp T, tkH f tp mn T 300 = some (x0C pl w) := fun tp T => (up_n (by decide)).trans ((up_n (by decide)).trans h0)
  have hO2 : ∀ tp T, tkH f tp mn T 302 = some (tkE tp mn) := fun tp T => up_s _ _ _
  refine r_aload_0 hK dX0_feed_0 ?_
  refine r_get hK fl_X0_25 dX0_feed_1 (h0) rfl ?_
  refine r_get hK fl_X0_107 dX0_feed_4 (hO) rfl ?_
  refine r_bipushN (c := 20) hK dX0_feed_7 ?_
  first | refine r_iaddN hK dX0_feed_9 ?_ | refine r_iadd hK dX0_feed_9 ?_
  refine r_sipushN (c := 2000) hK dX0_feed_10 ?_
  refine r_icmp_le 18 hK dX0_feed_13 (by omega) (by omega) (fun h13 => ?_) (fun h13 => ?_)
  · rw [← tkH_id hO hT]
    refine r_aload_0 hK dX0_feed_18 ?_
    refine r_iload_1 hK dX0_feed_19 ?_
    refine r_vV1 hK (ct_xTyped hK.rel h0 (by omega)) lk_X0_110 (Rcv.raw hK.rel (hX0 _ _) rfl) dX0_feed_20 ?_
    refine r_aload_0 hK dX0_feed_23 ?_
    refine r_iload_2 hK dX0_feed_24 ?_
    refine r_vV1 hK (ct_xTyped hK.rel h0 (by omega)) lk_X0_110 (Rcv.raw hK.rel (hX0 _ _) rfl) dX0_feed_25 ?_
    refine r_aload_0 hK dX0_feed_28 ?_
    refine r_iload_3 hK dX0_feed_29 ?_
    refine r_vV1 hK (ct_xTyped hK.rel h0 (by omega)) lk_X0_110 (Rcv.raw hK.rel (hX0 _ _) rfl) dX0_feed_30 ?_
    refine r_aload_0 hK dX0_feed_33 ?_
    refine r_iload_4 hK dX0_feed_34 ?_
    refine r_vV1 hK (ct_xTyped hK.rel h0 (by omega)) lk_X0_110 (Rcv.raw hK.rel (hX0 _ _) rfl) dX0_feed_36 ?_
    refine r_aload_0 hK dX0_feed_39 ?_
    refine r_iload_5 hK dX0_feed_40 ?_
    refine r_vV1 hK (ct_xTyped hK.rel h0 (by omega)) lk_X0_110 (Rcv.raw hK.rel (hX0 _ _) rfl) dX0_feed_42 ?_
    refine r_aload_0 hK dX0_feed_45 ?_
    refine r_get hK fl_X0_25 dX0_feed_46 (hX0 _ _) rfl ?_
    refine r_get hK fl_X0_107 dX0_feed_49 (hO2 _ _) rfl ?_
    exact r_iret hK hRt dX0_feed_52 ⟨rfl, (h.tk _ _ _).1, Or.inl ⟨by omega, rfl, (h.tk _ _ _).2⟩⟩
  · refine r_iconst hK dX0_feed_16 ?_
    exact r_iret hK hRt dX0_feed_17 ⟨rfl, KE.rf _ f, Or.inr ⟨by omega, rfl, h⟩⟩
set_option maxHeartbeats 4000000 in
theorem ct_xBack {G : GT} {Rel : Nat → Hp → Hp → Prop} (hR : RelOK Rel) {n : Nat} {f : Hp} {w : Nat} {gs : List Gt} {pa : List (List Gt)} {sl : Nat → Option (List Gt)} {ni no : Nat} {v p : Nat → Nat} {tp : Nat} {T : Nat → Nat} {pl z : Int} (hz : inR z) (h : WO f w gs pa sl ni no v p tp T pl) (ht : tp ≤ 2000) : Ct G Rel yX0_back cX0_back 2 (some .int) (1) (0) [.ref 300, zI z] n (f) (fun r n' f' => n' = n ∧ KE [302, 305] f f' ∧ (((0 ≤ z ∧ z ≤ tp) ∧ r = some (zI ((tp - z.toNat : Nat) : Int)) ∧ WO f' w gs pa sl ni no v p (tp - z.toNat) T pl) ∨ (¬ (0 ≤ z ∧ z ≤ tp) ∧ r = some (zI (-1)) ∧ WO f' w gs pa sl ni no v p tp T pl))) := by
  refine ct_intro [some (.ref 300), some (zI z)] hR rfl (Nat.le_of_ble_eq_true rfl) ?_
  intro K hG hRel hK hRt hnm
  obtain ⟨h0, hPW, -⟩ := id h
  obtain ⟨mn, hO⟩ := hPW.2.2.1
  have hT := hPW.2.2.2.2.1
  have hX0 : ∀ tp T, tkH f tp mn T 300 = some (x0C pl w) := fun tp T => (up_n (by decide)).trans ((up_n (by decide)).trans h0)
  have hO2 : ∀ tp T, tkH f tp mn T 302 = some (tkE tp mn) := fun tp T => up_s _ _ _
  refine r_iload_1 hK dX0_back_0 ?_
  refine r_if_lt 15 hK dX0_back_1 (by omega) (fun h1 => ?_) (fun h1 => ?_)
  · refine r_iconst hK dX0_back_15 ?_
    exact r_iret hK hRt dX0_back_16 ⟨rfl, KE.rf _ f, Or.inr ⟨by omega, rfl, h⟩⟩
  · refine r_iload_1 hK dX0_back_4 ?_
    refine r_aload_0 hK dX0_back_5 ?_
    refine r_get hK fl_X0_25 dX0_back_6 (h0) rfl ?_
    refine r_get hK fl_X0_107 dX0_back_9 (hO) rfl ?_
    refine r_icmp_le 17 hK dX0_back_12 (by omega) (by omega) (fun h12 => ?_) (fun h12 => ?_)
    · obtain ⟨k, rfl⟩ : ∃ s : Nat, z = (s : Int) := ⟨z.toNat, by omega⟩
      refine r_aload_0 hK dX0_back_17 ?_
      refine r_get hK fl_X0_25 dX0_back_18 (h0) rfl ?_
      refine r_dup hK dX0_back_21 ?_
      refine r_get hK fl_X0_107 dX0_back_22 (hO) rfl ?_
      refine r_iload_1 hK dX0_back_25 ?_
      first | refine r_isubN hK dX0_back_26 (by omega) ?_ | refine r_isub hK dX0_back_26 ?_
      refine r_put hK fl_X0_107 dX0_back_27 hO (by simp) ?_
      rw [← tkH_id hO hT]
      show Wx K _ _ _ _ (up (tkH f tp mn T) 302 (tkE (tp - k) mn)) _
      rw [tkH_o]
      refine r_aload_0 hK dX0_back_30 ?_
      refine r_get hK fl_X0_25 dX0_back_31 (hX0 _ _) rfl ?_
      refine r_get hK fl_X0_107 dX0_back_34 (hO2 _ _) rfl ?_
      exact r_iret hK hRt dX0_back_37 ⟨rfl, (h.tk _ _ _).1, Or.inl ⟨by omega, rfl, (h.tk _ _ _).2⟩⟩
    · refine r_iconst hK dX0_back_15 ?_
      exact r_iret hK hRt dX0_back_16 ⟨rfl, KE.rf _ f, Or.inr ⟨by omega, rfl, h⟩⟩
