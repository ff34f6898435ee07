set_option maxRecDepth 100000
/-! ===== Parser.line ===== -/
theorem TF.h4 {f : Hp} {X : Nat → Nat → Nat} {M N : Nat} (h : TF f X M N) : (X 2 (N - 1) = 0 ∨ N = 401) ∧ (∀ t, t < M → t ≤ 400 → t < N) ∧ M ≤ 2001 ∧ (∀ t, t < M → X 2 t = 0 → t ≤ 400 → N = t + 1) ∧ ∀ t, X 3 t ≤ 2000 := by
  obtain ⟨tp, T, S, A, B, W, h1, h2, h3, h4, h5, h6, h7, h8, h9, h10⟩ := h
  have hl := lex_len tp T
  have hne : lex tp T ≠ [] := fun q => by rw [q] at hl; exact absurd hl (by decide)
  have hc := (cutB_last (lex tp T) hne).2.1
  have eN : N = min 401 (lex tp T).length := h3
  refine ⟨?_, fun t ht h400 => by omega, h6, fun t ht h0 h400 => ?_, fun t => by rw [h1]; exact (tkX_bd tp T h4 t).2.1⟩
  · by_cases c : (lex tp T).length ≤ 400
    · left; rw [h1]; exact tkX_last.mpr (by omega)
    · right; omega
  · rw [h1] at h0
    have := tkX_last.mp h0
    omega
def wR (s : Nat × Nat) (w wt : Nat) : Prop := w = s.1 ∧ (s.1 ≠ 0 → wt = s.2) ∧ w ≤ 6 ∧ (w ≠ 0 → wt ≤ 2001)
theorem wR.tell {s : Nat × Nat} {w wt a k : Nat} (h : wR s w wt) (ha : 0 < a ∧ a ≤ 6) (hk : k ≤ 2001) : wR (mnW s (a, k)) (tellS (w, wt) a k).1 (tellS (w, wt) a k).2 := by
  obtain ⟨h1, h2, h3, h4⟩ := h
  by_cases c : s.1 = 0
  · have e1 : tellS (w, wt) a k = (a, k) := by
      unfold tellS; rw [if_neg (fun q => q.1 (show w = 0 by omega))]
    have e2 : mnW s (a, k) = (a, k) := mnW_z c (show a ≠ 0 by omega)
    rw [e1, e2]; exact ⟨rfl, fun _ => rfl, ha.2, fun _ => hk⟩
  · have es : (w, wt) = s := by rw [h1, h2 c]
    rw [es, tell_mn (by omega)]
    refine ⟨rfl, fun _ => rfl, ?_, ?_⟩
    · unfold mnW; rw [if_neg (show ¬ a = 0 by omega)]; unfold tellS; split
      · omega
      · exact ha.2
    · intro _
      unfold mnW; rw [if_neg (show ¬ a = 0 by omega)]; unfold tellS; split
      · have := h2 c; omega
      · exact hk
theorem wR.same {s : Nat × Nat} {w wt k : Nat} (h : wR s w wt) : wR (mnW s (0, k)) w wt := by rw [mnW_0]; exact h
def p1 (l : Nat × Nat × Nat) : Bool := l.1 == 20 || l.1 == 22
def prS (X : Nat → Nat → Nat) (p : Nat → Nat) (ln : Nat × Nat × Nat) : Nat → Nat := if ln.1 = 22 then (fun i => if i < 4 then X 4 (ln.2.1 + 1 + i) else p i) else p
def prL (X : Nat → Nat → Nat) (ls : List (Nat × Nat × Nat)) : Nat → Nat := ls.foldl (prS X) pr0
theorem prL_s (X : Nat → Nat → Nat) (ls : List (Nat × Nat × Nat)) (ln : Nat × Nat × Nat) : prL X (ls ++ [ln]) = prS X (prL X ls) ln := by unfold prL; rw [List.foldl_append]; rfl
/-- lines as objects -/
def LnL (f : Hp) (l : List Nat) (gl : List (Nat × Nat × Nat)) : Prop := l.length = gl.length ∧ ∀ i, i < l.length → 392 ≤ l.getD i 0 ∧ ∃ ln, gl[i]? = some ln ∧ f (l.getD i 0) = some (.inl (10, [zI (((if ln.1 = 21 then 1 else 3) : Nat) : Int), zI ((ln.2.1 + 1 : Nat) : Int), zI ((ln.2.2 : Nat) : Int)]))
/-- how far the component has read -/
def PRN (f : Hp) (X : Nat → Nat → Nat) (M N t : Nat) (ls : List (Nat × Nat × Nat)) (l : List Nat) (NL w wt : Nat) : Prop :=
  f 310 = some (pC (wnL ls).length t (nK 21 ls) w wt) ∧ wR (sumW X N (ls.filter p1)) w wt ∧ TF f X M N ∧ FA f ∧ NM f X M (wnL ls) ∧ (∃ hp : Nat → Value, f 315 = some (.inr (0, 4, hp)) ∧ ∀ i, i < 4 → hp i = zI ((prL X ls i : Nat) : Int)) ∧
  (f 317 = some (cAL NL l) ∧ (NL = 0 ∨ 10 ≤ NL) ∧ NL ≤ 700 ∧ l.length ≤ NL ∧ l.length ≤ ls.length ∧ LnL f l (ls.filter (fun x => !p1 x))) ∧ LO X t 0 ls ∧ (wnL ls).length ≤ 4 ∧ nK 21 ls ≤ 16 ∧ t < M ∧ t ≤ 400 ∧ ls.length ≤ t
/-- the parser's cells, whatever they hold -/
def PRB (f : Hp) : Prop := (∃ nw t ng w wt, f 310 = some (pC nw t ng w wt)) ∧ (∃ h : Nat → Value, f 315 = some (.inr (0, 4, h))) ∧ (∃ h : Nat → Value, f 316 = some (.inr (0, 4, h))) ∧ ∃ NL l, f 317 = some (cAL NL l) ∧ (NL = 0 ∨ 10 ≤ NL) ∧ NL ≤ 700
def KPn (n : Nat) (f f' : Hp) : Prop := ∀ id, id < n → (id < 301 ∨ 317 < id ∨ (302 ≤ id ∧ id ≤ 309) ∨ (311 ≤ id ∧ id ≤ 314)) → f' id = f id
theorem KPn.rf (n : Nat) (f : Hp) : KPn n f f := fun _ _ _ => rfl
theorem KPn.tr {n n' : Nat} {f f' f'' : Hp} (h : KPn n f f') (h' : KPn n' f' f'') (hn : n ≤ n') : KPn n f f'' := fun id h1 h2 => by rw [h' id (by omega) h2]; exact h id h1 h2
theorem KPn.upS {n k : Nat} {f f' : Hp} {e : E_} (h : KPn n f f') (hk : k = 301 ∨ k = 310 ∨ k = 315 ∨ k = 316 ∨ k = 317 ∨ n ≤ k) : KPn n f (up f' k e) := fun id h1 h2 => by
  rw [up_n (by omega)]; exact h id h1 h2
theorem PRN.b {f : Hp} {X : Nat → Nat → Nat} {M N t : Nat} {ls : List (Nat × Nat × Nat)} {l : List Nat} {NL w wt : Nat} (h : PRN f X M N t ls l NL w wt) : PRB f := by
  obtain ⟨h1, h2, h3, h4, h5, h6, h7, h8⟩ := h
  obtain ⟨hp, h6, -⟩ := h6
  obtain ⟨hn, h5, -⟩ := h5.2.2
  exact ⟨⟨_, _, _, _, _, h1⟩, ⟨hp, h6⟩, ⟨hn, h5⟩, NL, l, h7.1, h7.2.1, h7.2.2.1⟩
theorem PRB.upk {f : Hp} {k : Nat} {e : E_} (h : PRB f) (hk : k ≠ 310 ∧ k ≠ 315 ∧ k ≠ 316 ∧ k ≠ 317) : PRB (up f k e) := by
  obtain ⟨⟨a, b, c, d, e', h1⟩, ⟨h2v, h2⟩, ⟨h3v, h3⟩, NL, l, h4, h5⟩ := h
  exact ⟨⟨a, b, c, d, e', (up_n (by omega)).trans h1⟩, ⟨h2v, (up_n (by omega)).trans h2⟩, ⟨h3v, (up_n (by omega)).trans h3⟩, NL, l, (up_n (by omega)).trans h4, h5⟩
theorem PRB.p {f : Hp} {nw t ng w wt : Nat} (h : PRB f) : PRB (up f 310 (pC nw t ng w wt)) := by
  obtain ⟨⟨a, b, c, d, e', h1⟩, ⟨h2v, h2⟩, ⟨h3v, h3⟩, NL, l, h4, h5⟩ := h
  exact ⟨⟨_, _, _, _, _, up_s _ _ _⟩, ⟨h2v, (up_n (by decide)).trans h2⟩, ⟨h3v, (up_n (by decide)).trans h3⟩, NL, l, (up_n (by decide)).trans h4, h5⟩
theorem PRB.pr {f : Hp} {h0 : Nat → Value} (h : PRB f) : PRB (up f 315 (.inr (0, 4, h0))) := by
  obtain ⟨⟨a, b, c, d, e', h1⟩, ⟨h2v, h2⟩, ⟨h3v, h3⟩, NL, l, h4, h5⟩ := h
  exact ⟨⟨_, _, _, _, _, (up_n (by decide)).trans h1⟩, ⟨h0, up_s _ _ _⟩, ⟨h3v, (up_n (by decide)).trans h3⟩, NL, l, (up_n (by decide)).trans h4, h5⟩
def PLp (n : Nat) (f : Hp) (X : Nat → Nat → Nat) (M N t : Nat) (ls : List (Nat × Nat × Nat)) (l : List Nat) (NL : Nat) : Pt_ := fun r n' f' => r = none ∧ n ≤ n' ∧ (∃ t' l' NL' w' wt', pLine X t (wnL ls).length (nK 21 ls) = .inr t' ∧ PRN f' X M N t' (ls ++ [(X 2 t, t, t' - 1)]) l' NL' w' wt' ∧ (NL' = NL ∧ (X 2 t = 21 ∨ X 2 t = 23 → l.length < NL) ∨ (l.length = NL ∧ NL' = gwC NL))) ∧ KPn n f f'
def PLx (n : Nat) (f : Hp) (X : Nat → Nat → Nat) (t : Nat) (ls : List (Nat × Nat × Nat)) : Xt_ := fun n' f' => (∃ e, pLine X t (wnL ls).length (nK 21 ls) = .inl e ∧ f' 301 = some (fC e.1 e.2)) ∧ n ≤ n' ∧ PRB f' ∧ KPn n f f'
theorem PLx.cell {n : Nat} {f : Hp} {X : Nat → Nat → Nat} {t : Nat} {ls : List (Nat × Nat × Nat)} {n' : Nat} {f' : Hp} (h : PLx n f X t ls n' f') : ∃ fs, f' 301 = some (.inl (1, fs)) := by
  obtain ⟨⟨e, -, h⟩, -⟩ := h
  exact ⟨_, h⟩
/-- a line of another kind than gates and tables adds nothing to the lines -/
theorem fil_n {ls : List (Nat × Nat × Nat)} {ln : Nat × Nat × Nat} (h : p1 ln = true) : (ls ++ [ln]).filter p1 = ls.filter p1 ++ [ln] ∧ (ls ++ [ln]).filter (fun x => !p1 x) = ls.filter (fun x => !p1 x) := by
  rw [List.filter_append, List.filter_append]
  refine ⟨by rw [List.filter_cons_of_pos h]; rfl, by rw [List.filter_cons_of_neg (by simp [h])]; simp⟩
theorem fil_p {ls : List (Nat × Nat × Nat)} {ln : Nat × Nat × Nat} (h : p1 ln = false) : (ls ++ [ln]).filter p1 = ls.filter p1 ∧ (ls ++ [ln]).filter (fun x => !p1 x) = ls.filter (fun x => !p1 x) ++ [ln] := by
  rw [List.filter_append, List.filter_append]
  refine ⟨by rw [List.filter_cons_of_neg (by simp [h])]; simp, by rw [List.filter_cons_of_pos (by simp [h])]; rfl⟩
theorem sum_s {X : Nat → Nat → Nat} {N : Nat} {ls : List (Nat × Nat × Nat)} {ln : Nat × Nat × Nat} : sumW X N (ls ++ [ln]) = mnW (sumW X N ls) (cW X N ln) := by
  rw [sumW_app]
  show mnW _ (mnW (cW X N ln) (0, 0)) = _
  rw [mnW_0]
theorem wnL_s {ls : List (Nat × Nat × Nat)} {kd t e : Nat} : wnL (ls ++ [(kd, t, e)]) = if kd = 20 then wnL ls ++ [t + 1] else wnL ls := by
  unfold wnL
  rw [List.filter_append, List.map_append]
  by_cases c : kd = 20
  · rw [if_pos c, List.filter_cons_of_pos (by simp [c])]; rfl
  · rw [if_neg c, List.filter_cons_of_neg (by simp [c])]; simp
/-- what pure reading tells of a line that is well -/
theorem ln_ok {f : Hp} {X : Nat → Nat → Nat} {M N t t' : Nat} {ls : List (Nat × Nat × Nat)} {nw ng : Nat} (hT : TF f X M N) (ht : t < M) (h400 : t ≤ 400) (hp : pLine X t nw ng = .inr t') (hLO : LO X t 0 ls) : t < t' ∧ LO X t' 0 (ls ++ [(X 2 t, t, t' - 1)]) ∧ ¬ (X 2 t = 21 ∧ ng = 16) ∧ lnOK X N (X 2 t) t (t' - 1) := by
  obtain ⟨h4, hN, -⟩ := hT.h4
  obtain ⟨a1, a2, a3, a4, a5, a6⟩ := ln1 h4 (hN t ht h400) hp
  exact ⟨a2, LO_snoc (t' := t') ⟨a3.1, a3.2.1, a3.2.2.1, by omega, a3.2.2.2.2⟩ a4 a2 (Nat.zero_le _) hLO, a6, a3⟩
set_option maxHeartbeats 4000000 in
theorem ct_lnInit {G : GT} {Rel : Nat → Hp → Hp → Prop} (hR : RelOK Rel) {n : Nat} {f : Hp} {k : Nat} {x y z : Int} {a b c : Value} (h : f k = some (.inl (10, [a, b, c]))) : Ct G Rel yX10_init cX10_init 4 none (1) (0) [.ref k, zI x, zI y, zI z] n (f) (Pv n (up f k (.inl (10, [zI x, zI y, zI z])))) := by
  refine ct_intro [some (.ref k), some (zI x), some (zI y), some (zI z)] hR rfl (Nat.le_of_ble_eq_true rfl) ?_
  intro K hG hRel hK hRt hnm
  refine r_aload_0 hK dX10_init_0 ?_
  refine r_objInit hK oi_X10_1 dX10_init_1 ?_
  refine r_aload_0 hK dX10_init_4 ?_
  refine r_iload_1 hK dX10_init_5 ?_
  refine r_put hK fl_X10_7 dX10_init_6 h (by simp) ?_ (hfin := ⟨_, rfl, Or.inr ⟨hnm, rfl⟩⟩)
  refine r_aload_0 hK dX10_init_9 ?_
  refine r_iload_2 hK dX10_init_10 ?_
  refine r_put hK fl_X10_13 dX10_init_11 (up_s _ _ _) (by simp) ?_ (hfin := ⟨_, rfl, Or.inr ⟨hnm, rfl⟩⟩)
  refine r_aload_0 hK dX10_init_14 ?_
  refine r_iload_3 hK dX10_init_15 ?_
  refine r_put hK fl_X10_16 dX10_init_16 (up_s _ _ _) (by simp) ?_ (hfin := ⟨_, rfl, Or.inr ⟨hnm, rfl⟩⟩)
  exact r_vret hK hRt dX10_init_19 ⟨rfl, rfl, by rw [up_up, up_up]; rfl⟩
theorem new10 {G : GT} : ∃ r, cls[10]? = some r ∧ r.2.2 ≤ 12 * 1 ∧ 1 ≤ 1 ∧ ∀ j, j < r.2.2 → defaultValue (tyC 10 j) = cv G (vp_V [zI 0, zI 0, zI 0] j) := ⟨_, rfl, by decide, by decide, fun j hj => by
  have h3 : j = 0 ∨ j = 1 ∨ j = 2 := by have : j < 3 := hj; omega
  rcases h3 with e | e | e <;> subst e <;> rfl⟩
set_option maxHeartbeats 4000000 in
theorem pl_wire {K : KT} {d U n M N t NL w wt : Nat} {f : Hp} {X : Nat → Nat → Nat} {ls : List (Nat × Nat × Nat)} {l : List Nat} (hd : 7 ≤ d) (hK : Gd K RX3 cX3_line 4 d U) (hRt : Rt K none U (PLp n f X M N t ls l NL)) (hRx : Rx K U (PLx n f X t ls)) (hS : PRN f X M N t ls l NL w wt) (h20 : X 2 t = 20) (a1 a2 a3 : Option Value) (hn1 : nl a1 = true) : Wx K 56 [some (.ref 310), a1, a2, a3] [] n f 0 := by
  have hB := hS.b
  obtain ⟨hP, hwR, hT, hF, hN, hPr, hL, hLO, hw4, hg16, htM, h400, hlt⟩ := id hS
  have hw := hwR.2.2
  have ePL : pLine X t (wnL ls).length (nK 21 ls) = if (wnL ls).length = 4 then .inl (2, X 3 t) else bd (bd (pPass X t) (pMust X 1)) (pMust X 4) := by
    unfold pLine
    rw [if_neg (by omega)]
    by_cases c : (wnL ls).length = 4
    · rw [if_pos (Or.inl ⟨h20, c⟩), if_pos c]
    · rw [if_neg (by omega), if_neg c]
      unfold pBody
      rw [if_pos h20]
  refine r_aload_0 hK dX3_line_56 ?_
  refine r_get hK fl_X3_105 dX3_line_57 (hP) rfl ?_
  refine r_iconstN (c := 4) hK dX3_line_60 ?_
  refine r_icmp_ne 70 hK dX3_line_61 (by omega) (by omega) (fun h61 => ?_) (fun h61 => ?_)
  · rw [if_neg (by omega)] at ePL
    refine r_aload_0 hK dX3_line_70 ?_
    refine r_xV0 hK hRx (ct_pPass hK.rel hP hT hF htM h400) lk_X3_83 (Rcv.raw hK.rel hP rfl) dX3_line_71 (fun n1 f1 hx => ?_) (fun r n1 f1 hp => ?_) (hdp := by omega)
    · obtain ⟨e, x1, rfl, rfl⟩ := hx
      exact ⟨⟨⟨e, by rw [ePL, x1]; rfl, up_s _ _ _⟩, Nat.le_refl _, hB.upk (by decide), (KPn.rf _ f).upS (Or.inl rfl)⟩, _, up_s _ _ _⟩
    obtain ⟨q1, q2, rfl, rfl, rfl⟩ := hp
    rw [q1, bd_inr] at ePL
    have htM1 := hT.next htM (by omega) (by omega)
    have hPA : ∀ a b c, up f 310 (pC (wnL ls).length a (nK 21 ls) b c) 310 = some (pC (wnL ls).length a (nK 21 ls) b c) := fun a b c => up_s _ _ _
    have hTA : ∀ e, TF (up f 310 e) X M N := fun e => hT.up (by decide)
    have hFA : ∀ e, FA (up f 310 e) := fun e => hF.up (by decide)
    have hNA : ∀ e, NM (up f 310 e) X M (wnL ls) := fun e => hN.kp (up_n (by decide))
    have hKA : ∀ e, KPn n1 f (up f 310 e) := fun e => (KPn.rf n1 f).upS (Or.inr (Or.inl rfl))
    refine r_aload_0 hK dX3_line_74 ?_
    refine r_iconstN (c := 0) hK dX3_line_75 ?_
    refine r_xV1 hK hRx (ct_pTake hK.rel (hPA _ _ _) (hTA _) (hFA _) htM1 q2 (s := 0) (kd := 1) (by decide) (fun k => srt_0) (by decide)) lk_X3_136 (Rcv.raw hK.rel (hPA _ _ _) rfl) dX3_line_76 (fun n1 f1 hx => ?_) (fun r n1 f1 hp => ?_) (hdp := by omega)
    · obtain ⟨e, x1, rfl, rfl⟩ := hx
      exact ⟨⟨⟨e, by rw [ePL, x1]; rfl, up_s _ _ _⟩, Nat.le_refl _, hB.p.upk (by decide), (hKA _).upS (Or.inl rfl)⟩, _, up_s _ _ _⟩
    obtain ⟨q3, q4, q5, rfl, rfl, rfl⟩ := hp
    rw [q3, bd_inr] at ePL
    rw [up_up]
    have htM2 := hT.next htM1 (by omega) (by omega)
    obtain ⟨h4', hN', hM2, -, -⟩ := hT.h4
    have hfd : fndF X (X 5 (t + 1)) (wnL ls) 0 = nmd X t (X 5 (t + 1)) := (nmd_LO hLO).symm
    obtain ⟨o, ho⟩ : ∃ o, o = nmd X t (X 5 (t + 1)) := ⟨_, rfl⟩
    refine r_istore_2 hK dX3_line_79 ?_ (hp := hn1)
    refine r_aload_0 hK dX3_line_80 ?_
    refine r_iload_2 hK dX3_line_81 ?_
    refine r_pV1 hK (ct_pFind hK.rel (hPA _ _ _) (hTA _) (hNA _) htM1 q4) lk_X3_140 (Rcv.raw hK.rel (hPA _ _ _) rfl) dX3_line_82 ?_ (hdp := by omega)
    rw [hfd, ← ho]
    have fin : ∀ w' wt', wR (mnW (sumW X N (ls.filter p1)) (w3 o (t + 1))) w' wt' → ∀ a1, nl a1 = true → Wx K 94 [some (.ref 310), a1, some (zI ((t + 1 : Nat) : Int)), a3] [] n1 (up f 310 (pC (wnL ls).length (t + 1 + 1) (nK 21 ls) w' wt')) 0 := by
      intro w' wt' hwR' a1 hn1
      refine r_aload_0 hK dX3_line_94 ?_
      refine r_xV0 hK hRx (ct_pStop hK.rel (hPA _ _ _) (hTA _) (hFA _) htM2 q5) lk_X3_147 (Rcv.raw hK.rel (hPA _ _ _) rfl) dX3_line_95 (fun n1 f1 hx => ?_) (fun r n1 f1 hp => ?_) (hdp := by omega)
      · obtain ⟨e, x1, rfl, rfl⟩ := hx
        exact ⟨⟨⟨e, by rw [ePL, x1], up_s _ _ _⟩, Nat.le_refl _, hB.p.upk (by decide), (hKA _).upS (Or.inl rfl)⟩, _, up_s _ _ _⟩
      obtain ⟨q6, q7, q8, rfl, rfl, rfl⟩ := hp
      rw [q6] at ePL
      rw [up_up]
      have htM3 := hT.next htM2 (by omega) (by omega)
      obtain ⟨hn4, hwl, hn, hA, hV⟩ := hN
      refine r_pop hK dX3_line_98 ?_
      refine r_aload_0 hK dX3_line_99 ?_
      refine r_get hK fl_X3_29 dX3_line_100 (hPA _ _ _) rfl ?_
      refine r_aload_0 hK dX3_line_103 ?_
      refine r_get hK fl_X3_105 dX3_line_104 (hPA _ _ _) rfl ?_
      refine r_iload_2 hK dX3_line_107 ?_
      refine r_iast hK dX3_line_108 ((up_n (by decide)).trans hA) (by omega) ?_
      refine r_aload_0 hK dX3_line_109 ?_
      refine r_dup hK dX3_line_110 ?_
      refine r_get hK fl_X3_105 dX3_line_111 ((up_n (by decide)).trans (hPA _ _ _)) rfl ?_
      refine r_iconstN (c := 1) hK dX3_line_114 ?_
      refine r_iaddN hK dX3_line_115 ?_
      refine r_put hK fl_X3_105 dX3_line_116 ((up_n (by decide)).trans (hPA _ _ _)) (by simp) ?_
      refine r_goto 335 hK dX3_line_119 ?_
      have hwn : wnL (ls ++ [(X 2 t, t, t + 1 + 1 + 1 - 1)]) = wnL ls ++ [t + 1] := by rw [wnL_s, if_pos h20]
      have hp1 : p1 (X 2 t, t, t + 1 + 1 + 1 - 1) = true := by unfold p1; simp [h20]
      have hok := ln_ok hT htM h400 ePL hLO
      refine r_vret hK hRt dX3_line_335 ⟨rfl, Nat.le_refl _, ⟨t + 1 + 1 + 1, l, NL, w', wt', ePL, ⟨?_, ?_, ?_, ?_, ?_, ?_, ?_, hok.2.1, ?_, ?_, htM3, q8, ?_⟩, Or.inl ⟨rfl, fun q => by omega⟩⟩, ?_⟩ (Nat.zero_le _)
      · rw [hwn, List.length_append, nK_app, if_neg (by omega)]
        exact up_s _ _ _
      · rw [(fil_n hp1).1, sum_s]
        have ec : cW X N (X 2 t, t, t + 1 + 1 + 1 - 1) = (w3 o (t + 1)) := by
          unfold cW; rw [if_pos h20, ho]
        rw [ec]; exact hwR'
      · exact ((hTA _).up (by decide)).up (by decide)
      · exact ((hFA _).up (by decide)).up (by decide)
      · rw [hwn]
        refine ⟨by rw [List.length_append]; simp; omega, fun j hj => ?_, _, (up_n (by decide)).trans (up_s _ _ _), fun i hi => ?_⟩
        · rcases List.mem_append.mp hj with z | z
          · exact hwl j z
          · rw [List.mem_singleton.mp z]; exact ⟨htM1, q4⟩
        · rw [List.length_append] at hi
          have hi' : i ≤ (wnL ls).length := by simp at hi; omega
          rw [getD_app hi']
          unfold updV
          by_cases c : i = (wnL ls).length
          · rw [if_pos c, if_pos c]
          · rw [if_neg c, if_neg c]; exact hV i (by omega)
      · obtain ⟨hp, hp1', hp2⟩ := hPr
        refine ⟨hp, ?_, fun i hi => ?_⟩
        · rw [up_n (by decide), up_n (by decide), up_n (by decide)]; exact hp1'
        · rw [prL_s]; unfold prS; rw [if_neg (by show ¬ X 2 t = 22; omega)]; exact hp2 i hi
      · rw [(fil_n hp1).2]
        refine ⟨?_, hL.2.1, hL.2.2.1, hL.2.2.2.1, by rw [List.length_append]; have := hL.2.2.2.2.1; omega, hL.2.2.2.2.2.1, fun i hi => ?_⟩
        · rw [up_n (by decide), up_n (by decide), up_n (by decide)]; exact hL.1
        · obtain ⟨z1, ln, z2, z3⟩ := hL.2.2.2.2.2.2 i hi
          exact ⟨z1, ln, z2, by rw [up_n (by omega), up_n (by omega), up_n (by omega)]; exact z3⟩
      · rw [hwn, List.length_append]; simp; omega
      · rw [nK_app, if_neg (by show ¬ X 2 t = 21; omega)]; exact hg16
      · rw [List.length_append]; simp; omega
      · exact ((hKA _).upS (by omega)).upS (by omega)
    cases o with
    | none =>
      refine r_if_lt 94 hK dX3_line_85 (by decide) (fun _ => ?_) (fun q => absurd q (by decide))
      exact fin w wt hwR.same a1 hn1
    | some v =>
      have hv := nmdF_lt _ _ _ ho.symm
      refine r_if_lt 94 hK dX3_line_85 (by show inR ((v : Nat) : Int); omega) (fun q => absurd (show ((v : Nat) : Int) < 0 from q) (by omega)) (fun _ => ?_)
      refine r_aload_0 hK dX3_line_88 ?_
      refine r_iconstN (c := 3) hK dX3_line_89 ?_
      refine r_iload_2 hK dX3_line_90 ?_
      refine r_vV2 hK (ct_pTell hK.rel (hPA _ _ _) (by omega) (by omega) (by decide) (by omega)) lk_X3_143 (Rcv.raw hK.rel (hPA _ _ _) rfl) dX3_line_91 ?_ (hdp := by omega)
      rw [up_up]
      exact fin _ _ (hwR.tell (by decide) (by omega)) a1 hn1
  · refine r_aload_0 hK dX3_line_64 ?_
    refine r_iconstN (c := 2) hK dX3_line_65 ?_
    refine r_pV1 hK (ct_pWrong hK.rel hP hT hF htM) lk_X3_76 (Rcv.raw hK.rel hP rfl) dX3_line_66 ?_ (hdp := by omega)
    exact r_throw hK hRx dX3_line_69 ⟨⟨(2, X 3 t), by rw [ePL, if_pos (by omega)], up_s _ _ _⟩, Nat.le_refl _, hB.upk (by decide), (KPn.rf n f).upS (Or.inl rfl)⟩ ⟨_, up_s _ _ _⟩
