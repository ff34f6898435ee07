set_option maxRecDepth 100000
/-! ===== Parser.line: gates, prices, tables ===== -/
theorem LnL.add {f : Hp} {l : List Nat} {gl : List (Nat × Nat × Nat)} {k : Nat} {ln : Nat × Nat × Nat} (h : LnL f l gl) (hk : 392 ≤ k) (hf : f k = some (.inl (10, [zI (((if ln.1 = 21 then 1 else 3) : Nat) : Int), zI ((ln.2.1 + 1 : Nat) : Int), zI ((ln.2.2 : Nat) : Int)]))) : LnL f (l ++ [k]) (gl ++ [ln]) := by
  refine ⟨by simp [h.1], fun i hi => ?_⟩
  have hi' : i ≤ l.length := by simp at hi; omega
  rw [getD_app hi']
  by_cases c : i = l.length
  · rw [if_pos c]
    exact ⟨hk, ln, by rw [List.getElem?_append_right (by rw [← h.1]; omega), c, h.1]; simp, hf⟩
  · rw [if_neg c]
    obtain ⟨z1, ln', z2, z3⟩ := h.2 i (by omega)
    exact ⟨z1, ln', by rw [List.getElem?_append_left (by rw [← h.1]; omega)]; exact z2, z3⟩
theorem LnL.kp {f f' : Hp} {l : List Nat} {gl : List (Nat × Nat × Nat)} (h : LnL f l gl) (hk : ∀ id e, 392 ≤ id → f id = some e → f' id = some e) : LnL f' l gl := ⟨h.1, fun i hi => by
  obtain ⟨z1, ln, z2, z3⟩ := h.2 i hi
  exact ⟨z1, ln, z2, hk _ _ z1 z3⟩⟩
theorem ln_el {f : Hp} {l : List Nat} {gl : List (Nat × Nat × Nat)} (h : LnL f l gl) : ∀ x ∈ l, el f x := fun x hx => by
  obtain ⟨i, hi, e⟩ := List.getElem_of_mem hx
  obtain ⟨z1, ln, z2, z3⟩ := h.2 i hi
  rw [List.getD_eq_getElem?_getD, List.getElem?_eq_getElem hi] at z3
  rw [← e]
  exact Or.inl ⟨10, _, z3, by omega⟩
theorem tkb {f : Hp} {X : Nat → Nat → Nat} {M N : Nat} (h : TF f X M N) : (∀ k, X 4 k < 10000) ∧ ∀ k, X 2 k ≤ 23 := by
  obtain ⟨tp, T, S, A, B, W, h1, h2, h3, h4, -⟩ := h
  exact ⟨fun k => by rw [h1]; exact (tkX_bd tp T h4 k).2.2.1, fun k => by rw [h1]; exact (tkX_bd tp T h4 k).1⟩
/-- the state behind a line of a gate or a table -/
theorem PRN.line {n : Nat} {f : Hp} {X : Nat → Nat → Nat} {M N t t2 NL w wt n2 g' : Nat} {ls : List (Nat × Nat × Nat)} {l : List Nat} (hS : PRN f X M N t ls l NL w wt) (hn0 : 392 ≤ n) (hfn : f n = none) (hkd : X 2 t = 21 ∨ X 2 t = 23) (hp : pLine X t (wnL ls).length (nK 21 ls) = .inr (t2 + 1)) (ht2 : t2 + 1 < M) (h400 : t2 + 1 ≤ 400) (hg : g' = nK 21 ls + if X 2 t = 21 then 1 else 0) : PRN (up (up (up f 310 (pC (wnL ls).length (t2 + 1) g' w wt)) n (.inl (10, [zI (((if X 2 t = 21 then 1 else 3) : Nat) : Int), zI ((t + 1 : Nat) : Int), zI ((t2 : Nat) : Int)]))) 317 (cAL (if l.length < NL then NL else gwC NL) (l ++ [n]))) X M N (t2 + 1) (ls ++ [(X 2 t, t, t2 + 1 - 1)]) (l ++ [n]) (if l.length < NL then NL else gwC NL) w wt ∧ ((if l.length < NL then NL else gwC NL) = NL ∧ (X 2 t = 21 ∨ X 2 t = 23 → l.length < NL) ∨ (l.length = NL ∧ (if l.length < NL then NL else gwC NL) = gwC NL)) := by
  obtain ⟨hP, hwR, hT, hF, hN, hPr, hL, hLO, hw4, hg16, htM, h400', hlt⟩ := id hS
  have hok := ln_ok hT htM h400' hp hLO
  have hp1 : p1 (X 2 t, t, t2 + 1 - 1) = false := by unfold p1; rcases hkd with z | z <;> simp [z]
  have hwn : wnL (ls ++ [(X 2 t, t, t2 + 1 - 1)]) = wnL ls := by rw [wnL_s, if_neg (by omega)]
  have hgw : ¬ l.length < NL → NL = 0 ∧ gwC NL = 10 ∨ 10 ≤ NL ∧ gwC NL = NL + NL / 2 ∧ l.length = NL := fun q => by
    rcases hL.2.1 with z | z
    · left; subst z; exact ⟨rfl, rfl⟩
    · right; exact ⟨z, gwC_b z, by have := hL.2.2.2.1; omega⟩
  have hll := hL.2.2.2.2.1
  refine ⟨⟨?_, ?_, ?_, ?_, ?_, ?_, ⟨up_s _ _ _, ?_, ?_, ?_, ?_, ?_⟩, hok.2.1, ?_, ?_, ht2, h400, ?_⟩, ?_⟩
  · rw [up_n (by decide), up_n (by omega), up_s, hwn, nK_app, hg]
  · rw [(fil_p hp1).1]; exact hwR
  · exact ((hT.up (by decide)).up (by omega)).up (by decide)
  · exact ((hF.up (by decide)).up (by omega)).up (by decide)
  · rw [hwn]; exact hN.kp (by rw [up_n (by decide), up_n (by omega), up_n (by decide)])
  · obtain ⟨hp0, hp1', hp2⟩ := hPr
    refine ⟨hp0, by rw [up_n (by decide), up_n (by omega), up_n (by decide)]; exact hp1', fun i hi => ?_⟩
    rw [prL_s]; unfold prS; rw [if_neg (by show ¬ X 2 t = 22; omega)]; exact hp2 i hi
  · by_cases c : l.length < NL
    · rw [if_pos c]; exact hL.2.1
    · rw [if_neg c]; have := hgw c; omega
  · by_cases c : l.length < NL
    · rw [if_pos c]; exact hL.2.2.1
    · rw [if_neg c]; have := hgw c; omega
  · rw [List.length_append]
    by_cases c : l.length < NL
    · rw [if_pos c]; simp; omega
    · rw [if_neg c]; have := hgw c; simp; omega
  · rw [List.length_append, List.length_append]; simp; exact hll
  · rw [(fil_p hp1).2]
    refine LnL.add (hL.2.2.2.2.2.kp (fun id e h1 h2 => ?_)) hn0 ?_
    · rw [up_n (by omega), up_n (fun q => by rw [q, hfn] at h2; cases h2), up_n (by omega)]; exact h2
    · rw [up_n (by omega), up_s]; rfl
  · rw [hwn]; exact hw4
  · rw [nK_app]
    by_cases c : X 2 t = 21
    · have := hok.2.2.1; rw [if_pos c]; omega
    · rw [if_neg c]; exact hg16
  · rw [List.length_append]; simp; have := hok.1; omega
  · by_cases c : l.length < NL
    · left; exact ⟨if_pos c, fun _ => c⟩
    · rw [if_neg c]
      have := hL.2.2.2.1
      exact Or.inr ⟨by omega, rfl⟩
set_option maxHeartbeats 4000000 in
theorem pl_gate {K : KT} {d U n M N t NL w wt : Nat} {f : Hp} {X : Nat → Nat → Nat} {ls : List (Nat × Nat × Nat)} {l : List Nat} (hd : 8 ≤ d) (hK : Gd K RX3 cX3_line 4 d U) (hQ : kRel K = RelP) (hXK : GX (kG K)) (hRt : Rt K none U (PLp n f X M N t ls l NL)) (hRx : Rx K U (PLx n f X t ls)) (hS : PRN f X M N t ls l NL w wt) (hn0 : 392 ≤ n) (hU : 2 ≤ U ∧ (0 < NL → l.length = NL → gwC NL / 12 + 2 ≤ U)) (h21 : X 2 t = 21) (a1 a2 a3 : Option Value) (hn1 : nl a1 = true) : Wx K 122 [some (.ref 310), a1, a2, a3] [] n f 0 := by
  have hB := hS.b
  obtain ⟨hP, hwR, hT, hF, hN, hPr, hL, hLO, hw4, hg16, htM, h400, hlt⟩ := id hS
  have hw := hwR.2.2
  have ePL : pLine X t (wnL ls).length (nK 21 ls) = if nK 21 ls = 16 then .inl (2, X 3 t) else bd (bd (bd (pPass X t) (pMust X 1)) (pCtl X 3)) (pMust X 4) := by
    unfold pLine
    rw [if_neg (by omega)]
    by_cases c : nK 21 ls = 16
    · rw [if_pos (Or.inr ⟨h21, c⟩), if_pos c]
    · rw [if_neg (by omega), if_neg c]
      unfold pBody
      rw [if_neg (by omega), if_pos h21]
  refine r_aload_0 hK dX3_line_122 ?_
  refine r_get hK fl_X3_108 dX3_line_123 (hP) rfl ?_
  refine r_bipushN (c := 16) hK dX3_line_126 ?_
  refine r_icmp_ne 137 hK dX3_line_128 (by omega) (by omega) (fun h128 => ?_) (fun h128 => ?_)
  · rw [if_neg (by omega)] at ePL
    refine r_aload_0 hK dX3_line_137 ?_
    refine r_xV0 hK hRx (ct_pPass hK.rel hP hT hF htM h400) lk_X3_83 (Rcv.raw hK.rel hP rfl) dX3_line_138 (fun n1 f1 hx => ?_) (fun r n1 f1 hp => ?_) (hdp := by omega)
    · obtain ⟨e, x1, rfl, rfl⟩ := hx
      exact ⟨⟨⟨e, by rw [ePL, x1]; rfl, up_s _ _ _⟩, Nat.le_refl _, hB.upk (by decide), (KPn.rf _ f).upS (Or.inl rfl)⟩, _, up_s _ _ _⟩
    obtain ⟨q1, q2, rfl, rfl, rfl⟩ := hp
    rw [q1] at ePL
    have htM1 := hT.next htM (by omega) (by omega)
    have hPA : ∀ a b c, up f 310 (pC (wnL ls).length a (nK 21 ls) b c) 310 = some (pC (wnL ls).length a (nK 21 ls) b c) := fun a b c => up_s _ _ _
    have hTA : ∀ e, TF (up f 310 e) X M N := fun e => hT.up (by decide)
    have hFA : ∀ e, FA (up f 310 e) := fun e => hF.up (by decide)
    have hKA : ∀ e, KPn n1 f (up f 310 e) := fun e => (KPn.rf n1 f).upS (Or.inr (Or.inl rfl))
    rw [bd_inr] at ePL
    refine r_aload_0 hK dX3_line_141 ?_
    refine r_iconstN (c := 0) hK dX3_line_142 ?_
    refine r_xV1 hK hRx (ct_pTake hK.rel (hPA _ _ _) (hTA _) (hFA _) htM1 q2 (s := 0) (kd := 1) (by decide) (fun k => srt_0) (by decide)) lk_X3_136 (Rcv.raw hK.rel (hPA _ _ _) rfl) dX3_line_143 (fun n1 f1 hx => ?_) (fun r n1 f1 hp => ?_) (hdp := by omega)
    · obtain ⟨e, x1, rfl, rfl⟩ := hx
      exact ⟨⟨⟨e, by rw [ePL, x1]; rfl, up_s _ _ _⟩, Nat.le_refl _, hB.p.upk (by decide), (hKA _).upS (Or.inl rfl)⟩, _, up_s _ _ _⟩
    obtain ⟨q3, q4, q5, rfl, rfl, rfl⟩ := hp
    rw [q3, bd_inr] at ePL
    rw [up_up]
    have htM2' := hT.next htM1 (by omega) (by omega)
    refine r_istore_2 hK dX3_line_146 ?_ (hp := hn1)
    refine r_aload_0 hK dX3_line_147 ?_
    refine r_xV0 hK hRx (ct_pCtl hK.rel (hPA _ _ _) (hTA _) (hFA _) htM2' q5) lk_X3_150 (Rcv.raw hK.rel (hPA _ _ _) rfl) dX3_line_148 (fun n1 f1 hx => ?_) (fun r n1 f1 hp => ?_) (hdp := by omega)
    · obtain ⟨e, t', x1, rfl, rfl⟩ := hx
      rw [up_up]
      exact ⟨⟨⟨e, by rw [ePL, x1], up_s _ _ _⟩, Nat.le_refl _, hB.p.upk (by decide), (hKA _).upS (Or.inl rfl)⟩, _, up_s _ _ _⟩
    obtain ⟨t2, q3', htM2, q5, rfl, rfl, rfl⟩ := hp
    rw [q3', bd_inr] at ePL
    rw [up_up]
    skip
    refine r_aload_0 hK dX3_line_151 ?_
    refine r_get hK fl_X3_35 dX3_line_152 (hPA _ _ _) rfl ?_
    refine r_fact hK (fun _ hno => ?_)
    have hnn : f n1 = none := by have := hno n1 (Nat.le_refl _); rwa [up_n (by omega)] at this
    refine r_new (fs := [zI 0, zI 0, zI 0]) 1 hK nw_X3_121 dX3_line_155 (by omega) ?_ (hw := new10)
    refine r_dup hK dX3_line_158 ?_
    refine r_iconstN (c := 1) hK dX3_line_159 ?_
    refine r_iload_2 hK dX3_line_160 ?_
    refine r_aload_0 hK dX3_line_161 ?_
    have e0 : ∀ a b e1 e2, up (up (up f 310 e1) n1 e2) 310 (pC (wnL ls).length a b w wt) = up (up f 310 (pC (wnL ls).length a b w wt)) n1 e2 := fun a b e1 e2 => by rw [up_comm (j := n1) (k := 310) (by omega), up_up]
    have hP3 : up (up f 310 (pC (wnL ls).length t2 (nK 21 ls) w wt)) n1 (.inl (10, [zI 0, zI 0, zI 0])) 310 = some (pC (wnL ls).length t2 (nK 21 ls) w wt) := (up_n (by omega)).trans (up_s _ _ _)
    refine r_xV0 hK hRx (ct_pStop hK.rel hP3 ((hTA _).up (by omega)) ((hFA _).up (by omega)) htM2 q5) lk_X3_147 (Rcv.raw hK.rel hP3 rfl) dX3_line_162 (fun n2 f2 hx => ?_) (fun r n2 f2 hp => ?_) (hdp := by omega)
    · obtain ⟨e, x1, rfl, rfl⟩ := hx
      exact ⟨⟨⟨e, by rw [ePL, x1], up_s _ _ _⟩, by omega, (hB.p.upk (by omega)).upk (by decide), ((hKA _).upS (by omega)).upS (Or.inl rfl)⟩, _, up_s _ _ _⟩
    obtain ⟨q6, q7, q8, rfl, rfl, rfl⟩ := hp
    rw [q6] at ePL
    rw [e0]
    have htM3 := hT.next htM2 (by omega) (by omega)
    refine r_callI3 hK (ct_lnInit hK.rel (up_s _ _ _)) lk_X3_153 dX3_line_165 (fun r n3 f3 hp => ?_) (hdp := by omega) (hu := by omega)
    obtain ⟨rfl, rfl, rfl⟩ := hp
    rw [up_up]
    refine r_alAdd (U - 1) hK hQ hXK lk_X3_156 (show up (up f 310 (pC (wnL ls).length (t2 + 1) (nK 21 ls) w wt)) n1 _ 317 = some (cAL NL l) from by rw [up_n (by omega), up_n (by decide)]; exact hL.1) hL.2.1 (by have := hL.2.2.1; omega) hL.2.2.2.1 ⟨by omega, fun z1 z2 => by have := hU.2 z1 z2; omega⟩ (fun x hx => ((ln_el hL.2.2.2.2.2 x hx).up (fun e0 q => by rw [hP] at q; cases q; rfl)).up (fun e0 q => by rw [up_n (by omega), hnn] at q; cases q)) (Or.inl ⟨10, _, up_s _ _ _, by omega⟩) dX3_line_168 (fun n3 u3 hn3 hu3 => ?_) (hdp := by omega) (hu := by omega)
    refine r_pop hK dX3_line_171 ?_
    refine r_aload_0 hK dX3_line_172 ?_
    refine r_dup hK dX3_line_173 ?_
    have hP4 : ∀ e1 e2, up (up (up f 310 (pC (wnL ls).length (t2 + 1) (nK 21 ls) w wt)) n1 e1) 317 e2 310 = some (pC (wnL ls).length (t2 + 1) (nK 21 ls) w wt) := fun e1 e2 => by rw [up_n (by decide), up_n (by omega), up_s]
    refine r_get hK fl_X3_108 dX3_line_174 (hP4 _ _) rfl ?_
    refine r_iconstN (c := 1) hK dX3_line_177 ?_
    refine r_iaddN hK dX3_line_178 ?_
    refine r_put hK fl_X3_108 dX3_line_179 (hP4 _ _) (by simp) ?_
    refine r_goto 335 hK dX3_line_182 ?_
    have hfin := hS.line (n := n1) (n2 := n3) (g' := nK 21 ls + 1) hn0 hnn (Or.inl h21) ePL htM3 q8 (by rw [if_pos h21])
    have e9 : ∀ e1 e2, up (up (up (up f 310 (pC (wnL ls).length (t2 + 1) (nK 21 ls) w wt)) n1 e1) 317 e2) 310 (pC (wnL ls).length (t2 + 1) (nK 21 ls + 1) w wt) = up (up (up f 310 (pC (wnL ls).length (t2 + 1) (nK 21 ls + 1) w wt)) n1 e1) 317 e2 := fun e1 e2 => by rw [up_comm (j := 317) (k := 310) (by decide), e0]
    rw [if_pos h21] at hfin
    refine r_vret hK hRt dX3_line_335 ⟨rfl, by omega, ⟨t2 + 1, l ++ [n1], _, w, wt, ePL, ?_, hfin.2⟩, ?_⟩ (by omega)
    · have := hfin.1
      rw [← e9] at this
      exact this
    · exact ((((hKA _).upS (by omega)).upS (by omega)).upS (by omega))
  · refine r_aload_0 hK dX3_line_131 ?_
    refine r_iconstN (c := 2) hK dX3_line_132 ?_
    refine r_pV1 hK (ct_pWrong hK.rel hP hT hF htM) lk_X3_76 (Rcv.raw hK.rel hP rfl) dX3_line_133 ?_ (hdp := by omega)
    exact r_throw hK hRx dX3_line_136 ⟨⟨(2, X 3 t), by rw [ePL, if_pos (by omega)], up_s _ _ _⟩, Nat.le_refl _, hB.upk (by decide), (KPn.rf n f).upS (Or.inl rfl)⟩ ⟨_, up_s _ _ _⟩
set_option maxHeartbeats 4000000 in
theorem pl_table {K : KT} {d U n M N t NL w wt : Nat} {f : Hp} {X : Nat → Nat → Nat} {ls : List (Nat × Nat × Nat)} {l : List Nat} (hd : 8 ≤ d) (hK : Gd K RX3 cX3_line 4 d U) (hQ : kRel K = RelP) (hXK : GX (kG K)) (hRt : Rt K none U (PLp n f X M N t ls l NL)) (hRx : Rx K U (PLx n f X t ls)) (hS : PRN f X M N t ls l NL w wt) (hn0 : 392 ≤ n) (hU : 2 ≤ U ∧ (0 < NL → l.length = NL → gwC NL / 12 + 2 ≤ U)) (h23 : X 2 t = 23) (a1 a2 a3 : Option Value) (hn1 : nl a1 = true) : Wx K 251 [some (.ref 310), a1, a2, a3] [] n f 0 := by
  have hB := hS.b
  obtain ⟨hP, hwR, hT, hF, hN, hPr, hL, hLO, hw4, hg16, htM, h400, hlt⟩ := id hS
  have hw := hwR.2.2
  have ePL : pLine X t (wnL ls).length (nK 21 ls) = bd (bd (pMustN X 2 3 (pPass X t)) (pVal X 7)) (pMust X 4) := by
    unfold pLine
    rw [if_neg (by omega), if_neg (by omega)]
    unfold pBody
    rw [if_neg (by omega), if_neg (by omega), if_neg (by omega)]
  refine r_aload_0 hK dX3_line_251 ?_
  refine r_xV0 hK hRx (ct_pPass hK.rel hP hT hF htM h400) lk_X3_83 (Rcv.raw hK.rel hP rfl) dX3_line_252 (fun n1 f1 hx => ?_) (fun r n1 f1 hp => ?_) (hdp := by omega)
  · obtain ⟨e, x1, rfl, rfl⟩ := hx
    exact ⟨⟨⟨e, by rw [ePL, x1]; rfl, up_s _ _ _⟩, Nat.le_refl _, hB.upk (by decide), (KPn.rf _ f).upS (Or.inl rfl)⟩, _, up_s _ _ _⟩
  obtain ⟨q1, q2, rfl, rfl, rfl⟩ := hp
  rw [q1] at ePL
  have htM1 := hT.next htM (by omega) (by omega)
  have hPA : ∀ a b c, up f 310 (pC (wnL ls).length a (nK 21 ls) b c) 310 = some (pC (wnL ls).length a (nK 21 ls) b c) := fun a b c => up_s _ _ _
  have hTA : ∀ e, TF (up f 310 e) X M N := fun e => hT.up (by decide)
  have hFA : ∀ e, FA (up f 310 e) := fun e => hF.up (by decide)
  have hKA : ∀ e, KPn n1 f (up f 310 e) := fun e => (KPn.rf n1 f).upS (Or.inr (Or.inl rfl))
  have ePL : pLine X t (wnL ls).length (nK 21 ls) = bd (bd (pMustN X 2 2 (pMust X 2 (t + 1))) (pVal X 7)) (pMust X 4) := ePL
  refine r_aload_0 hK dX3_line_255 ?_
  refine r_iconstN (c := 1) hK dX3_line_256 ?_
  refine r_xV1 hK hRx (ct_pTake hK.rel (hPA _ _ _) (hTA _) (hFA _) htM1 q2 (s := 1) (kd := 2) (by decide) (fun k => srt_1) (by decide)) lk_X3_136 (Rcv.raw hK.rel (hPA _ _ _) rfl) dX3_line_257 (fun n1 f1 hx => ?_) (fun r n1 f1 hp => ?_) (hdp := by omega)
  · obtain ⟨e, x1, rfl, rfl⟩ := hx
    exact ⟨⟨⟨e, by rw [ePL, x1]; rfl, up_s _ _ _⟩, Nat.le_refl _, hB.p.upk (by decide), (hKA _).upS (Or.inl rfl)⟩, _, up_s _ _ _⟩
  obtain ⟨a3', a4, a5, rfl, rfl, rfl⟩ := hp
  rw [a3'] at ePL
  have ePL : pLine X t (wnL ls).length (nK 21 ls) = bd (bd (pMustN X 2 1 (pMust X 2 (t + 1 + 1))) (pVal X 7)) (pMust X 4) := ePL
  rw [up_up]
  have htMa := hT.next htM1 (by omega) (by omega)
  refine r_istore_2 hK dX3_line_260 ?_ (hp := hn1)
  refine r_aload_0 hK dX3_line_261 ?_
  refine r_iconstN (c := 1) hK dX3_line_262 ?_
  refine r_xV1 hK hRx (ct_pTake hK.rel (hPA _ _ _) (hTA _) (hFA _) htMa a5 (s := 1) (kd := 2) (by decide) (fun k => srt_1) (by decide)) lk_X3_136 (Rcv.raw hK.rel (hPA _ _ _) rfl) dX3_line_263 (fun n1 f1 hx => ?_) (fun r n1 f1 hp => ?_) (hdp := by omega)
  · obtain ⟨e, x1, rfl, rfl⟩ := hx
    exact ⟨⟨⟨e, by rw [ePL, x1]; rfl, up_s _ _ _⟩, Nat.le_refl _, hB.p.upk (by decide), (hKA _).upS (Or.inl rfl)⟩, _, up_s _ _ _⟩
  obtain ⟨b3, b4, b5, rfl, rfl, rfl⟩ := hp
  rw [b3] at ePL
  have ePL : pLine X t (wnL ls).length (nK 21 ls) = bd (bd (pMust X 2 (t + 1 + 1 + 1)) (pVal X 7)) (pMust X 4) := ePL
  rw [up_up]
  have htMb := hT.next htMa (by omega) (by omega)
  refine r_pop hK dX3_line_266 ?_
  refine r_aload_0 hK dX3_line_267 ?_
  refine r_iconstN (c := 1) hK dX3_line_268 ?_
  refine r_xV1 hK hRx (ct_pTake hK.rel (hPA _ _ _) (hTA _) (hFA _) htMb b5 (s := 1) (kd := 2) (by decide) (fun k => srt_1) (by decide)) lk_X3_136 (Rcv.raw hK.rel (hPA _ _ _) rfl) dX3_line_269 (fun n1 f1 hx => ?_) (fun r n1 f1 hp => ?_) (hdp := by omega)
  · obtain ⟨e, x1, rfl, rfl⟩ := hx
    exact ⟨⟨⟨e, by rw [ePL, x1]; rfl, up_s _ _ _⟩, Nat.le_refl _, hB.p.upk (by decide), (hKA _).upS (Or.inl rfl)⟩, _, up_s _ _ _⟩
  obtain ⟨c3, c4, c5, rfl, rfl, rfl⟩ := hp
  rw [c3, bd_inr] at ePL
  rw [up_up]
  have htMc := hT.next htMb (by omega) (by omega)
  refine r_pop hK dX3_line_272 ?_
  refine r_iconstN (c := 1) hK dX3_line_273 ?_
  refine r_istore_3 hK dX3_line_274 ?_
  have fin : ∀ (t2 : Nat) (a1 a3 : Option Value), t2 < M → t2 ≤ 400 → pLine X t (wnL ls).length (nK 21 ls) = pMust X 4 t2 → nl a1 = true → Wx K 305 [some (.ref 310), a1, some (zI ((t + 1 : Nat) : Int)), a3] [] n1 (up f 310 (pC (wnL ls).length t2 (nK 21 ls) w wt)) 0 := by
    intro t2 a1 a3 htM2 q5 ePL hn1
    refine r_aload_0 hK dX3_line_305 ?_
    refine r_get hK fl_X3_35 dX3_line_306 (hPA _ _ _) rfl ?_
    refine r_fact hK (fun _ hno => ?_)
    have hnn : f n1 = none := by have := hno n1 (Nat.le_refl _); rwa [up_n (by omega)] at this
    refine r_new (fs := [zI 0, zI 0, zI 0]) 1 hK nw_X3_121 dX3_line_309 (by omega) ?_ (hw := new10)
    refine r_dup hK dX3_line_312 ?_
    refine r_iconstN (c := 3) hK dX3_line_313 ?_
    refine r_iload_2 hK dX3_line_314 ?_
    refine r_aload_0 hK dX3_line_315 ?_
    have e0 : ∀ a b e1 e2, up (up (up f 310 e1) n1 e2) 310 (pC (wnL ls).length a b w wt) = up (up f 310 (pC (wnL ls).length a b w wt)) n1 e2 := fun a b e1 e2 => by rw [up_comm (j := n1) (k := 310) (by omega), up_up]
    have hP3 : up (up f 310 (pC (wnL ls).length t2 (nK 21 ls) w wt)) n1 (.inl (10, [zI 0, zI 0, zI 0])) 310 = some (pC (wnL ls).length t2 (nK 21 ls) w wt) := (up_n (by omega)).trans (up_s _ _ _)
    refine r_xV0 hK hRx (ct_pStop hK.rel hP3 ((hTA _).up (by omega)) ((hFA _).up (by omega)) htM2 q5) lk_X3_147 (Rcv.raw hK.rel hP3 rfl) dX3_line_316 (fun n2 f2 hx => ?_) (fun r n2 f2 hp => ?_) (hdp := by omega)
    · obtain ⟨e, x1, rfl, rfl⟩ := hx
      exact ⟨⟨⟨e, by rw [ePL, x1], up_s _ _ _⟩, by omega, (hB.p.upk (by omega)).upk (by decide), ((hKA _).upS (by omega)).upS (Or.inl rfl)⟩, _, up_s _ _ _⟩
    obtain ⟨q6, q7, q8, rfl, rfl, rfl⟩ := hp
    rw [q6] at ePL
    rw [e0]
    have htM3 := hT.next htM2 (by omega) (by omega)
    refine r_callI3 hK (ct_lnInit hK.rel (up_s _ _ _)) lk_X3_153 dX3_line_319 (fun r n3 f3 hp => ?_) (hdp := by omega) (hu := by omega)
    obtain ⟨rfl, rfl, rfl⟩ := hp
    rw [up_up]
    refine r_alAdd (U - 1) hK hQ hXK lk_X3_156 (show up (up f 310 (pC (wnL ls).length (t2 + 1) (nK 21 ls) w wt)) n1 _ 317 = some (cAL NL l) from by rw [up_n (by omega), up_n (by decide)]; exact hL.1) hL.2.1 (by have := hL.2.2.1; omega) hL.2.2.2.1 ⟨by omega, fun z1 z2 => by have := hU.2 z1 z2; omega⟩ (fun x hx => ((ln_el hL.2.2.2.2.2 x hx).up (fun e0 q => by rw [hP] at q; cases q; rfl)).up (fun e0 q => by rw [up_n (by omega), hnn] at q; cases q)) (Or.inl ⟨10, _, up_s _ _ _, by omega⟩) dX3_line_322 (fun n3 u3 hn3 hu3 => ?_) (hdp := by omega) (hu := by omega)
    refine r_pop hK dX3_line_325 ?_
    refine r_goto 335 hK dX3_line_326 ?_
    have hfin := hS.line (n := n1) (n2 := n3) (g' := nK 21 ls) hn0 hnn (Or.inr h23) ePL htM3 q8 (by rw [if_neg (by omega)]; rfl)
    rw [if_neg (show ¬ X 2 t = 21 by omega)] at hfin
    refine r_vret hK hRt dX3_line_335 ⟨rfl, by omega, ⟨t2 + 1, l ++ [n1], _, w, wt, ePL, hfin.1, hfin.2⟩, ?_⟩ (by omega)
    exact (((hKA _).upS (by omega)).upS (by omega))
  have lv : ∀ (m c t1 : Nat) (a1 : Option Value), c + m = 8 → t1 < M → t1 ≤ 400 → pLine X t (wnL ls).length (nK 21 ls) = bd (pVal X m t1) (pMust X 4) → nl a1 = true → Wx K 275 [some (.ref 310), a1, some (zI ((t + 1 : Nat) : Int)), some (zI (c : Int))] [] n1 (up f 310 (pC (wnL ls).length t1 (nK 21 ls) w wt)) 0 := by
    intro m
    induction m with
    | zero =>
      intro c t1 a1 hc ht1 h4 he hn1
      have hs1 := srt_1 (kd := X 2 t1)
      have hs6 := srt_lt (kd := X 2 t1)
      have e0 : pVal X 0 t1 = if X 2 t1 = 2 then .inl (2, X 3 t1) else .inr t1 := rfl
      rw [e0] at he
      refine r_aload_0 hK dX3_line_275 ?_
      refine r_xV0 hK hRx (ct_pSort hK.rel (hPA _ _ _) (hTA _) (hFA _) ht1) lk_X3_80 (Rcv.raw hK.rel (hPA _ _ _) rfl) dX3_line_276 (fun n1 f1 hx => ?_) (fun r n1 f1 hp => ?_) (hdp := by omega)
      · obtain ⟨x1, rfl, rfl⟩ := hx
        rw [if_neg (by omega), bd_inr] at he
        exact ⟨⟨⟨(1, X 3 t1), by rw [he]; unfold pMust; rw [if_neg (by omega)], up_s _ _ _⟩, Nat.le_refl _, hB.p.upk (by decide), (hKA _).upS (Or.inl rfl)⟩, _, up_s _ _ _⟩
      obtain ⟨p1, rfl, rfl, rfl⟩ := hp
      refine r_iconstN (c := 1) hK dX3_line_279 ?_
      refine r_icmp_ne 305 hK dX3_line_280 (by omega) (by omega) (fun h280 => ?_) (fun h280 => ?_)
      · rw [if_neg (fun q => h280 (by have := hs1.mpr q; omega)), bd_inr] at he
        exact fin t1 _ _ ht1 h4 he hn1
      · rw [if_pos (hs1.mp (by omega))] at he
        refine r_iload_3 hK dX3_line_283 ?_
        refine r_bipushN (c := 8) hK dX3_line_284 ?_
        refine r_icmp_ne 295 hK dX3_line_286 (by omega) (by omega) (fun q => by omega) (fun _ => ?_)
        refine r_aload_0 hK dX3_line_289 ?_
        refine r_iconstN (c := 2) hK dX3_line_290 ?_
        refine r_pV1 hK (ct_pWrong hK.rel (hPA _ _ _) (hTA _) (hFA _) ht1) lk_X3_76 (Rcv.raw hK.rel (hPA _ _ _) rfl) dX3_line_291 ?_ (hdp := by omega)
        exact r_throw hK hRx dX3_line_294 ⟨⟨(2, X 3 t1), by rw [he]; rfl, up_s _ _ _⟩, Nat.le_refl _, hB.p.upk (by decide), (hKA _).upS (Or.inl rfl)⟩ ⟨_, up_s _ _ _⟩
    | succ m ih =>
      intro c t1 a1 hc ht1 h4 he hn1
      have hs1 := srt_1 (kd := X 2 t1)
      have hs6 := srt_lt (kd := X 2 t1)
      have e0 : pVal X (m + 1) t1 = if X 2 t1 = 2 then bd (pPass X t1) (pVal X m) else .inr t1 := rfl
      rw [e0] at he
      refine r_aload_0 hK dX3_line_275 ?_
      refine r_xV0 hK hRx (ct_pSort hK.rel (hPA _ _ _) (hTA _) (hFA _) ht1) lk_X3_80 (Rcv.raw hK.rel (hPA _ _ _) rfl) dX3_line_276 (fun n1 f1 hx => ?_) (fun r n1 f1 hp => ?_) (hdp := by omega)
      · obtain ⟨x1, rfl, rfl⟩ := hx
        rw [if_neg (by omega), bd_inr] at he
        exact ⟨⟨⟨(1, X 3 t1), by rw [he]; unfold pMust; rw [if_neg (by omega)], up_s _ _ _⟩, Nat.le_refl _, hB.p.upk (by decide), (hKA _).upS (Or.inl rfl)⟩, _, up_s _ _ _⟩
      obtain ⟨p1, rfl, rfl, rfl⟩ := hp
      refine r_iconstN (c := 1) hK dX3_line_279 ?_
      refine r_icmp_ne 305 hK dX3_line_280 (by omega) (by omega) (fun h280 => ?_) (fun h280 => ?_)
      · rw [if_neg (fun q => h280 (by have := hs1.mpr q; omega)), bd_inr] at he
        exact fin t1 _ _ ht1 h4 he hn1
      · have hx2 : X 2 t1 = 2 := hs1.mp (by omega)
        rw [if_pos hx2] at he
        refine r_iload_3 hK dX3_line_283 ?_
        refine r_bipushN (c := 8) hK dX3_line_284 ?_
        refine r_icmp_ne 295 hK dX3_line_286 (by omega) (by omega) (fun _ => ?_) (fun q => by omega)
        refine r_aload_0 hK dX3_line_295 ?_
        refine r_xV0 hK hRx (ct_pPass hK.rel (hPA _ _ _) (hTA _) (hFA _) ht1 h4) lk_X3_83 (Rcv.raw hK.rel (hPA _ _ _) rfl) dX3_line_296 (fun n1 f1 hx => ?_) (fun r n1 f1 hp => ?_) (hdp := by omega)
        · obtain ⟨e, x1, rfl, rfl⟩ := hx
          exact ⟨⟨⟨e, by rw [he, x1]; rfl, up_s _ _ _⟩, Nat.le_refl _, hB.p.upk (by decide), (hKA _).upS (Or.inl rfl)⟩, _, up_s _ _ _⟩
        obtain ⟨d1, d2, rfl, rfl, rfl⟩ := hp
        rw [up_up]
        refine r_incN_3 hK dX3_line_299 ?_
        refine r_goto 275 hK dX3_line_302 ?_
        exact ih (c + 1) (t1 + 1) _ (by omega) (hT.next ht1 (by omega) (by omega)) d2 (by rw [he, d1]; rfl) hn1
  exact lv 7 1 (t + 1 + 1 + 1 + 1) _ (by decide) htMc c5 ePL hn1
set_option maxHeartbeats 4000000 in
theorem pl_price {K : KT} {d U n M N t NL w wt : Nat} {f : Hp} {X : Nat → Nat → Nat} {ls : List (Nat × Nat × Nat)} {l : List Nat} (hd : 8 ≤ d) (hK : Gd K RX3 cX3_line 4 d U) (hQ : kRel K = RelP) (hXK : GX (kG K)) (hRt : Rt K none U (PLp n f X M N t ls l NL)) (hRx : Rx K U (PLx n f X t ls)) (hS : PRN f X M N t ls l NL w wt) (h22 : X 2 t = 22) (a1 a2 a3 : Option Value) (hn1 : nl a1 = true) : Wx K 185 [some (.ref 310), a1, a2, a3] [] n f 0 := by
  have hB := hS.b
  obtain ⟨hP, hwR, hT, hF, hN, hPr, hL, hLO, hw4, hg16, htM, h400, hlt⟩ := id hS
  have hw := hwR.2.2
  have ePL : pLine X t (wnL ls).length (nK 21 ls) = bd (pMustN X 2 4 (pPass X t)) (pMust X 4) := by
    unfold pLine
    rw [if_neg (by omega), if_neg (by omega)]
    unfold pBody
    rw [if_neg (by omega), if_neg (by omega), if_pos h22]
  obtain ⟨hp0, hpA, hpV⟩ := hPr
  obtain ⟨h4', hN', hM2, -, -⟩ := hT.h4
  refine r_aload_0 hK dX3_line_185 ?_
  refine r_xV0 hK hRx (ct_pPass hK.rel hP hT hF htM h400) lk_X3_83 (Rcv.raw hK.rel hP rfl) dX3_line_186 (fun n1 f1 hx => ?_) (fun r n1 f1 hp => ?_) (hdp := by omega)
  · obtain ⟨e, x1, rfl, rfl⟩ := hx
    exact ⟨⟨⟨e, by rw [ePL, x1]; rfl, up_s _ _ _⟩, Nat.le_refl _, hB.upk (by decide), (KPn.rf _ f).upS (Or.inl rfl)⟩, _, up_s _ _ _⟩
  obtain ⟨q1, q2, rfl, rfl, rfl⟩ := hp
  rw [q1] at ePL
  have htM1 := hT.next htM (by omega) (by omega)
  have hPA : ∀ a b c, up f 310 (pC (wnL ls).length a (nK 21 ls) b c) 310 = some (pC (wnL ls).length a (nK 21 ls) b c) := fun a b c => up_s _ _ _
  have hTA : ∀ e, TF (up f 310 e) X M N := fun e => hT.up (by decide)
  have hFA : ∀ e, FA (up f 310 e) := fun e => hF.up (by decide)
  have hKA : ∀ e, KPn n1 f (up f 310 e) := fun e => (KPn.rf n1 f).upS (Or.inr (Or.inl rfl))
  refine r_iconstN (c := 0) hK dX3_line_189 ?_
  refine r_istore_2 hK dX3_line_190 ?_ (hp := hn1)
  have hs0 := hwR
  have lp : ∀ (m c w' wt' : Nat) (hp : Nat → Value) (a1 a3 : Option Value), c + m = 4 → t + 1 + c < M → t + 1 + c ≤ 400 → pLine X t (wnL ls).length (nK 21 ls) = bd (pMustN X 2 m (.inr (t + 1 + c))) (pMust X 4) → wR (mnW (sumW X N (ls.filter p1)) (prF X t (0, 0) c)) w' wt' → (∀ i, i < 4 → hp i = zI (((if i < c then X 4 (t + 1 + i) else prL X ls i) : Nat) : Int)) → nl a1 = true → Wx K 191 [some (.ref 310), a1, some (zI (c : Int)), a3] [] n1 (up (up f 310 (pC (wnL ls).length (t + 1 + c) (nK 21 ls) w' wt')) 315 (.inr (0, 4, hp))) 0 := by
    intro m
    induction m with
    | zero =>
      intro c w' wt' hp a1 a3 hc hcM hc4 he hwR' hpV' hn1
      have hc4e : c = 4 := by omega
      subst hc4e
      have he : pLine X t (wnL ls).length (nK 21 ls) = pMust X 4 (t + 1 + 4) := he
      have hP3 : up (up f 310 (pC (wnL ls).length (t + 1 + 4) (nK 21 ls) w' wt')) 315 (.inr (0, 4, hp)) 310 = some (pC (wnL ls).length (t + 1 + 4) (nK 21 ls) w' wt') := (up_n (by decide)).trans (up_s _ _ _)
      refine r_iload_2 hK dX3_line_191 ?_
      refine r_iconstN (c := 4) hK dX3_line_192 ?_
      refine r_icmp_ge 243 hK dX3_line_193 (by decide) (by decide) (fun _ => ?_) (fun q => absurd q (by decide))
      refine r_aload_0 hK dX3_line_243 ?_
      refine r_xV0 hK hRx (ct_pStop hK.rel hP3 ((hTA _).up (by decide)) ((hFA _).up (by decide)) hcM hc4) lk_X3_147 (Rcv.raw hK.rel hP3 rfl) dX3_line_244 (fun n1 f1 hx => ?_) (fun r n1 f1 hp2 => ?_) (hdp := by omega)
      · obtain ⟨e, x1, rfl, rfl⟩ := hx
        exact ⟨⟨⟨e, by rw [he, x1], up_s _ _ _⟩, Nat.le_refl _, hB.p.pr.upk (by decide), ((hKA _).upS (by omega)).upS (Or.inl rfl)⟩, _, up_s _ _ _⟩
      obtain ⟨q6, q7, q8, rfl, rfl, rfl⟩ := hp2
      rw [q6] at he
      have htM3 := hT.next hcM (by omega) (by omega)
      refine r_pop hK dX3_line_247 ?_
      refine r_goto 335 hK dX3_line_248 ?_
      rw [up_comm (j := 315) (k := 310) (by decide), up_up]
      have hp1 : p1 (X 2 t, t, t + 1 + 4 + 1 - 1) = true := by unfold p1; simp [h22]
      have hok := ln_ok hT htM h400 he hLO
      have hwn : wnL (ls ++ [(X 2 t, t, t + 1 + 4 + 1 - 1)]) = wnL ls := by rw [wnL_s, if_neg (by omega)]
      refine r_vret hK hRt dX3_line_335 ⟨rfl, Nat.le_refl _, ⟨t + 1 + 4 + 1, l, NL, w', wt', he, ⟨?_, ?_, ?_, ?_, ?_, ?_, ?_, hok.2.1, ?_, ?_, htM3, q8, ?_⟩, Or.inl ⟨rfl, fun q => by omega⟩⟩, ?_⟩ (Nat.zero_le _)
      · rw [hwn, nK_app, if_neg (by show ¬ X 2 t = 21; omega), up_n (by decide), up_s]; rfl
      · rw [(fil_n hp1).1, sum_s]
        have ec : cW X N (X 2 t, t, t + 1 + 4 + 1 - 1) = prF X t (0, 0) 4 := by
          unfold cW; rw [if_neg (by show ¬ X 2 t = 20; omega), if_neg (by show ¬ X 2 t = 21; omega), if_pos h22]
        rw [ec]; exact hwR'
      · exact (hTA _).up (by decide)
      · exact (hFA _).up (by decide)
      · rw [hwn]; exact hN.kp (by rw [up_n (by decide), up_n (by decide)])
      · refine ⟨hp, up_s _ _ _, fun i hi => ?_⟩
        rw [prL_s]; unfold prS; rw [if_pos h22, hpV' i hi, if_pos hi]
      · rw [(fil_n hp1).2]
        refine ⟨by rw [up_n (by decide), up_n (by decide)]; exact hL.1, hL.2.1, hL.2.2.1, hL.2.2.2.1, by rw [List.length_append]; have := hL.2.2.2.2.1; omega, hL.2.2.2.2.2.kp (fun id e h1 h2 => by rw [up_n (by omega), up_n (by omega)]; exact h2)⟩
      · rw [hwn]; exact hw4
      · rw [nK_app, if_neg (by show ¬ X 2 t = 21; omega)]; exact hg16
      · rw [List.length_append]; simp; omega
      · exact (hKA _).upS (by omega)
    | succ m ih =>
      intro c w' wt' hp a1 a3 hc hcM hc4 he hwR' hpV' hn1
      have he : pLine X t (wnL ls).length (nK 21 ls) = bd (pMustN X 2 m (pMust X 2 (t + 1 + c))) (pMust X 4) := he
      have hP3 : up (up f 310 (pC (wnL ls).length (t + 1 + c) (nK 21 ls) w' wt')) 315 (.inr (0, 4, hp)) 310 = some (pC (wnL ls).length (t + 1 + c) (nK 21 ls) w' wt') := (up_n (by decide)).trans (up_s _ _ _)
      refine r_iload_2 hK dX3_line_191 ?_
      refine r_iconstN (c := 4) hK dX3_line_192 ?_
      refine r_icmp_ge 243 hK dX3_line_193 (by omega) (by decide) (fun q => by omega) (fun _ => ?_)
      refine r_aload_0 hK dX3_line_196 ?_
      refine r_iconstN (c := 1) hK dX3_line_197 ?_
      refine r_xV1 hK hRx (ct_pTake hK.rel hP3 ((hTA _).up (by decide)) ((hFA _).up (by decide)) hcM hc4 (s := 1) (kd := 2) (by decide) (fun k => srt_1) (by decide)) lk_X3_136 (Rcv.raw hK.rel hP3 rfl) dX3_line_198 (fun n1 f1 hx => ?_) (fun r n1 f1 hp2 => ?_) (hdp := by omega)
      · obtain ⟨e, x1, rfl, rfl⟩ := hx
        exact ⟨⟨⟨e, by rw [he, x1, pMustN_inl]; rfl, up_s _ _ _⟩, Nat.le_refl _, hB.p.pr.upk (by decide), ((hKA _).upS (by omega)).upS (Or.inl rfl)⟩, _, up_s _ _ _⟩
      obtain ⟨q3, q4, q5, rfl, rfl, rfl⟩ := hp2
      rw [q3] at he
      rw [up_comm (j := 315) (k := 310) (by decide), up_up]
      have htM2 := hT.next hcM (by omega) (by omega)
      have hP4 : ∀ a b hp, up (up f 310 (pC (wnL ls).length (t + 1 + c + 1) (nK 21 ls) a b)) 315 (.inr (0, 4, hp)) 310 = some (pC (wnL ls).length (t + 1 + c + 1) (nK 21 ls) a b) := fun a b hp => (up_n (by decide)).trans (up_s _ _ _)
      have hTB : ∀ a b hp, TF (up (up f 310 (pC (wnL ls).length (t + 1 + c + 1) (nK 21 ls) a b)) 315 (.inr (0, 4, hp))) X M N := fun a b hp => (hTA _).up (by decide)
      have hXb := (tkb hT).1 (t + 1 + c)
      refine r_istore_3 hK dX3_line_201 ?_
      refine r_aload_0 hK dX3_line_202 ?_
      refine r_get hK fl_X3_25 dX3_line_203 (hP4 _ _ _) rfl ?_
      refine r_iload_2 hK dX3_line_206 ?_
      refine r_aload_0 hK dX3_line_207 ?_
      refine r_get hK fl_X3_39 dX3_line_208 (hP4 _ _ _) rfl ?_
      refine r_iload_3 hK dX3_line_211 ?_
      refine r_pV1 hK (ct_pNum hK.rel (hTB _ _ _) hcM q4) lk_X3_160 ((hTB _ _ _).rcv hK.rel) dX3_line_212 ?_ (hdp := by omega)
      refine r_iast hK dX3_line_215 (up_s _ _ _) (by omega) ?_
      rw [up_up]
      refine r_aload_0 hK dX3_line_216 ?_
      refine r_get hK fl_X3_25 dX3_line_217 (hP4 _ _ _) rfl ?_
      refine r_iload_2 hK dX3_line_220 ?_
      refine r_iald hK dX3_line_221 (up_s _ _ _) (by omega) ?_
      rw [show updV hp c (zI ((X 4 (t + 1 + c) : Nat) : Int)) c = zI ((X 4 (t + 1 + c) : Nat) : Int) from by unfold updV; rw [if_pos rfl]]
      refine r_iconstN (c := 1) hK dX3_line_222 ?_
      refine r_bipushN (c := 99) hK dX3_line_223 ?_
      refine r_pSN3 hK (ct_isIn0 hK.rel (by omega) (by decide) (by decide)) lk_X3_163 dX3_line_225 ?_ (hdp := by omega)
      have e9 : prF X t (0, 0) (c + 1) = if 1 ≤ X 4 (t + 1 + c) ∧ X 4 (t + 1 + c) ≤ 99 then prF X t (0, 0) c else tellS (prF X t (0, 0) c) 5 (t + 1 + c) := rfl
      have nx : ∀ w'' wt'' a3, wR (mnW (sumW X N (ls.filter p1)) (prF X t (0, 0) (c + 1))) w'' wt'' → Wx K 237 [some (.ref 310), a1, some (zI (c : Int)), a3] [] n1 (up (up f 310 (pC (wnL ls).length (t + 1 + c + 1) (nK 21 ls) w'' wt'')) 315 (.inr (0, 4, updV hp c (zI ((X 4 (t + 1 + c) : Nat) : Int))))) 0 := by
        intro w'' wt'' a3 hw''
        refine r_incN_2 hK dX3_line_237 ?_ (hp := hn1)
        refine r_goto 191 hK dX3_line_240 ?_
        refine ih (c + 1) w'' wt'' _ a1 _ (by omega) (by rw [show t + 1 + (c + 1) = t + 1 + c + 1 by omega]; exact htM2) (by omega) (by rw [show t + 1 + (c + 1) = t + 1 + c + 1 by omega]; exact he) hw'' (fun i hi => ?_) hn1
        unfold updV
        by_cases z : i = c
        · rw [if_pos z, if_pos (by omega), z]
        · rw [if_neg z, hpV' i hi]
          by_cases z2 : i < c
          · rw [if_pos z2, if_pos (by omega)]
          · rw [if_neg z2, if_neg (by omega)]
      refine r_ifB_ne 237 hK dX3_line_228 (fun h228 => ?_) (fun h228 => ?_)
      · refine nx w' wt' _ ?_
        rw [e9, if_pos (by omega)]; exact hwR'
      · refine r_aload_0 hK dX3_line_231 ?_
        refine r_iconstN (c := 5) hK dX3_line_232 ?_
        refine r_iload_3 hK dX3_line_233 ?_
        refine r_vV2 hK (ct_pTell hK.rel (hP4 _ _ _) (by have := hwR'.2.2; omega) (by have := hwR'.2.2; omega) (by decide) (by omega)) lk_X3_143 (Rcv.raw hK.rel (hP4 _ _ _) rfl) dX3_line_234 ?_ (hdp := by omega)
        rw [up_comm (j := 315) (k := 310) (by decide), up_up]
        refine nx _ _ _ ?_
        rw [e9, if_neg (by omega), tell_mn (by decide), ← mnW_as]
        exact hwR'.tell (by decide) (by omega)
  have := lp 4 0 w wt hp0 a1 a3 rfl htM1 q2 ePL (by show wR (mnW _ (0, 0)) _ _; rw [mnW_0]; exact hwR) (fun i hi => by rw [if_neg (Nat.not_lt_zero _)]; exact hpV i hi) hn1
  rw [up_self (show up f 310 _ 315 = _ from (up_n (by decide)).trans hpA)] at this
  exact this
set_option maxHeartbeats 4000000 in
theorem ct_pLine {G : GT} {Rel : Nat → Hp → Hp → Prop} (hR : RelOK Rel) (hP : Rel = RelP) (hX : GX G) {n : Nat} {f : Hp} {M N t NL w wt UU : Nat} {ls : List (Nat × Nat × Nat)} {l : List Nat} {X : Nat → Nat → Nat} (hn0 : 392 ≤ n) (hS : PRN f X M N t ls l NL w wt) (h0 : X 2 t ≠ 0) (hU : 2 ≤ UU ∧ (X 2 t = 21 ∨ X 2 t = 23 → 0 < NL → l.length = NL → gwC NL / 12 + 2 ≤ UU)) : Cx G Rel yX3_line cX3_line 4 none (9) (UU) [.ref 310] n (f) (PLp n f X M N t ls l NL) (PLx n f X t ls) := by
  refine cx_intro [some (.ref 310), none, none, none] hR rfl (Nat.le_of_ble_eq_true rfl) ?_
  intro K hG hRel hK hRt hRx hnm
  have hQ : kRel K = RelP := by rw [hRel]; exact hP
  have hXK : GX (kG K) := by rw [hG]; exact hX
  have hB := hS.b
  obtain ⟨hP, hwR, hT, hF, hN, hPr, hL, hLO, hw4, hg16, htM, h400, hlt⟩ := id hS
  have hs3 := srt_3 (kd := X 2 t)
  have hs6 := srt_lt (kd := X 2 t)
  have hX23 := (tkb hT).2 t
  have bad : X 2 t < 20 → Wx K 329 [some (.ref 310), some (zI (-1)), none, none] [] n f 0 := by
    intro hlt2
    have ePL : pLine X t (wnL ls).length (nK 21 ls) = .inl (1, X 3 t) := by unfold pLine; rw [if_pos (Or.inl hlt2)]
    refine r_aload_0 hK dX3_line_329 ?_
    refine r_iconstN (c := 1) hK dX3_line_330 ?_
    refine r_pV1 hK (ct_pWrong hK.rel hP hT hF htM) lk_X3_76 (Rcv.raw hK.rel hP rfl) dX3_line_331 ?_
    exact r_throw hK hRx dX3_line_334 ⟨⟨(1, X 3 t), ePL, up_s _ _ _⟩, Nat.le_refl _, hB.upk (by decide), (KPn.rf n f).upS (Or.inl rfl)⟩ ⟨_, up_s _ _ _⟩
  refine r_aload_0 hK dX3_line_0 ?_
  refine r_xV0 hK hRx (ct_pSort hK.rel hP hT hF htM) lk_X3_80 (Rcv.raw hK.rel hP rfl) dX3_line_1 (fun n1 f1 hx => ?_) (fun r n1 f1 hp => ?_)
  · obtain ⟨x1, rfl, rfl⟩ := hx
    exact ⟨⟨⟨(1, X 3 t), by unfold pLine; rw [if_pos (by omega)], up_s _ _ _⟩, Nat.le_refl _, hB.upk (by decide), (KPn.rf _ f).upS (Or.inl rfl)⟩, _, up_s _ _ _⟩
  obtain ⟨hn3, rfl, rfl, rfl⟩ := hp
  refine r_iconstN (c := 3) hK dX3_line_4 ?_
  refine r_icmp_ne 23 hK dX3_line_5 (by omega) (by omega) (fun h5 => ?_) (fun h5 => ?_)
  · refine r_iconst hK dX3_line_23 ?_
    refine r_istore_1 hK dX3_line_24 ?_
    refine r_iload_1 hK dX3_line_25 ?_
    refine r_tabOut 329 hK dX3_line_26 (by decide) (by decide) rfl ?_
    exact bad (by have := hs3.mpr; omega) --!
  · have h20 : 20 ≤ X 2 t := hs3.mp (by omega)
    obtain ⟨tp, T, S, A, B, W, pa, pb, t1, t2, t3, t4, t5, t6, t7, t8, t9, t10⟩ := hT.at htM
    have hwh : W t = zI ((X 2 t - 20 : Nat) : Int) := t7.2.2.2.1 h20
    refine r_aload_0 hK dX3_line_8 ?_
    refine r_get hK fl_X3_39 dX3_line_9 (hP) rfl ?_
    refine r_get hK fl_X3_133 dX3_line_12 (t1) rfl ?_
    refine r_aload_0 hK dX3_line_15 ?_
    refine r_get hK fl_X3_59 dX3_line_16 (hP) rfl ?_
    refine r_sald hK dX3_line_19 t3.2.2.2 (by omega) ?_
    rw [hwh]
    refine r_goto 24 hK dX3_line_20 ?_
    refine r_istore_1 hK dX3_line_24 ?_
    refine r_iload_1 hK dX3_line_25 ?_
    have h4 : X 2 t = 20 ∨ X 2 t = 21 ∨ X 2 t = 22 ∨ X 2 t = 23 := by omega
    rcases h4 with z | z | z | z
    · rw [z]
      exact r_tabIn 56 hK dX3_line_26 (by decide) (by decide) (by decide) rfl rfl (pl_wire (by decide) hK hRt hRx hS z _ _ _ rfl)
    · rw [z]
      exact r_tabIn 122 hK dX3_line_26 (by decide) (by decide) (by decide) rfl rfl (pl_gate (by decide) hK hQ hXK hRt hRx hS hn0 ⟨hU.1, hU.2 (Or.inl z)⟩ z _ _ _ rfl)
    · rw [z]
      exact r_tabIn 185 hK dX3_line_26 (by decide) (by decide) (by decide) rfl rfl (pl_price (by decide) hK hQ hXK hRt hRx hS z _ _ _ rfl)
    · rw [z]
      exact r_tabIn 251 hK dX3_line_26 (by decide) (by decide) (by decide) rfl rfl (pl_table (by decide) hK hQ hXK hRt hRx hS hn0 ⟨hU.1, hU.2 (Or.inr z)⟩ z _ _ _ rfl)
