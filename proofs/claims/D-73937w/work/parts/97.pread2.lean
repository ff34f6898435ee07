set_option maxRecDepth 100000
/-! ===== Parser.read: the walk ===== -/
theorem GL.upN {f : Hp} {l : List Nat} {gs : List Gt} {k : Nat} {e e' : E_} (h : GL f l gs) (hk : f k = some e') (hne : ∀ q, e' ≠ cG q) : GL (up f k e) l gs := h.upn (fun q z => by rw [hk] at z; exact hne q (Option.some.inj z))
theorem GL.upF {f : Hp} {l : List Nat} {gs : List Gt} {k : Nat} {e : E_} (h : GL f l gs) (hk : f k = none) : GL (up f k e) l gs := h.upn (fun q z => by rw [hk] at z; cases z)
theorem lexF_le {n : Nat} {T : Nat → Nat} : ∀ m i, i ≤ n → (lexF n (Bt n T) m i).length ≤ n - i + 1
  | 0, i, _ => by show 1 ≤ _; omega
  | m + 1, i, hi => by
    unfold lexF
    by_cases c : n ≤ i
    · rw [if_pos c]; show 1 ≤ _; omega
    · rw [if_neg c]
      split
      · have := lexF_le (n := n) (T := T) m (i + 1) (by omega); omega
      · split
        · rename_i cl
          have hin : i + rlL (Bt n T) 2001 i ≤ n := rl_in (T := T) (fun j hj => by have := rlL_all 2001 i j hj; omega) hi
          have hp : 1 ≤ rlL (Bt n T) 2001 i := rlL_pos (m := 2000) cl
          rw [List.length_cons]
          have := lexF_le (n := n) (T := T) m _ hin; omega
        · split
          · rename_i cd
            have hin : i + rlD (Bt n T) 2001 i ≤ n := rl_in (T := T) (fun j hj => by have := rlD_all 2001 i j hj; omega) hi
            have hp : 1 ≤ rlD (Bt n T) 2001 i := rlD_pos (m := 2000) cd
            rw [List.length_cons]
            have := lexF_le (n := n) (T := T) m _ hin; omega
          · rw [List.length_cons]
            have := lexF_le (n := n) (T := T) m (i + 1) (by omega); omega
theorem cLL_inj {a b : List Nat} (h : cLL a = cLL b) : a = b := mapref_inj (Prod.mk.inj (Sum.inl.inj h)).2
/-- one line more: a gate -/
theorem P2.gate {f : Hp} {X : Nat → Nat → Nat} {M N t : Nat} {ls : List (Nat × Nat × Nat)} {l : List Nat} {NL c w wt n w' wt' : Nat} {k e : Nat} {lg : List Nat} (h : P2 f X M N t ls l NL c w wt) (hln : (ls.filter (fun x => !p1 x))[c]? = some (21, k, e)) (hlg : f 312 = some (cLL lg)) (h4 : ∀ x c, nmd X N x = some c → c < 4) (hk1 : X 2 (k + 1) = 1) (hke : k + 1 < e) (hn0 : 392 ≤ n) (hnn : f n = none) (hw : wR (gsT X N k (mnW (sumW X N (ls.filter p1)) (sumW X N ((ls.filter (fun x => !p1 x)).take c))) (e - (k + 1))).1 w' wt') : P2 (up (up (up f 310 (pC (wnL ls).length t (nK 21 ls) w' wt')) n (cG ((nmd X N (X 5 (k + 1))).getD 0, (gsT X N k (mnW (sumW X N (ls.filter p1)) (sumW X N ((ls.filter (fun x => !p1 x)).take c))) (e - (k + 1))).2.2))) 312 (cLL (lg ++ [n]))) X M N t ls l NL (c + 1) w' wt' := by
  obtain ⟨hP, hwR, hT, hF, hN, ⟨hp, hp1, hp2⟩, ⟨hL1, hL2, hL3, hL4⟩, hC, ⟨lg', hl1, hl2⟩, ni, no, v, hT1, hT2⟩ := h
  rw [hlg] at hl1
  have e0 : lg = lg' := cLL_inj (Option.some.inj hl1)
  subst e0
  have et := take_s hln
  rw [(gsT_mn _ _).2.2]
  rw [(gsT_mn _ _).1] at hw
  have o4 := fun c q => h4 (X 5 (k + 1)) c q
  refine ⟨?_, ?_, ?_, ?_, ?_, ⟨hp, ?_, hp2⟩, ⟨?_, hL2, hL3, ?_⟩, ?_, ⟨lg ++ [n], up_s _ _ _, ?_⟩, ni, no, v, ?_, ?_⟩
  · rw [up_n (by decide), up_n (by omega), up_s]
  · rw [et, sum_s, ← mnW_as]
    exact hw
  · exact ((hT.up (by decide)).up (by omega)).up (by decide)
  · exact ((hF.up (by decide)).up (by omega)).up (by decide)
  · exact hN.kp (by rw [up_n (by decide), up_n (by omega), up_n (by decide)])
  · rw [up_n (by decide), up_n (by omega), up_n (by decide)]; exact hp1
  · rw [up_n (by decide), up_n (by omega), up_n (by decide)]; exact hL1
  · exact hL4.kp (fun id e h1 h2 => by rw [up_n (by omega), up_n (fun q => by rw [q, hnn] at h2; cases h2), up_n (by omega)]; exact h2)
  · rw [up_n (by decide), up_n (by omega), up_n (by decide)]; exact hC
  · rw [et, TG_s]
    have e1 : tgS X N (TG X N ((ls.filter (fun x => !p1 x)).take c)) (21, k, e) = ((TG X N ((ls.filter (fun x => !p1 x)).take c)).1, (TG X N ((ls.filter (fun x => !p1 x)).take c)).2 ++ [(gsT X N k (0, 0) (e - (k + 1))).2]) := by
      unfold tgS; rw [if_neg (show ¬ (21 : Nat) = 20 by decide), if_pos rfl]
    rw [e1]
    show GL _ _ (List.map z9 (_ ++ [_]))
    rw [List.map_append]
    have e2 : (gsT X N k (0, 0) (e - (k + 1))).2 = ((nmd X N (X 5 (k + 1))).getD 999999999, (gsT X N k (0, 0) (e - (k + 1))).2.2) := by
      obtain ⟨q, hq⟩ : ∃ q, e - (k + 1) = q + 1 := ⟨e - (k + 1) - 1, by omega⟩
      rw [hq, ← gsT_to (N := N) (s := (0, 0)) hk1 q]
    rw [e2]
    show GL _ _ (_ ++ [z9 _])
    rw [z9_o o4]
    have g1 := (hl2.upN (e := pC (wnL ls).length t (nK 21 ls) w' wt') hP (fun q z => by unfold pC cG at z; cases z)).upF (k := n) (e := cG ((nmd X N (X 5 (k + 1))).getD 0, (gsT X N k (0, 0) (e - (k + 1))).2.2)) (by rw [up_n (by omega)]; exact hnn)
    exact (g1.app (up_s _ _ _)).upN (e' := cLL lg) (by rw [up_n (by omega), up_n (by decide)]; exact hlg) (fun q z => by unfold cLL cG at z; cases z)
  · exact ((hT1.up (by decide) (by decide)).up (by omega) (by omega)).up (by decide) (by decide)
  · rw [et, TG_s]
    have e1 : (tgS X N (TG X N ((ls.filter (fun x => !p1 x)).take c)) (21, k, e)).1 = (TG X N ((ls.filter (fun x => !p1 x)).take c)).1 := by
      unfold tgS; rw [if_neg (show ¬ (21 : Nat) = 20 by decide), if_pos rfl]
    rw [e1]; exact hT2
/-- one line more: a table -/
theorem P2.table {f : Hp} {X : Nat → Nat → Nat} {M N t : Nat} {ls : List (Nat × Nat × Nat)} {l : List Nat} {NL c w wt w' wt' : Nat} {k e ni no : Nat} {v : Nat → Nat} (h : P2 f X M N t ls l NL c w wt) (hln : (ls.filter (fun x => !p1 x))[c]? = some (23, k, e)) (hCT : CT f 313 314 ni no v) (hvb : ∀ x, x < 8 → v x < 10000) (hw : wR (tbW X k e (mnW (sumW X N (ls.filter p1)) (sumW X N ((ls.filter (fun x => !p1 x)).take c)))) w' wt') : P2 (up (up (up f 310 (pC (wnL ls).length t (nK 21 ls) w' wt')) 314 (.inr (0, 8, fun j => zI (((if j < e - (k + 3) then X 4 (k + 3 + j) else v j) : Nat) : Int)))) 313 (.inl (5, [zI ((X 4 (k + 1) : Nat) : Int), zI ((X 4 (k + 2) : Nat) : Int), .ref 314]))) X M N t ls l NL (c + 1) w' wt' := by
  obtain ⟨hP, hwR, hT, hF, hN, ⟨hp, hp1, hp2⟩, ⟨hL1, hL2, hL3, hL4⟩, hC, ⟨lg, hl1, hl2⟩, ni', no', v', hT1, hT2⟩ := h
  have et := take_s hln
  rw [(tbW_mn' _).1] at hw
  have e1 : tgS X N (TG X N ((ls.filter (fun x => !p1 x)).take c)) (23, k, e) = ((X 4 (k + 1), X 4 (k + 2), e - (k + 3), fun x => X 4 (k + 3 + x)), (TG X N ((ls.filter (fun x => !p1 x)).take c)).2) := by
    unfold tgS; rw [if_neg (show ¬ (23 : Nat) = 20 by decide), if_neg (show ¬ (23 : Nat) = 21 by decide), if_neg (show ¬ (23 : Nat) = 22 by decide)]
  refine ⟨?_, ?_, ?_, ?_, ?_, ⟨hp, ?_, hp2⟩, ⟨?_, hL2, hL3, ?_⟩, ?_, ⟨lg, ?_, ?_⟩, X 4 (k + 1), X 4 (k + 2), (fun j => if j < e - (k + 3) then X 4 (k + 3 + j) else v j), ⟨up_s _ _ _, ?_⟩, ?_⟩
  · rw [up_n (by decide), up_n (by decide), up_s]
  · rw [et, sum_s, ← mnW_as]
    exact hw
  · exact ((hT.up (by decide)).up (by decide)).up (by decide)
  · exact ((hF.up (by decide)).up (by decide)).up (by decide)
  · exact hN.kp (by rw [up_n (by decide), up_n (by decide), up_n (by decide)])
  · rw [up_n (by decide), up_n (by decide), up_n (by decide)]; exact hp1
  · rw [up_n (by decide), up_n (by decide), up_n (by decide)]; exact hL1
  · exact hL4.kp (fun id e h1 h2 => by rw [up_n (by omega), up_n (by omega), up_n (by omega)]; exact h2)
  · rw [up_n (by decide), up_n (by decide), up_n (by decide)]; exact hC
  · rw [up_n (by decide), up_n (by decide), up_n (by decide)]; exact hl1
  · rw [et, TG_s, e1]
    refine ((hl2.upN hP (fun q z => by unfold pC cG at z; cases z)).upN (k := 314) (by rw [up_n (by decide)]; exact hCT.2) (fun q z => by unfold cG at z; cases z)).upN (k := 313) (by rw [up_n (by decide), up_n (by decide)]; exact hCT.1) (fun q z => by unfold cG at z; cases z)
  · rw [up_n (by decide), up_s]
  · rw [et, TG_s, e1]
    refine ⟨⟨rfl, fun _ => ⟨rfl, fun x hx => if_pos hx⟩⟩, fun x hx => ?_⟩
    show (if x < e - (k + 3) then X 4 (k + 3 + x) else v x) < 10000
    split
    · exact (tkb hT).1 _
    · exact hvb x hx
set_option maxHeartbeats 4000000 in
theorem ct_pRead {G : GT} {Rel : Nat → Hp → Hp → Prop} (hR : RelOK Rel) (hP : Rel = RelP) (hX : GX G) {n : Nat} {f : Hp} {tp : Nat} {T : Nat → Nat} (hW : PW f tp T) (hT2 : ∀ i, T i < 256) (htp : tp ≤ 2000) (hn0 : 392 ≤ n) : Cx G Rel yX3_read cX3_read 2 none (10) (1200) [.ref 310] n (f) (RDP n f tp T) (RDX n f tp T) := by
  refine cx_intro [some (.ref 310), none] hR rfl (Nat.le_of_ble_eq_true rfl) ?_
  intro K hG hRel hK hRt hRx hnm
  have hQ : kRel K = RelP := by rw [hRel]; exact hP
  have hXK : GX (kG K) := by rw [hG]; exact hX
  obtain ⟨⟨⟨nw0, t0, ng0, w0, wt0, hP0⟩, ⟨hp0, hPr0⟩, ⟨hm0, hNm0⟩, NL0, l0, hL0, hNL1, hNL2⟩, hF0, ⟨mn0, hO0⟩, hTw, hTt, ⟨S0, A0, B0, W0, hTa⟩, hC0, ⟨lg0, hLL0⟩, ni0, no0, v0, hCT0, hv0⟩ := id hW
  obtain ⟨X, hXe⟩ : ∃ X, X = tkX tp T := ⟨_, rfl⟩
  obtain ⟨N, hNe⟩ : ∃ N, N = tkN tp T := ⟨_, rfl⟩
  obtain ⟨M, hMe⟩ : ∃ M, M = (cutB (lex tp T)).length := ⟨_, rfl⟩
  obtain ⟨R, hRe⟩ : ∃ R, R = pAll X 402 0 0 0 [] := ⟨_, rfl⟩
  have eS : rdS tp T = rdR X N R := by rw [hRe, hXe, hNe]; rfl
  have hMb : 0 < M ∧ M ≤ 2001 := by
    have hl := lex_len tp T
    have hne : lex tp T ≠ [] := fun q => by rw [q] at hl; exact absurd hl (by decide)
    obtain ⟨a, b, -⟩ := cutB_last (lex tp T) hne
    have hle : (lex tp T).length ≤ tp - 0 + 1 := lexF_le (tp + 1) 0 (Nat.zero_le _)
    omega
  -- behind the second pass
  have fin : ∀ (t : Nat) (ls : List (Nat × Nat × Nat)) (l : List Nat) (NL n1 : Nat) (f1 : Hp) (w wt u : Nat) (a1 : Option Value), R = .inr ls → LO X N 0 ls → (wnL ls).length ≤ 4 → (ls.filter (fun x => !p1 x)).length ≤ l.length → P2 f1 X M N t ls l NL l.length w wt → bW (M - 1) (sumW X N ls) → n ≤ n1 → KPr n f f1 → PW f1 tp T → u ≤ 1200 → Wx K 166 [some (.ref 310), a1] [] n1 f1 u := by
    intro t ls l NL n1 f1 w wt u a1 hR1 hLO hw4 hll h2 hbw hn1 hkp hpw hu
    have hB := h2.b
    obtain ⟨hP, hwR, hT, hF, hN, ⟨hp, hp1, hp2⟩, ⟨hL1, hL2, hL3, hL4⟩, hC, ⟨lg, hl1, hl2⟩, ni, no, v, hT1, hT2⟩ := h2
    rw [List.take_of_length_le hll] at hwR hl2 hT2
    rw [← sumW_sp, ← mean_sum] at hwR
    rw [← mean_sum] at hbw
    rw [← (mean_tg ls).1] at hl2 hT2
    have hwb := hwR.2.2
    refine r_aload_0 hK dX3_read_166 ?_
    refine r_get hK fl_X3_66 dX3_read_167 (hP) rfl ?_
    refine r_if_eq 186 hK dX3_read_170 (by omega) (fun h170 => ?_) (fun h170 => ?_)
    · have hz : (mean X N ls).1.1 = 0 := by rw [← hwR.1]; omega
      have hms := mean_ok hLO hz
      have hw0 : w = 0 := by omega
      subst hw0
      refine r_vret hK hRt dX3_read_186 ⟨rfl, hn1, hpw, hkp, (nK 20 ls, mean X N ls), ?_, ?_, ⟨lg, hl1, ?_⟩, ⟨ni, no, v, hT1, hT2⟩, hp, hp1, ?_⟩ hu
      · rw [eS, hR1]; exact if_neg (fun q => q hz)
      · exact ⟨t, nK 21 ls, wt, by rw [hP, wnL_len]⟩
      · rw [z9_ok (W := nK 20 ls) (by rw [← wnL_len]; exact hw4) hms.1] at hl2; exact hl2
      · rw [(mean_tg ls).2]; exact hp2
    · have hz : (mean X N ls).1.1 ≠ 0 := fun q => h170 (by rw [hwR.1, q]; rfl)
      have hwt := hwR.2.1 hz
      have hwt2 := hbw hz
      refine r_aload_0 hK dX3_read_173 ?_
      refine r_aload_0 hK dX3_read_174 ?_
      refine r_get hK fl_X3_66 dX3_read_175 (hP) rfl ?_
      refine r_aload_0 hK dX3_read_178 ?_
      refine r_get hK fl_X3_69 dX3_read_179 (hP) rfl ?_
      refine r_pV2 hK (ct_pWrongAt hK.rel hP hT hF (by omega)) lk_X3_63 (Rcv.raw hK.rel hP rfl) dX3_read_182 ?_
      refine r_throw hK hRx dX3_read_185 ⟨hn1, hpw.of (hB.upk (by decide)) ⟨_, _, up_s _ _ _⟩ (fun id h => up_n (by omega)), fun id h1 h2 => (up_n (by omega)).trans (hkp id h1 h2), (w, X 3 wt), ?_, up_s _ _ _⟩ ⟨_, up_s _ _ _⟩
      rw [eS, hR1, hwt]; show rdR X N (.inr ls) = _; rw [hwR.1]; exact if_pos hz
  -- the second pass
  have lp2 : ∀ (t : Nat) (ls : List (Nat × Nat × Nat)) (l : List Nat) (NL : Nat), R = .inr ls → LO X t 0 ls → LO X N 0 ls → t < M → t ≤ N → (wnL ls).length ≤ 4 → nK 21 ls ≤ 16 → l.length = (ls.filter (fun x => !p1 x)).length → l.length ≤ 400 → ∀ (d c n1 : Nat) (f1 : Hp) (w wt u : Nat), c + d = l.length → P2 f1 X M N t ls l NL c w wt → n ≤ n1 → KPr n f f1 → PW f1 tp T → u ≤ 1160 + 2 * nK 21 ((ls.filter (fun x => !p1 x)).take c) → Wx K 98 [some (.ref 310), some (zI (c : Int))] [] n1 f1 u := by
    intro t ls l NL hR1 hLOt hLO htM htN hw4 hg16 hll hl400 d
    have hnk : ∀ c, nK 21 ((ls.filter (fun x => !p1 x)).take c) ≤ 16 := fun c => Nat.le_trans (nK_take 21 _ c) (Nat.le_trans (nK_fil 21 _ ls) hg16)
    have h4 : ∀ x c, nmd X N x = some c → c < 4 := fun x c hx => by
      rw [nmd_LO hLO] at hx; have := fndF_lt _ _ _ hx; omega
    induction d with
    | zero =>
      intro c n1 f1 w wt u hc h2 hn1 hkp hpw hu
      have hcl : c = l.length := by omega
      have hu2 := hnk c
      have hL := h2.2.2.2.2.2.2.1
      refine r_iload_1 hK dX3_read_98 ?_
      refine r_aload_0 hK dX3_read_99 ?_
      refine r_get hK fl_X3_35 dX3_read_100 (h2.1) rfl ?_
      refine r_pV0 hK (pa_size hQ (by omega) hL.1) lk_X3_114 (rcv_al hQ (by omega) hL.1) dX3_read_103 ?_
      refine r_icmp_ge 166 hK dX3_read_106 (by omega) (by omega) (fun h106 => ?_) (fun h106 => ?_)
      · exact fin t ls l NL n1 f1 w wt u _ hR1 hLO hw4 (by omega) (by rw [← hcl]; exact h2) ((sumW_b hLOt).mono (by omega)) hn1 hkp hpw (by omega)
      · omega --!
    | succ d ih =>
      intro c n1 f1 w wt u hc h2 hn1 hkp hpw hu
      have hcl : c < l.length := by omega
      have hu2 := hnk (c + 1)
      have hu3 := hnk c
      have hB := h2.b
      obtain ⟨hP, hwR, hT, hF, hN, hp_, ⟨hL1, hL2, hL3, hL4⟩, hC, ⟨lg, hl1, hl2⟩, ni, no, v, hT1, hT2⟩ := id h2
      obtain ⟨hq, ⟨kd, k, e⟩, hln, hcell⟩ := hL4.2 c hcl
      have hmem := List.mem_of_getElem? hln
      have hpf : p1 (kd, k, e) = false := by have := (List.mem_filter.mp hmem).2; simpa using this
      have hokt : lnOK X t kd k e := LO_mem hLOt (List.mem_filter.mp hmem).1
      have hok : lnOK X N kd k e := hokt.mono htN
      have het : e < t := hokt.2.2.2.1
      have hkd : kd = 21 ∨ kd = 23 := by
        unfold p1 at hpf
        have := hok.1
        have hpf' : ¬ kd = 20 ∧ ¬ kd = 22 := by simpa using hpf
        omega
      obtain ⟨kc, hkc⟩ : ∃ kc, kc = if kd = 21 then 1 else 3 := ⟨_, rfl⟩
      have hcell : f1 (l.getD c 0) = some (.inl (10, [zI ((kc : Nat) : Int), zI ((k + 1 : Nat) : Int), zI ((e : Nat) : Int)])) := by rw [hkc]; exact hcell
      refine r_iload_1 hK dX3_read_98 ?_
      refine r_aload_0 hK dX3_read_99 ?_
      refine r_get hK fl_X3_35 dX3_read_100 (hP) rfl ?_
      refine r_pV0 hK (pa_size hQ (by omega) hL1) lk_X3_114 (rcv_al hQ (by omega) hL1) dX3_read_103 ?_
      refine r_icmp_ge 166 hK dX3_read_106 (by omega) (by omega) (fun h106 => ?_) (fun h106 => ?_)
      · omega --!
      · refine r_aload_0 hK dX3_read_109 ?_
        refine r_get hK fl_X3_35 dX3_read_110 (hP) rfl ?_
        refine r_iload_1 hK dX3_read_113 ?_
        refine r_pV1 hK (pa_get hQ (by omega) hL1 hcl) lk_X3_117 (rcv_al hQ (by omega) hL1) dX3_read_114 ?_
        refine r_cast hK cl_X3_121 (Rcv.raw hK.rel hcell rfl) dX3_read_117 ?_
        refine r_get hK fl_X3_123 dX3_read_120 (hcell) rfl ?_
        refine r_iconstN (c := 1) hK dX3_read_123 ?_
        rcases hkd with z | z
        · subst z
          have hk1c : kc = 1 := by rw [hkc, if_pos rfl]
          subst hk1c
          refine r_icmp_ne 145 hK dX3_read_124 (by decide) (by decide) (fun q => absurd rfl q) (fun _ => ?_)
          have hok1 := hok.2.2.2.2.2.2.1 rfl
          refine r_aload_0 hK dX3_read_127 ?_
          refine r_aload_0 hK dX3_read_128 ?_
          refine r_get hK fl_X3_35 dX3_read_129 hP rfl ?_
          refine r_iload_1 hK dX3_read_132 ?_
          refine r_pV1 hK (pa_get hQ (by omega) hL1 hcl) lk_X3_117 (rcv_al hQ (by omega) hL1) dX3_read_133 ?_
          refine r_cast hK cl_X3_121 (Rcv.raw hK.rel hcell rfl) dX3_read_136 ?_
          refine r_fact hK (fun _ hno => ?_)
          have hnn : f1 n1 = none := hno n1 (Nat.le_refl _)
          have enk : nK 21 ((ls.filter (fun x => !p1 x)).take (c + 1)) = nK 21 ((ls.filter (fun x => !p1 x)).take c) + 1 := by rw [take_s hln, nK_app]; rfl
          refine r_callV1 hK (ct_pGate hK.rel hQ hXK hP hT hN (fun x => (nmd_LO hLO).symm) hC hl1 hcell hok (by omega) hq (by omega) hwR) lk_X3_126 (Rcv.raw hK.rel hP rfl) dX3_read_139 (fun r n2 f2 hp2 => ?_) (hu := by omega)
          obtain ⟨rfl, hn2, w', wt', hw', rfl⟩ := hp2
          refine r_goto 160 hK dX3_read_142 ?_
          refine r_incN_1 hK dX3_read_160 ?_
          refine r_goto 98 hK dX3_read_163 ?_
          have hP2 := h2.gate (n := n1) hln hl1 h4 hok1.2.1 hok1.1 (by omega) hnn hw'
          refine ih (c + 1) n2 _ w' wt' (u + 2) (by omega) hP2 (by omega) (fun id h1 h2 => ?_) ?_ (by omega)
          · rw [up_n (by omega), up_n (by omega), up_n (by omega)]; exact hkp id h1 h2
          · obtain ⟨-, -, q3, q4, q5, q6, q7, q8, ni', no', v', q9, q9b⟩ := hpw
            obtain ⟨mn', q3⟩ := q3
            obtain ⟨S', A', B', W', q6⟩ := q6
            exact ⟨hP2.b, hP2.2.2.2.1, ⟨mn', by rw [TKo, up_n (by decide), up_n (by omega), up_n (by decide)]; exact q3⟩, ⟨by rw [up_n (by decide), up_n (by omega), up_n (by decide)]; exact q4.1, by rw [up_n (by decide), up_n (by omega), up_n (by decide)]; exact q4.2⟩, by rw [TKt, up_n (by decide), up_n (by omega), up_n (by decide)]; exact q5, ⟨S', A', B', W', by rw [up_n (by decide), up_n (by omega), up_n (by decide)]; exact q6.1, by rw [up_n (by decide), up_n (by omega), up_n (by decide)]; exact q6.2.1, by rw [up_n (by decide), up_n (by omega), up_n (by decide)]; exact q6.2.2.1, by rw [up_n (by decide), up_n (by omega), up_n (by decide)]; exact q6.2.2.2⟩, hP2.2.2.2.2.2.2.2.1, ⟨_, up_s _ _ _⟩, ni', no', v', ((q9.up (by decide) (by decide)).up (by omega) (by omega)).up (by decide) (by decide), q9b⟩
        · subst z
          have hk3c : kc = 3 := by rw [hkc, if_neg (by decide)]
          subst hk3c
          refine r_icmp_ne 145 hK dX3_read_124 (by decide) (by decide) (fun _ => ?_) (fun q => absurd q (by decide))
          refine r_aload_0 hK dX3_read_145 ?_
          refine r_aload_0 hK dX3_read_146 ?_
          refine r_get hK fl_X3_35 dX3_read_147 hP rfl ?_
          refine r_iload_1 hK dX3_read_150 ?_
          refine r_pV1 hK (pa_get hQ (by omega) hL1 hcl) lk_X3_117 (rcv_al hQ (by omega) hL1) dX3_read_151 ?_
          refine r_cast hK cl_X3_121 (Rcv.raw hK.rel hcell rfl) dX3_read_154 ?_
          have enk : nK 21 ((ls.filter (fun x => !p1 x)).take (c + 1)) = nK 21 ((ls.filter (fun x => !p1 x)).take c) := by rw [take_s hln, nK_app]; rfl
          refine r_callV1 hK (ct_pTells hK.rel hP hT hT1 hcell hok (by omega) hq hwR) lk_X3_130 (Rcv.raw hK.rel hP rfl) dX3_read_157 (fun r n2 f2 hp2 => ?_) (hu := by omega)
          obtain ⟨rfl, rfl, w', wt', hw', rfl⟩ := hp2
          refine r_incN_1 hK dX3_read_160 ?_
          refine r_goto 98 hK dX3_read_163 ?_
          have hP2 := h2.table hln hT1 hT2.2 hw'
          refine ih (c + 1) _ _ w' wt' (u + 0) (by omega) hP2 (by omega) (fun id h1 h2 => ?_) ?_ (by omega)
          · rw [up_n (by omega), up_n (by omega), up_n (by omega)]; exact hkp id h1 h2
          · obtain ⟨-, -, q3, q4, q5, q6, q7, ⟨lg', q8⟩, q9⟩ := hpw
            obtain ⟨mn', q3⟩ := q3
            obtain ⟨S', A', B', W', q6⟩ := q6
            obtain ⟨ni', no', v', q10, q11⟩ := hP2.2.2.2.2.2.2.2.2.2
            exact ⟨hP2.b, hP2.2.2.2.1, ⟨mn', by rw [TKo, up_n (by decide), up_n (by decide), up_n (by decide)]; exact q3⟩, ⟨by rw [up_n (by decide), up_n (by decide), up_n (by decide)]; exact q4.1, by rw [up_n (by decide), up_n (by decide), up_n (by decide)]; exact q4.2⟩, by rw [TKt, up_n (by decide), up_n (by decide), up_n (by decide)]; exact q5, ⟨S', A', B', W', by rw [up_n (by decide), up_n (by decide), up_n (by decide)]; exact q6.1, by rw [up_n (by decide), up_n (by decide), up_n (by decide)]; exact q6.2.1, by rw [up_n (by decide), up_n (by decide), up_n (by decide)]; exact q6.2.2.1, by rw [up_n (by decide), up_n (by decide), up_n (by decide)]; exact q6.2.2.2⟩, hP2.2.2.2.2.2.2.2.1, ⟨lg', by rw [up_n (by decide), up_n (by decide), up_n (by decide)]; exact q8⟩, ni', no', v', q10, q11.2⟩
  -- the first pass
  have lp1 : ∀ (f2 : Hp), KPr n f f2 → PW f2 tp T → f2 312 = some (cLL []) → (∃ no v, CT f2 313 314 0 no v ∧ ∀ x, x < 8 → v x < 10000) → ∀ (m t n1 : Nat) (f1 : Hp) (ls : List (Nat × Nat × Nat)) (l : List Nat) (NL w wt u : Nat), 402 ≤ t + m → PRN f1 X M N t ls l NL w wt → n ≤ n1 → KPn n f2 f1 → 2 * u ≤ 4 * ls.length + NL → pAll X m t (wnL ls).length (nK 21 ls) ls = R → Wx K 81 [some (.ref 310), none] [] n1 f1 u := by
    intro f2 hkp2 hpw2 hll2 hct2 m
    induction m with
    | zero => intro t n1 f1 ls l NL w wt u hm hS; have := hS.2.2.2.2.2.2.2.2.2.2.2.1; omega
    | succ m ih =>
      intro t n1 f1 ls l NL w wt u hm hS hn1 hkn hu hpa
      have hB := hS.b
      obtain ⟨hP, hwR, hT, hF, hN, hPr, hL, hLO, hw4, hg16, htM, h400, hlt⟩ := id hS
      have hs4 := srt_4 (kd := X 2 t)
      have hs6 := srt_lt (kd := X 2 t)
      have hkr : KPr n f f1 := fun id h1 h2 => (hkn id h1 (by omega)).trans (hkp2 id h1 h2)
      have hpw1 : PW f1 tp T := hpw2.of hB hF (fun id h => hkn id (by omega) (by omega))
      have hNL7 := hL.2.2.1
      unfold pAll at hpa
      refine r_aload_0 hK dX3_read_81 ?_
      refine r_xV0 hK hRx (ct_pSort hK.rel hP hT hF htM) lk_X3_80 (Rcv.raw hK.rel hP rfl) dX3_read_82 (fun n2 f3 hx => ?_) (fun r n2 f3 hp => ?_)
      · obtain ⟨x1, rfl, rfl⟩ := hx
        refine ⟨⟨hn1, hpw1.of (hB.upk (by decide)) ⟨_, _, up_s _ _ _⟩ (fun id h => up_n (by omega)), fun id h1 h2 => (up_n (by omega)).trans (hkr id h1 h2), (1, X 3 t), ?_, up_s _ _ _⟩, _, up_s _ _ _⟩
        rw [if_neg (by omega)] at hpa
        have ePL : pLine X t (wnL ls).length (nK 21 ls) = .inl (1, X 3 t) := by unfold pLine; rw [if_pos (by omega)]
        rw [ePL] at hpa
        rw [eS, ← hpa]; rfl
      obtain ⟨hx3, rfl, rfl, rfl⟩ := hp
      refine r_iconstN (c := 4) hK dX3_read_85 ?_
      refine r_icmp_eq 96 hK dX3_read_86 (by omega) (by decide) (fun h86 => ?_) (fun h86 => ?_)
      · have hx0 : X 2 t = 0 := hs4.mp (by omega)
        rw [if_pos hx0] at hpa
        obtain ⟨-, hh2, -, hh4, -⟩ := hT.h4
        have hNt : N = t + 1 := hh4 t htM hx0 h400
        have hLON : LO X N 0 ls := by rw [hNt]; exact LO_end (by omega) hLO
        refine r_iconstN (c := 0) hK dX3_read_96 ?_
        refine r_istore_1 hK dX3_read_97 ?_
        obtain ⟨no2, v2, hct2, hv2⟩ := hct2
        refine lp2 t ls l NL hpa.symm hLO hLON htM (by omega) hw4 hg16 hL.2.2.2.2.2.1 (by have := hL.2.2.2.2.1; omega) l.length 0 _ _ w wt _ (by omega) ⟨hP, by rw [List.take_zero]; show wR (mnW _ (0, 0)) _ _; rw [mnW_0]; exact hwR, hT, hF, hN, hPr, ⟨hL.1, hL.2.1, hL.2.2.1, hL.2.2.2.2.2⟩, (hkn 311 (by omega) (by omega)).trans hpw2.2.2.2.2.2.2.1, ⟨[], (hkn 312 (by omega) (by omega)).trans hll2, ⟨rfl, fun i hi => absurd hi (Nat.not_lt_zero _)⟩⟩, 0, no2, v2, ⟨(hkn 313 (by omega) (by omega)).trans hct2.1, (hkn 314 (by omega) (by omega)).trans hct2.2⟩, ⟨rfl, fun q => absurd rfl q⟩, hv2⟩ hn1 hkr hpw1 (by omega)
      · have hx0 : X 2 t ≠ 0 := fun q => h86 (by rw [hs4.mpr q])
        rw [if_neg hx0] at hpa
        obtain ⟨UU, hUU⟩ : ∃ UU, UU = if (X 2 t = 21 ∨ X 2 t = 23) ∧ 0 < NL ∧ l.length = NL then gwC NL / 12 + 2 else 2 := ⟨_, rfl⟩
        have hlls := hL.2.2.2.2.1
        have hNL1' := hL.2.1
        have hUc : UU = 2 ∨ (X 2 t = 21 ∨ X 2 t = 23) ∧ l.length = NL ∧ 10 ≤ NL ∧ UU = (NL + NL / 2) / 12 + 2 := by
          by_cases c : (X 2 t = 21 ∨ X 2 t = 23) ∧ 0 < NL ∧ l.length = NL
          · rw [if_pos c] at hUU; right; have h10 : 10 ≤ NL := by omega
            rw [gwC_b h10] at hUU; exact ⟨c.1, c.2.2, h10, hUU⟩
          · rw [if_neg c] at hUU; left; exact hUU
        refine r_aload_0 hK dX3_read_89 ?_
        refine r_xV0 hK hRx (ct_pLine (UU := UU) hK.rel hQ hXK (by omega) hS hx0 ⟨by omega, fun z1 z2 z3 => by rw [hUU, if_pos ⟨z1, z2, z3⟩]; exact Nat.le_refl _⟩) lk_X3_111 (Rcv.raw hK.rel hP rfl) dX3_read_90 (fun n2 f3 hx => ?_) (fun r n2 f3 hp => ?_)
        · obtain ⟨⟨e, x1, x2⟩, x3, x4, x5⟩ := hx
          refine ⟨⟨by omega, hpw2.of x4 ⟨_, _, x2⟩ (fun id h => (x5 id (by omega) (by omega)).trans (hkn id (by omega) (by omega))), fun id h1 h2 => (x5 id (by omega) (by omega)).trans (hkr id h1 h2), e, ?_, x2⟩, _, x2⟩
          rw [x1] at hpa
          rw [eS, ← hpa]; rfl
        obtain ⟨rfl, hn2, ⟨t', l', NL', w', wt', x1, hS', hNL⟩, hk'⟩ := hp
        refine r_goto 81 hK dX3_read_93 ?_
        rw [x1] at hpa
        have hlt' := hS'.2.2.2.2.2.2.2.1
        obtain ⟨z1, -⟩ := ln_ok hT htM h400 x1 hLO
        refine ih t' n2 f3 _ l' NL' w' wt' _ (by omega) hS' (by omega) (hkn.tr hk' hn1) ?_ ?_
        · rw [List.length_append]
          show 2 * (u + UU) ≤ 4 * (ls.length + 1) + NL'
          rcases hNL with ⟨z2, z3⟩ | ⟨z2, z3⟩
          · rcases hUc with z4 | ⟨z4, z5, z6, z7⟩
            · omega
            · have := z3 z4; omega
          · rcases hNL1' with z8 | z8
            · rw [z8] at z3; have : gwC 0 = 10 := rfl; omega
            · rw [gwC_b z8] at z3; omega
        · rw [wnL_s, nK_app]
          have e1 : (if X 2 t = 20 then wnL ls ++ [t + 1] else wnL ls).length = if X 2 t = 20 then (wnL ls).length + 1 else (wnL ls).length := by split <;> simp
          have e2 : nK 21 ls + (if X 2 t = 21 then 1 else 0) = if X 2 t = 21 then nK 21 ls + 1 else nK 21 ls := by split <;> rfl
          rw [e1]
          show pAll X m t' _ (nK 21 ls + (if X 2 t = 21 then 1 else 0)) _ = R
          rw [e2]; exact hpa
  refine r_aload_0 hK dX3_read_0 ?_
  refine r_get hK fl_X3_39 dX3_read_1 (hP0) rfl ?_
  refine r_callV0 hK (ct_kRead hK.rel hXK hO0 hTw hTt hT2 htp hTa) lk_X3_90 (Rcv.raw hK.rel hO0 rfl) dX3_read_4 (fun r n1 g hp => ?_)
  obtain ⟨rfl, rfl, ⟨S, A, B, W, k1, k2, k3⟩, k4⟩ := hp
  have hTF : TF g X M N := ⟨tp, T, S, A, B, W, hXe, hMe, hNe, htp, hT2, hMb.2, by rw [hMe]; exact k1, (k4 305 (by omega)).trans hTt, k2, k3⟩
  have hP1 : g 310 = some (pC nw0 t0 ng0 w0 wt0) := (k4 310 (by omega)).trans hP0
  have hC1 : g 311 = some (.inl (4, [.ref 312])) := (k4 311 (by omega)).trans hC0
  have hLL1 : g 312 = some (cLL lg0) := (k4 312 (by omega)).trans hLL0
  have hCT1 : CT g 313 314 ni0 no0 v0 := ⟨(k4 313 (by omega)).trans hCT0.1, (k4 314 (by omega)).trans hCT0.2⟩
  have hPr1 : g 315 = some (.inr (0, 4, hp0)) := (k4 315 (by omega)).trans hPr0
  have hNm1 : g 316 = some (.inr (0, 4, hm0)) := (k4 316 (by omega)).trans hNm0
  have hL1 : g 317 = some (cAL NL0 l0) := (k4 317 (by omega)).trans hL0
  have hF1 : FA g := by obtain ⟨a, b, q⟩ := hF0; exact ⟨a, b, (k4 301 (by omega)).trans q⟩
  refine r_aload_0 hK dX3_read_7 ?_
  refine r_get hK fl_X3_12 dX3_read_8 (hP1) rfl ?_
  refine r_get hK fl_X3_93 dX3_read_11 (hC1) rfl ?_
  refine r_callV0 hK (pl_clear hQ hLL1) lk_X3_97 (rcv_ll hQ hLL1) dX3_read_14 (fun r n2 g2 hp => ?_)
  obtain ⟨rfl, rfl, rfl⟩ := hp
  refine r_aload_0 hK dX3_read_17 ?_
  refine r_get hK fl_X3_21 dX3_read_18 ((up_n (by decide)).trans hP1) rfl ?_
  refine r_iconstN (c := 0) hK dX3_read_21 ?_
  refine r_put hK fl_X3_102 dX3_read_22 ((up_n (by decide)).trans hCT1.1) (by simp) ?_
  refine r_aload_0 hK dX3_read_25 ?_
  refine r_iconstN (c := 0) hK dX3_read_26 ?_
  refine r_put hK fl_X3_105 dX3_read_27 ((up_n (by decide)).trans ((up_n (by decide)).trans hP1)) (by simp) ?_
  refine r_aload_0 hK dX3_read_30 ?_
  refine r_iconstN (c := 0) hK dX3_read_31 ?_
  refine r_put hK fl_X3_108 dX3_read_32 (up_s _ _ _) (by simp) ?_
  refine r_aload_0 hK dX3_read_35 ?_
  rw [up_up]
  refine r_get hK fl_X3_25 dX3_read_36 (up_s _ _ _) rfl ?_
  refine r_iconstN (c := 0) hK dX3_read_39 ?_
  refine r_iconstN (c := 1) hK dX3_read_40 ?_
  refine r_iast (N := 4) (g := hp0) hK dX3_read_41 (show _ = _ from by rw [up_n (by decide), up_n (by decide), up_n (by decide)]; exact hPr1) (by decide) ?_
  refine r_aload_0 hK dX3_read_42 ?_
  refine r_get hK fl_X3_25 dX3_read_43 ((up_n (by decide)).trans (up_s _ _ _)) rfl ?_
  refine r_iconstN (c := 1) hK dX3_read_46 ?_
  refine r_iconstN (c := 1) hK dX3_read_47 ?_
  refine r_iast hK dX3_read_48 (up_s _ _ _) (by decide) ?_
  rw [up_up]
  refine r_aload_0 hK dX3_read_49 ?_
  refine r_get hK fl_X3_25 dX3_read_50 ((up_n (by decide)).trans (up_s _ _ _)) rfl ?_
  refine r_iconstN (c := 2) hK dX3_read_53 ?_
  refine r_iconstN (c := 5) hK dX3_read_54 ?_
  refine r_iast hK dX3_read_55 (up_s _ _ _) (by decide) ?_
  rw [up_up]
  refine r_aload_0 hK dX3_read_56 ?_
  refine r_get hK fl_X3_25 dX3_read_57 ((up_n (by decide)).trans (up_s _ _ _)) rfl ?_
  refine r_iconstN (c := 3) hK dX3_read_60 ?_
  refine r_bipushN (c := 13) hK dX3_read_61 ?_
  refine r_iast hK dX3_read_63 (up_s _ _ _) (by decide) ?_
  rw [up_up]
  refine r_aload_0 hK dX3_read_64 ?_
  refine r_get hK fl_X3_35 dX3_read_65 ((up_n (by decide)).trans (up_s _ _ _)) rfl ?_
  have hL2 : ∀ a b c e, up (up (up (up g 312 a) 313 b) 310 c) 315 e 317 = some (cAL NL0 l0) := fun a b c e => by rw [up_n (by decide), up_n (by decide), up_n (by decide), up_n (by decide)]; exact hL1
  refine r_callV0 hK (pa_clear hQ (by omega) (hL2 _ _ _ _)) lk_X3_110 (rcv_al hQ (by omega) (hL2 _ _ _ _)) dX3_read_68 (fun r n2 g2 hp => ?_)
  obtain ⟨rfl, rfl, rfl⟩ := hp
  refine r_aload_0 hK dX3_read_71 ?_
  refine r_iconstN (c := 0) hK dX3_read_72 ?_
  refine r_put hK fl_X3_59 dX3_read_73 ((up_n (by decide)).trans ((up_n (by decide)).trans (up_s _ _ _))) (by simp) ?_
  refine r_aload_0 hK dX3_read_76 ?_
  refine r_iconstN (c := 0) hK dX3_read_77 ?_
  refine r_put hK fl_X3_66 dX3_read_78 (up_s _ _ _) (by simp) ?_
  rw [up_up]
  refine lp1 _ ?_ ?_ ?_ ⟨no0, v0, ⟨?_, ?_⟩, hv0⟩ 402 0 _ _ [] [] NL0 0 wt0 _ (by decide) ⟨up_s _ _ _, ⟨rfl, fun q => absurd rfl q, by decide, fun q => absurd rfl q⟩, ?_, ?_, ⟨by decide, fun j hj => absurd hj List.not_mem_nil, hm0, ?_, fun i hi => absurd hi (Nat.not_lt_zero _)⟩, ?_, ⟨?_, hNL1, hNL2, Nat.zero_le _, Nat.le_refl _, rfl, fun i hi => absurd hi (Nat.not_lt_zero _)⟩, fun j _ h => absurd h (Nat.not_lt_zero _), by decide, by decide, hMb.1, by decide, Nat.le_refl _⟩ (Nat.le_refl _) (KPn.rf _ _) (by omega) hRe.symm
  · intro id h1 h2
    rw [up_n (by omega), up_n (by omega), up_n (by omega), up_n (by omega), up_n (by omega), up_n (by omega)]
    exact k4 id (by omega)
  · refine ⟨⟨⟨_, _, _, _, _, up_s _ _ _⟩, ⟨_, (up_n (by decide)).trans ((up_n (by decide)).trans (up_s _ _ _))⟩, ⟨hm0, ?_⟩, NL0, [], (up_n (by decide)).trans (up_s _ _ _), hNL1, hNL2⟩, ?_, ⟨(cutB (lex tp T)).length, ?_⟩, ⟨?_, ?_⟩, ?_, ⟨S, A, B, W, ?_, ?_, ?_, ?_⟩, ?_, ⟨[], ?_⟩, 0, no0, v0, ⟨?_, ?_⟩, hv0⟩
    · rw [up_n (by decide), up_n (by decide), up_n (by decide), up_n (by decide), up_n (by decide), up_n (by decide)]; exact hNm1
    · exact (((((hF1.up (by decide)).up (by decide)).up (by decide)).up (by decide)).up (by decide)).up (by decide)
    · show up _ _ _ 302 = _; rw [up_n (by decide), up_n (by decide), up_n (by decide), up_n (by decide), up_n (by decide), up_n (by decide)]; exact k1
    · rw [up_n (by decide), up_n (by decide), up_n (by decide), up_n (by decide), up_n (by decide), up_n (by decide)]; exact (k4 304 (by omega)).trans hTw.1
    · rw [up_n (by decide), up_n (by decide), up_n (by decide), up_n (by decide), up_n (by decide), up_n (by decide)]; exact (k4 303 (by omega)).trans hTw.2
    · show up _ _ _ 305 = _; rw [up_n (by decide), up_n (by decide), up_n (by decide), up_n (by decide), up_n (by decide), up_n (by decide)]; exact (k4 305 (by omega)).trans hTt
    · rw [up_n (by decide), up_n (by decide), up_n (by decide), up_n (by decide), up_n (by decide), up_n (by decide)]; exact k2.1
    · rw [up_n (by decide), up_n (by decide), up_n (by decide), up_n (by decide), up_n (by decide), up_n (by decide)]; exact k2.2.1
    · rw [up_n (by decide), up_n (by decide), up_n (by decide), up_n (by decide), up_n (by decide), up_n (by decide)]; exact k2.2.2.1
    · rw [up_n (by decide), up_n (by decide), up_n (by decide), up_n (by decide), up_n (by decide), up_n (by decide)]; exact k2.2.2.2
    · rw [up_n (by decide), up_n (by decide), up_n (by decide), up_n (by decide), up_n (by decide), up_n (by decide)]; exact hC1
    · rw [up_n (by decide), up_n (by decide), up_n (by decide), up_n (by decide), up_n (by decide), up_s]
    · rw [up_n (by decide), up_n (by decide), up_n (by decide), up_n (by decide), up_s]; rfl
    · rw [up_n (by decide), up_n (by decide), up_n (by decide), up_n (by decide), up_n (by decide), up_n (by decide)]; exact hCT1.2
  · rw [up_n (by decide), up_n (by decide), up_n (by decide), up_n (by decide), up_n (by decide), up_s]
  · rw [up_n (by decide), up_n (by decide), up_n (by decide), up_n (by decide), up_s]; rfl
  · rw [up_n (by decide), up_n (by decide), up_n (by decide), up_n (by decide), up_n (by decide), up_n (by decide)]; exact hCT1.2
  · exact (((((hTF.up (by decide)).up (by decide)).up (by decide)).up (by decide)).up (by decide)).up (by decide)
  · exact (((((hF1.up (by decide)).up (by decide)).up (by decide)).up (by decide)).up (by decide)).up (by decide)
  · rw [up_n (by decide), up_n (by decide), up_n (by decide), up_n (by decide), up_n (by decide), up_n (by decide)]; exact hNm1
  · refine ⟨_, (up_n (by decide)).trans ((up_n (by decide)).trans (up_s _ _ _)), ?_⟩
    intro i hi
    have h4 : i = 0 ∨ i = 1 ∨ i = 2 ∨ i = 3 := by omega
    rcases h4 with e | e | e | e <;> subst e <;> rfl
  · exact (up_n (by decide)).trans (up_s _ _ _)
