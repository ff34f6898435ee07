set_option maxRecDepth 100000
/-! ===== the reference: reading a text ===== -/
theorem nK_app (kd : Nat) (l : Nat × Nat × Nat) : ∀ a, nK kd (a ++ [l]) = nK kd a + if l.1 = kd then 1 else 0
  | [] => by show (if l.1 = kd then 1 else 0) + 0 = 0 + _; omega
  | x :: a => by
    show (if x.1 = kd then 1 else 0) + nK kd (a ++ [l]) = (if x.1 = kd then 1 else 0) + nK kd a + _
    rw [nK_app kd l a]; omega
/-- what stays, whatever is read -/
def RdC (F : Nat → Nat) (A : Nat → Nat → Nat) (F' : Nat → Nat) (A' : Nat → Nat → Nat) : Prop := (∀ j, (j = 0 ∨ j = 1 ∨ j = 3 ∨ 5 ≤ j ∧ j ≤ 9 ∨ 16 ≤ j ∧ j ≤ 21 ∨ j = 24 ∨ 27 ≤ j) → F' j = F j) ∧ F' 2 = 0 ∧ (∀ a, (a = 0 ∨ 6 ≤ a ∧ a ≤ 8 ∨ a = 11 ∨ 13 ≤ a) → A' a = A a) ∧ ∀ i, A' 1 i < 256
/-- what reading leaves -/
def RdP (F : Nat → Nat) (A : Nat → Nat → Nat) (r : Sum (Nat × Nat) (Nat × MS)) (z : Int) (F' : Nat → Nat) (A' : Nat → Nat → Nat) : Prop := (∀ j, (j = 0 ∨ j = 1 ∨ j = 3 ∨ 5 ≤ j ∧ j ≤ 9 ∨ j = 18 ∨ j = 21 ∨ j = 24 ∨ 27 ≤ j ∧ j ≤ 31 ∨ 33 ≤ j) → F' j = F j) ∧ F' 2 = 0 ∧ (∀ a, (a = 0 ∨ a = 6 ∨ a = 13 ∨ a = 14 ∨ 16 ≤ a) → A' a = A a) ∧ (∀ i, A' 1 i < 256) ∧ match r with
  | .inl e => z = (e.1 : Int) ∧ F' 16 = e.2 ∧ e.2 ≤ 2000 ∧ (1 ≤ e.1 ∧ e.1 ≤ 6) ∧ F' 17 = F 17 ∧ F' 19 = F 19 ∧ F' 20 = F 20 ∧ F' 32 = F 32 ∧ A' 7 = A 7 ∧ A' 8 = A 8 ∧ A' 11 = A 11 ∧ A' 15 = A 15
  | .inr q => z = 0 ∧ F' 16 = 999999999 ∧ F' 17 = q.1 ∧ q.1 ≤ 4 ∧ MsOK q.1 q.2 ∧ F' 19 = q.2.2.2.1.1 ∧ F' 20 = q.2.2.2.1.2.1 ∧ F' 32 = 0 ∧ (∀ i, i < 4 → A' 7 i = q.2.2.1 i) ∧ (∀ x, x < q.2.2.2.1.2.2.1 → A' 8 x = q.2.2.2.1.2.2.2 x) ∧ GA (A' 11) q.2.2.2.2 ∧ ∀ i, i < 3 → A' 15 i = 0
set_option maxHeartbeats 4000000 in
theorem ct_read {G : GT} {Rel : Nat → Hp → Hp → Prop} (hR : RelOK Rel) {n : Nat} {f0 : Hp} {F : Nat → Nat} {A : Nat → Nat → Nat} (h2 : F 2 ≤ 2000) (hT0 : ∀ i, A 0 i < 256) (hT1 : ∀ i, A 1 i < 256) (hky : ∀ k, k < 4 → A 6 k = keyN k) : Ct G Rel yX9_read cX9_read 2 (some .int) (6) (0) [.ref 358] n (tw f0 F A) (Ti n f0 (RdP F A (rdS (F 2) (A 0)))) := by
  refine ct_intro [some (.ref 358), none] hR rfl (Nat.le_of_ble_eq_true rfl) ?_
  intro K hG hRel hK hRt hnm
  obtain ⟨n2, hn2⟩ : ∃ n2, n2 = F 2 := ⟨_, rfl⟩
  obtain ⟨X, hX⟩ : ∃ X, X = tkX (F 2) (A 0) := ⟨_, rfl⟩
  obtain ⟨N, hN⟩ : ∃ N, N = tkN (F 2) (A 0) := ⟨_, rfl⟩
  have hNb : 1 ≤ N ∧ N ≤ 401 ∧ N ≤ (lex (F 2) (A 0)).length := by
    have := lex_len (F 2) (A 0)
    rw [hN]; unfold tkN; omega
  obtain ⟨R, hR'⟩ : ∃ R, R = pAll X 402 0 0 0 [] := ⟨_, rfl⟩
  have eS : rdS (F 2) (A 0) = rdR X N R := by rw [hR', hX, hN]; rfl
  have hX3 : ∀ k, X 3 k ≤ 2000 := fun k => by rw [hX]; exact (tkX_bd _ _ h2 k).2.1
  have h4 : X 2 (N - 1) = 0 ∨ N = 401 := by
    have := lex_len (F 2) (A 0)
    by_cases c : N = 401
    · exact Or.inr c
    · refine Or.inl ?_
      rw [hX]; exact tkX_last.mpr (by rw [hN] at c ⊢; unfold tkN at c ⊢; omega)
  have hlast : ∀ t, t < N → X 2 t = 0 → t = N - 1 := fun t ht h => by
    rw [hX] at h
    have := tkX_last.mp h
    omega
  have fF : ∀ (F1 : Nat → Nat) (A1 : Nat → Nat → Nat) (e : Nat × Nat) a1, RdC F A F1 A1 → F1 12 = e.1 → (1 ≤ e.1 ∧ e.1 ≤ 2) → F1 13 = e.2 → e.2 ≤ 2000 → R = .inl e → Wx K 103 [some (.ref 358), a1] [] n (tw f0 F1 A1) 0 := by
    intro F1 A1 e a1 hC f12 he f13 he2 hRe
    have eS : rdS (F 2) (A 0) = .inl e := by rw [eS, hRe]; rfl
    refine r_aload_0 hK dX9_read_103 ?_
    refine r_aload_0 hK dX9_read_104 ?_
    refine r_get hK fl_X9_165 dX9_read_105 tw_obj rfl ?_
    refine r_if_le 118 hK dX9_read_108 (by omega) (fun h108 => ?_) (fun h108 => ?_)
    · exact absurd h108 (by omega)
    · refine r_aload_0 hK dX9_read_111 ?_
      refine r_get hK fl_X9_171 dX9_read_112 tw_obj rfl ?_
      refine r_goto 133 hK dX9_read_115 ?_
      rw [← dz_n (show F1 13 < 999999999 by omega)]
      refine t_putz hK fl_X9_37 dX9_read_133 ?_
      refine r_aload_0 hK dX9_read_136 ?_
      refine r_get hK fl_X9_165 dX9_read_137 tw_obj rfl ?_
      rw [upF_n (by decide)]
      refine r_if_le 148 hK dX9_read_140 (by omega) (fun h140 => ?_) (fun h140 => ?_)
      · exact absurd h140 (by omega)
      · refine r_aload_0 hK dX9_read_143 ?_
        refine r_get hK fl_X9_165 dX9_read_144 tw_obj rfl ?_
        rw [upF_n (by decide)]
        refine r_iret hK hRt dX9_read_147 ⟨_, rfl, rfl, _, _, rfl, ?_⟩
        rw [eS]
        refine ⟨fun j hj => by rw [upF_n (by omega)]; exact hC.1 j (by omega), by rw [upF_n (by decide)]; exact hC.2.1, fun a ha => hC.2.2.1 a (by omega), hC.2.2.2, by rw [f12], by rw [upF_s]; exact f13, he2, by omega, by rw [upF_n (by decide)]; exact hC.1 17 (by omega), by rw [upF_n (by decide)]; exact hC.1 19 (by omega), by rw [upF_n (by decide)]; exact hC.1 20 (by omega), by rw [upF_n (by decide)]; exact hC.1 32 (by omega), hC.2.2.1 7 (by omega), hC.2.2.1 8 (by omega), hC.2.2.1 11 (by omega), hC.2.2.1 15 (by omega)⟩
  have fW : ∀ (F1 : Nat → Nat) (A1 : Nat → Nat → Nat) (ls : List (Nat × Nat × Nat)) a1, RdC F A F1 A1 → F1 12 = 0 → WR X N F1 (mean X N ls).1 → (mean X N ls).1.1 ≠ 0 → R = .inr ls → Wx K 103 [some (.ref 358), a1] [] n (tw f0 F1 A1) 0 := by
    intro F1 A1 ls a1 hC f12 hW hne hRe
    have eS : rdS (F 2) (A 0) = .inl ((mean X N ls).1.1, X 3 (mean X N ls).1.2) := by rw [eS, hRe]; exact if_pos hne
    obtain ⟨w1, w2, w3⟩ := hW
    obtain ⟨w4, w5⟩ := w3 hne
    have hp := hX3 (mean X N ls).1.2
    refine r_aload_0 hK dX9_read_103 ?_
    refine r_aload_0 hK dX9_read_104 ?_
    refine r_get hK fl_X9_165 dX9_read_105 tw_obj rfl ?_
    refine r_if_le 118 hK dX9_read_108 (by omega) (fun h108 => ?_) (fun h108 => ?_)
    · refine r_aload_0 hK dX9_read_118 ?_
      refine r_get hK fl_X9_174 dX9_read_119 tw_obj rfl ?_
      refine r_if_le 132 hK dX9_read_122 (by omega) (fun h122 => ?_) (fun h122 => ?_)
      · exact absurd h122 (by omega)
      · refine r_aload_0 hK dX9_read_125 ?_
        refine r_get hK fl_X9_177 dX9_read_126 tw_obj rfl ?_
        refine r_goto 133 hK dX9_read_129 ?_
        rw [← dz_n (show F1 15 < 999999999 by omega)]
        refine t_putz hK fl_X9_37 dX9_read_133 ?_
        refine r_aload_0 hK dX9_read_136 ?_
        refine r_get hK fl_X9_165 dX9_read_137 tw_obj rfl ?_
        rw [upF_n (by decide)]
        refine r_if_le 148 hK dX9_read_140 (by omega) (fun h140 => ?_) (fun h140 => ?_)
        · refine r_aload_0 hK dX9_read_148 ?_
          refine r_get hK fl_X9_174 dX9_read_149 tw_obj rfl ?_
          rw [upF_n (by decide)]
          refine r_if_le 160 hK dX9_read_152 (by omega) (fun h152 => ?_) (fun h152 => ?_)
          · exact absurd h152 (by omega)
          · refine r_aload_0 hK dX9_read_155 ?_
            refine r_get hK fl_X9_174 dX9_read_156 tw_obj rfl ?_
            rw [upF_n (by decide)]
            refine r_iret hK hRt dX9_read_159 ⟨_, rfl, rfl, _, _, rfl, ?_⟩
            rw [eS]
            refine ⟨fun j hj => by rw [upF_n (by omega)]; exact hC.1 j (by omega), by rw [upF_n (by decide)]; exact hC.2.1, fun a ha => hC.2.2.1 a (by omega), hC.2.2.2, by rw [w1], by rw [upF_s]; exact w4, hp, by omega, by rw [upF_n (by decide)]; exact hC.1 17 (by omega), by rw [upF_n (by decide)]; exact hC.1 19 (by omega), by rw [upF_n (by decide)]; exact hC.1 20 (by omega), by rw [upF_n (by decide)]; exact hC.1 32 (by omega), hC.2.2.1 7 (by omega), hC.2.2.1 8 (by omega), hC.2.2.1 11 (by omega), hC.2.2.1 15 (by omega)⟩
        · exact absurd h140 (by omega)
    · exact absurd h108 (by omega)
  -- a text that is well
  have fG : ∀ (F1 : Nat → Nat) (A1 : Nat → Nat → Nat) (ls : List (Nat × Nat × Nat)) a1, RdC F A F1 A1 → F1 12 = 0 → MR X N F1 A1 (mean X N ls) F1 A1 → (mean X N ls).1.1 = 0 → R = .inr ls → LO X N 0 ls → nK 20 ls ≤ 4 → F1 22 = nK 20 ls → Wx K 103 [some (.ref 358), a1] [] n (tw f0 F1 A1) 0 := by
    intro F1 A1 ls a1 hC f12 hM h0 hRe hL hw4 f22
    have eS : rdS (F 2) (A 0) = .inr (nK 20 ls, mean X N ls) := by rw [eS, hRe]; exact if_neg (fun q => q h0)
    have hOK := mean_ok hL h0
    obtain ⟨s, hs⟩ : ∃ s, s = mean X N ls := ⟨_, rfl⟩
    rw [← hs] at hOK eS hM h0
    obtain ⟨o1, o2, o3⟩ := hOK
    obtain ⟨m1, m2, ⟨m3, m3'⟩, m4, m5, m6, m7, m8⟩ := hM
    have many8 : s.2.2.1.2.2.1 ≤ 8 := by
      rcases o3 with q | q
      · omega
      · rw [q.2.2.1]; exact rN_le (k := 3) q.1.2
    have hfr : ∀ i, i < 49 → A1 12 i < 999999999 := by
      intro i hi
      have hl16 := m7.2.1
      by_cases i0 : i = 0
      · rw [i0, m7.1]; omega
      · have sp : ∀ g, g < 16 → A1 12 (1 + g) < 999999999 ∧ A1 12 (17 + g) < 999999999 ∧ A1 12 (33 + g) < 999999999 := by
          intro g hg
          by_cases cg : g < s.2.2.2.length
          · have := gok_s (gok4 hw4 (m7.ok o1 cg))
            have q1 : A1 12 (1 + g) < 4 := this.1
            have q2 : A1 12 (17 + g) < 16 := this.2.1
            have q3 : A1 12 (33 + g) < 16 := this.2.2
            omega
          · have := m8 g (by omega) hg
            omega
        by_cases i1 : i < 17
        · have := (sp (i - 1) (by omega)).1; rwa [show 1 + (i - 1) = i by omega] at this
        · by_cases i2 : i < 33
          · have := (sp (i - 17) (by omega)).2.1; rwa [show 17 + (i - 17) = i by omega] at this
          · have := (sp (i - 33) (by omega)).2.2; rwa [show 33 + (i - 33) = i by omega] at this
    -- the last loop
    have l4 : ∀ (m c : Nat) (F2 : Nat → Nat) (A2 : Nat → Nat → Nat), c + m = 3 → (∀ z A', (∀ a, a ≠ 15 → A' a = A2 a) → (∀ i, i < 3 → A' 15 i = 0) → z = 0 → RdP F A (.inr (nK 20 ls, s)) z F2 A') → (∀ i, i < c → A2 15 i = 0) → Wx K 268 [some (.ref 358), some (zI (c : Int))] [] n (tw f0 F2 A2) 0 := by
      intro m
      induction m with
      | zero =>
        intro c F2 A2 hc hP hz
        refine r_iload_1 hK dX9_read_268 ?_
        refine r_iconstN (c := 3) hK dX9_read_269 ?_
        refine r_icmp_ge 286 hK dX9_read_270 (by omega) (by omega) (fun h270 => ?_) (fun h270 => ?_)
        · refine r_iconstN (c := 0) hK dX9_read_286 ?_
          refine r_iret hK hRt dX9_read_287 ⟨_, rfl, rfl, _, _, rfl, ?_⟩
          rw [eS]
          exact hP _ A2 (fun _ _ => rfl) (fun i hi => hz i (by omega)) rfl
        · exact absurd h270 (by omega)
      | succ m ih =>
        intro c F2 A2 hc hP hz
        refine r_iload_1 hK dX9_read_268 ?_
        refine r_iconstN (c := 3) hK dX9_read_269 ?_
        refine r_icmp_ge 286 hK dX9_read_270 (by omega) (by omega) (fun h270 => ?_) (fun h270 => ?_)
        · exact absurd h270 (by omega)
        · refine r_aload_0 hK dX9_read_273 ?_
          refine r_get hK fl_X9_64 dX9_read_274 tw_obj rfl ?_
          refine r_iload_1 hK dX9_read_277 ?_
          refine r_iconstN (c := 0) hK dX9_read_278 ?_
          refine t_zst hK dX9_read_279 (show _ < 3 by omega) (by decide) ?_
          first | refine r_incN_1 hK dX9_read_280 ?_ | refine r_iinc_1 hK dX9_read_280 ?_
          refine r_goto 268 hK dX9_read_283 ?_
          refine ih (c + 1) F2 _ (by omega) (fun z A' q1 q2 q3 => hP z A' (fun a ha => by rw [q1 a ha, upA_j ha]) q2 q3) (fun i hi => ?_)
          by_cases ci : i = c
          · rw [ci, upA_s]
          · rw [upA_n ci]; exact hz i (by omega)
    have l3 : ∀ (m c : Nat) (F2 : Nat → Nat) (A2 : Nat → Nat → Nat), c + m = 49 → A2 12 = A1 12 → (∀ z A', (∀ a, a ≠ 11 → a ≠ 15 → A' a = A2 a) → (∀ i, i < 49 → A' 11 i = A1 12 i) → (∀ i, i < 3 → A' 15 i = 0) → z = 0 → RdP F A (.inr (nK 20 ls, s)) z (upF F2 32 0) A') → (∀ i, i < c → A2 11 i = A1 12 i) → Wx K 237 [some (.ref 358), some (zI (c : Int))] [] n (tw f0 F2 A2) 0 := by
      intro m
      induction m with
      | zero =>
        intro c F2 A2 hc h12 hP hz
        refine r_iload_1 hK dX9_read_237 ?_
        refine r_bipushN (c := 49) hK dX9_read_238 ?_
        refine r_icmp_ge 261 hK dX9_read_240 (by omega) (by omega) (fun h240 => ?_) (fun h240 => ?_)
        · refine r_aload_0 hK dX9_read_261 ?_
          refine r_iconstN (c := 0) hK dX9_read_262 ?_
          refine t_put hK fl_X9_218 dX9_read_263 ?_
          refine r_iconstN (c := 0) hK dX9_read_266 ?_
          refine r_istore_1 hK dX9_read_267 ?_
          refine l4 3 0 _ A2 rfl (fun z A' q1 q2 q3 => hP z A' (fun a _ ha => q1 a ha) (fun i hi => by rw [q1 11 (by decide)]; exact hz i (by omega)) q2 q3) (fun i hi => absurd hi (Nat.not_lt_zero _))
        · exact absurd h240 (by omega)
      | succ m ih =>
        intro c F2 A2 hc h12 hP hz
        have hv := hfr c (by omega)
        refine r_iload_1 hK dX9_read_237 ?_
        refine r_bipushN (c := 49) hK dX9_read_238 ?_
        refine r_icmp_ge 261 hK dX9_read_240 (by omega) (by omega) (fun h240 => ?_) (fun h240 => ?_)
        · exact absurd h240 (by omega)
        · refine r_aload_0 hK dX9_read_243 ?_
          refine r_get hK fl_X9_52 dX9_read_244 tw_obj rfl ?_
          refine r_iload_1 hK dX9_read_247 ?_
          refine r_aload_0 hK dX9_read_248 ?_
          refine r_get hK fl_X9_55 dX9_read_249 tw_obj rfl ?_
          refine r_iload_1 hK dX9_read_252 ?_
          refine t_fld hK dX9_read_253 (by omega) ?_
          rw [h12, dz_n hv]
          refine t_ist hK dX9_read_254 (show _ < 49 by omega) ?_
          first | refine r_incN_1 hK dX9_read_255 ?_ | refine r_iinc_1 hK dX9_read_255 ?_
          refine r_goto 237 hK dX9_read_258 ?_
          refine ih (c + 1) F2 _ (by omega) (by rw [upA_j (by decide)]; exact h12) (fun z A' q1 q2 q3 q4 => hP z A' (fun a ha hb => by rw [q1 a ha hb, upA_j ha]) q2 q3 q4) (fun i hi => ?_)
          by_cases ci : i = c
          · rw [ci, upA_s]
          · rw [upA_n ci]; exact hz i (by omega)
    have l2 : ∀ (m c : Nat) (F2 : Nat → Nat) (A2 : Nat → Nat → Nat), c + m = 8 → A2 12 = A1 12 → A2 10 = A1 10 → (∀ z A', (∀ a, a ≠ 8 → a ≠ 11 → a ≠ 15 → A' a = A2 a) → (∀ i, i < 8 → A' 8 i = A1 10 i) → (∀ i, i < 49 → A' 11 i = A1 12 i) → (∀ i, i < 3 → A' 15 i = 0) → z = 0 → RdP F A (.inr (nK 20 ls, s)) z (upF F2 32 0) A') → (∀ i, i < c → A2 8 i = A1 10 i) → Wx K 211 [some (.ref 358), some (zI (c : Int))] [] n (tw f0 F2 A2) 0 := by
      intro m
      induction m with
      | zero =>
        intro c F2 A2 hc h12 h10 hP hz
        refine r_iload_1 hK dX9_read_211 ?_
        refine r_bipushN (c := 8) hK dX9_read_212 ?_
        refine r_icmp_ge 235 hK dX9_read_214 (by omega) (by omega) (fun h214 => ?_) (fun h214 => ?_)
        · refine r_iconstN (c := 0) hK dX9_read_235 ?_
          refine r_istore_1 hK dX9_read_236 ?_
          refine l3 49 0 F2 A2 rfl h12 (fun z A' q1 q2 q3 q4 => hP z A' (fun a _ ha hb => q1 a ha hb) (fun i hi => by rw [q1 8 (by decide) (by decide)]; exact hz i (by omega)) q2 q3 q4) (fun i hi => absurd hi (Nat.not_lt_zero _))
        · exact absurd h214 (by omega)
      | succ m ih =>
        intro c F2 A2 hc h12 h10 hP hz
        refine r_iload_1 hK dX9_read_211 ?_
        refine r_bipushN (c := 8) hK dX9_read_212 ?_
        refine r_icmp_ge 235 hK dX9_read_214 (by omega) (by omega) (fun h214 => ?_) (fun h214 => ?_)
        · exact absurd h214 (by omega)
        · refine r_aload_0 hK dX9_read_217 ?_
          refine r_get hK fl_X9_43 dX9_read_218 tw_obj rfl ?_
          refine r_iload_1 hK dX9_read_221 ?_
          refine r_aload_0 hK dX9_read_222 ?_
          refine r_get hK fl_X9_49 dX9_read_223 tw_obj rfl ?_
          refine r_iload_1 hK dX9_read_226 ?_
          refine t_ild hK dX9_read_227 (show _ < 8 by omega) ?_
          refine t_ist hK dX9_read_228 (show _ < 8 by omega) ?_
          first | refine r_incN_1 hK dX9_read_229 ?_ | refine r_iinc_1 hK dX9_read_229 ?_
          refine r_goto 211 hK dX9_read_232 ?_
          refine ih (c + 1) F2 _ (by omega) (by rw [upA_j (by decide)]; exact h12) (by rw [upA_j (by decide)]; exact h10) (fun z A' q1 q2 q3 q4 q5 => hP z A' (fun a ha hb hc => by rw [q1 a ha hb hc, upA_j ha]) q2 q3 q4 q5) (fun i hi => ?_)
          by_cases ci : i = c
          · rw [ci, upA_s, h10]
          · rw [upA_n ci]; exact hz i (by omega)
    have l1 : ∀ (m c : Nat) (F2 : Nat → Nat) (A2 : Nat → Nat → Nat), c + m = 4 → A2 12 = A1 12 → A2 10 = A1 10 → A2 9 = A1 9 → F2 25 = s.2.2.1.1 → F2 26 = s.2.2.1.2.1 → (∀ z A', (∀ a, a ≠ 7 → a ≠ 8 → a ≠ 11 → a ≠ 15 → A' a = A2 a) → (∀ i, i < 4 → A' 7 i = A1 9 i) → (∀ i, i < 8 → A' 8 i = A1 10 i) → (∀ i, i < 49 → A' 11 i = A1 12 i) → (∀ i, i < 3 → A' 15 i = 0) → z = 0 → RdP F A (.inr (nK 20 ls, s)) z (upF (upF (upF F2 19 s.2.2.1.1) 20 s.2.2.1.2.1) 32 0) A') → (∀ i, i < c → A2 7 i = A1 9 i) → Wx K 170 [some (.ref 358), some (zI (c : Int))] [] n (tw f0 F2 A2) 0 := by
      intro m
      induction m with
      | zero =>
        intro c F2 A2 hc h12 h10 h9 h25 h26 hP hz
        refine r_iload_1 hK dX9_read_170 ?_
        refine r_iconstN (c := 4) hK dX9_read_171 ?_
        refine r_icmp_ge 193 hK dX9_read_172 (by omega) (by omega) (fun h172 => ?_) (fun h172 => ?_)
        · refine r_aload_0 hK dX9_read_193 ?_
          refine r_aload_0 hK dX9_read_194 ?_
          refine r_get hK fl_X9_206 dX9_read_195 tw_obj rfl ?_
          rw [h25]
          refine t_put hK fl_X9_209 dX9_read_198 ?_
          refine r_aload_0 hK dX9_read_201 ?_
          refine r_aload_0 hK dX9_read_202 ?_
          refine r_get hK fl_X9_212 dX9_read_203 tw_obj rfl ?_
          rw [upF_n (by decide), h26]
          refine t_put hK fl_X9_215 dX9_read_206 ?_
          refine r_iconstN (c := 0) hK dX9_read_209 ?_
          refine r_istore_1 hK dX9_read_210 ?_
          refine l2 8 0 _ A2 rfl h12 h10 (fun z A' q1 q2 q3 q4 q5 => hP z A' (fun a _ ha hb hc => q1 a ha hb hc) (fun i hi => by rw [q1 7 (by decide) (by decide) (by decide)]; exact hz i (by omega)) q2 q3 q4 q5) (fun i hi => absurd hi (Nat.not_lt_zero _))
        · exact absurd h172 (by omega)
      | succ m ih =>
        intro c F2 A2 hc h12 h10 h9 h25 h26 hP hz
        refine r_iload_1 hK dX9_read_170 ?_
        refine r_iconstN (c := 4) hK dX9_read_171 ?_
        refine r_icmp_ge 193 hK dX9_read_172 (by omega) (by omega) (fun h172 => ?_) (fun h172 => ?_)
        · exact absurd h172 (by omega)
        · refine r_aload_0 hK dX9_read_175 ?_
          refine r_get hK fl_X9_40 dX9_read_176 tw_obj rfl ?_
          refine r_iload_1 hK dX9_read_179 ?_
          refine r_aload_0 hK dX9_read_180 ?_
          refine r_get hK fl_X9_46 dX9_read_181 tw_obj rfl ?_
          refine r_iload_1 hK dX9_read_184 ?_
          refine t_ild hK dX9_read_185 (show _ < 4 by omega) ?_
          refine t_ist hK dX9_read_186 (show _ < 4 by omega) ?_
          first | refine r_incN_1 hK dX9_read_187 ?_ | refine r_iinc_1 hK dX9_read_187 ?_
          refine r_goto 170 hK dX9_read_190 ?_
          refine ih (c + 1) F2 _ (by omega) (by rw [upA_j (by decide)]; exact h12) (by rw [upA_j (by decide)]; exact h10) (by rw [upA_j (by decide)]; exact h9) h25 h26 (fun z A' q1 q2 q3 q4 q5 q6 => hP z A' (fun a ha hb hc hd => by rw [q1 a ha hb hc hd, upA_j ha]) q2 q3 q4 q5 q6) (fun i hi => ?_)
          by_cases ci : i = c
          · rw [ci, upA_s, h9]
          · rw [upA_n ci]; exact hz i (by omega)
    have w14 : F1 14 = 0 := by rw [m1.1, h0]
    refine r_aload_0 hK dX9_read_103 ?_
    refine r_aload_0 hK dX9_read_104 ?_
    refine r_get hK fl_X9_165 dX9_read_105 tw_obj rfl ?_
    refine r_if_le 118 hK dX9_read_108 (by omega) (fun h108 => ?_) (fun h108 => ?_)
    · refine r_aload_0 hK dX9_read_118 ?_
      refine r_get hK fl_X9_174 dX9_read_119 tw_obj rfl ?_
      refine r_if_le 132 hK dX9_read_122 (by omega) (fun h122 => ?_) (fun h122 => ?_)
      · refine r_iconst hK dX9_read_132 ?_
        rw [← dz_m]
        refine t_putz hK fl_X9_37 dX9_read_133 ?_
        refine r_aload_0 hK dX9_read_136 ?_
        refine r_get hK fl_X9_165 dX9_read_137 tw_obj rfl ?_
        rw [upF_n (by decide)]
        refine r_if_le 148 hK dX9_read_140 (by omega) (fun h140 => ?_) (fun h140 => ?_)
        · refine r_aload_0 hK dX9_read_148 ?_
          refine r_get hK fl_X9_174 dX9_read_149 tw_obj rfl ?_
          rw [upF_n (by decide)]
          refine r_if_le 160 hK dX9_read_152 (by omega) (fun h152 => ?_) (fun h152 => ?_)
          · refine r_aload_0 hK dX9_read_160 ?_
            refine r_aload_0 hK dX9_read_161 ?_
            refine r_get hK fl_X9_192 dX9_read_162 tw_obj rfl ?_
            rw [upF_n (by decide)]
            refine t_put hK fl_X9_203 dX9_read_165 ?_
            refine r_iconstN (c := 0) hK dX9_read_168 ?_
            refine r_istore_1 hK dX9_read_169 ?_
            refine l1 4 0 _ A1 rfl rfl rfl rfl (by rw [upF_n (by decide), upF_n (by decide)]; exact m3) (by rw [upF_n (by decide), upF_n (by decide)]; exact m3') (fun z A' q1 q2 q3 q4 q5 q6 => ?_) (fun i hi => absurd hi (Nat.not_lt_zero _))
            refine ⟨fun j hj => by rw [upF_n (by omega), upF_n (by omega), upF_n (by omega), upF_n (by omega), upF_n (by omega)]; exact hC.1 j (by omega), by rw [upF_n (by decide), upF_n (by decide), upF_n (by decide), upF_n (by decide), upF_n (by decide)]; exact hC.2.1, fun a ha => by rw [q1 a (by omega) (by omega) (by omega) (by omega)]; exact hC.2.2.1 a (by omega), fun i => by rw [q1 1 (by decide) (by decide) (by decide) (by decide)]; exact hC.2.2.2 i, q6, ?_, ?_, hw4, ⟨o1, o2, o3⟩, ?_, ?_, by rw [upF_s], fun i hi => by rw [q2 i hi]; exact m5 i hi, fun x hx => ?_, ⟨by rw [q4 0 (by omega)]; exact m7.1, m7.2.1, fun g hg => ?_⟩, q5⟩
            · rw [upF_n (by decide), upF_n (by decide), upF_n (by decide), upF_n (by decide), upF_s]
            · rw [upF_n (by decide), upF_n (by decide), upF_n (by decide), upF_s]; exact f22
            · rw [upF_n (by decide), upF_n (by decide), upF_s]
            · rw [upF_n (by decide), upF_s]
            · rw [q3 x (by have : x < s.2.2.1.2.2.1 := hx; omega)]; exact m6 x hx
            · have hg16 : g < 16 := Nat.lt_of_lt_of_le hg m7.2.1
              rw [m7.2.2 g hg]
              unfold ge
              rw [q4 _ (by omega), q4 _ (by omega), q4 _ (by omega)]
          · exact absurd h152 (by omega)
        · exact absurd h140 (by omega)
      · exact absurd h122 (by omega)
    · exact absurd h108 (by omega)
  have jF : ∀ (F1 : Nat → Nat) (A1 : Nat → Nat → Nat) (e : Nat × Nat) a1, RdC F A F1 A1 → F1 12 = e.1 → (1 ≤ e.1 ∧ e.1 ≤ 2) → F1 13 = e.2 → e.2 ≤ 2000 → R = .inl e → Wx K 70 [some (.ref 358), a1] [] n (tw f0 F1 A1) 0 := by
    intro F1 A1 e a1 hC f12 he f13 he2 hRe
    refine r_aload_0 hK dX9_read_70 ?_
    refine r_get hK fl_X9_165 dX9_read_71 tw_obj rfl ?_
    refine r_if_ne 92 hK dX9_read_74 (by omega) (fun h74 => ?_) (fun h74 => ?_)
    · refine r_aload_0 hK dX9_read_92 ?_
      refine r_get hK fl_X9_165 dX9_read_93 tw_obj rfl ?_
      refine r_if_ne 103 hK dX9_read_96 (by omega) (fun h96 => ?_) (fun h96 => ?_)
      · exact fF F1 A1 e a1 hC f12 he f13 he2 hRe
      · exact absurd h96 (by omega)
    · exact absurd h74 (by omega)
  -- lines, one by one
  have lpL : ∀ (m t nw ng : Nat) (acc : List (Nat × Nat × Nat)) (F1 : Nat → Nat) (A1 : Nat → Nat → Nat) a1, TP A1 X N → 402 ≤ t + m → t < N → RdC F A F1 A1 → F1 10 = N → F1 14 = 0 → F1 12 = 0 → F1 11 = t → F1 22 = nw → F1 23 = ng → nw ≤ 4 → ng ≤ 16 → nw = nK 20 acc → pAll X m t nw ng acc = R → Wx K 70 [some (.ref 358), a1] [] n (tw f0 F1 A1) 0 := by
    intro m
    induction m with
    | zero => intro t nw ng acc F1 A1 a1 hT ht htN; omega
    | succ m ih =>
      intro t nw ng acc F1 A1 a1 hT ht htN hC f10 f14 f12 f11 f22 f23 hw hg hnk hp
      have hS : St N F1 (.inr t) F1 := ⟨fun _ _ _ _ => rfl, by rw [f11]; exact htN, f12, f11⟩
      unfold pAll at hp
      by_cases c0 : X 2 t = 0
      · rw [if_pos c0] at hp
        have hp0 : pAll X 402 0 0 0 [] = .inr acc := by rw [← hR', ← hp]
        obtain ⟨r, e1, e2, e3, e4⟩ := pAll_ok h4 hlast 402 0 0 0 [] acc hNb.1 (by decide) (by decide) hp0
        rw [List.nil_append] at e1
        subst e1
        have hQ : MQr X N := by rw [hX] at e2 ⊢; exact MQ_ok hNb.2.2 e2 (by omega)
        refine r_aload_0 hK dX9_read_70 ?_
        refine r_get hK fl_X9_165 dX9_read_71 tw_obj rfl ?_
        refine r_if_ne 92 hK dX9_read_74 (by omega) (fun h74 => ?_) (fun h74 => ?_)
        · exact absurd h74 (by omega)
        · refine r_aload_0 hK dX9_read_77 ?_
          refine r_iconstN (c := 0) hK dX9_read_78 ?_
          refine r_pV1 hK (ct_isS hK.rel hT hS (by omega)) lk_X9_183 (tw_rcv hK) dX9_read_79 ?_
          refine r_ifB_ne 92 hK dX9_read_82 (fun h82 => ?_) (fun h82 => ?_)
          · refine r_aload_0 hK dX9_read_92 ?_
            refine r_get hK fl_X9_165 dX9_read_93 tw_obj rfl ?_
            refine r_if_ne 103 hK dX9_read_96 (by omega) (fun h96 => ?_) (fun h96 => ?_)
            · exact absurd h96 (by omega)
            · refine r_aload_0 hK dX9_read_99 ?_
              refine r_tvV0 hK (ct_means hK.rel hT hQ f10 f12 f14 e2 (by omega)) lk_X9_200 (tw_rcv hK) dX9_read_100 (fun F3 A3 h5 => ?_)
              have hC3 : RdC F A F3 A3 := ⟨fun j hj => by rw [h5.2.1 j (by omega) (by omega) (by omega) (by omega)]; exact hC.1 j hj, by rw [h5.2.1 2 (by decide) (by decide) (by decide) (by decide)]; exact hC.2.1, fun a ha => by rw [h5.2.2.2.1 a (by omega) (by omega) (by omega)]; exact hC.2.2.1 a ha, fun i => by rw [h5.2.2.2.1 1 (by decide) (by decide) (by decide)]; exact hC.2.2.2 i⟩
              have f312 : F3 12 = 0 := by rw [h5.2.1 12 (by decide) (by decide) (by decide) (by decide)]; exact f12
              by_cases cw : (mean X N acc).1.1 = 0
              · exact fG F3 A3 acc _ hC3 f312 ⟨h5.1, fun _ _ _ _ _ => rfl, h5.2.2.1, fun _ _ _ _ => rfl, h5.2.2.2.2⟩ cw hp.symm e2 (by omega) (by rw [h5.2.1 22 (by decide) (by decide) (by decide) (by decide), f22]; exact hnk)
              · exact fW F3 A3 acc _ hC3 f312 h5.1 cw hp.symm
          · exact absurd (isK_r.mpr c0) h82
      · rw [if_neg c0] at hp
        refine r_aload_0 hK dX9_read_70 ?_
        refine r_get hK fl_X9_165 dX9_read_71 tw_obj rfl ?_
        refine r_if_ne 92 hK dX9_read_74 (by omega) (fun h74 => ?_) (fun h74 => ?_)
        · exact absurd h74 (by omega)
        · refine r_aload_0 hK dX9_read_77 ?_
          refine r_iconstN (c := 0) hK dX9_read_78 ?_
          refine r_pV1 hK (ct_isS hK.rel hT hS (by omega)) lk_X9_183 (tw_rcv hK) dX9_read_79 ?_
          refine r_ifB_ne 92 hK dX9_read_82 (fun h82 => ?_) (fun h82 => ?_)
          · exact absurd (isK_r.mp h82) c0
          · refine r_aload_0 hK dX9_read_85 ?_
            refine r_tvV0 hK (ct_line hK.rel hT hS (by omega) (by omega)) lk_X9_198 (tw_rcv hK) dX9_read_86 (fun F3 A3 h5 => ?_)
            obtain ⟨ea, h6⟩ := h5
            subst A3
            rw [f22, f23] at h6
            refine r_goto 70 hK dX9_read_89 ?_
            have gG : ∀ j, j ≠ 22 → j ≠ 23 → lnG X F1 t j = F1 j := by
              intro j j1 j2
              unfold lnG lnF
              split
              · rfl
              · split
                · rw [upF_n j1]
                · split
                  · rw [upF_n j2]
                  · rfl
            have f3 : ∀ j, j ≠ 22 → j ≠ 23 → j ≠ 11 → j ≠ 12 → j ≠ 13 → F3 j = F1 j := fun j j1 j2 j3 j4 j5 => by rw [h6.1 j j3 j4 j5, gG j j1 j2]
            have hC3 : RdC F A F3 A1 := ⟨fun j hj => by rw [f3 j (by omega) (by omega) (by omega) (by omega) (by omega)]; exact hC.1 j hj, by rw [f3 2 (by decide) (by decide) (by decide) (by decide) (by decide)]; exact hC.2.1, hC.2.2⟩
            cases hl : pLine X t nw ng with
            | inl e =>
              rw [hl] at hp h6
              exact jF F3 A1 e _ hC3 h6.2.2.1 h6.2.2.2.1 h6.2.2.2.2.1 h6.2.2.2.2.2 hp.symm
            | inr t' =>
              rw [hl] at hp h6
              obtain ⟨b1, b2, b3, b4, b5, b6⟩ := ln1 h4 htN hl
              have hk := b3.1
              have eG : lnG X F1 t = lnF F1 (X 2 t) := by unfold lnG; rw [if_neg (by omega)]
              have g22 : F3 22 = if X 2 t = 20 then nw + 1 else nw := by
                rw [h6.1 22 (by decide) (by decide) (by decide), eG]
                unfold lnF
                split
                · rw [upF_s, f22]
                · split
                  · rw [upF_n (by decide), f22]
                  · exact f22
              have g23 : F3 23 = if X 2 t = 21 then ng + 1 else ng := by
                rw [h6.1 23 (by decide) (by decide) (by decide), eG]
                unfold lnF
                by_cases q20 : X 2 t = 20
                · rw [if_pos q20, if_neg (by omega), upF_n (by decide), f23]
                · rw [if_neg q20]
                  split
                  · rw [upF_s, f23]
                  · exact f23
              exact ih t' _ _ _ F3 A1 _ hT (by omega) b1 hC3 (by rw [f3 10 (by decide) (by decide) (by decide) (by decide) (by decide)]; exact f10) (by rw [f3 14 (by decide) (by decide) (by decide) (by decide) (by decide)]; exact f14) h6.2.2.1 h6.2.2.2 g22 g23 (by split <;> omega) (by split <;> omega) (by rw [nK_app, ← hnk]; show _ = nw + (if X 2 t = 20 then 1 else 0); split <;> rfl) hp
  have lp0 : ∀ (m c : Nat) (A1 : Nat → Nat → Nat), c + m = F 2 → (∀ a, a ≠ 1 → A1 a = A a) → (∀ i, i < c → A1 1 i = A 0 i) → (∀ i, A1 1 i < 256) → Wx K 10 [some (.ref 358), some (zI (c : Int))] [] n (tw f0 (upF F 4 (F 2)) A1) 0 := by
    intro m
    induction m with
    | zero =>
      intro c A1 hc hA hz hT1
      have hcn : ∀ i, i < F 2 → A1 1 i = A 0 i := fun i hi => hz i (by omega)
      refine r_iload_1 hK dX9_read_10 ?_
      refine r_aload_0 hK dX9_read_11 ?_
      refine r_get hK fl_X9_134 dX9_read_12 tw_obj rfl ?_
      rw [upF_s]
      refine r_icmp_ge 36 hK dX9_read_15 (by omega) (by omega) (fun h15 => ?_) (fun h15 => ?_)
      · refine r_aload_0 hK dX9_read_36 ?_
        refine r_iconstN (c := 0) hK dX9_read_37 ?_
        refine t_put hK fl_X9_127 dX9_read_38 ?_
        refine r_aload_0 hK dX9_read_41 ?_
        refine r_tvV0 hK (ct_cutsText hK.rel (by rw [upF_n (by decide), upF_s]; exact h2) hT1 (by rw [hA 6 (by decide)]; exact hky)) lk_X9_189 (tw_rcv hK) dX9_read_42 (fun F3 A3 h5 => ?_)
        obtain ⟨N', eF, n1, n2', n3, n4, n5, n6⟩ := h5
        have e4 : upF (upF F 4 (F 2)) 2 0 4 = F 2 := by rw [upF_n (by decide), upF_s]
        rw [e4, lex_ext hcn] at n3 n4
        rw [e4, lex_ext hcn, Bt_ext hcn] at n5
        have eN : N' = N := by rw [hN]; unfold tkN; omega
        subst eF
        rw [eN] at n5 n4 n1 n2' ⊢
        have hTP : TP A3 X N := by rw [hX]; exact n5.tp h2 n1 n2' n4
        refine r_aload_0 hK dX9_read_45 ?_
        refine r_iconstN (c := 0) hK dX9_read_46 ?_
        refine t_put hK fl_X9_168 dX9_read_47 ?_
        refine r_aload_0 hK dX9_read_50 ?_
        refine r_iconstN (c := 0) hK dX9_read_51 ?_
        refine t_put hK fl_X9_165 dX9_read_52 ?_
        refine r_aload_0 hK dX9_read_55 ?_
        refine r_iconstN (c := 0) hK dX9_read_56 ?_
        refine t_put hK fl_X9_174 dX9_read_57 ?_
        refine r_aload_0 hK dX9_read_60 ?_
        refine r_iconstN (c := 0) hK dX9_read_61 ?_
        refine t_put hK fl_X9_192 dX9_read_62 ?_
        refine r_aload_0 hK dX9_read_65 ?_
        refine r_iconstN (c := 0) hK dX9_read_66 ?_
        refine t_put hK fl_X9_195 dX9_read_67 ?_
        refine lpL 402 0 0 0 [] _ A3 _ hTP (Nat.le_refl _) hNb.1 ?_ ?_ ?_ ?_ ?_ ?_ ?_ (by decide) (by decide) rfl hR'.symm
        · refine ⟨fun j hj => by rw [upF_n (by omega), upF_n (by omega), upF_n (by omega), upF_n (by omega), upF_n (by omega), upF_n (by omega), upF_n (by omega), upF_n (by omega)], ?_, fun a ha => by rw [n6 a (by omega), hA a (by omega)], fun i => by rw [n6 1 (by omega)]; exact hT1 i⟩
          rw [upF_n (by decide), upF_n (by decide), upF_n (by decide), upF_n (by decide), upF_n (by decide), upF_n (by decide), upF_s]
        · rw [upF_n (by decide), upF_n (by decide), upF_n (by decide), upF_n (by decide), upF_n (by decide), upF_s]
        · rw [upF_n (by decide), upF_n (by decide), upF_s]
        · rw [upF_n (by decide), upF_n (by decide), upF_n (by decide), upF_s]
        · rw [upF_n (by decide), upF_n (by decide), upF_n (by decide), upF_n (by decide), upF_s]
        · rw [upF_n (by decide), upF_s]
        · rw [upF_s]
      · exact absurd h15 (by omega)
    | succ m ih =>
      intro c A1 hc hA hz hT1
      refine r_iload_1 hK dX9_read_10 ?_
      refine r_aload_0 hK dX9_read_11 ?_
      refine r_get hK fl_X9_134 dX9_read_12 tw_obj rfl ?_
      rw [upF_s]
      refine r_icmp_ge 36 hK dX9_read_15 (by omega) (by omega) (fun h15 => ?_) (fun h15 => ?_)
      · exact absurd h15 (by omega)
      · refine r_aload_0 hK dX9_read_18 ?_
        refine r_get hK fl_X9_17 dX9_read_19 tw_obj rfl ?_
        refine r_iload_1 hK dX9_read_22 ?_
        refine r_aload_0 hK dX9_read_23 ?_
        refine r_get hK fl_X9_13 dX9_read_24 tw_obj rfl ?_
        refine r_iload_1 hK dX9_read_27 ?_
        refine t_bld hK dX9_read_28 (show _ < 2000 by omega) ?_
        rw [hA 0 (by decide)]
        refine t_bst (j := 1) hK dX9_read_29 (by omega) (hT0 c) ?_
        first | refine r_incN_1 hK dX9_read_30 ?_ | refine r_iinc_1 hK dX9_read_30 ?_
        refine r_goto 10 hK dX9_read_33 ?_
        refine ih (c + 1) _ (by omega) (fun a ha => by rw [upA_j ha]; exact hA a ha) (fun i hi => ?_) (fun i => ?_)
        · by_cases ci : i = c
          · rw [ci, upA_s]
          · rw [upA_n ci]; exact hz i (by omega)
        · by_cases ci : i = c
          · rw [ci, upA_s]; exact hT0 c
          · rw [upA_n ci]; exact hT1 i
  refine r_aload_0 hK dX9_read_0 ?_
  refine r_aload_0 hK dX9_read_1 ?_
  refine r_get hK fl_X9_127 dX9_read_2 tw_obj rfl ?_
  refine t_put hK fl_X9_134 dX9_read_5 ?_
  refine r_iconstN (c := 0) hK dX9_read_8 ?_
  refine r_istore_1 hK dX9_read_9 ?_
  exact lp0 (F 2) 0 A (by omega) (fun _ _ => rfl) (fun i hi => absurd hi (Nat.not_lt_zero _)) hT1
