set_option maxRecDepth 100000
/-! ===== Parser: gates and tables, the second pass ===== -/
section RM0
variable {K : KT} {own : String} {cc : ByteArray} {nL d U pc : Nat} {L : List (Option Value)} {st rest : List Value} {n : Nat} {f : Hp} {u : Nat}
theorem r_mmaxO {idx : Nat} {o : Option Nat} (hK : Gd K own cc nL d U) (hl : LkS own idx yJ22_max cJ22_max 2 (some .int) 2) (hd : decode cc pc = .ok (.invokestatic idx, 3)) (hy : ∀ c, o = some c → c < 2147483648) (kk : Wx K (pc + 3) L (zI ((o.getD 0 : Nat) : Int) :: rest) n f u) (hL : L.length = nL := by rfl) (hdp : 1 ≤ d := by decide) (hu : u ≤ U := by omega) (hcat : catS rest ≤ 8 := by exact Nat.le_of_ble_eq_true rfl) : Wx K pc L (zI (oI o) :: zI ((0 : Nat) : Int) :: rest) n f u := by
  cases o with
  | some c => exact r_mmax hK hl hd (by decide) (hy c rfl) (by rw [Nat.max_eq_right (Nat.zero_le _)]; exact kk) hL hdp hu hcat
  | none =>
    intro H locs ls hH hS hls
    obtain ⟨-, h1, h2, h3, h4⟩ := hl
    have hts := hK.2.2.2.2.1
    have hr := hK.2.2.2.2.2.2.1
    refine va_mmax (rest := rest.map (cv (kG K))) hK.1 hK.2.1 (by rw [hK.2.2.1, hls.1]; exact hL.symm) hK.2.2.2.1 (hts _ h1) (hts _ h2) (hts _ h3) (hts _ h4) (by omega) (by rw [cat_map]; omega) (by omega) (by omega) hd ?_
    have e : (if Int32.ofInt ((0 : Nat) : Int) < Int32.ofInt (oI none) then Int32.ofInt (oI none) else Int32.ofInt ((0 : Nat) : Int)) = Int32.ofInt ((0 : Nat) : Int) := by decide
    rw [e]
    exact kk H locs ls hH hS hls
end RM0
theorem gsT_to {X : Nat → Nat → Nat} {N k : Nat} {s : Nat × Nat} (h1 : X 2 (k + 1) = 1) : ∀ c, (gsT X N k s (c + 1)).2.1 = (nmd X N (X 5 (k + 1))).getD 999999999
  | 0 => by
    unfold gsT
    rw [if_neg (by show ¬ X 2 (k + 1 + 0) = 5; rw [Nat.add_zero]; omega)]
    rfl
  | c + 1 => by
    have ih := gsT_to (s := s) (N := N) h1 c
    unfold gsT
    by_cases z : X 2 (k + 1 + (c + 1)) = 5
    · rw [if_pos z]; exact ih
    · rw [if_neg z]
      show (if c + 1 = 0 then (nmd X N (X 5 (k + 1 + (c + 1)))).getD 999999999 else (gsT X N k s (c + 1)).2.1) = _
      rw [if_neg (by omega)]; exact ih
def gO (o : Option Nat) (D : Nat × Nat) (i : Nat) : Nat × Nat := match o with
  | none => tellS D 4 i
  | some _ => D
theorem rN_le8 {a : Nat} (h : a ≤ 3) : rN a ≤ 8 := rN_le (k := 3) h
set_option maxHeartbeats 4000000 in
theorem ct_pGate {G : GT} {Rel : Nat → Hp → Hp → Prop} (hR : RelOK Rel) (hP : Rel = RelP) (hX : GX G) {n : Nat} {f : Hp} {t ng w wt M N k e q : Nat} {wl lg : List Nat} {s : Nat × Nat} {X : Nat → Nat → Nat} (hP3 : f 310 = some (pC wl.length t ng w wt)) (hT : TF f X M N) (hN : NM f X M wl) (hfd : ∀ x, fndF X x wl 0 = nmd X N x) (hC : f 311 = some (.inl (4, [.ref 312]))) (hLL : f 312 = some (cLL lg)) (hl : f q = some (.inl (10, [zI ((1 : Nat) : Int), zI ((k + 1 : Nat) : Int), zI ((e : Nat) : Int)]))) (hok : lnOK X N 21 k e) (he : e < M) (hq : 392 ≤ q) (hn0 : 392 ≤ n) (hw : wR s w wt) : Ct G Rel yX3_gate cX3_gate 7 none (5) (2) [.ref 310, .ref q] n (f) (fun r n' f' => r = none ∧ n < n' ∧ ∃ w' wt', wR (gsT X N k s (e - (k + 1))).1 w' wt' ∧ f' = up (up (up f 310 (pC wl.length t ng w' wt')) n (cG ((nmd X N (X 5 (k + 1))).getD 0, (gsT X N k s (e - (k + 1))).2.2))) 312 (cLL (lg ++ [n]))) := by
  refine ct_intro [some (.ref 310), some (.ref q), none, none, none, none, none] hR rfl (Nat.le_of_ble_eq_true rfl) ?_
  intro K hG hRel hK hRt hnm
  have hQ : kRel K = RelP := by rw [hRel]; exact hP
  have hXK : GX (kG K) := by rw [hG]; exact hX
  obtain ⟨-, -, -, -, -, -, hok1, -, -⟩ := hok
  obtain ⟨hke, hk1, hkk⟩ := hok1 rfl
  have hM2 : M ≤ 2001 := hT.h4.2.2.1
  have hn4 := hN.1
  have h4 : ∀ x c, nmd X N x = some c → c < 4 := fun x c hx => by
    rw [← hfd] at hx; have := fndF_lt wl 0 c hx; omega
  have hPA : ∀ a b, up f 310 (pC wl.length t ng a b) 310 = some (pC wl.length t ng a b) := fun a b => up_s _ _ _
  have hTA : ∀ e, TF (up f 310 e) X M N := fun e => hT.up (by decide)
  have hNA : ∀ e, NM (up f 310 e) X M wl := fun e => hN.kp (up_n (by decide))
  have hlA : ∀ e', up f 310 e' q = some (.inl (10, [zI ((1 : Nat) : Int), zI ((k + 1 : Nat) : Int), zI ((e : Nat) : Int)])) := fun e' => by rw [up_n (by omega)]; exact hl
  have hCA : ∀ e', up f 310 e' 311 = some (.inl (4, [.ref 312])) := fun e' => by rw [up_n (by decide)]; exact hC
  have lp : ∀ (d c w' wt' : Nat) (a6 : Option Value), k + 1 + c + d = e → wR (gsT X N k s c).1 w' wt' → Wx K 13 [some (.ref 310), some (.ref q), some (zI (oI (if c = 0 then none else nmd X N (X 5 (k + 1))))), some (zI (((gsT X N k s c).2.2.1 : Nat) : Int)), some (zI (((gsT X N k s c).2.2.2 : Nat) : Int)), some (zI ((k + 1 + c : Nat) : Int)), a6] [] n (up f 310 (pC wl.length t ng w' wt')) 0 := by
    intro d
    induction d with
    | zero =>
      intro c w' wt' a6 hc hw'
      have hc0 : c ≠ 0 := by omega
      have ec : e - (k + 1) = c := by omega
      rw [ec] at hRt
      rw [if_neg hc0]
      refine r_iload_5 hK dX3_gate_13 ?_
      refine r_aload_1 hK dX3_gate_15 ?_
      refine r_get hK fl_X3_173 dX3_gate_16 (hlA _) rfl ?_
      refine r_icmp_ge 170 hK dX3_gate_19 (by omega) (by omega) (fun h19 => ?_) (fun h19 => ?_)
      · refine r_aload_0 hK dX3_gate_170 ?_
        refine r_get hK fl_X3_12 dX3_gate_171 (hPA _ _) rfl ?_
        refine r_get hK fl_X3_93 dX3_gate_174 (hCA _) rfl ?_
        refine r_fact hK (fun _ hno => ?_)
        have hnn : f n = none := by have := hno n (Nat.le_refl _); rwa [up_n (by omega)] at this
        refine r_new (fs := [zI 0, zI 0, zI 0]) 1 hK nw_X3_176 dX3_gate_177 (by omega) ?_ (hw := new11)
        refine r_dup hK dX3_gate_180 ?_
        refine r_iconstN (c := 0) hK dX3_gate_181 ?_
        refine r_iload_2 hK dX3_gate_182 ?_
        refine r_mmaxO hK lk_X3_178 dX3_gate_183 (fun c q => by have := h4 _ c q; omega) ?_
        refine r_iload_3 hK dX3_gate_186 ?_
        refine r_iload_4 hK dX3_gate_187 ?_
        refine r_callI3 hK (ct_gInit hK.rel (up_s _ _ _)) lk_X3_184 dX3_gate_189 (fun r n0 f0 hp => ?_)
        obtain ⟨rfl, rfl, rfl⟩ := hp
        rw [up_up]
        refine r_callV1 hK (pl_addLast hQ (l := lg) (by rw [up_n (by omega), up_n (by decide)]; exact hLL)) lk_X3_185 (rcv_ll hQ (l := lg) (by rw [up_n (by omega), up_n (by decide)]; exact hLL)) dX3_gate_192 (fun r n1 f1 hp => ?_)
        obtain ⟨rfl, hn1, rfl⟩ := hp
        exact r_vret hK hRt dX3_gate_195 ⟨rfl, by omega, w', wt', hw', rfl⟩
      · omega --!
    | succ d ih =>
      intro c w' wt' a6 hc hw'
      obtain ⟨i, hi⟩ : ∃ i, i = k + 1 + c := ⟨_, rfl⟩
      have hiM : i < M := by omega
      have hkd := hkk i (by omega) (by omega)
      obtain ⟨o, ho⟩ : ∃ o, o = nmd X N (X 5 i) := ⟨_, rfl⟩
      have e1 : gsT X N k s (c + 1) = if X 2 i = 5 then gsT X N k s c else (gtW X N k i (gsT X N k s c).1,
        if c = 0 then o.getD 999999999 else (gsT X N k s c).2.1,
        if c = 0 ∨ X 2 (k + c) = 5 then (gsT X N k s c).2.2.1 else orO (gsT X N k s c).2.2.1 o,
        if c = 0 ∨ X 2 (k + c) ≠ 5 then (gsT X N k s c).2.2.2 else orO (gsT X N k s c).2.2.2 o) := by rw [ho, hi]; rfl
      have j164 : ∀ (w1 wt1 p3 p4 : Nat) (o2 : Option Nat) (a6 : Option Value), wR (gsT X N k s (c + 1)).1 w1 wt1 → p3 = (gsT X N k s (c + 1)).2.2.1 → p4 = (gsT X N k s (c + 1)).2.2.2 → o2 = nmd X N (X 5 (k + 1)) → Wx K 164 [some (.ref 310), some (.ref q), some (zI (oI o2)), some (zI ((p3 : Nat) : Int)), some (zI ((p4 : Nat) : Int)), some (zI ((i : Nat) : Int)), a6] [] n (up f 310 (pC wl.length t ng w1 wt1)) 0 := by
        intro w1 wt1 p3 p4 o2 a6 g1 g2 g3 g4
        rw [g2, g3, g4]
        have := ih (c + 1) w1 wt1 a6 (by omega) g1
        rw [if_neg (by omega)] at this
        first | refine r_incN_5 hK dX3_gate_164 ?_ | refine r_iinc_5 hK dX3_gate_164 ?_
        refine r_goto 13 hK dX3_gate_167 ?_
        rw [show i + 1 = k + 1 + (c + 1) by omega]
        exact this
      rw [← hi]
      have hiA := fun w1 wt1 => (hTA (pC wl.length t ng w1 wt1)).at hiM
      have hs0 := srt_0 (kd := X 2 i)
      have hs6 := srt_lt (kd := X 2 i)
      have fin : X 2 i = 1 → ∀ (w1 wt1 : Nat) (a6 : Option Value), wR (dpF X k i (gsT X N k s c).1 (i - (k + 1))) w1 wt1 → Wx K 91 [some (.ref 310), some (.ref q), some (zI (oI (if c = 0 then none else nmd X N (X 5 (k + 1))))), some (zI (((gsT X N k s c).2.2.1 : Nat) : Int)), some (zI (((gsT X N k s c).2.2.2 : Nat) : Int)), some (zI ((i : Nat) : Int)), a6] [] n (up f 310 (pC wl.length t ng w1 wt1)) 0 := by
        intro hi1 w1 wt1 a6 hw1
        have hb := hw1.2.2
        rw [if_neg (by omega)] at e1
        have eg : gtW X N k i (gsT X N k s c).1 = gO o (dpF X k i (gsT X N k s c).1 (i - (k + 1))) i := by rw [ho]; rfl
        have hk1i : c = 0 → i = k + 1 := fun q => by omega
        refine r_aload_0 hK dX3_gate_91 ?_
        refine r_iload_5 hK dX3_gate_92 ?_
        refine r_pV1 hK (ct_pFind hK.rel (hPA _ _) (hTA _) (hNA _) hiM hi1) lk_X3_140 (Rcv.raw hK.rel (hPA _ _) rfl) dX3_gate_94 ?_
        rw [hfd, ← ho]
        refine r_istore_6 hK dX3_gate_97 ?_
        refine r_iload_6 hK dX3_gate_99 ?_
        cases o with
        | none =>
          refine r_if_ge 114 hK dX3_gate_101 (by decide) (fun q => absurd q (by decide)) (fun _ => ?_)
          refine r_aload_0 hK dX3_gate_104 ?_
          refine r_iconstN (c := 4) hK dX3_gate_105 ?_
          refine r_iload_5 hK dX3_gate_106 ?_
          refine r_vV2 hK (ct_pTell hK.rel (hPA _ _) (by omega) (by omega) (by decide) (by omega)) lk_X3_143 (Rcv.raw hK.rel (hPA _ _) rfl) dX3_gate_108 ?_
          rw [up_up]
          refine r_goto 164 hK dX3_gate_111 ?_
          refine j164 _ _ _ _ _ _ ?_ ?_ ?_ ?_
          · rw [e1, eg]; show wR (tellS _ 4 i) _ _; rw [tell_mn (by decide)]; exact hw1.tell (by decide) (by omega)
          · rw [e1]; show _ = if c = 0 ∨ X 2 (k + c) = 5 then _ else _; split <;> rfl
          · rw [e1]; show _ = if c = 0 ∨ X 2 (k + c) ≠ 5 then _ else _; split <;> rfl
          · by_cases z : c = 0
            · rw [if_pos z, ← hk1i z, ← ho]
            · rw [if_neg z]
        | some v =>
          have hv := h4 _ v ho.symm
          have ew : wR (gsT X N k s (c + 1)).1 w1 wt1 := by rw [e1, eg]; exact hw1
          refine r_if_ge 114 hK dX3_gate_101 (by show inR ((v : Nat) : Int); omega) (fun _ => ?_) (fun q => absurd (show ((v : Nat) : Int) < 0 from q) (by omega))
          refine r_iload_5 hK dX3_gate_114 ?_
          refine r_aload_1 hK dX3_gate_116 ?_
          refine r_get hK fl_X3_170 dX3_gate_117 (hlA _) rfl ?_
          refine r_icmp_ne 129 hK dX3_gate_120 (by omega) (by omega) (fun h120 => ?_) (fun h120 => ?_)
          · have hc0 : c ≠ 0 := by omega
            rw [if_neg hc0]
            have e5 : i - 1 = k + c := by omega
            rw [if_neg hc0] at e1
            refine r_aload_0 hK dX3_gate_129 ?_
            refine r_get hK fl_X3_39 dX3_gate_130 (hPA _ _) rfl ?_
            refine r_iload_5 hK dX3_gate_133 ?_
            refine r_iconstN (c := 1) hK dX3_gate_135 ?_
            refine r_isubN hK dX3_gate_136 (by omega) ?_
            refine r_bipushN (c := 45) hK dX3_gate_137 ?_
            refine r_pV2 hK (ct_pSg hK.rel (hTA _) (by omega) (kd := 5) (Or.inr ⟨rfl, rfl⟩)) lk_X3_86 ((hTA _).rcv hK.rel) dX3_gate_139 ?_
            rw [e5]
            refine r_ifB_eq 157 hK dX3_gate_142 (fun h142 => ?_) (fun h142 => ?_)
            · refine r_iload_3 hK dX3_gate_157 ?_
              refine r_iconstN (c := 1) hK dX3_gate_158 ?_
              refine r_iload_6 hK dX3_gate_159 ?_
              refine r_ishl hK dX3_gate_161 (by omega) (sh1 (by omega)) ?_
              refine r_ior hK dX3_gate_162 ?_
              refine r_istore_3 hK dX3_gate_163 ?_
              refine j164 w1 wt1 _ _ _ _ ew ?_ ?_ rfl
              · rw [e1]; show _ = if c = 0 ∨ X 2 (k + c) = 5 then _ else _; rw [if_neg (by omega)]; rfl
              · rw [e1]; show _ = if c = 0 ∨ X 2 (k + c) ≠ 5 then _ else _; rw [if_pos (by omega)]
            · refine r_iload_4 hK dX3_gate_145 ?_
              refine r_iconstN (c := 1) hK dX3_gate_147 ?_
              refine r_iload_6 hK dX3_gate_148 ?_
              refine r_ishl hK dX3_gate_150 (by omega) (sh1 (by omega)) ?_
              refine r_ior hK dX3_gate_151 ?_
              refine r_istore_4 hK dX3_gate_152 ?_
              refine r_goto 164 hK dX3_gate_154 ?_
              refine j164 w1 wt1 _ _ _ _ ew ?_ ?_ rfl
              · rw [e1]; show _ = if c = 0 ∨ X 2 (k + c) = 5 then _ else _; rw [if_pos (by omega)]
              · rw [e1]; show _ = if c = 0 ∨ X 2 (k + c) ≠ 5 then _ else _; rw [if_neg (by omega)]; rfl
          · have hc0 : c = 0 := by omega
            refine r_iload_6 hK dX3_gate_123 ?_
            refine r_istore_2 hK dX3_gate_125 ?_
            refine r_goto 164 hK dX3_gate_126 ?_
            refine j164 w1 wt1 _ _ (some v) _ ew ?_ ?_ (by rw [← hk1i hc0]; exact ho)
            · rw [e1]; show _ = if c = 0 ∨ X 2 (k + c) = 5 then _ else _; rw [if_pos (Or.inl hc0)]
            · rw [e1]; show _ = if c = 0 ∨ X 2 (k + c) ≠ 5 then _ else _; rw [if_pos (Or.inl hc0)]
      have dl : X 2 i = 1 → ∀ (d2 j w1 wt1 : Nat), k + 1 + j + d2 = i → wR (dpF X k i (gsT X N k s c).1 j) w1 wt1 → Wx K 44 [some (.ref 310), some (.ref q), some (zI (oI (if c = 0 then none else nmd X N (X 5 (k + 1))))), some (zI (((gsT X N k s c).2.2.1 : Nat) : Int)), some (zI (((gsT X N k s c).2.2.2 : Nat) : Int)), some (zI ((i : Nat) : Int)), some (zI ((k + 1 + j : Nat) : Int))] [] n (up f 310 (pC wl.length t ng w1 wt1)) 0 := by
        intro hi1 d2
        induction d2 with
        | zero =>
          intro j w1 wt1 hj hw1
          refine r_iload_6 hK dX3_gate_44 ?_
          refine r_iload_5 hK dX3_gate_46 ?_
          refine r_icmp_ge 91 hK dX3_gate_48 (by omega) (by omega) (fun h48 => ?_) (fun h48 => ?_)
          · exact fin hi1 w1 wt1 _ (by rw [show i - (k + 1) = j by omega]; exact hw1)
          · omega --!
        | succ d2 ihd =>
          intro j w1 wt1 hj hw1
          have hb := hw1.2.2
          obtain ⟨y, hy⟩ : ∃ y, y = k + 1 + j := ⟨_, rfl⟩
          have hyM : y < M := by omega
          rw [← hy]
          have e3 : dpF X k i (gsT X N k s c).1 (j + 1) = if X 2 y = 1 ∧ X 5 y = X 5 i then tellS (dpF X k i (gsT X N k s c).1 j) 3 i else dpF X k i (gsT X N k s c).1 j := by rw [hy]; rfl
          obtain ⟨tp, T, S, A, B, W, pa, pb, t1, t2, t3, t4, t5, t6, t7, t8, t9, t10⟩ := (hTA (pC wl.length t ng w1 wt1)).at hyM
          have es : S y = zI ((srtK (X 2 y) : Nat) : Int) := t7.1
          have hy0 := srt_0 (kd := X 2 y)
          have hy6 := srt_lt (kd := X 2 y)
          have nx : ∀ w2 wt2, wR (dpF X k i (gsT X N k s c).1 (j + 1)) w2 wt2 → Wx K 85 [some (.ref 310), some (.ref q), some (zI (oI (if c = 0 then none else nmd X N (X 5 (k + 1))))), some (zI (((gsT X N k s c).2.2.1 : Nat) : Int)), some (zI (((gsT X N k s c).2.2.2 : Nat) : Int)), some (zI ((i : Nat) : Int)), some (zI ((y : Nat) : Int))] [] n (up f 310 (pC wl.length t ng w2 wt2)) 0 := by
            intro w2 wt2 hw2
            first | refine r_incN_6 hK dX3_gate_85 ?_ | refine r_iinc_6 hK dX3_gate_85 ?_
            refine r_goto 44 hK dX3_gate_88 ?_
            rw [show y + 1 = k + 1 + (j + 1) by omega]
            exact ihd (j + 1) w2 wt2 (by omega) hw2
          refine r_iload_6 hK dX3_gate_44 ?_
          refine r_iload_5 hK dX3_gate_46 ?_
          refine r_icmp_ge 91 hK dX3_gate_48 (by omega) (by omega) (fun h48 => ?_) (fun h48 => ?_)
          · omega --!
          · refine r_aload_0 hK dX3_gate_51 ?_
            refine r_get hK fl_X3_39 dX3_gate_52 (hPA _ _) rfl ?_
            refine r_get hK fl_X3_72 dX3_gate_55 (t1) rfl ?_
            refine r_iload_6 hK dX3_gate_58 ?_
            refine r_bald hK dX3_gate_60 t3.1 (by omega) ?_
            rw [es]
            refine r_if_ne 85 hK dX3_gate_61 (by omega) (fun h61 => ?_) (fun h61 => ?_)
            · exact nx w1 wt1 (by rw [e3, if_neg (fun z => by have := hy0.mpr z.1; omega)]; exact hw1) --!
            · have hy1 : X 2 y = 1 := hy0.mp (by omega)
              refine r_aload_0 hK dX3_gate_64 ?_
              refine r_get hK fl_X3_39 dX3_gate_65 (hPA _ _) rfl ?_
              refine r_iload_6 hK dX3_gate_68 ?_
              refine r_iload_5 hK dX3_gate_70 ?_
              refine r_pV2 hK (ct_pAl hK.rel (hTA _) hyM hiM hy1 hi1) lk_X3_167 ((hTA _).rcv hK.rel) dX3_gate_72 ?_
              refine r_ifB_eq 85 hK dX3_gate_75 (fun h75 => ?_) (fun h75 => ?_)
              · exact nx w1 wt1 (by rw [e3, if_neg (fun z => h75 z.2)]; exact hw1) --!
              · refine r_aload_0 hK dX3_gate_78 ?_
                refine r_iconstN (c := 3) hK dX3_gate_79 ?_
                refine r_iload_5 hK dX3_gate_80 ?_
                refine r_vV2 hK (ct_pTell hK.rel (hPA _ _) (by omega) (by omega) (by decide) (by omega)) lk_X3_143 (Rcv.raw hK.rel (hPA _ _) rfl) dX3_gate_82 ?_
                rw [up_up]
                refine nx _ _ ?_
                rw [e3, if_pos ⟨hy1, h75⟩, tell_mn (by decide)]; exact hw1.tell (by decide) (by omega)
      obtain ⟨tp, T, S, A, B, W, pa, pb, t1, t2, t3, t4, t5, t6, t7, t8, t9, t10⟩ := hiA w' wt'
      have es : S i = zI ((srtK (X 2 i) : Nat) : Int) := t7.1
      refine r_iload_5 hK dX3_gate_13 ?_
      refine r_aload_1 hK dX3_gate_15 ?_
      refine r_get hK fl_X3_173 dX3_gate_16 (hlA _) rfl ?_
      refine r_icmp_ge 170 hK dX3_gate_19 (by omega) (by omega) (fun h19 => ?_) (fun h19 => ?_)
      · omega --!
      · refine r_aload_0 hK dX3_gate_22 ?_
        refine r_get hK fl_X3_39 dX3_gate_23 (hPA _ _) rfl ?_
        refine r_get hK fl_X3_72 dX3_gate_26 (t1) rfl ?_
        refine r_iload_5 hK dX3_gate_29 ?_
        refine r_bald hK dX3_gate_31 t3.1 (by omega) ?_
        rw [es]
        refine r_if_eq 38 hK dX3_gate_32 (by omega) (fun h32 => ?_) (fun h32 => ?_)
        · have h1 : X 2 i = 1 := hs0.mp (by omega)
          refine r_aload_1 hK dX3_gate_38 ?_
          refine r_get hK fl_X3_170 dX3_gate_39 (hlA _) rfl ?_
          refine r_istore_6 hK dX3_gate_42 ?_
          exact dl h1 (i - (k + 1)) 0 w' wt' (by omega) hw'
        · have h5 : X 2 i = 5 := by rcases hkd with z | z; have := hs0.mpr z; omega; exact z
          rw [if_pos h5] at e1
          have hc0 : c ≠ 0 := fun z => by rw [hi, z, Nat.add_zero] at h5; omega
          rw [if_neg hc0]
          refine r_goto 164 hK dX3_gate_35 ?_
          exact j164 w' wt' _ _ _ _ (by rw [e1]; exact hw') (by rw [e1]) (by rw [e1]) rfl
  refine r_iconst hK dX3_gate_0 ?_
  refine r_istore_2 hK dX3_gate_1 ?_
  refine r_iconstN (c := 0) hK dX3_gate_2 ?_
  refine r_istore_3 hK dX3_gate_3 ?_
  refine r_iconstN (c := 0) hK dX3_gate_4 ?_
  refine r_istore_4 hK dX3_gate_5 ?_
  refine r_aload_1 hK dX3_gate_7 ?_
  refine r_get hK fl_X3_170 dX3_gate_8 (hl) rfl ?_
  refine r_istore_5 hK dX3_gate_11 ?_
  have := lp (e - (k + 1)) 0 w wt none (by omega) hw
  rw [up_self hP3] at this
  exact this
theorem tbW_or {X : Nat → Nat → Nat} {k e : Nat} (s : Nat × Nat) : tbW X k e s = tvF X k (X 4 (k + 2)) (mnW (mnW (mnW s (tb1 X k)) (tb6 X k e)) (tb2 X k)) (e - (k + 3)) := by
  obtain ⟨z1, z2, z6⟩ := tb_cz X k e
  have hv := tvF_mn (X := X) (k := k) (m := X 4 (k + 2)) (mnW (mnW (mnW s (tb1 X k)) (tb6 X k e)) (tb2 X k)) (e - (k + 3))
  rw [tbW_mn s, hv.1]
  rw [mnW_as (mnW (mnW s (tb1 X k)) (tb6 X k e)), mnW_as (mnW s (tb1 X k)) (tb6 X k e), mnW_co z6 (cz_mn z2 hv.2), ← mnW_as, ← mnW_as]
set_option maxHeartbeats 4000000 in
theorem ct_pTells {G : GT} {Rel : Nat → Hp → Hp → Prop} (hR : RelOK Rel) {n : Nat} {f : Hp} {t ng w wt M N k e q nw ni no : Nat} {v : Nat → Nat} {s : Nat × Nat} {X : Nat → Nat → Nat} (hP3 : f 310 = some (pC nw t ng w wt)) (hT : TF f X M N) (hCT : CT f 313 314 ni no v) (hl : f q = some (.inl (10, [zI ((3 : Nat) : Int), zI ((k + 1 : Nat) : Int), zI ((e : Nat) : Int)]))) (hok : lnOK X N 23 k e) (he : e < M) (hq : 392 ≤ q) (hw : wR s w wt) : Ct G Rel yX3_tells cX3_tells 6 none (4) (0) [.ref 310, .ref q] n (f) (fun r n' f' => r = none ∧ n' = n ∧ ∃ w' wt', wR (tbW X k e s) w' wt' ∧ f' = up (up (up f 310 (pC nw t ng w' wt')) 314 (.inr (0, 8, fun j => zI (((if j < e - (k + 3) then X 4 (k + 3 + j) else v j) : Nat) : Int)))) 313 (.inl (5, [zI ((X 4 (k + 1) : Nat) : Int), zI ((X 4 (k + 2) : Nat) : Int), .ref 314]))) := by
  refine ct_intro [some (.ref 310), some (.ref q), none, none, none, none] hR rfl (Nat.le_of_ble_eq_true rfl) ?_
  intro K hG hRel hK hRt hnm
  obtain ⟨-, -, -, -, -, -, -, -, hok1⟩ := hok
  obtain ⟨hke, hke2, hkk⟩ := hok1 rfl
  have hM2 : M ≤ 2001 := hT.h4.2.2.1
  have hXb := (tkb hT).1
  have hX1 := hXb (k + 1)
  have hX2 := hXb (k + 2)
  have hx1 : X 2 (k + 1) = 2 := hkk (k + 1) (by omega) (by omega)
  have hx2 : X 2 (k + 1 + 1) = 2 := hkk (k + 1 + 1) (by omega) (by omega)
  rw [tbW_or] at hRt
  obtain ⟨a, ha⟩ : ∃ a, a = X 4 (k + 1) := ⟨_, rfl⟩
  obtain ⟨b, hb⟩ : ∃ b, b = X 4 (k + 2) := ⟨_, rfl⟩
  obtain ⟨S1, hS1⟩ : ∃ S, S = mnW (mnW s (tb1 X k)) (tb6 X k e) := ⟨_, rfl⟩
  obtain ⟨S2, hS2⟩ : ∃ S, S = mnW S1 (tb2 X k) := ⟨_, rfl⟩
  obtain ⟨m, hm⟩ : ∃ m, m = e - (k + 3) := ⟨_, rfl⟩
  rw [← hS1, ← hS2, ← hb, ← ha, ← hm] at hRt
  have hPA : ∀ a b, up f 310 (pC nw t ng a b) 310 = some (pC nw t ng a b) := fun a b => up_s _ _ _
  have hTA : ∀ e, TF (up f 310 e) X M N := fun e => hT.up (by decide)
  have hlA : ∀ e', up f 310 e' q = some (.inl (10, [zI ((3 : Nat) : Int), zI ((k + 1 : Nat) : Int), zI ((e : Nat) : Int)])) := fun e' => by rw [up_n (by omega)]; exact hl
  have hP5 : ∀ a b hv, up (up f 310 (pC nw t ng a b)) 314 hv 310 = some (pC nw t ng a b) := fun a b hv => (up_n (by decide)).trans (up_s _ _ _)
  have hT5 : ∀ e hv, TF (up (up f 310 e) 314 hv) X M N := fun e hv => (hTA e).up (by decide)
  have hl5 : ∀ e' hv, up (up f 310 e') 314 hv q = some (.inl (10, [zI ((3 : Nat) : Int), zI ((k + 1 : Nat) : Int), zI ((e : Nat) : Int)])) := fun e' hv => by rw [up_n (by omega)]; exact hlA e'
  have hC5 : ∀ e' hv, up (up f 310 e') 314 hv 313 = some (.inl (5, [zI (ni : Int), zI (no : Int), .ref 314])) := fun e' hv => by rw [up_n (by decide), up_n (by decide)]; exact hCT.1
  have lp : ∀ (d c w' wt' : Nat), c + d = m → wR (tvF X k b S2 c) w' wt' → Wx K 101 [some (.ref 310), some (.ref q), some (zI (a : Int)), some (zI (b : Int)), some (zI (m : Int)), some (zI (c : Int))] [] n (up (up f 310 (pC nw t ng w' wt')) 314 (.inr (0, 8, fun j => zI (((if j < c then X 4 (k + 3 + j) else v j) : Nat) : Int)))) 0 := by
    intro d
    induction d with
    | zero =>
      intro c w' wt' hc hw'
      have hcm : c = m := by omega
      subst hcm
      refine r_iload_5 hK dX3_tells_101 ?_
      refine r_iload_4 hK dX3_tells_103 ?_
      refine r_icmp_ge 179 hK dX3_tells_105 (by omega) (by omega) (fun h105 => ?_) (fun h105 => ?_)
      · refine r_aload_0 hK dX3_tells_179 ?_
        refine r_get hK fl_X3_21 dX3_tells_180 (hP5 _ _ _) rfl ?_
        refine r_iload_2 hK dX3_tells_183 ?_
        refine r_put hK fl_X3_102 dX3_tells_184 (hC5 _ _) (by simp) ?_
        refine r_aload_0 hK dX3_tells_187 ?_
        refine r_get hK fl_X3_21 dX3_tells_188 ((up_n (by decide)).trans (hP5 _ _ _)) rfl ?_
        refine r_iload_3 hK dX3_tells_191 ?_
        refine r_put hK fl_X3_192 dX3_tells_192 (up_s _ _ _) (by simp) ?_
        exact r_vret hK hRt dX3_tells_195 ⟨rfl, rfl, w', wt', hw', by rw [up_up]; rfl⟩
      · omega --!
    | succ d ih =>
      intro c w' wt' hc hw'
      have hbd := hw'.2.2
      obtain ⟨y, hy⟩ : ∃ y, y = k + 3 + c := ⟨_, rfl⟩
      have hyM : y < M := by omega
      have hyX := hXb y
      have hy2 : X 2 y = 2 := hkk y (by omega) (by omega)
      have e1 : tvF X k b S2 (c + 1) = if (1 ≤ b ∧ b ≤ 3) ∧ rN b ≤ X 4 y then tellS (tvF X k b S2 c) 5 y else tvF X k b S2 c := by rw [hy]; rfl
      have eu : updV (fun j => zI (((if j < c then X 4 (k + 3 + j) else v j) : Nat) : Int)) c (zI ((X 4 y : Nat) : Int)) = fun j => zI (((if j < c + 1 then X 4 (k + 3 + j) else v j) : Nat) : Int) := by
        funext j
        unfold updV
        by_cases z : j = c
        · rw [if_pos z, if_pos (by omega), z, hy]
        · rw [if_neg z]
          show zI (((if j < c then X 4 (k + 3 + j) else v j) : Nat) : Int) = _
          by_cases z2 : j < c
          · rw [if_pos z2, if_pos (by omega)]
          · rw [if_neg z2, if_neg (by omega)]
      have nx : ∀ w2 wt2, wR (tvF X k b S2 (c + 1)) w2 wt2 → Wx K 173 [some (.ref 310), some (.ref q), some (zI (a : Int)), some (zI (b : Int)), some (zI (m : Int)), some (zI (c : Int))] [] n (up (up f 310 (pC nw t ng w2 wt2)) 314 (.inr (0, 8, fun j => zI (((if j < c + 1 then X 4 (k + 3 + j) else v j) : Nat) : Int)))) 0 := by
        intro w2 wt2 hw2
        first | refine r_incN_5 hK dX3_tells_173 ?_ | refine r_iinc_5 hK dX3_tells_173 ?_
        refine r_goto 101 hK dX3_tells_176 ?_
        exact ih (c + 1) w2 wt2 (by omega) hw2
      refine r_iload_5 hK dX3_tells_101 ?_
      refine r_iload_4 hK dX3_tells_103 ?_
      refine r_icmp_ge 179 hK dX3_tells_105 (by omega) (by omega) (fun h105 => ?_) (fun h105 => ?_)
      · omega --!
      · refine r_aload_0 hK dX3_tells_108 ?_
        refine r_get hK fl_X3_21 dX3_tells_109 (hP5 _ _ _) rfl ?_
        refine r_get hK fl_X3_189 dX3_tells_112 (hC5 _ _) rfl ?_
        refine r_iload_5 hK dX3_tells_115 ?_
        refine r_aload_0 hK dX3_tells_117 ?_
        refine r_get hK fl_X3_39 dX3_tells_118 (hP5 _ _ _) rfl ?_
        refine r_aload_1 hK dX3_tells_121 ?_
        refine r_get hK fl_X3_170 dX3_tells_122 (hl5 _ _) rfl ?_
        refine r_iconstN (c := 2) hK dX3_tells_125 ?_
        first | refine r_iaddN hK dX3_tells_126 ?_ | refine r_iadd hK dX3_tells_126 ?_
        refine r_iload_5 hK dX3_tells_127 ?_
        first | refine r_iaddN hK dX3_tells_129 ?_ | refine r_iadd hK dX3_tells_129 ?_
        rw [show k + 1 + 2 + c = y by omega]
        refine r_pV1 hK (ct_pNum hK.rel (hT5 _ _) hyM hy2) lk_X3_160 ((hT5 _ _).rcv hK.rel) dX3_tells_130 ?_
        refine r_iast hK dX3_tells_133 (up_s _ _ _) (by omega) ?_
        rw [up_up, eu]
        refine r_iload_3 hK dX3_tells_134 ?_
        refine r_iconstN (c := 1) hK dX3_tells_135 ?_
        refine r_iconstN (c := 3) hK dX3_tells_136 ?_
        refine r_pSN3 hK (ct_isIn0 hK.rel (by omega) (by decide) (by decide)) lk_X3_163 dX3_tells_137 ?_
        refine r_ifB_eq 173 hK dX3_tells_140 (fun h140 => ?_) (fun h140 => ?_)
        · exact nx w' wt' (by rw [e1, if_neg (by omega)]; exact hw') --!
        · refine r_aload_0 hK dX3_tells_143 ?_
          refine r_get hK fl_X3_21 dX3_tells_144 (hP5 _ _ _) rfl ?_
          refine r_get hK fl_X3_189 dX3_tells_147 (hC5 _ _) rfl ?_
          refine r_iload_5 hK dX3_tells_150 ?_
          refine r_iald hK dX3_tells_152 (up_s _ _ _) (by omega) ?_
          rw [if_pos (Nat.lt_succ_self c), ← hy]
          refine r_iconstN (c := 1) hK dX3_tells_153 ?_
          refine r_iload_3 hK dX3_tells_154 ?_
          refine r_ishl hK dX3_tells_155 (by omega) (sh1 (by omega)) ?_
          show Wx K _ _ (zI ((rN b : Nat) : Int) :: _) _ _ _
          have hr8 : rN b ≤ 8 := rN_le8 (by omega)
          refine r_icmp_lt 173 hK dX3_tells_156 (by omega) (by omega) (fun h156 => ?_) (fun h156 => ?_)
          · exact nx w' wt' (by rw [e1, if_neg (by omega)]; exact hw') --!
          · refine r_aload_0 hK dX3_tells_159 ?_
            refine r_iconstN (c := 5) hK dX3_tells_160 ?_
            refine r_aload_1 hK dX3_tells_161 ?_
            refine r_get hK fl_X3_170 dX3_tells_162 (hl5 _ _) rfl ?_
            refine r_iconstN (c := 2) hK dX3_tells_165 ?_
            first | refine r_iaddN hK dX3_tells_166 ?_ | refine r_iadd hK dX3_tells_166 ?_
            refine r_iload_5 hK dX3_tells_167 ?_
            first | refine r_iaddN hK dX3_tells_169 ?_ | refine r_iadd hK dX3_tells_169 ?_
            rw [show k + 1 + 2 + c = y by omega]
            refine r_vV2 hK (ct_pTell hK.rel (hP5 _ _ _) (by omega) (by omega) (by decide) (by omega)) lk_X3_143 (Rcv.raw hK.rel (hP5 _ _ _) rfl) dX3_tells_170 ?_
            rw [up_comm (j := 314) (k := 310) (by decide), up_up]
            refine nx _ _ ?_
            rw [e1, if_pos (by omega), tell_mn (by decide)]; exact hw'.tell (by decide) (by omega)
  have st2 : ∀ (w' wt' : Nat), wR S2 w' wt' → Wx K 98 [some (.ref 310), some (.ref q), some (zI (a : Int)), some (zI (b : Int)), some (zI (m : Int)), none] [] n (up f 310 (pC nw t ng w' wt')) 0 := by
    intro w' wt' hw'
    have := lp m 0 w' wt' (by omega) hw'
    rw [show (fun j => zI (((if j < 0 then X 4 (k + 3 + j) else v j) : Nat) : Int)) = fun j => zI ((v j : Nat) : Int) from by funext j; rw [if_neg (Nat.not_lt_zero _)], up_self (show up f 310 _ 314 = _ from (up_n (by decide)).trans hCT.2)] at this
    refine r_iconstN (c := 0) hK dX3_tells_98 ?_
    refine r_istore_5 hK dX3_tells_99 ?_
    exact this
  have st1 : ∀ (w' wt' : Nat), wR S1 w' wt' → Wx K 78 [some (.ref 310), some (.ref q), some (zI (a : Int)), some (zI (b : Int)), some (zI (m : Int)), none] [] n (up f 310 (pC nw t ng w' wt')) 0 := by
    intro w' wt' hw'
    have hbd := hw'.2.2
    refine r_iload_3 hK dX3_tells_78 ?_
    refine r_iconstN (c := 1) hK dX3_tells_79 ?_
    refine r_iconstN (c := 3) hK dX3_tells_80 ?_
    refine r_pSN3 hK (ct_isIn0 hK.rel (by omega) (by decide) (by decide)) lk_X3_163 dX3_tells_81 ?_
    refine r_ifB_ne 98 hK dX3_tells_84 (fun h84 => ?_) (fun h84 => ?_)
    · refine st2 w' wt' ?_
      have : tb2 X k = (0, 0) := by unfold tb2; rw [← hb, if_pos (by omega)]
      rw [hS2, this, mnW_0]; exact hw' --!
    · refine r_aload_0 hK dX3_tells_87 ?_
      refine r_iconstN (c := 5) hK dX3_tells_88 ?_
      refine r_aload_1 hK dX3_tells_89 ?_
      refine r_get hK fl_X3_170 dX3_tells_90 (hlA _) rfl ?_
      refine r_iconstN (c := 1) hK dX3_tells_93 ?_
      first | refine r_iaddN hK dX3_tells_94 ?_ | refine r_iadd hK dX3_tells_94 ?_
      refine r_vV2 hK (ct_pTell hK.rel (hPA _ _) (by omega) (by omega) (by decide) (by omega)) lk_X3_143 (Rcv.raw hK.rel (hPA _ _) rfl) dX3_tells_95 ?_
      rw [up_up]
      refine st2 _ _ ?_
      have : tb2 X k = (5, k + 2) := by unfold tb2; rw [← hb, if_neg (by omega)]
      rw [hS2, this]; exact hw'.tell (by decide) (by omega)
  have hbd := hw.2.2
  refine r_aload_0 hK dX3_tells_0 ?_
  refine r_get hK fl_X3_39 dX3_tells_1 (hP3) rfl ?_
  refine r_aload_1 hK dX3_tells_4 ?_
  refine r_get hK fl_X3_170 dX3_tells_5 (hl) rfl ?_
  refine r_pV1 hK (ct_pNum hK.rel hT (by omega) hx1) lk_X3_160 (hT.rcv hK.rel) dX3_tells_8 ?_
  refine r_istore_2 hK dX3_tells_11 ?_
  refine r_aload_0 hK dX3_tells_12 ?_
  refine r_get hK fl_X3_39 dX3_tells_13 (hP3) rfl ?_
  refine r_aload_1 hK dX3_tells_16 ?_
  refine r_get hK fl_X3_170 dX3_tells_17 (hl) rfl ?_
  refine r_iconstN (c := 1) hK dX3_tells_20 ?_
  first | refine r_iaddN hK dX3_tells_21 ?_ | refine r_iadd hK dX3_tells_21 ?_
  refine r_pV1 hK (ct_pNum hK.rel hT (by omega) hx2) lk_X3_160 (hT.rcv hK.rel) dX3_tells_22 ?_
  refine r_istore_3 hK dX3_tells_25 ?_
  refine r_aload_1 hK dX3_tells_26 ?_
  refine r_get hK fl_X3_173 dX3_tells_27 (hl) rfl ?_
  refine r_aload_1 hK dX3_tells_30 ?_
  refine r_get hK fl_X3_170 dX3_tells_31 (hl) rfl ?_
  first | refine r_isubN hK dX3_tells_34 (by omega) ?_ | refine r_isub hK dX3_tells_34 ?_
  refine r_iconstN (c := 2) hK dX3_tells_35 ?_
  first | refine r_isubN hK dX3_tells_36 (by omega) ?_ | refine r_isub hK dX3_tells_36 ?_
  refine r_istore_4 hK dX3_tells_37 ?_
  rw [show e - (k + 1) - 2 = m by omega, ← ha, show X 4 (k + 1 + 1) = b from hb.symm]
  refine r_iload_2 hK dX3_tells_39 ?_
  refine r_iconstN (c := 1) hK dX3_tells_40 ?_
  refine r_iconstN (c := 3) hK dX3_tells_41 ?_
  refine r_pSN3 hK (ct_isIn0 hK.rel (by omega) (by decide) (by decide)) lk_X3_163 dX3_tells_42 ?_
  refine r_ifB_ne 60 hK dX3_tells_45 (fun h45 => ?_) (fun h45 => ?_)
  · refine r_iload_4 hK dX3_tells_60 ?_
    refine r_iconstN (c := 1) hK dX3_tells_62 ?_
    refine r_iload_2 hK dX3_tells_63 ?_
    refine r_ishl hK dX3_tells_64 (by omega) (sh1 (by omega)) ?_
    show Wx K _ _ (zI ((rN a : Nat) : Int) :: _) _ _ _
    have hr8 : rN a ≤ 8 := rN_le8 (by omega)
    have q1 : tb1 X k = (0, 0) := by unfold tb1; rw [← ha, if_pos (by omega)]
    refine r_icmp_eq 78 hK dX3_tells_65 (by omega) (by omega) (fun h65 => ?_) (fun h65 => ?_)
    · have q6 : tb6 X k e = (0, 0) := by unfold tb6; rw [← ha, ← hm, if_neg (by omega)]
      have := st1 w wt (by rw [hS1, q1, q6, mnW_0, mnW_0]; exact hw)
      rw [up_self hP3] at this
      exact this --!
    · refine r_aload_0 hK dX3_tells_68 ?_
      refine r_bipushN (c := 6) hK dX3_tells_69 ?_
      refine r_aload_1 hK dX3_tells_71 ?_
      refine r_get hK fl_X3_173 dX3_tells_72 (hl) rfl ?_
      refine r_vV2 hK (ct_pTell hK.rel hP3 (by omega) (by omega) (by decide) (by omega)) lk_X3_143 (Rcv.raw hK.rel hP3 rfl) dX3_tells_75 ?_
      refine st1 _ _ ?_
      have q6 : tb6 X k e = (6, e) := by unfold tb6; rw [← ha, ← hm, if_pos (by omega)]
      rw [hS1, q1, q6, mnW_0]; exact hw.tell (by decide) (by omega)
  · refine r_aload_0 hK dX3_tells_48 ?_
    refine r_iconstN (c := 5) hK dX3_tells_49 ?_
    refine r_aload_1 hK dX3_tells_50 ?_
    refine r_get hK fl_X3_170 dX3_tells_51 (hl) rfl ?_
    refine r_vV2 hK (ct_pTell hK.rel hP3 (by omega) (by omega) (by decide) (by omega)) lk_X3_143 (Rcv.raw hK.rel hP3 rfl) dX3_tells_54 ?_
    refine r_goto 78 hK dX3_tells_57 ?_
    refine st1 _ _ ?_
    have q1 : tb1 X k = (5, k + 1) := by unfold tb1; rw [← ha, if_neg (by omega)]
    have q6 : tb6 X k e = (0, 0) := by unfold tb6; rw [← ha, if_neg (by omega)]
    rw [hS1, q1, q6, mnW_0]; exact hw.tell (by decide) (by omega)
