set_option maxRecDepth 100000
/-! ===== Shortest.lays ===== -/
theorem r_alAdd {K : KT} {own : String} {cc : ByteArray} {nL d U pc : Nat} {L : List (Option Value)} {rest : List Value} {n : Nat} {f : Hp} {u id N v idx : Nat} {l : List Nat} (c : Nat) (hK : Gd K own cc nL d U) (hQ : kRel K = RelP) (hXK : GX (kG K)) (hl : LkV own idx yJ14_add cJ14_add 2 (some .boolean) 1) (h : f id = some (cAL N l)) (hN : N = 0 ∨ 10 ≤ N) (hN6 : N < 600000) (hlN : l.length ≤ N) (hc : 1 ≤ c ∧ (0 < N → l.length = N → gwC N / 12 + 1 ≤ c)) (hel : ∀ x ∈ l, el f x) (hv : el f v) (hd : decode cc pc = .ok (.invokevirtual idx, 3))
    (kk : ∀ n2 u2, n ≤ n2 → u2 ≤ u + c → Wx K (pc + 3) L (zI ((1 : Nat) : Int) :: rest) n2 (up f id (cAL (if l.length < N then N else gwC N) (l ++ [v]))) u2) (hL : L.length = nL := by rfl) (hdp : 8 ≤ d := by decide) (hu : u + c ≤ U := by omega) (hcat : catS rest ≤ 8 := by exact Nat.le_of_ble_eq_true rfl) : Wx K pc L (.ref v :: .ref id :: rest) n f u := by
  by_cases q : l.length < N
  · refine r_callV1 hK (pa_addF hQ hXK (by omega) h q hv) hl (rcv_al hQ (by omega) h) hd (fun r m2 g2 hp => ?_) hL (by omega) (by decide) (by omega) hcat
    obtain ⟨rfl, hle, rfl⟩ := hp
    have := kk m2 (u + 0) hle (by omega)
    rw [if_pos q] at this
    exact this
  · by_cases z : N = 0
    · subst z
      refine r_callV1 hK (pa_addA hQ hXK h hv) hl (rcv_al hQ (by omega) h) hd (fun r m2 g2 hp => ?_) hL (by omega) (by decide) (by omega) hcat
      obtain ⟨rfl, hle, rfl⟩ := hp
      have := kk m2 (u + 1) hle (by omega)
      rw [if_neg q] at this
      exact this
    · have := hc.2 (by omega) (by omega)
      refine r_callV1 hK (pa_addB hQ hXK (by omega) h (by omega) (by omega) hN6 hel hv) hl (rcv_al hQ (by omega) h) hd (fun r m2 g2 hp => ?_) hL (by omega) (by decide) (by omega) hcat
      obtain ⟨rfl, hle, rfl⟩ := hp
      have := kk m2 (u + (gwC N / 12 + 1)) hle (by omega)
      rw [if_neg q] at this
      exact this
/-- the marks: Integers -/
def SM (f : Hp) (N2 : Nat) (l2 : List Nat) (k : Nat) (mv : Nat → Nat) : Prop := f 342 = some (cAL N2 l2) ∧ (N2 = 0 ∨ N2 = 10) ∧ (l2.length = k ∧ l2.length ≤ N2) ∧ ∀ t, t < k → IntA f (l2.getD t 0) (mv t)
theorem IntA.kp {f f' : Hp} {id v : Nat} (h : IntA f id v) (hk : 392 ≤ id → (∃ e, f id = some e) → f' id = f id) : IntA f' id v := by
  rcases h with h | ⟨h1, h2⟩
  · exact Or.inl h
  · exact Or.inr ⟨h1, by rw [hk h1 ⟨_, h2⟩]; exact h2⟩
theorem IntA.el {f : Hp} {id v : Nat} (h : IntA f id v) : el f id := by
  rcases h with ⟨h1, h2⟩ | ⟨h1, h2⟩
  · exact Or.inr (Or.inr (Or.inr (by omega)))
  · exact Or.inl ⟨20, _, h2, by omega⟩
theorem SM.up {f : Hp} {N2 k j : Nat} {l2 : List Nat} {mv : Nat → Nat} {e : E_} (h : SM f N2 l2 k mv) (hj : j < 392 ∧ j ≠ 342 ∨ f j = none) : SM (up f j e) N2 l2 k mv := by
  obtain ⟨h1, h2, h3, h4⟩ := h
  refine ⟨(up_n (fun q => ?_)).trans h1, h2, h3, fun t ht => (h4 t ht).kp (fun q1 q2 => up_n (fun q => ?_))⟩
  · rcases hj with z | z
    · omega
    · rw [← q, h1] at z; cases z
  · rcases hj with z | z
    · omega
    · obtain ⟨e, q2⟩ := q2; rw [q, z] at q2; cases q2
/-- ready: all orders within four gates -/
def SHL (f : Hp) (w : Nat) : Prop := w ≤ 3 ∧ ∃ (s : GSt) (l1 l2 l3 : List Nat) (N2 N3 : Nat) (hx : Nat → Value) (mv : Nat → Nat), H4 w s.1 s.2.1 s.2.2.1 s.2.2.2.1 s.2.2.2.2.1 ∧ (10 ≤ s.2.2.2.2.2 ∧ s.1 ≤ s.2.2.2.2.2 ∧ s.2.2.2.2.2 ≤ 5300) ∧ SHo f w (rN w) ∧ SHb f s.2.2.2.2.1 ∧ SL f w s l1 ∧ SG f w N3 l3 ∧ (N3 = 0 ∨ N3 = 10 ∨ N3 = 15) ∧ SM f N2 l2 5 mv ∧ (∀ t, t < 5 → mv t ≤ s.1 ∧ ∀ j, j < s.1 → (j < mv t ↔ s.2.2.1 j ≤ t)) ∧ f 345 = some (.inr (0, 8, hx))
/-- ready to be laid -/
def SHX (f : Hp) (w0 R0 : Nat) : Prop := SHo f w0 R0 ∧ (f 330 = some (.inr (6, 5, fun k => .ref (331 + 2 * k))) ∧ ∀ k, k < 5 → ∃ b, f (331 + 2 * k) = some (cBS 630 b)) ∧ (∃ N1 l1, f 341 = some (cAL N1 l1) ∧ (N1 = 0 ∨ 10 ≤ N1) ∧ N1 ≤ 5300) ∧ (∃ N2 l2, f 342 = some (cAL N2 l2) ∧ (N2 = 0 ∨ N2 = 10)) ∧ (∃ N3 l3, f 346 = some (cAL N3 l3) ∧ (N3 = 0 ∨ N3 = 10 ∨ N3 = 15)) ∧ ∃ hx : Nat → Value, f 345 = some (.inr (0, 8, hx))
theorem SHL.x {f : Hp} {w : Nat} (h : SHL f w) : SHX f w (rN w) := by
  obtain ⟨hw, s, l1, l2, l3, N2, N3, hx, mv, a1, a2, a3, a4, a5, a6, a7, a8, a9, a10⟩ := h
  exact ⟨a3, ⟨a4.1, fun k hk => ⟨_, a4.2 k hk⟩⟩, ⟨_, _, a5.1, by omega, by omega⟩, ⟨_, _, a8.1, a8.2.1⟩, ⟨_, _, a6.1, a7⟩, ⟨_, a10⟩⟩
theorem SHX.clr {f : Hp} (h : f 330 = some (.inr (6, 5, fun k => .ref (331 + 2 * k)))) (hb : ∀ k, k < 5 → f (331 + 2 * k) = some (cBS 630 (fun _ => false))) : SHb f (fun _ => 99) := ⟨h, fun k hk => by rw [hb k hk]; congr 2; funext c; exact (decide_eq_false (show ¬ 99 = k by omega)).symm⟩
theorem glF_s {R : Nat} : ∀ m c, glF R (m + 1) c = glF R m c ++ (if ((c + m) % R).testBit ((c + m) / R) then [] else [((c + m) / R, (c + m) % R, 0)])
  | 0, c => by
    show (if (c % R).testBit (c / R) then [] else [_]) = [] ++ _
    rw [List.nil_append, Nat.add_zero]
  | m + 1, c => by
    have ih := glF_s (R := R) m (c + 1)
    show (if (c % R).testBit (c / R) then glF R (m + 1) (c + 1) else (c / R, c % R, 0) :: glF R (m + 1) (c + 1)) = (if (c % R).testBit (c / R) then glF R m (c + 1) else (c / R, c % R, 0) :: glF R m (c + 1)) ++ _
    rw [ih, show c + 1 + m = c + (m + 1) by omega]
    split
    · rfl
    · rfl
theorem glF_len {R : Nat} : ∀ m c, (glF R m c).length ≤ m
  | 0, c => Nat.le_refl _
  | m + 1, c => by
    unfold glF
    have := glF_len (R := R) m (c + 1)
    split
    · omega
    · rw [List.length_cons]; omega
theorem glF_mono {R : Nat} : ∀ d m, (glF R m 0).length ≤ (glF R (m + d) 0).length
  | 0, m => Nat.le_refl _
  | d + 1, m => by
    have := glF_mono (R := R) d m
    rw [show m + (d + 1) = m + d + 1 by omega, glF_s, List.length_append]; omega
theorem IsD_id (w : Nat) : IsD w (fun x => x) 0 := ⟨⟨[], rfl, fun g h => (by cases h), fun _ _ => rfl⟩, fun j hj => absurd hj (Nat.not_lt_zero _)⟩
theorem BQ_0 (w : Nat) : BQ w 1 (fun _ x => x) (fun _ => 0) (fun _ => plc (fun x => x) (rN w)) (fun j => if j = plc (fun x => x) (rN w) then 0 else 99) := ⟨Nat.le_refl _, fun _ _ => rfl, fun j hj => ⟨rfl, if_pos rfl, IsD_id w⟩, fun i j h1 h2 => by omega, fun i j h1 h2 => Nat.le_refl _, fun c hc h => if_neg (h 0 (by omega))⟩
/-- between two levels -/
def LV (w k from0 : Nat) (s : GSt) : Prop := BQs w s ∧ from0 ≤ s.1 ∧ (∀ j g, j < from0 → gq w g → nbQ w s.1 s.2.1 j g) ∧ (∀ j, j < from0 → s.2.2.1 j + 1 < k) ∧ (∀ j, from0 ≤ j → j < s.1 → s.2.2.1 j + 1 = k) ∧ 10 ≤ s.2.2.2.2.2 ∧ s.1 ≤ s.2.2.2.2.2 ∧ s.2.2.2.2.2 ≤ 5300
set_option maxHeartbeats 4000000 in
theorem ct_sLays {G : GT} {Rel : Nat → Hp → Hp → Prop} (hR : RelOK Rel) (hP : Rel = RelP) (hX : GX G) {n : Nat} {f : Hp} {w w0 R0 : Nat} (hw : w ≤ 3) (hD : D8 w) (hn0 : 392 ≤ n) (hS : SHX f w0 R0) (hw0 : w0 ≤ 3) (hR0 : R0 = 0 ∨ (R0 = rN w0 ∧ SHL f w0)) : Ct G Rel yX7_lays cX7_lays 7 none (9) (6400) [.ref 329, zI (w : Int)] n (f) (fun r n' f' => r = none ∧ n ≤ n' ∧ SHL f' w ∧ KS n f f') := by
  refine ct_intro [some (.ref 329), some (zI (w : Int)), none, none, none, none, none] hR rfl (Nat.le_of_ble_eq_true rfl) ?_
  intro K hG hRel hK hRt hnm
  have hQ : kRel K = RelP := by rw [hRel]; exact hP
  have hXK : GX (kG K) := by rw [hG]; exact hX
  have hr8 : rN w ≤ 8 := rN_le (k := 3) hw
  have hr1 := rN_pos w
  have hgl := gl_len w (by omega)
  have hR0b : R0 ≤ 8 := by
    rcases hR0 with z | z
    · omega
    · rw [z.1]; exact rN_le (k := 3) hw0
  obtain ⟨hO, ⟨hB1, hB2⟩, ⟨N1, l1, h341, hN1⟩, ⟨N2, l2, h342, hN2⟩, ⟨N3, l3, h346, hN3⟩, ⟨hx, h345⟩⟩ := id hS
  -- the levels
  have LP : ∀ (d k from0 n1 u N2 N3 : Nat) (f1 : Hp) (s : GSt) (l1 l2 l3 : List Nat) (hx : Nat → Value) (mv : Nat → Nat) (pr : Nat) (a5 a6 : Option Value), d = 5 - k → 1 ≤ k → k ≤ 5 → LV w k from0 s → SHo f1 w (rN w) → SHb f1 s.2.2.2.2.1 → SL f1 w s l1 → SG f1 w N3 l3 → (N3 = 0 ∨ N3 = 10 ∨ N3 = 15) → SM f1 N2 l2 (k - 1) mv → (∀ t, t < k - 1 → mv t ≤ s.1 ∧ ∀ j, j < s.1 → (j < mv t ↔ s.2.2.1 j ≤ t)) → f1 345 = some (.inr (0, 8, hx)) → n ≤ n1 → KS n f f1 → 2 * u ≤ 2 * s.1 + s.2.2.2.2.2 + 200 + 6 * k → nl a5 = true → Wx K 181 [some (.ref 329), some (zI (w : Int)), some (.ref pr), some (zI (from0 : Int)), some (zI (k : Int)), a5, a6] [] n1 f1 u := by
    intro d
    induction d using Nat.strongRecOn with
    | _ d ih =>
      intro k from0 n1 u N2 N3 f1 s l1 l2 l3 hx mv pr a5 a6 hd hk1 hk5 hLV hO hB hL hG hN3 hM hmv h345 hn1 hKS hu hnl
      obtain ⟨v1, v2, v3, v4, v5, v6, v7, v8⟩ := id hLV
      have hm4 : ∀ j, j < s.1 → s.2.2.1 j + 1 ≤ k := fun j hj => by
        by_cases c : j < from0
        · have := v4 j c; omega
        · have := v5 j (by omega) hj; omega
      have hm : s.1 ≤ 3520 := cn4_le hw v1 (fun j hj => by have := hm4 j hj; omega)
      have hel : ∀ x ∈ l2, el f1 x := fun x hx => by
        obtain ⟨j, hj, e⟩ := List.getElem_of_mem hx
        have := hM.2.2.2 j (by rw [← hM.2.2.1.1]; exact hj)
        rw [List.getD_eq_getElem?_getD, List.getElem?_eq_getElem hj] at this
        rw [← e]; exact this.el
      have h2 := hM.1
      have hl2 := hM.2.2.1.1
      have hl2N := hM.2.2.1.2
      have hN2 := hM.2.1
      have hlN : l2.length ≤ 4 := by omega
      by_cases hk4 : k = 5
      · refine r_iload_4 hK dX7_lays_181 ?_
        refine r_iconstN (c := 4) hK dX7_lays_183 ?_
        refine r_icmp_gt 252 hK dX7_lays_184 (by omega) (by omega) (fun h184 => ?_) (fun h184 => ?_)
        · refine r_aload_0 hK dX7_lays_252 ?_
          refine r_get hK fl_X7_26 dX7_lays_253 (hO) rfl ?_
          refine r_aload_0 hK dX7_lays_256 ?_
          refine r_get hK fl_X7_22 dX7_lays_257 (hO) rfl ?_
          refine r_pV0 hK (pa_size hQ (by omega) hL.1) lk_X7_79 (rcv_al hQ (by omega) hL.1) dX7_lays_260 ?_
          rw [hL.2.1]
          refine r_fact hK (fun _ hno => ?_)
          refine r_callS1 hK (ct_valueOf hK.rel hXK (by omega) (by omega)) lk_X7_83 dX7_lays_263 (fun r m1 g1 hp => ?_) (hu := by omega)
          obtain ⟨id, rfl, hI, hcs⟩ := hp
          have hup : n1 ≤ m1 ∧ SHo g1 w (rN w) ∧ SHb g1 s.2.2.2.2.1 ∧ SL g1 w s l1 ∧ SG g1 w N3 l3 ∧ SM g1 N2 l2 (k - 1) mv ∧ g1 345 = some (.inr (0, 8, hx)) ∧ KS n f g1 ∧ ∀ x ∈ l2, el g1 x := by
            rcases hcs with ⟨-, e1, e2⟩ | ⟨e1, -, e2⟩
            · rw [e1, e2]; exact ⟨Nat.le_refl _, hO, hB, hL, hG, hM, h345, hKS, hel⟩
            · have hnn : f1 n1 = none := hno n1 (Nat.le_refl _)
              rw [e1, e2]; exact ⟨by omega, hO.up (by omega), hB.up (by omega), hL.up (Or.inr hnn), hG.up (Or.inr hnn), hM.up (Or.inr hnn), (up_n (by omega)).trans h345, hKS.upS (Or.inr hn1), fun x hx => (hel x hx).up (fun e0 q => by rw [hnn] at q; cases q)⟩
          obtain ⟨p0, p1, p2, p3, p4, p5, p6, p7, p8⟩ := hup
          refine r_alAdd 2 hK hQ hXK lk_X7_67 p5.1 (by omega) (by omega) (by omega) ⟨by omega, fun q1 q2 => by omega⟩ p8 hI.el dX7_lays_266 (fun n2 u2 hn2 hu2 => ?_)
          refine r_pop hK dX7_lays_269 ?_
          have q1 := p1.up (k := 342) (e := cAL (if l2.length < N2 then N2 else gwC N2) (l2 ++ [id])) (by omega)
          have q2 := p2.up (k := 342) (e := cAL (if l2.length < N2 then N2 else gwC N2) (l2 ++ [id])) (by omega)
          have q3 := p3.up (k := 342) (e := cAL (if l2.length < N2 then N2 else gwC N2) (l2 ++ [id])) (Or.inl (by omega))
          have q4 := p4.up (k := 342) (e := cAL (if l2.length < N2 then N2 else gwC N2) (l2 ++ [id])) (Or.inl (by omega))
          refine r_vret hK hRt dX7_lays_270 ⟨rfl, by omega, ⟨hw, s, l1, l2 ++ [id], l3, _, N3, hx, fun t => if t = 4 then s.1 else mv t, ⟨v1, fun j hj => by have := hm4 j hj; omega, fun j g hj he hg => v3 j g (by by_cases c : j < from0; exact c; have := v5 j (by omega) hj; omega) hg⟩, ⟨v6, v7, v8⟩, q1, q2, q3, q4, hN3, ⟨up_s _ _ _, ?_, ?_, fun t ht => ?_⟩, fun t ht => ⟨?_, fun j hj => ?_⟩, (up_n (by omega)).trans p6⟩, p7.upS (Or.inl (by omega))⟩ (by omega)
          · by_cases c : l2.length < N2
            · rw [if_pos c]; omega
            · rw [if_neg c]; have : N2 = 0 := (by omega); subst this; right; rfl
          · rw [List.length_append]
            refine ⟨by simp; omega, ?_⟩
            by_cases c : l2.length < N2
            · rw [if_pos c]; simp; omega
            · rw [if_neg c]; have : N2 = 0 := (by omega); subst this; show l2.length + 1 ≤ 10; omega
          · rw [getD_app (by omega)]
            show IntA _ _ (if t = 4 then s.1 else mv t)
            by_cases c : t = 4
            · rw [if_pos (show t = l2.length by omega), if_pos c]; exact hI.kp (fun q1 _ => up_n (by omega))
            · rw [if_neg (show ¬ t = l2.length by omega), if_neg c]; exact (p5.2.2.2 t (by omega)).kp (fun q1 _ => up_n (by omega))
          · show (if t = 4 then s.1 else mv t) ≤ s.1
            by_cases c : t = 4
            · rw [if_pos c]; exact Nat.le_refl _
            · rw [if_neg c]; exact (hmv t (by omega)).1
          · by_cases c : t = 4
            · show j < (if t = 4 then s.1 else mv t) ↔ _
              rw [if_pos c]; have := hm4 j hj; omega
            · show j < (if t = 4 then s.1 else mv t) ↔ _
              rw [if_neg c]; exact (hmv t (by omega)).2 j hj
        · omega --!
      · -- one level
        have LQ : ∀ (d j n1 u : Nat) (f1 : Hp) (s1 : GSt) (l1 l2 : List Nat) (N2 : Nat) (hx : Nat → Value) (mv1 : Nat → Nat), d = s.1 - j → from0 ≤ j → j ≤ s.1 → s.1 ≤ s1.1 → BQs w s1 → (∀ i, i < s.1 → s1.2.2.1 i = s.2.2.1 i) → (∀ i, s.1 ≤ i → i < s1.1 → s1.2.2.1 i = k) → (∀ i g, i < j → gq w g → nbQ w s1.1 s1.2.1 i g) → (10 ≤ s1.2.2.2.2.2 ∧ s1.1 ≤ s1.2.2.2.2.2 ∧ s1.2.2.2.2.2 ≤ 5300) → SHo f1 w (rN w) → SHb f1 s1.2.2.2.2.1 → SL f1 w s1 l1 → SG f1 w N3 l3 → SM f1 N2 l2 k mv1 → mv1 (k - 1) = s.1 → (∀ t, t < k - 1 → mv1 t = mv t) → f1 345 = some (.inr (0, 8, hx)) → n ≤ n1 → KS n f f1 → 2 * u ≤ 2 * s1.1 + s1.2.2.2.2.2 + 200 + 6 * k + 6 → Wx K 212 [some (.ref 329), some (zI (w : Int)), some (.ref pr), some (zI (from0 : Int)), some (zI (k : Int)), some (zI ((s.1 : Nat) : Int)), some (zI (j : Int))] [] n1 f1 u := by
          intro d
          induction d using Nat.strongRecOn with
          | _ d ih2 =>
            intro j n1 u f1 s1 l1 l2 N2 hx mv1 hd2 hj0 hj hss hBQ he1 he2 hnb hNN hO hB hL hG hM hmk hmo h345 hn1 hKS hu
            have hs4 : ∀ i, i < s1.1 → s1.2.2.1 i ≤ k := fun i hi => by
              by_cases c : i < s.1
              · rw [he1 i c]; have := hm4 i c; omega
              · rw [he2 i (by omega) hi]; exact Nat.le_refl _
            have hm1 : s1.1 ≤ 3520 := cn4_le hw hBQ (fun i hi => by have := hs4 i hi; omega)
            refine r_iload_6 hK dX7_lays_212 ?_
            refine r_iload_5 hK dX7_lays_214 ?_
            refine r_icmp_ge 243 hK dX7_lays_216 (by omega) (by omega) (fun h216 => ?_) (fun h216 => ?_)
            · have hje : j = s.1 := by omega
              subst hje
              refine r_iload_5 hK dX7_lays_243 ?_
              refine r_istore_3 hK dX7_lays_245 ?_
              first | refine r_incN_4 hK dX7_lays_246 ?_ | refine r_iinc_4 hK dX7_lays_246 ?_
              refine r_goto 181 hK dX7_lays_249 ?_
              refine ih (5 - (k + 1)) (by omega) (k + 1) s.1 n1 u N2 N3 f1 s1 l1 l2 l3 hx mv1 pr _ _ rfl (by omega) (by omega) ⟨hBQ, hss, hnb, fun i hi => ?_, fun i h1 h2 => by rw [he2 i h1 h2], hNN⟩ hO hB hL hG hN3 hM (fun t ht => ?_) h345 hn1 hKS (by omega) rfl
              · rw [he1 i hi]; have := hm4 i hi; omega
              · by_cases c : t = k - 1
                · subst c
                  refine ⟨by rw [hmk]; exact hss, fun i hi => ?_⟩
                  rw [hmk]
                  by_cases c2 : i < s.1
                  · rw [he1 i c2]; have := hm4 i c2; exact ⟨fun _ => by omega, fun _ => c2⟩
                  · rw [he2 i (by omega) hi]; exact ⟨fun q => absurd q c2, fun q => by omega⟩
                · obtain ⟨z1, z2⟩ := hmv t (by omega)
                  rw [hmo t (by omega)]
                  refine ⟨by omega, fun i hi => ?_⟩
                  by_cases c2 : i < s.1
                  · rw [he1 i c2]; exact z2 i c2
                  · rw [he2 i (by omega) hi]; exact ⟨fun q => by omega, fun q => by omega⟩
            · refine r_aload_0 hK dX7_lays_219 ?_
              refine r_aload_0 hK dX7_lays_220 ?_
              refine r_get hK fl_X7_22 dX7_lays_221 (hO) rfl ?_
              refine r_iload_6 hK dX7_lays_224 ?_
              refine r_pV1 hK (pa_get hQ (by omega) hL.1 (i := j) (by rw [hL.2.1]; omega)) lk_X7_89 (rcv_al hQ (by omega) hL.1) dX7_lays_226 ?_
              obtain ⟨ho392, ho, hoA, -⟩ := hL.2.2 j (by omega)
              have hej : s1.2.2.1 j + 1 = k := by rw [he1 j (by omega)]; exact v5 j hj0 (by omega)
              have hGI : GI w j s1 := ⟨hBQ, by omega, hnb, fun i hi => by have := hs4 i hi; omega, by omega, hNN⟩
              obtain ⟨a1, a2, a3, a4⟩ := gwL_ok hw hD (gl w) s1 hGI gl_q
              have a5 := a1.le hw
              have a6 := a1.2.2.2.2.2.2.2
              refine r_castH hK cl_X7_93 (rch_I hK hoA) dX7_lays_229 ?_
              refine r_iload_4 hK dX7_lays_232 ?_
              refine r_fact hK (fun _ hno => ?_)
              refine r_callV2 hK (ct_sGrow hK.rel hQ hXK hw hD (by omega) hGI hO hB hL hG h345 hej rfl) lk_X7_94 (Rcv.raw hK.rel hO rfl) dX7_lays_234 (fun r m1 g1 hp => ?_) (hu := by omega)
              obtain ⟨rfl, hle, ⟨l1', hx', p1, p2, p3, p4, p5, p6⟩, p7⟩ := hp
              refine r_incN_6 hK dX7_lays_237 ?_
              refine r_goto 212 hK dX7_lays_240 ?_
              refine ih2 (s.1 - (j + 1)) (by omega) (j + 1) m1 _ g1 (gwL w j (gl w) s1) l1' l2 N2 hx' mv1 rfl (by omega) (by omega) (by have := a2.1; omega) a1.1 (fun i hi => ?_) (fun i h1 h2 => ?_) (fun i g hi hg => ?_) a1.2.2.2.2.2 p1 p2 p3 p4 ⟨by rw [p6]; exact hM.1, hM.2.1, hM.2.2.1, fun t ht => (hM.2.2.2 t ht).kp (fun q1 q2 => p7 _ (by obtain ⟨e, q2⟩ := q2; by_cases c : l2.getD t 0 < n1; exact c; rw [hno _ (by omega)] at q2; cases q2) (by omega))⟩ hmk hmo p5 (by omega) (hKS.tr p7 hn1) (by omega)
              · rw [(a2.2.1 i (by omega)).2]; exact he1 i hi
              · by_cases c : i < s1.1
                · rw [(a2.2.1 i c).2]; exact he2 i h1 c
                · rw [a2.2.2.1 i (by omega) h2]; exact hej
              · by_cases c : i = j
                · rw [c]; exact a3 g (gl_all hg)
                · exact a2.2.2.2 i g (by omega) (hnb i g (by omega) hg)
        refine r_iload_4 hK dX7_lays_181 ?_
        refine r_iconstN (c := 4) hK dX7_lays_183 ?_
        refine r_icmp_gt 252 hK dX7_lays_184 (by omega) (by omega) (fun h184 => ?_) (fun h184 => ?_)
        · omega --!
        · refine r_aload_0 hK dX7_lays_187 ?_
          refine r_get hK fl_X7_22 dX7_lays_188 (hO) rfl ?_
          refine r_pV0 hK (pa_size hQ (by omega) hL.1) lk_X7_79 (rcv_al hQ (by omega) hL.1) dX7_lays_191 ?_
          rw [hL.2.1]
          refine r_istore_5 hK dX7_lays_194 ?_
          refine r_aload_0 hK dX7_lays_196 ?_
          refine r_get hK fl_X7_26 dX7_lays_197 (hO) rfl ?_
          refine r_iload_5 hK dX7_lays_200 ?_
          refine r_fact hK (fun _ hno => ?_)
          refine r_callS1 hK (ct_valueOf hK.rel hXK (by omega) (by omega)) lk_X7_83 dX7_lays_202 (fun r m1 g1 hp => ?_) (hu := by omega)
          obtain ⟨id, rfl, hI, hcs⟩ := hp
          have hup : n1 ≤ m1 ∧ SHo g1 w (rN w) ∧ SHb g1 s.2.2.2.2.1 ∧ SL g1 w s l1 ∧ SG g1 w N3 l3 ∧ SM g1 N2 l2 (k - 1) mv ∧ g1 345 = some (.inr (0, 8, hx)) ∧ KS n f g1 ∧ ∀ x ∈ l2, el g1 x := by
            rcases hcs with ⟨-, e1, e2⟩ | ⟨e1, -, e2⟩
            · rw [e1, e2]; exact ⟨Nat.le_refl _, hO, hB, hL, hG, hM, h345, hKS, hel⟩
            · have hnn : f1 n1 = none := hno n1 (Nat.le_refl _)
              rw [e1, e2]; exact ⟨by omega, hO.up (by omega), hB.up (by omega), hL.up (Or.inr hnn), hG.up (Or.inr hnn), hM.up (Or.inr hnn), (up_n (by omega)).trans h345, hKS.upS (Or.inr hn1), fun x hx => (hel x hx).up (fun e0 q => by rw [hnn] at q; cases q)⟩
          obtain ⟨p0, p1, p2, p3, p4, p5, p6, p7, p8⟩ := hup
          refine r_alAdd 2 hK hQ hXK lk_X7_67 p5.1 (by omega) (by omega) (by omega) ⟨by omega, fun q1 q2 => by omega⟩ p8 hI.el dX7_lays_205 (fun n2 u2 hn2 hu2 => ?_)
          refine r_pop hK dX7_lays_208 ?_
          refine r_iload_3 hK dX7_lays_209 ?_
          refine r_istore_6 hK dX7_lays_210 ?_
          have q1 := p1.up (k := 342) (e := cAL (if l2.length < N2 then N2 else gwC N2) (l2 ++ [id])) (by omega)
          have q2 := p2.up (k := 342) (e := cAL (if l2.length < N2 then N2 else gwC N2) (l2 ++ [id])) (by omega)
          have q3 := p3.up (k := 342) (e := cAL (if l2.length < N2 then N2 else gwC N2) (l2 ++ [id])) (Or.inl (by omega))
          have q4 := p4.up (k := 342) (e := cAL (if l2.length < N2 then N2 else gwC N2) (l2 ++ [id])) (Or.inl (by omega))
          refine LQ (s.1 - from0) from0 n2 u2 _ s l1 (l2 ++ [id]) _ hx (fun t => if t = k - 1 then s.1 else mv t) rfl (Nat.le_refl _) v2 (Nat.le_refl _) v1 (fun _ _ => rfl) (fun i h1 h2 => by omega) v3 ⟨v6, v7, v8⟩ q1 q2 q3 q4 ⟨up_s _ _ _, ?_, ?_, fun t ht => ?_⟩ (if_pos rfl) (fun t ht => if_neg (by omega)) ((up_n (by omega)).trans p6) (by omega) (p7.upS (Or.inl (by omega))) (by omega)
          · by_cases c : l2.length < N2
            · rw [if_pos c]; omega
            · rw [if_neg c]; have : N2 = 0 := (by omega); subst this; right; rfl
          · rw [List.length_append]
            refine ⟨by simp; omega, ?_⟩
            by_cases c : l2.length < N2
            · rw [if_pos c]; simp; omega
            · rw [if_neg c]; have : N2 = 0 := (by omega); subst this; show l2.length + 1 ≤ 10; omega
          · rw [getD_app (by omega)]
            show IntA _ _ (if t = k - 1 then s.1 else mv t)
            by_cases c : t = k - 1
            · rw [if_pos (show t = l2.length by omega), if_pos c]; exact hI.kp (fun q1 _ => up_n (by omega))
            · rw [if_neg (show ¬ t = l2.length by omega), if_neg c]; exact (p5.2.2.2 t (by omega)).kp (fun q1 _ => up_n (by omega))
  -- gates are there: the rest
  have MID : ∀ (n1 u N3 : Nat) (f1 : Hp) (l3 : List Nat) (a3 : Option Value), SHo f1 w (rN w) → SG f1 w N3 l3 → (N3 = 0 ∨ N3 = 10 ∨ N3 = 15) → (f1 330 = some (.inr (6, 5, fun k => .ref (331 + 2 * k))) ∧ ∀ k, k < 5 → ∃ b, f1 (331 + 2 * k) = some (cBS 630 b)) → f1 341 = some (cAL N1 l1) → f1 342 = some (cAL N2 l2) → f1 345 = some (.inr (0, 8, hx)) → n ≤ n1 → KS n f f1 → u ≤ 75 → Wx K 90 [some (.ref 329), some (zI (w : Int)), some (zI (w : Int)), a3, none, none, none] [] n1 f1 u := by
    intro n1 u N3 f1 l3 a3 hO hG hN3 hB h341 h342 h345 hn1 hKS hu
    -- sets are empty
    have CL : ∀ (d k n2 u N1' : Nat) (f2 : Hp) (pr : Nat) (hp : Nat → Value), d = 5 - k → k ≤ 5 → SHo f2 w (rN w) → SG f2 w N3 l3 → f2 330 = some (.inr (6, 5, fun k => .ref (331 + 2 * k))) → (∀ i, i < k → f2 (331 + 2 * i) = some (cBS 630 (fun _ => false))) → (∀ i, i < 5 → ∃ b, f2 (331 + 2 * i) = some (cBS 630 b)) → f2 341 = some (cAL N1' [pr]) → (10 ≤ N1' ∧ N1' ≤ 5300) → f2 342 = some (cAL N2 []) → f2 345 = some (.inr (0, 8, hx)) → 392 ≤ pr → f2 pr = some (.inr (0, rN w, hp)) → (∀ x, x < rN w → hp x = zI (x : Int)) → n ≤ n2 → KS n f f2 → u ≤ 80 → Wx K 142 [some (.ref 329), some (zI (w : Int)), some (.ref pr), some (zI (k : Int)), none, none, none] [] n2 f2 u := by
      intro d
      induction d using Nat.strongRecOn with
      | _ d ih =>
        intro k n2 u N1' f2 pr hp hd hk hO hG h330 hb1 hb2 h341 hN1' h342 h345 hpr hpA hpV hn2 hKS hu
        refine r_iload_3 hK dX7_lays_142 ?_
        refine r_iconstN (c := 4) hK dX7_lays_143 ?_
        refine r_icmp_gt 162 hK dX7_lays_144 (by omega) (by omega) (fun h144 => ?_) (fun h144 => ?_)
        · refine r_aload_0 hK dX7_lays_162 ?_
          refine r_get hK fl_X7_15 dX7_lays_163 (hO) rfl ?_
          refine r_iconstN (c := 0) hK dX7_lays_166 ?_
          refine r_aald hK dX7_lays_167 h330 (by decide) ?_
          refine r_aload_0 hK dX7_lays_168 ?_
          refine r_aload_2 hK dX7_lays_169 ?_
          have hB0 : SHb f2 (fun _ => 99) := SHX.clr h330 (fun i hi => hb1 i (by omega))
          refine r_pV1 hK (ct_sNum hK.rel hO hpA hr8 (Nat.le_refl _) (by omega) (Pm_id (rN w)) hpV) lk_X7_72 (Rcv.raw hK.rel hO rfl) dX7_lays_170 ?_
          obtain ⟨c0, hc0⟩ : ∃ c0, c0 = plc (fun x => x) (rN w) := ⟨_, rfl⟩
          have hcb : c0 < 40320 := by rw [hc0]; exact plc_b hr8 _
          have e00 : plc (fun i => i) (rN w) = c0 := hc0.symm
          rw [e00]
          refine r_callV1 hK (pb_set hQ hXK (hB0.2 0 (by decide)) (i := c0) (by omega)) lk_X7_76 (rcv_bs hQ (hB0.2 0 (by decide))) dX7_lays_173 (fun r m1 g1 hp1 => ?_) (hu := by omega)
          obtain ⟨rfl, e2, e3⟩ := hp1
          have hB1 := hB0.set (c := c0) (kk := 0) (by decide) rfl
          rw [← e3] at hB1
          have hO1 : SHo g1 w (rN w) := by rw [e3]; exact hO.up (by decide)
          have hG1 : SG g1 w N3 l3 := by rw [e3]; exact hG.up (Or.inl (by decide))
          have hK1 : KS n f g1 := by rw [e3]; exact hKS.upS (Or.inl (by decide))
          have t1 : g1 341 = some (cAL N1' [pr]) := by rw [e3, up_n (by decide)]; exact h341
          have t2 : g1 342 = some (cAL N2 []) := by rw [e3, up_n (by decide)]; exact h342
          have t3 : g1 345 = some (.inr (0, 8, hx)) := by rw [e3, up_n (by decide)]; exact h345
          have t4 : g1 pr = some (.inr (0, rN w, hp)) := by rw [e3, up_n (by omega)]; exact hpA
          refine r_iconstN (c := 0) hK dX7_lays_176 ?_
          refine r_istore_3 hK dX7_lays_177 ?_
          refine r_iconstN (c := 1) hK dX7_lays_178 ?_
          refine r_istore_4 hK dX7_lays_179 ?_
          refine LP 4 1 0 m1 _ N2 N3 g1 (1, fun _ x => x, fun _ => 0, fun _ => plc (fun x => x) (rN w), fun j => if j = plc (fun x => x) (rN w) then 0 else 99, N1') [pr] [] l3 hx (fun _ => 0) pr _ _ rfl (by decide) (by decide) ⟨BQ_0 w, Nat.zero_le _, fun j g hj => absurd hj (Nat.not_lt_zero _), fun j hj => absurd hj (Nat.not_lt_zero _), fun j _ _ => rfl, hN1'.1, ?_, hN1'.2⟩ hO1 ?_ ⟨t1, rfl, fun j hj => ?_⟩ hG1 hN3 ⟨t2, hN2, ⟨rfl, Nat.zero_le _⟩, fun t ht => absurd ht (Nat.not_lt_zero _)⟩ (fun t ht => absurd ht (Nat.not_lt_zero _)) t3 (by omega) hK1 ?_ rfl
          · show 1 ≤ N1'; omega
          · show SHb g1 (fun j => if j = plc (fun x => x) (rN w) then 0 else 99)
            rw [← hc0]; exact hB1
          · have : j = 0 := by have : j < 1 := hj; omega
            subst this
            exact ⟨hpr, hp, t4, hpV⟩
          · show 2 * _ ≤ 2 * 1 + N1' + 200 + 6 * 1; omega
        · have h144' : k < 5 := by omega
          refine r_aload_0 hK dX7_lays_147 ?_
          refine r_get hK fl_X7_15 dX7_lays_148 (hO) rfl ?_
          refine r_iload_3 hK dX7_lays_151 ?_
          refine r_aald hK dX7_lays_152 h330 (by omega) ?_
          obtain ⟨b, hb⟩ := hb2 k h144'
          refine r_callV0 hK (pb_clear hQ hb) lk_X7_71 (rcv_bs hQ hb) dX7_lays_153 (fun r m1 g1 hp1 => ?_) (hu := by omega)
          obtain ⟨rfl, e2, e3⟩ := hp1
          rw [e2, e3]
          first | refine r_incN_3 hK dX7_lays_156 ?_ | refine r_iinc_3 hK dX7_lays_156 ?_
          refine r_goto 142 hK dX7_lays_159 ?_
          refine ih (5 - (k + 1)) (by omega) (k + 1) n2 _ N1' _ pr hp rfl (by omega) (hO.up (by omega)) (hG.up (Or.inl (by omega))) ((up_n (by omega)).trans h330) (fun i hi => ?_) (fun i hi => ?_) ((up_n (by omega)).trans h341) hN1' ((up_n (by omega)).trans h342) ((up_n (by omega)).trans h345) hpr ((up_n (by omega)).trans hpA) hpV hn2 (hKS.upS (Or.inl (by omega))) (by omega)
          · by_cases c : i = k
            · rw [c]; exact up_s _ _ _
            · rw [up_n (by omega)]; exact hb1 i (by omega)
          · by_cases c : i = k
            · rw [c]; exact ⟨_, up_s _ _ _⟩
            · rw [up_n (by omega)]; exact hb2 i hi
    -- plain rows
    have PL : ∀ (d x n2 : Nat) (f2 : Hp), d = rN w - x → x ≤ rN w → n1 ≤ n2 → n2 = n1 + 1 → f1 n1 = none → f2 = up (up f1 341 (cAL N1 [])) 342 (cAL N2 []) → Wx K 113 [some (.ref 329), some (zI (w : Int)), some (.ref n1), some (zI (x : Int)), none, none, none] [] n2 (up f2 n1 (.inr (0, rN w, oA x (fun x => x) (fun _ => zI 0)))) (u + 0 + 0 + 1) := by
      intro d
      induction d using Nat.strongRecOn with
      | _ d ih =>
        intro x n2 f2 hd hx2 hn2 hn2e hnn hf2
        have hO2 : SHo (up f2 n1 (.inr (0, rN w, oA x (fun x => x) (fun _ => zI 0)))) w (rN w) := by rw [hf2]; exact ((hO.up (by decide)).up (by decide)).up (by omega)
        refine r_iload_3 hK dX7_lays_113 ?_
        refine r_aload_0 hK dX7_lays_114 ?_
        refine r_get hK fl_X7_52 dX7_lays_115 (hO2) rfl ?_
        refine r_icmp_ge 131 hK dX7_lays_118 (by omega) (by omega) (fun h118 => ?_) (fun h118 => ?_)
        · have hxe : x = rN w := by omega
          subst hxe
          refine r_aload_0 hK dX7_lays_131 ?_
          refine r_get hK fl_X7_22 dX7_lays_132 (hO2) rfl ?_
          refine r_aload_2 hK dX7_lays_135 ?_
          have hnn3 : up (up f1 341 (cAL N1 [])) 342 (cAL N2 []) n1 = none := by rw [up_n (by omega), up_n (by omega)]; exact hnn
          have w1 : up f2 n1 (.inr (0, rN w, oA (rN w) (fun x => x) (fun _ => zI 0))) 341 = some (cAL N1 []) := by rw [hf2, up_n (by omega), up_n (by decide), up_s]
          refine r_alAdd 1 hK hQ hXK lk_X7_67 w1 (by omega) (by omega) (Nat.zero_le _) ⟨by omega, fun q1 q2 => by have : 0 = N1 := q2; omega⟩ (fun x hx => by cases hx) (el_arr (up_s _ _ _)) dX7_lays_136 (fun m2 u2 hm2 hu2 => ?_)
          refine r_pop hK dX7_lays_139 ?_
          refine r_iconstN (c := 0) hK dX7_lays_140 ?_
          refine r_istore_3 hK dX7_lays_141 ?_
          have hG2 : SG (up f2 n1 (.inr (0, rN w, oA (rN w) (fun x => x) (fun _ => zI 0)))) w N3 l3 := by rw [hf2]; exact ((hG.up (Or.inl (by decide))).up (Or.inl (by decide))).up (Or.inr hnn3)
          refine CL 5 0 m2 u2 _ _ n1 (oA (rN w) (fun x => x) (fun _ => zI 0)) rfl (by decide) (hO2.up (by decide)) (hG2.up (Or.inl (by decide))) ?_ (fun i hi => absurd hi (Nat.not_lt_zero _)) (fun i hi => ?_) (up_s _ _ _) ?_ ?_ ?_ (by omega) ?_ (fun x hx => by unfold oA; rw [if_pos hx]) (by omega) ?_ (by omega)
          · rw [up_n (by decide), hf2, up_n (by omega), up_n (by decide), up_n (by decide)]; exact hB.1
          · obtain ⟨b, hb⟩ := hB.2 i hi
            exact ⟨b, by rw [up_n (by omega), hf2, up_n (by omega), up_n (by omega), up_n (by omega)]; exact hb⟩
          · show 10 ≤ (if 0 < N1 then N1 else gwC N1) ∧ (if 0 < N1 then N1 else gwC N1) ≤ 5300
            by_cases c : 0 < N1
            · rw [if_pos c]; omega
            · rw [if_neg c]; have : N1 = 0 := (by omega); subst this; decide
          · rw [up_n (by decide), hf2, up_n (by omega), up_s]
          · rw [up_n (by decide), hf2, up_n (by omega), up_n (by decide), up_n (by decide)]; exact h345
          · rw [up_n (by omega), up_s]
          · rw [hf2]; exact (((hKS.upS (Or.inl (by decide))).upS (Or.inl (by decide))).upS (Or.inr hn1)).upS (Or.inl (by decide))
        · refine r_aload_2 hK dX7_lays_121 ?_
          refine r_iload_3 hK dX7_lays_122 ?_
          refine r_iload_3 hK dX7_lays_123 ?_
          refine r_iast hK dX7_lays_124 (up_s _ _ _) (by omega) ?_ (by omega)
          rw [up_up, show updV (oA x (fun x => x) (fun _ => zI 0)) x (zI (x : Int)) = oA (x + 1) (fun x => x) (fun _ => zI 0) from oA_s (p := fun x => x)]
          first | refine r_incN_3 hK dX7_lays_125 ?_ | refine r_iinc_3 hK dX7_lays_125 ?_
          refine r_goto 113 hK dX7_lays_128 ?_
          exact ih (rN w - (x + 1)) (by omega) (x + 1) n2 f2 rfl (by omega) hn2 hn2e hnn hf2
    refine r_fact hK (fun _ hno => ?_)
    refine r_aload_0 hK dX7_lays_90 ?_
    refine r_get hK fl_X7_22 dX7_lays_91 (hO) rfl ?_
    refine r_callV0 hK (pa_clear hQ (by omega) h341) lk_X7_55 (rcv_al hQ (by omega) h341) dX7_lays_94 (fun r m1 g1 hp1 => ?_) (hu := by omega)
    obtain ⟨rfl, e2, e3⟩ := hp1
    rw [e2, e3]
    have hO1 := hO.up (k := 341) (e := cAL N1 []) (by decide)
    refine r_aload_0 hK dX7_lays_97 ?_
    refine r_get hK fl_X7_26 dX7_lays_98 (hO1) rfl ?_
    refine r_callV0 hK (pa_clear hQ (N := N2) (l := l2) (by omega) ((up_n (by decide)).trans h342)) lk_X7_55 (rcv_al hQ (N := N2) (l := l2) (by omega) ((up_n (by decide)).trans h342)) dX7_lays_101 (fun r m2 g2 hp1 => ?_) (hu := by omega)
    obtain ⟨rfl, e4, e5⟩ := hp1
    rw [e4, e5]
    have hO2 := hO1.up (k := 342) (e := cAL N2 []) (by decide)
    refine r_aload_0 hK dX7_lays_104 ?_
    refine r_get hK fl_X7_52 dX7_lays_105 (hO2) rfl ?_
    refine r_newarr (atype := .int) (ty := 0) (v0 := zI 0) 1 hK q463 dX7_lays_108 (by omega) ?_ ⟨rfl, rfl, by decide⟩ (by omega) (by omega)
    refine r_astore_2 hK dX7_lays_110 ?_
    refine r_iconstN (c := 0) hK dX7_lays_111 ?_
    refine r_istore_3 hK dX7_lays_112 ?_
    have := PL (rN w) 0 (n1 + 1) _ rfl (Nat.zero_le _) (by omega) rfl (hno n1 (Nat.le_refl _)) rfl
    rw [oA_0] at this
    exact this
  -- gates
  have INN : ∀ (d : Nat) (t on c0 n1 u N3 : Nat) (f1 : Hp) (l3 : List Nat), (∀ (n1 u N3 : Nat) (f1 : Hp) (l3 : List Nat), SHo f1 w (rN w) → f1 346 = some (cAL N3 l3) → GL f1 l3 (glF (rN w) (c0 + rN w) 0) → (∀ i, i < l3.length → 392 ≤ l3.getD i 0) → (N3 = 0 ∨ N3 = 10 ∨ N3 = 15) → l3.length ≤ N3 → (f1 330 = some (.inr (6, 5, fun k => .ref (331 + 2 * k))) ∧ ∀ k, k < 5 → ∃ b, f1 (331 + 2 * k) = some (cBS 630 b)) → f1 341 = some (cAL N1 l1) → f1 342 = some (cAL N2 l2) → f1 345 = some (.inr (0, 8, hx)) → n ≤ n1 → KS n f f1 → u ≤ 3 * (c0 + rN w) → Wx K 84 [some (.ref 329), some (zI (w : Int)), some (zI (t : Int)), some (zI ((rN w : Nat) : Int)), none, none, none] [] n1 f1 u) → d = rN w - on → on ≤ rN w → t < w → c0 = t * rN w → SHo f1 w (rN w) → f1 346 = some (cAL N3 l3) → GL f1 l3 (glF (rN w) (c0 + on) 0) → (∀ i, i < l3.length → 392 ≤ l3.getD i 0) → (N3 = 0 ∨ N3 = 10 ∨ N3 = 15) → l3.length ≤ N3 → (f1 330 = some (.inr (6, 5, fun k => .ref (331 + 2 * k))) ∧ ∀ k, k < 5 → ∃ b, f1 (331 + 2 * k) = some (cBS 630 b)) → f1 341 = some (cAL N1 l1) → f1 342 = some (cAL N2 l2) → f1 345 = some (.inr (0, 8, hx)) → n ≤ n1 → KS n f f1 → u ≤ 3 * (c0 + on) → Wx K 44 [some (.ref 329), some (zI (w : Int)), some (zI (t : Int)), some (zI (on : Int)), none, none, none] [] n1 f1 u := by
    intro d
    induction d using Nat.strongRecOn with
    | _ d ih =>
      intro t on c0 n1 u N3 f1 l3 kx hd hon ht hc0 hO h346 hGL h392 hN3 hlN hB h341 h342 h345 hn1 hKS hu
      have hcw : c0 + rN w ≤ w * rN w := by
        have : (t + 1) * rN w ≤ w * rN w := Nat.mul_le_mul_right _ ht
        rw [Nat.add_mul, Nat.one_mul] at this
        omega
      have hw24 : w * rN w ≤ 24 := Nat.mul_le_mul (show w ≤ 3 from hw) hr8
      refine r_iload_3 hK dX7_lays_44 ?_
      refine r_aload_0 hK dX7_lays_45 ?_
      refine r_get hK fl_X7_52 dX7_lays_46 (hO) rfl ?_
      refine r_icmp_ge 84 hK dX7_lays_49 (by omega) (by omega) (fun h49 => ?_) (fun h49 => ?_)
      · have hone : on = rN w := by omega
        subst hone
        exact kx n1 u N3 f1 l3 hO h346 hGL h392 hN3 hlN hB h341 h342 h345 hn1 hKS hu --!
      · have e1 : (c0 + on) / rN w = t := by rw [hc0, Nat.mul_comm, Nat.mul_add_div (by omega), Nat.div_eq_of_lt (by omega), Nat.add_zero]
        have e2 : (c0 + on) % rN w = on := by rw [hc0, Nat.mul_comm, Nat.mul_add_mod, Nat.mod_eq_of_lt (by omega)]
        have eg := glF_s (R := rN w) (c0 + on) 0
        rw [Nat.zero_add, e1, e2] at eg
        have hlen12 : (glF (rN w) (c0 + on + 1) 0).length ≤ 12 := by
          have := glF_mono (R := rN w) (w * rN w - (c0 + on + 1)) (c0 + on + 1)
          rw [show c0 + on + 1 + (w * rN w - (c0 + on + 1)) = w * rN w by omega] at this
          exact Nat.le_trans this hgl
        refine r_iload_3 hK dX7_lays_52 ?_
        refine r_iload_2 hK dX7_lays_53 ?_
        refine r_pSN2 hK (ct_has0 hK.rel (by omega) (by omega)) lk_X7_58 dX7_lays_54 ?_
        refine r_ifB_ne 78 hK dX7_lays_57 (fun h57 => ?_) (fun h57 => ?_)
        · rw [if_pos h57, List.append_nil] at eg
          refine r_incN_3 hK dX7_lays_78 ?_
          refine r_goto 44 hK dX7_lays_81 ?_
          exact ih (rN w - (on + 1)) (by omega) t (on + 1) c0 n1 u N3 f1 l3 kx rfl (by omega) ht hc0 hO h346 (by rw [show c0 + (on + 1) = c0 + on + 1 by omega, eg]; exact hGL) h392 hN3 hlN hB h341 h342 h345 hn1 hKS (by omega)
        · rw [if_neg h57] at eg
          have hl11 : l3.length ≤ 11 := by rw [eg, List.length_append] at hlen12; rw [hGL.1]; simp at hlen12; omega
          refine r_aload_0 hK dX7_lays_60 ?_
          refine r_get hK fl_X7_39 dX7_lays_61 (hO) rfl ?_
          refine r_fact hK (fun _ hno => ?_)
          refine r_new (fs := [zI 0, zI 0, zI 0]) 1 hK nw_X7_62 dX7_lays_64 (by omega) ?_ (hw := new11)
          refine r_dup hK dX7_lays_67 ?_
          refine r_iload_2 hK dX7_lays_68 ?_
          refine r_iload_3 hK dX7_lays_69 ?_
          refine r_iconstN (c := 0) hK dX7_lays_70 ?_
          refine r_callI3 hK (ct_gInit hK.rel (up_s _ _ _)) lk_X7_64 dX7_lays_71 (fun r m1 g1 hp1 => ?_) (hu := by omega)
          obtain ⟨rfl, e3, e4⟩ := hp1
          rw [e3, e4, up_up]
          have hnn : f1 n1 = none := hno n1 (Nat.le_refl _)
          refine r_alAdd 2 hK hQ hXK lk_X7_67 ((up_n (by omega)).trans h346) (by omega) (by omega) hlN ⟨by omega, fun q1 q2 => by have : N3 = 10 := (by omega); subst this; decide⟩ (fun x hx => ?_) (Or.inl ⟨11, _, up_s _ _ _, by omega⟩) dX7_lays_74 (fun m2 u2 hm2 hu2 => ?_)
          · obtain ⟨i, hi, e⟩ := List.getElem_of_mem hx
            have := hGL.2 i hi
            rw [List.getD_eq_getElem?_getD, List.getElem?_eq_getElem hi] at this
            exact Or.inl ⟨11, _, (up_n (fun q => by rw [← q, ← e] at hnn; rw [show f1 (l3[i]) = some (cG (gt (glF (rN w) (c0 + on) 0) i)) from this] at hnn; cases hnn)).trans (by rw [← e]; exact this), by omega⟩
          refine r_pop hK dX7_lays_77 ?_
          refine r_incN_3 hK dX7_lays_78 ?_
          refine r_goto 44 hK dX7_lays_81 ?_
          refine ih (rN w - (on + 1)) (by omega) t (on + 1) c0 m2 u2 _ _ (l3 ++ [n1]) kx rfl (by omega) ht hc0 ((hO.up (by omega)).up (by decide)) (up_s _ _ _) ?_ (fun i hi => ?_) ?_ ?_ ⟨?_, fun k hk => ?_⟩ ?_ ?_ ?_ (by omega) ((hKS.upS (Or.inr hn1)).upS (Or.inl (by decide))) (by omega)
          · rw [show c0 + (on + 1) = c0 + on + 1 by omega, eg]
            have z1 : GL (up f1 n1 (cG (t, on, 0))) l3 (glF (rN w) (c0 + on) 0) := hGL.upn (fun q hq => by rw [hnn] at hq; cases hq)
            have z2 := z1.app (k := n1) (g := (t, on, 0)) (up_s _ _ _)
            exact z2.upn (fun q hq => by rw [up_n (by omega), h346] at hq; cases hq)
          · rw [List.length_append] at hi
            have hi' : i ≤ l3.length := by simp at hi; omega
            rw [getD_app hi']
            split
            · omega
            · exact h392 i (by omega)
          · by_cases c : l3.length < N3
            · rw [if_pos c]; exact hN3
            · rw [if_neg c]
              rcases hN3 with z | z | z
              · subst z; exact Or.inr (Or.inl rfl)
              · subst z; exact Or.inr (Or.inr rfl)
              · omega
          · rw [List.length_append]
            by_cases c : l3.length < N3
            · rw [if_pos c]; simp; omega
            · rw [if_neg c]
              rcases hN3 with z | z | z
              · subst z; show l3.length + 1 ≤ 10; omega
              · subst z; show l3.length + 1 ≤ 15; omega
              · omega
          · rw [up_n (by decide), up_n (by omega)]; exact hB.1
          · obtain ⟨b, hb⟩ := hB.2 k hk
            exact ⟨b, by rw [up_n (by omega), up_n (by omega)]; exact hb⟩
          · rw [up_n (by decide), up_n (by omega)]; exact h341
          · rw [up_n (by decide), up_n (by omega)]; exact h342
          · rw [up_n (by decide), up_n (by omega)]; exact h345
  have OUT : ∀ (d : Nat) (t n1 u N3 : Nat) (f1 : Hp) (l3 : List Nat) (a3 : Option Value), d = w - t → t ≤ w → SHo f1 w (rN w) → f1 346 = some (cAL N3 l3) → GL f1 l3 (glF (rN w) (t * rN w) 0) → (∀ i, i < l3.length → 392 ≤ l3.getD i 0) → (N3 = 0 ∨ N3 = 10 ∨ N3 = 15) → l3.length ≤ N3 → (f1 330 = some (.inr (6, 5, fun k => .ref (331 + 2 * k))) ∧ ∀ k, k < 5 → ∃ b, f1 (331 + 2 * k) = some (cBS 630 b)) → f1 341 = some (cAL N1 l1) → f1 342 = some (cAL N2 l2) → f1 345 = some (.inr (0, 8, hx)) → n ≤ n1 → KS n f f1 → u ≤ 3 * (t * rN w) → Wx K 37 [some (.ref 329), some (zI (w : Int)), some (zI (t : Int)), a3, none, none, none] [] n1 f1 u := by
    intro d
    induction d using Nat.strongRecOn with
    | _ d ih =>
      intro t n1 u N3 f1 l3 a3 hd ht hO h346 hGL h392 hN3 hlN hB h341 h342 h345 hn1 hKS hu
      have hw24 : w * rN w ≤ 24 := Nat.mul_le_mul (show w ≤ 3 from hw) hr8
      refine r_iload_2 hK dX7_lays_37 ?_
      refine r_iload_1 hK dX7_lays_38 ?_
      refine r_icmp_ge 90 hK dX7_lays_39 (by omega) (by omega) (fun h39 => ?_) (fun h39 => ?_)
      · have hte : t = w := by omega
        subst hte
        exact MID n1 u N3 f1 l3 a3 hO ⟨h346, by omega, hGL, h392⟩ hN3 hB h341 h342 h345 hn1 hKS (by omega) --!
      · refine r_iconstN (c := 0) hK dX7_lays_42 ?_
        refine r_istore_3 hK dX7_lays_43 ?_
        refine INN (rN w) t 0 (t * rN w) n1 u N3 f1 l3 (fun n1 u N3 f1 l3 hO h346 hGL h392 hN3 hlN hB h341 h342 h345 hn1 hKS hu => ?_) rfl (Nat.zero_le _) (by omega) rfl hO h346 hGL h392 hN3 hlN hB h341 h342 h345 hn1 hKS hu
        refine r_incN_2 hK dX7_lays_84 ?_
        refine r_goto 37 hK dX7_lays_87 ?_
        have em : (t + 1) * rN w = t * rN w + rN w := by rw [Nat.add_mul, Nat.one_mul]
        exact ih (w - (t + 1)) (by omega) (t + 1) n1 u N3 f1 l3 _ rfl (by omega) hO h346 (by rw [em]; exact hGL) h392 hN3 hlN hB h341 h342 h345 hn1 hKS (by rw [em]; exact hu)
  have go : Wx K 16 [some (.ref 329), some (zI (w : Int)), none, none, none, none, none] [] n f 0 := by
    have hO1 : SHo (up f 329 (.inl (7, [.ref 330, .ref 341, .ref 342, .ref 343, .ref 344, .ref 345, zI (w : Int), zI ((rN w : Nat) : Int), .ref 346]))) w (rN w) := up_s _ _ _
    refine r_aload_0 hK dX7_lays_16 ?_
    refine r_iload_1 hK dX7_lays_17 ?_
    refine r_put hK fl_X7_48 dX7_lays_18 (hO) (by simp) ?_
    refine r_aload_0 hK dX7_lays_21 ?_
    refine r_iconstN (c := 1) hK dX7_lays_22 ?_
    refine r_iload_1 hK dX7_lays_23 ?_
    refine r_ishl hK dX7_lays_24 (by omega) (sh1 (by omega)) ?_
    show Wx K _ _ (zI ((rN w : Nat) : Int) :: _) _ _ _
    refine r_put hK fl_X7_52 dX7_lays_25 (up_s _ _ _) (by simp) ?_
    rw [up_up]
    show Wx K _ _ _ _ (up f 329 (.inl (7, [.ref 330, .ref 341, .ref 342, .ref 343, .ref 344, .ref 345, zI (w : Int), zI ((rN w : Nat) : Int), .ref 346]))) _
    refine r_aload_0 hK dX7_lays_28 ?_
    refine r_get hK fl_X7_39 dX7_lays_29 (hO1) rfl ?_
    refine r_callV0 hK (pa_clear hQ (N := N3) (l := l3) (by omega) ((up_n (by decide)).trans h346)) lk_X7_55 (rcv_al hQ (N := N3) (l := l3) (by omega) ((up_n (by decide)).trans h346)) dX7_lays_32 (fun r m1 g1 hp1 => ?_)
    obtain ⟨rfl, e2, e3⟩ := hp1
    rw [e2, e3]
    refine r_iconstN (c := 0) hK dX7_lays_35 ?_
    refine r_istore_2 hK dX7_lays_36 ?_
    refine OUT w 0 n _ N3 _ [] none rfl (Nat.zero_le _) (hO1.up (by decide)) (up_s _ _ _) ⟨by rw [Nat.zero_mul]; rfl, fun i hi => absurd hi (Nat.not_lt_zero _)⟩ (fun i hi => absurd hi (Nat.not_lt_zero _)) hN3 (Nat.zero_le _) ⟨?_, fun k hk => ?_⟩ ?_ ?_ ?_ (Nat.le_refl _) (((KS.rf n f).upS (Or.inl (by decide))).upS (Or.inl (by decide))) (Nat.zero_le _)
    · rw [up_n (by decide), up_n (by decide)]; exact hB1
    · obtain ⟨b, hb⟩ := hB2 k hk
      exact ⟨b, by rw [up_n (by omega), up_n (by omega)]; exact hb⟩
    · rw [up_n (by decide), up_n (by decide)]; exact h341
    · rw [up_n (by decide), up_n (by decide)]; exact h342
    · rw [up_n (by decide), up_n (by decide)]; exact h345
  refine r_aload_0 hK dX7_lays_0 ?_
  refine r_get hK fl_X7_48 dX7_lays_1 (hO) rfl ?_
  refine r_iload_1 hK dX7_lays_4 ?_
  refine r_icmp_ne 16 hK dX7_lays_5 (by omega) (by omega) (fun h5 => ?_) (fun h5 => ?_)
  · exact go --!
  · refine r_aload_0 hK dX7_lays_8 ?_
    refine r_get hK fl_X7_52 dX7_lays_9 (hO) rfl ?_
    refine r_if_le 16 hK dX7_lays_12 (by omega) (fun h12 => ?_) (fun h12 => ?_)
    · exact go --!
    · exact r_vret hK hRt dX7_lays_15 ⟨rfl, Nat.le_refl _, by rcases hR0 with z | z; omega; have hww : w0 = w := (by omega); rw [← hww]; exact z.2, KS.rf _ _⟩
