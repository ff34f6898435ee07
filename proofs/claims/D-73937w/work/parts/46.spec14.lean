set_option maxRecDepth 100000
/-! ===== plain words: a text with nothing wrong ===== -/
theorem tellS_ne {s : Nat × Nat} {n tok : Nat} (hn : n ≠ 0) : (tellS s n tok).1 ≠ 0 := by
  unfold tellS
  split
  · rename_i h; exact h.1
  · exact hn
theorem nmdF_ge {X : Nat → Nat → Nat} {x ahead : Nat} : ∀ m c r, nmdF X x ahead m c = some r → c ≤ r
  | 0, c, r, h => by cases h
  | m + 1, c, r, h => by
    unfold nmdF at h
    split at h
    · split at h
      · cases h; omega
      · have := nmdF_ge m (c + 1) r h; omega
    · exact nmdF_ge m c r h
theorem nmdF_inj {X : Nat → Nat → Nat} {x y ahead : Nat} : ∀ m c r, nmdF X x ahead m c = some r → nmdF X y ahead m c = some r → x = y
  | 0, c, r, h, _ => by cases h
  | m + 1, c, r, h, h' => by
    unfold nmdF at h h'
    by_cases k : X 2 (ahead - (m + 1)) = 20
    · rw [if_pos k] at h h'
      by_cases cx : X 5 (ahead - (m + 1) + 1) = x
      · rw [if_pos cx] at h
        by_cases cy : X 5 (ahead - (m + 1) + 1) = y
        · omega
        · rw [if_neg cy] at h'
          have := nmdF_ge m (c + 1) r h'
          cases h; omega
      · rw [if_neg cx] at h
        by_cases cy : X 5 (ahead - (m + 1) + 1) = y
        · rw [if_pos cy] at h'
          have := nmdF_ge m (c + 1) r h
          cases h'; omega
        · rw [if_neg cy] at h'
          exact nmdF_inj m (c + 1) r h h'
    · rw [if_neg k] at h h'
      exact nmdF_inj m c r h h'
theorem dpF_0 {X : Nat → Nat → Nat} {k i : Nat} {s : Nat × Nat} : ∀ c, (dpF X k i s c).1 = 0 → s.1 = 0 ∧ ∀ j, j < c → ¬ (X 2 (k + 1 + j) = 1 ∧ X 5 (k + 1 + j) = X 5 i)
  | 0, h => ⟨h, fun j hj => absurd hj (Nat.not_lt_zero _)⟩
  | c + 1, h => by
    unfold dpF at h
    split at h
    · exact absurd h (tellS_ne (by decide))
    · rename_i q
      obtain ⟨h1, h2⟩ := dpF_0 c h
      refine ⟨h1, fun j hj => ?_⟩
      by_cases e : j = c
      · rw [e]; exact q
      · exact h2 j (by omega)
theorem gtW_0 {X : Nat → Nat → Nat} {N k i : Nat} {s : Nat × Nat} (h : (gtW X N k i s).1 = 0) : (∃ w, nmd X N (X 5 i) = some w) ∧ s.1 = 0 ∧ ∀ j, j < i - (k + 1) → ¬ (X 2 (k + 1 + j) = 1 ∧ X 5 (k + 1 + j) = X 5 i) := by
  unfold gtW at h
  cases hn : nmd X N (X 5 i) with
  | none => rw [hn] at h; exact absurd h (tellS_ne (by decide))
  | some w => rw [hn] at h; exact ⟨⟨w, rfl⟩, dpF_0 _ h⟩
theorem tb_or1 {a w b : Nat} (h : (a ||| (1 <<< w)).testBit b = true) : a.testBit b = true ∨ b = w := by
  rw [Nat.testBit_or, Nat.one_shiftLeft, Nat.testBit_two_pow] at h
  rcases Bool.or_eq_true_iff.mp h with q | q
  · exact Or.inl q
  · exact Or.inr (of_decide_eq_true q).symm
/-- a gate's line with nothing wrong, c tokens of it -/
theorem gsT_0 {X : Nat → Nat → Nat} {N k W : Nat} {s : Nat × Nat} (hw : ∀ x c, nmd X N x = some c → c < W) (hk1 : X 2 (k + 1) = 1) : ∀ c, (∀ j, j < c → X 2 (k + 1 + j) = 1 ∨ X 2 (k + 1 + j) = 5) → (gsT X N k s c).1.1 = 0 → s.1 = 0 ∧ (c ≠ 0 → nmd X N (X 5 (k + 1)) = some (gsT X N k s c).2.1) ∧
    (gsT X N k s c).2.2.1 < rN W ∧ (gsT X N k s c).2.2.2 < rN W ∧
    (∀ b, (gsT X N k s c).2.2.1.testBit b = true → ∃ j, 1 ≤ j ∧ j < c ∧ X 2 (k + 1 + j) = 1 ∧ nmd X N (X 5 (k + 1 + j)) = some b ∧ X 2 (k + j) ≠ 5) ∧
    (∀ b, (gsT X N k s c).2.2.2.testBit b = true → ∃ j, 1 ≤ j ∧ j < c ∧ X 2 (k + 1 + j) = 1 ∧ nmd X N (X 5 (k + 1 + j)) = some b ∧ X 2 (k + j) = 5) ∧
    ∀ i j, i < j → j < c → X 2 (k + 1 + i) = 1 → X 2 (k + 1 + j) = 1 → X 5 (k + 1 + i) ≠ X 5 (k + 1 + j)
  | 0, _, h => ⟨h, fun q => absurd rfl q, rN_pos W, rN_pos W, fun b q => (by rw [show (gsT X N k s 0).2.2.1 = 0 from rfl, Nat.zero_testBit] at q; cases q), fun b q => (by rw [show (gsT X N k s 0).2.2.2 = 0 from rfl, Nat.zero_testBit] at q; cases q), fun i j _ h2 => absurd h2 (Nat.not_lt_zero _)⟩
  | c + 1, hj, h => by
    have e1 : gsT X N k s (c + 1) = if X 2 (k + 1 + c) = 5 then gsT X N k s c else (gtW X N k (k + 1 + c) (gsT X N k s c).1,
        if c = 0 then (nmd X N (X 5 (k + 1 + c))).getD 999999999 else (gsT X N k s c).2.1,
        if c = 0 ∨ X 2 (k + c) = 5 then (gsT X N k s c).2.2.1 else orO (gsT X N k s c).2.2.1 (nmd X N (X 5 (k + 1 + c))),
        if c = 0 ∨ X 2 (k + c) ≠ 5 then (gsT X N k s c).2.2.2 else orO (gsT X N k s c).2.2.2 (nmd X N (X 5 (k + 1 + c)))) := rfl
    have hj' : ∀ j, j < c → X 2 (k + 1 + j) = 1 ∨ X 2 (k + 1 + j) = 5 := fun j q => hj j (by omega)
    by_cases c5 : X 2 (k + 1 + c) = 5
    · rw [if_pos c5] at e1
      rw [e1] at h ⊢
      obtain ⟨r1, r2, r3, r4, r5, r6, r7⟩ := gsT_0 (s := s) hw hk1 c hj' h
      have c0 : c ≠ 0 := fun q => by subst q; rw [show k + 1 + 0 = k + 1 from rfl] at c5; omega
      refine ⟨r1, fun _ => r2 c0, r3, r4, fun b q => ?_, fun b q => ?_, fun i j q1 q2 q3 q4 => ?_⟩
      · obtain ⟨j, a1, a2, a3⟩ := r5 b q; exact ⟨j, a1, by omega, a3⟩
      · obtain ⟨j, a1, a2, a3⟩ := r6 b q; exact ⟨j, a1, by omega, a3⟩
      · by_cases ej : j = c
        · rw [ej] at q4; omega
        · exact r7 i j q1 (by omega) q3 q4
    · rw [if_neg c5] at e1
      rw [e1] at h ⊢
      have k1 : X 2 (k + 1 + c) = 1 := by have := hj c (by omega); omega
      obtain ⟨⟨w, hwc⟩, g2, g3⟩ := gtW_0 h
      rw [show k + 1 + c - (k + 1) = c by omega] at g3
      obtain ⟨r1, r2, r3, r4, r5, r6, r7⟩ := gsT_0 (s := s) hw hk1 c hj' g2
      have hwW := hw _ _ hwc
      have up5 : ∀ b, (gsT X N k s c).2.2.1.testBit b = true → ∃ j, 1 ≤ j ∧ j < c + 1 ∧ X 2 (k + 1 + j) = 1 ∧ nmd X N (X 5 (k + 1 + j)) = some b ∧ X 2 (k + j) ≠ 5 := fun b q => by
        obtain ⟨j, a1, a2, a3⟩ := r5 b q; exact ⟨j, a1, by omega, a3⟩
      have up6 : ∀ b, (gsT X N k s c).2.2.2.testBit b = true → ∃ j, 1 ≤ j ∧ j < c + 1 ∧ X 2 (k + 1 + j) = 1 ∧ nmd X N (X 5 (k + 1 + j)) = some b ∧ X 2 (k + j) = 5 := fun b q => by
        obtain ⟨j, a1, a2, a3⟩ := r6 b q; exact ⟨j, a1, by omega, a3⟩
      have dis : ∀ i j, i < j → j < c + 1 → X 2 (k + 1 + i) = 1 → X 2 (k + 1 + j) = 1 → X 5 (k + 1 + i) ≠ X 5 (k + 1 + j) := fun i j q1 q2 q3 q4 => by
        by_cases ej : j = c
        · rw [ej]; exact fun q => g3 i (by omega) ⟨q3, q⟩
        · exact r7 i j q1 (by omega) q3 q4
      rw [hwc]
      refine ⟨r1, fun _ => ?_, ?_, ?_, fun b q => ?_, fun b q => ?_, dis⟩
      · by_cases c0 : c = 0
        · simp only [if_pos c0]
          subst c0
          exact hwc
        · simp only [if_neg c0]
          exact r2 c0
      · simp only
        split
        · exact r3
        · exact or_lt r3 (bit_lt hwW)
      · simp only
        split
        · exact r4
        · exact or_lt r4 (bit_lt hwW)
      · simp only at q
        split at q
        · exact up5 b q
        · rename_i cc
          rcases tb_or1 q with q | q
          · exact up5 b q
          · exact ⟨c, by omega, by omega, k1, by rw [q]; exact hwc, fun z => cc (Or.inr z)⟩
      · simp only at q
        split at q
        · exact up6 b q
        · rename_i cc
          rcases tb_or1 q with q | q
          · exact up6 b q
          · refine ⟨c, by omega, by omega, k1, by rw [q]; exact hwc, ?_⟩
            by_cases z : X 2 (k + c) = 5
            · exact z
            · exact absurd (Or.inr z) cc
theorem gsT_ok {X : Nat → Nat → Nat} {N k W c : Nat} {s : Nat × Nat} (hw : ∀ x c, nmd X N x = some c → c < W) (hk1 : X 2 (k + 1) = 1) (hc : c ≠ 0) (hj : ∀ j, j < c → X 2 (k + 1 + j) = 1 ∨ X 2 (k + 1 + j) = 5) (h : (gsT X N k s c).1.1 = 0) : s.1 = 0 ∧ gok W (gsT X N k s c).2 := by
  obtain ⟨r1, r2, r3, r4, r5, r6, r7⟩ := gsT_0 (s := s) hw hk1 c hj h
  have r2 := r2 hc
  have nm : ∀ i j b, i < c → j < c → X 2 (k + 1 + i) = 1 → X 2 (k + 1 + j) = 1 → nmd X N (X 5 (k + 1 + i)) = some b → nmd X N (X 5 (k + 1 + j)) = some b → i = j := by
    intro i j b i1 j1 i2 j2 i3 j3
    have e := nmdF_inj _ _ _ i3 j3
    rcases Nat.lt_trichotomy i j with q | q | q
    · exact absurd e (r7 i j q j1 i2 j2)
    · exact q
    · exact absurd e.symm (r7 j i q i1 j2 i2)
  refine ⟨r1, hw _ _ r2, r3, r4, ?_, ?_, ?_⟩
  · cases hb : (gsT X N k s c).2.2.1.testBit (gsT X N k s c).2.1 with
    | false => rfl
    | true =>
      obtain ⟨j, a1, a2, a3, a4, a5⟩ := r5 _ hb
      have := nm 0 j _ (by omega) a2 hk1 a3 r2 a4
      omega
  · cases hb : (gsT X N k s c).2.2.2.testBit (gsT X N k s c).2.1 with
    | false => rfl
    | true =>
      obtain ⟨j, a1, a2, a3, a4, a5⟩ := r6 _ hb
      have := nm 0 j _ (by omega) a2 hk1 a3 r2 a4
      omega
  · refine Nat.eq_of_testBit_eq (fun b => ?_)
    rw [Nat.testBit_and, Nat.zero_testBit]
    cases h1 : (gsT X N k s c).2.2.1.testBit b with
    | false => rfl
    | true =>
      cases h2 : (gsT X N k s c).2.2.2.testBit b with
      | false => rfl
      | true =>
        obtain ⟨i, a1, a2, a3, a4, a5⟩ := r5 _ h1
        obtain ⟨j, b1, b2, b3, b4, b5⟩ := r6 _ h2
        have := nm i j b a2 b2 a3 b3 a4 b4
        subst this
        exact absurd b5 a5
theorem prF_0 {X : Nat → Nat → Nat} {t : Nat} {s : Nat × Nat} : ∀ c, (prF X t s c).1 = 0 → s.1 = 0 ∧ ∀ j, j < c → 1 ≤ X 4 (t + 1 + j) ∧ X 4 (t + 1 + j) ≤ 99
  | 0, h => ⟨h, fun j hj => absurd hj (Nat.not_lt_zero _)⟩
  | c + 1, h => by
    unfold prF at h
    split at h
    · rename_i q
      obtain ⟨h1, h2⟩ := prF_0 c h
      refine ⟨h1, fun j hj => ?_⟩
      by_cases e : j = c
      · rw [e]; exact q
      · exact h2 j (by omega)
    · exact absurd h (tellS_ne (by decide))
theorem tvF_0 {X : Nat → Nat → Nat} {k m : Nat} {s : Nat × Nat} : ∀ c, (tvF X k m s c).1 = 0 → s.1 = 0 ∧ ((1 ≤ m ∧ m ≤ 3) → ∀ j, j < c → X 4 (k + 3 + j) < rN m)
  | 0, h => ⟨h, fun _ j hj => absurd hj (Nat.not_lt_zero _)⟩
  | c + 1, h => by
    unfold tvF at h
    split at h
    · exact absurd h (tellS_ne (by decide))
    · rename_i q
      obtain ⟨h1, h2⟩ := tvF_0 c h
      refine ⟨h1, fun hm j hj => ?_⟩
      by_cases e : j = c
      · rw [e]; omega
      · exact h2 hm j (by omega)
theorem tbW_0 {X : Nat → Nat → Nat} {k e : Nat} {s : Nat × Nat} (h : (tbW X k e s).1 = 0) : s.1 = 0 ∧ (1 ≤ X 4 (k + 1) ∧ X 4 (k + 1) ≤ 3) ∧ (1 ≤ X 4 (k + 2) ∧ X 4 (k + 2) ≤ 3) ∧ e - (k + 3) = rN (X 4 (k + 1)) ∧ ∀ x, x < e - (k + 3) → X 4 (k + 3 + x) < rN (X 4 (k + 2)) := by
  unfold tbW at h
  simp only at h
  have fin : ∀ q : Nat × Nat, (tvF X k (X 4 (k + 2)) q (e - (k + 3))).1 = 0 → (q = if 1 ≤ X 4 (k + 2) ∧ X 4 (k + 2) ≤ 3 then (if 1 ≤ X 4 (k + 1) ∧ X 4 (k + 1) ≤ 3 then s else tellS s 5 (k + 1)) else tellS (if 1 ≤ X 4 (k + 1) ∧ X 4 (k + 1) ≤ 3 then s else tellS s 5 (k + 1)) 5 (k + 2)) → s.1 = 0 ∧ (1 ≤ X 4 (k + 1) ∧ X 4 (k + 1) ≤ 3) ∧ (1 ≤ X 4 (k + 2) ∧ X 4 (k + 2) ≤ 3) ∧ ∀ x, x < e - (k + 3) → X 4 (k + 3 + x) < rN (X 4 (k + 2)) := by
    intro q hq eq
    obtain ⟨h1, h2⟩ := tvF_0 _ hq
    by_cases c2 : 1 ≤ X 4 (k + 2) ∧ X 4 (k + 2) ≤ 3
    · rw [if_pos c2] at eq
      by_cases c1 : 1 ≤ X 4 (k + 1) ∧ X 4 (k + 1) ≤ 3
      · rw [if_pos c1] at eq
        exact ⟨by rw [← eq]; exact h1, c1, c2, h2 c2⟩
      · rw [if_neg c1] at eq
        exact absurd (by rw [← eq]; exact h1) (tellS_ne (s := s) (tok := k + 1) (n := 5) (by decide))
    · rw [if_neg c2] at eq
      rw [eq] at h1
      exact absurd h1 (tellS_ne (by decide))
  by_cases c : (1 ≤ X 4 (k + 1) ∧ X 4 (k + 1) ≤ 3) ∧ e - (k + 3) ≠ rN (X 4 (k + 1))
  · rw [if_pos c] at h
    exact absurd h (tellS_ne (by decide))
  · rw [if_neg c] at h
    obtain ⟨f1, f2, f3, f4⟩ := fin _ h rfl
    refine ⟨f1, f2, f3, ?_, f4⟩
    by_cases z : e - (k + 3) = rN (X 4 (k + 1))
    · exact z
    · exact absurd ⟨f2, z⟩ c
/-- a text that is well -/
def MsOK (W : Nat) (s : MS) : Prop := (∀ g ∈ s.2.2.2, gok W g) ∧ (∀ i, i < 4 → 1 ≤ s.2.1 i ∧ s.2.1 i ≤ 99) ∧ (s.2.2.1.1 = 0 ∧ s.2.2.1.2.1 = 0 ∧ s.2.2.1.2.2.1 = 0 ∨ (1 ≤ s.2.2.1.1 ∧ s.2.2.1.1 ≤ 3) ∧ (1 ≤ s.2.2.1.2.1 ∧ s.2.2.1.2.1 ≤ 3) ∧ s.2.2.1.2.2.1 = rN s.2.2.1.1 ∧ ∀ x, x < rN s.2.2.1.1 → s.2.2.1.2.2.2 x < rN s.2.2.1.2.1)
theorem ms0_ok (W : Nat) : MsOK W ms0 := ⟨fun g h => absurd h List.not_mem_nil, fun i hi => by
  show 1 ≤ pr0 i ∧ pr0 i ≤ 99
  unfold pr0; split
  · decide
  · split
    · decide
    · split <;> decide, Or.inl ⟨rfl, rfl, rfl⟩⟩
theorem smS_ok {X : Nat → Nat → Nat} {N W : Nat} {s : MS} {ln : Nat × Nat × Nat} (hw : ∀ x c, nmd X N x = some c → c < W) (hl : lnOK X N ln.1 ln.2.1 ln.2.2) (h : (smS X N s ln).1.1 = 0) : s.1.1 = 0 ∧ (MsOK W s → MsOK W (smS X N s ln)) := by
  unfold smS at h ⊢
  by_cases c20 : ln.1 = 20
  · rw [if_pos c20] at h ⊢
    cases ho : nmd X ln.2.1 (X 5 (ln.2.1 + 1)) with
    | none => rw [ho] at h; exact ⟨h, fun q => q⟩
    | some w => rw [ho] at h; exact absurd h (tellS_ne (by decide))
  · rw [if_neg c20] at h ⊢
    by_cases c21 : ln.1 = 21
    · rw [if_pos c21] at h ⊢
      obtain ⟨l1, l2, l3⟩ := hl.2.2.2.2.2.2.1 c21
      obtain ⟨g1, g2⟩ := gsT_ok (W := W) hw l2 (by omega) (fun j hj => l3 _ (by omega) (by omega)) h
      refine ⟨g1, fun q => ⟨fun g hg => ?_, q.2⟩⟩
      rcases List.mem_append.mp hg with hg | hg
      · exact q.1 g hg
      · rw [List.mem_singleton.mp hg]; exact g2
    · rw [if_neg c21] at h ⊢
      by_cases c22 : ln.1 = 22
      · rw [if_pos c22] at h ⊢
        obtain ⟨p1, p2⟩ := prF_0 _ h
        refine ⟨p1, fun q => ⟨q.1, fun i hi => ?_, q.2.2⟩⟩
        simp only [if_pos hi]
        exact p2 i hi
      · rw [if_neg c22] at h ⊢
        obtain ⟨b1, b2, b3, b4, b5⟩ := tbW_0 h
        refine ⟨b1, fun q => ⟨q.1, q.2.1, Or.inr ⟨b2, b3, b4, fun x hx => b5 x (by rw [b4]; exact hx)⟩⟩⟩
theorem fold_ok {X : Nat → Nat → Nat} {N W : Nat} (hw : ∀ x c, nmd X N x = some c → c < W) : ∀ (ls : List (Nat × Nat × Nat)) (k : Nat) (s : MS), LO X N k ls → (ls.foldl (smS X N) s).1.1 = 0 → s.1.1 = 0 ∧ (MsOK W s → MsOK W (ls.foldl (smS X N) s))
  | [], _, s, _, h => ⟨h, fun q => q⟩
  | ln :: r, k, s, hL, h => by
    obtain ⟨a1, a2⟩ := fold_ok hw r _ (smS X N s ln) hL.2.2.2 h
    obtain ⟨b1, b2⟩ := smS_ok hw hL.2.2.1 a1
    exact ⟨b1, fun q => a2 (b2 q)⟩
theorem mean_ok {X : Nat → Nat → Nat} {N : Nat} {ls : List (Nat × Nat × Nat)} (hL : LO X N 0 ls) (h : (mean X N ls).1.1 = 0) : MsOK (nK 20 ls) (mean X N ls) :=
  (fold_ok (W := nK 20 ls) (fun x c q => by have := nmd_lt N 0 c ls (Nat.le_refl _) (by rw [Nat.sub_self]; exact hL) q; omega) ls 0 ms0 hL h).2 (ms0_ok _)
theorem Bt_ext {n : Nat} {T T' : Nat → Nat} (h : ∀ i, i < n → T i = T' i) : Bt n T = Bt n T' := by
  funext i
  unfold Bt
  split
  · rename_i c; exact h i c
  · rfl
theorem lex_ext {n : Nat} {T T' : Nat → Nat} (h : ∀ i, i < n → T i = T' i) : lex n T = lex n T' := by unfold lex; rw [Bt_ext h]
theorem tkX_ext {n : Nat} {T T' : Nat → Nat} (h : ∀ i, i < n → T i = T' i) : tkX n T = tkX n T' := by
  funext j k
  unfold tkX; rw [lex_ext h, Bt_ext h]
/-- what reading answers: what is wrong and where; or the wires and what is told -/
def rdR (X : Nat → Nat → Nat) (N : Nat) (R : Sum (Nat × Nat) (List (Nat × Nat × Nat))) : Sum (Nat × Nat) (Nat × MS) := match R with
  | .inl e => .inl e
  | .inr ls => if (mean X N ls).1.1 ≠ 0 then .inl ((mean X N ls).1.1, X 3 (mean X N ls).1.2) else .inr (nK 20 ls, mean X N ls)
def rdS (n : Nat) (T : Nat → Nat) : Sum (Nat × Nat) (Nat × MS) := rdR (tkX n T) (tkN n T) (pAll (tkX n T) 402 0 0 0 [])
