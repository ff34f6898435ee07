set_option maxRecDepth 100000
/-! ===== plain words: tokens and lines, what holds of them ===== -/
theorem rlL_all {B : Nat → Nat} : ∀ m i j, j < rlL B m i → isL (B (i + j))
  | 0, i, j, h => absurd h (Nat.not_lt_zero _)
  | m + 1, i, j, h => by
    unfold rlL at h
    split at h
    · rename_i c
      cases j with
      | zero => exact c
      | succ j =>
        have := rlL_all (B := B) m (i + 1) j (by omega)
        rwa [show i + (j + 1) = i + 1 + j by omega]
    · exact absurd h (Nat.not_lt_zero _)
theorem rlD_all {B : Nat → Nat} : ∀ m i j, j < rlD B m i → isD (B (i + j))
  | 0, i, j, h => absurd h (Nat.not_lt_zero _)
  | m + 1, i, j, h => by
    unfold rlD at h
    split at h
    · rename_i c
      cases j with
      | zero => exact c
      | succ j =>
        have := rlD_all (B := B) m (i + 1) j (by omega)
        rwa [show i + (j + 1) = i + 1 + j by omega]
    · exact absurd h (Nat.not_lt_zero _)
theorem rlL_pos {B : Nat → Nat} {m i : Nat} (h : isL (B i)) : 1 ≤ rlL B (m + 1) i := by unfold rlL; rw [if_pos h]; omega
theorem rlD_pos {B : Nat → Nat} {m i : Nat} (h : isD (B i)) : 1 ≤ rlD B (m + 1) i := by unfold rlD; rw [if_pos h]; omega
theorem rl_in {n : Nat} {T : Nat → Nat} {i r : Nat} (h : ∀ j, j < r → Bt n T (i + j) ≠ 0) (hi : i ≤ n) : i + r ≤ n := by
  cases r with
  | zero => exact hi
  | succ r => have := Bt_in (h r (by omega)); omega
/-- what holds of each token -/
def LE (n : Nat) (B : Nat → Nat) (i : Nat) (t : Tk) : Prop := t.1 ≤ 23 ∧ i ≤ t.2.1 ∧ t.2.1 ≤ n ∧ vlT B t.2.1 t.2.2 < 10000 ∧ nmT B t.2.1 t.2.2 < 282429536481
theorem LE.mono {n : Nat} {B : Nat → Nat} {i j : Nat} {t : Tk} (h : LE n B j t) (hij : i ≤ j) : LE n B i t := ⟨h.1, by have := h.2.1; omega, h.2.2⟩
theorem kyF_le (nm : Nat) : ∀ k, k ≤ 4 → kyF nm k ≤ 23
  | 0, _ => by show 1 ≤ 23; decide
  | k + 1, h => by
    unfold kyF
    split
    · omega
    · exact kyF_le nm k (by omega)
theorem kdL_le (B : Nat → Nat) (i m : Nat) : kdL B i m ≤ 23 := by
  unfold kdL
  split
  · decide
  · exact kyF_le _ _ (Nat.le_refl _)
theorem kyF_ne (nm : Nat) : ∀ k, kyF nm k ≠ 0
  | 0 => by show 1 ≠ 0; decide
  | k + 1 => by
    unfold kyF
    split
    · omega
    · exact kyF_ne nm k
theorem kdL_ne (B : Nat → Nat) (i m : Nat) : kdL B i m ≠ 0 := by
  unfold kdL
  split
  · decide
  · exact kyF_ne _ _
theorem sgK_le (c : Nat) : sgK c ≤ 23 ∧ sgK c ≠ 0 := by
  unfold sgK
  split
  · decide
  · split <;> decide
theorem vlT_n {B : Nat → Nat} {a b : Nat} (h : ¬ isD (B a)) : vlT B a b = 0 := by unfold vlT; rw [if_neg h]
theorem nmT_n {B : Nat → Nat} {a b : Nat} (h : ¬ isL (B a)) : nmT B a b = 0 := by unfold nmT; rw [if_neg h]
theorem lexF_ok {n : Nat} {T : Nat → Nat} : ∀ m i, i ≤ n → n < i + m → (∀ t ∈ lexF n (Bt n T) m i, LE n (Bt n T) i t) ∧ (lexF n (Bt n T) m i).Pairwise (fun s t => s.2.1 < t.2.1) ∧ ∃ pre : List Tk, lexF n (Bt n T) m i = pre ++ [(0, n, n)] ∧ ∀ t ∈ pre, t.1 ≠ 0
  | 0, i, h1, h2 => by omega
  | m + 1, i, h1, h2 => by
    have cons : ∀ (x : Tk) (j : Nat), LE n (Bt n T) i x → x.2.1 < j → j ≤ n → x.1 ≠ 0 → (∀ t ∈ x :: lexF n (Bt n T) m j, LE n (Bt n T) i t) ∧ (x :: lexF n (Bt n T) m j).Pairwise (fun s t => s.2.1 < t.2.1) ∧ ∃ pre : List Tk, x :: lexF n (Bt n T) m j = pre ++ [(0, n, n)] ∧ ∀ t ∈ pre, t.1 ≠ 0 := by
      intro x j hx hj hjn hx0
      have hij : i ≤ j := by have := hx.2.1; omega
      obtain ⟨r1, r2, pre, r3, r4⟩ := lexF_ok (n := n) (T := T) m j hjn (by have := hx.2.1; omega)
      refine ⟨fun t ht => ?_, List.pairwise_cons.mpr ⟨fun t ht => by have := (r1 t ht).2.1; omega, r2⟩, x :: pre, by rw [r3]; rfl, fun t ht => ?_⟩
      · rcases List.mem_cons.mp ht with e | e
        · rw [e]; exact hx
        · exact (r1 t e).mono hij
      · rcases List.mem_cons.mp ht with e | e
        · rw [e]; exact hx0
        · exact r4 t e
    unfold lexF
    by_cases c : n ≤ i
    · rw [if_pos c]
      have hz : Bt n T n = 0 := by unfold Bt; rw [if_neg (by omega)]
      refine ⟨fun t ht => ?_, List.pairwise_singleton _ _, [], rfl, fun t ht => absurd ht List.not_mem_nil⟩
      rw [List.mem_singleton.mp ht]
      refine ⟨Nat.zero_le _, h1, Nat.le_refl _, ?_, ?_⟩
      · show vlT (Bt n T) n n < 10000; rw [vlT_n (by rw [hz]; decide)]; decide
      · show nmT (Bt n T) n n < 282429536481; rw [nmT_n (by rw [hz]; decide)]; decide
    · rw [if_neg c]
      split
      · obtain ⟨r1, r2, r3⟩ := lexF_ok (n := n) (T := T) m (i + 1) (by omega) (by omega)
        exact ⟨fun t ht => (r1 t ht).mono (by omega), r2, r3⟩
      · split
        · rename_i cl
          have al : ∀ j, j < rlL (Bt n T) 2001 i → isL (Bt n T (i + j)) := fun j hj => rlL_all 2001 i j hj
          have hin : i + rlL (Bt n T) 2001 i ≤ n := rl_in (T := T) (fun j hj => by have := al j hj; omega) h1
          refine cons _ _ ⟨kdL_le _ _ _, Nat.le_refl _, h1, ?_, ?_⟩ ?_ hin (kdL_ne _ _ _)
          · show vlT (Bt n T) i _ < 10000
            rw [vlT_n (by omega)]; decide
          · show nmT (Bt n T) i (i + rlL (Bt n T) 2001 i) < 282429536481
            unfold nmT
            rw [if_pos cl]
            refine Nat.lt_of_lt_of_le (nmF_lt _ (fun j hj => al j (by omega))) ?_
            exact Nat.le_trans (Nat.pow_le_pow_right (by decide) (Nat.min_le_right _ 8)) (by decide)
          · have : 1 ≤ rlL (Bt n T) 2001 i := rlL_pos (m := 2000) cl
            show i < i + rlL (Bt n T) 2001 i
            omega
        · rename_i cl
          split
          · rename_i cd
            have al : ∀ j, j < rlD (Bt n T) 2001 i → isD (Bt n T (i + j)) := fun j hj => rlD_all 2001 i j hj
            have hin : i + rlD (Bt n T) 2001 i ≤ n := rl_in (T := T) (fun j hj => by have := al j hj; omega) h1
            refine cons _ _ ⟨by show (if _ then 3 else 2) ≤ 23; split <;> decide, Nat.le_refl _, h1, ?_, ?_⟩ ?_ hin (by show (if _ then 3 else 2) ≠ 0; split <;> decide)
            · show vlT (Bt n T) i (i + rlD (Bt n T) 2001 i) < 10000
              unfold vlT
              rw [if_pos cd]
              refine Nat.lt_of_lt_of_le (vlF_lt _ (fun j hj => al j (by omega))) ?_
              exact Nat.le_trans (Nat.pow_le_pow_right (by decide) (Nat.min_le_right _ 4)) (by decide)
            · show nmT (Bt n T) i _ < 282429536481
              rw [nmT_n cl]; decide
            · have : 1 ≤ rlD (Bt n T) 2001 i := rlD_pos (m := 2000) cd
              show i < i + rlD (Bt n T) 2001 i
              omega
          · rename_i cd
            refine cons _ _ ⟨(sgK_le _).1, Nat.le_refl _, h1, ?_, ?_⟩ (by show i < i + 1; omega) (by omega) (sgK_le _).2
            · show vlT (Bt n T) i _ < 10000
              rw [vlT_n cd]; decide
            · show nmT (Bt n T) i _ < 282429536481
              rw [nmT_n cl]; decide
/-- how many tokens the reference notes -/
def tkN (n : Nat) (T : Nat → Nat) : Nat := min 401 (lex n T).length
theorem lex_len (n : Nat) (T : Nat → Nat) : 1 ≤ (lex n T).length := by
  obtain ⟨_, _, pre, h, _⟩ := lexF_ok (n := n) (T := T) (n + 1) 0 (by omega) (by omega)
  unfold lex; rw [h, List.length_append]; show 1 ≤ pre.length + 1; omega
theorem tkX_at {n : Nat} {T : Nat → Nat} {k kd a b : Nat} (h : (lex n T)[k]? = some (kd, a, b)) : tkX n T 2 k = kd ∧ tkX n T 3 k = a ∧ tkX n T 4 k = vlT (Bt n T) a b ∧ tkX n T 5 k = nmT (Bt n T) a b := by
  unfold tkX; rw [h]; exact ⟨rfl, rfl, rfl, rfl⟩
theorem tkX_bd (n : Nat) (T : Nat → Nat) (hn : n ≤ 2000) (k : Nat) : tkX n T 2 k ≤ 23 ∧ tkX n T 3 k ≤ 2000 ∧ tkX n T 4 k < 10000 ∧ tkX n T 5 k < 282429536481 := by
  obtain ⟨h1, _, _⟩ := lexF_ok (n := n) (T := T) (n + 1) 0 (by omega) (by omega)
  cases hk : (lex n T)[k]? with
  | none => unfold tkX; rw [hk]; exact ⟨show 3 ≤ 23 by decide, show 0 ≤ 2000 by decide, show 0 < 10000 by decide, show 0 < 282429536481 by decide⟩
  | some t =>
    obtain ⟨kd, a, b⟩ := t
    obtain ⟨e1, e2, e3, e4⟩ := tkX_at hk
    have := h1 (kd, a, b) (List.mem_of_getElem? hk)
    rw [e1, e2, e3, e4]
    have h3 := this.2.2.1
    exact ⟨this.1, Nat.le_trans h3 hn, this.2.2.2.1, this.2.2.2.2⟩
/-- a token of kind 0 is the last -/
theorem tkX_last {n : Nat} {T : Nat → Nat} {k : Nat} : tkX n T 2 k = 0 ↔ k + 1 = (lex n T).length := by
  obtain ⟨_, _, pre, h, hp⟩ := lexF_ok (n := n) (T := T) (n + 1) 0 (by omega) (by omega)
  have hl : lex n T = pre ++ [(0, n, n)] := h
  have hlen : (lex n T).length = pre.length + 1 := by rw [hl, List.length_append]; rfl
  constructor
  · intro q
    cases hk : (lex n T)[k]? with
    | none => exact absurd (show tkX n T 2 k = 3 by unfold tkX; rw [hk]; rfl) (by omega)
    | some t =>
      have e1 := (tkX_at (kd := t.1) (a := t.2.1) (b := t.2.2) hk).1
      by_cases c : k < pre.length
      · rw [hl, List.getElem?_append_left c] at hk
        exact absurd (e1.symm.trans q) (hp t (List.mem_of_getElem? hk))
      · have := (List.getElem?_eq_some_iff.mp hk).1
        omega
  · intro q
    have : (lex n T)[k]? = some (0, n, n) := by
      rw [hl, List.getElem?_append_right (by omega), show k - pre.length = 0 by omega]; rfl
    exact (tkX_at this).1
theorem tkX_mono {n : Nat} {T : Nat → Nat} {a b : Nat} (h : a < b) (hb : b < (lex n T).length) : tkX n T 3 a < tkX n T 3 b := by
  obtain ⟨_, h2, _⟩ := lexF_ok (n := n) (T := T) (n + 1) 0 (by omega) (by omega)
  have ha : a < (lex n T).length := by omega
  have e1 := (tkX_at (n := n) (T := T) (kd := (lex n T)[a].1) (a := (lex n T)[a].2.1) (b := (lex n T)[a].2.2) (List.getElem?_eq_getElem ha)).2.1
  have e2 := (tkX_at (n := n) (T := T) (kd := (lex n T)[b].1) (a := (lex n T)[b].2.1) (b := (lex n T)[b].2.2) (List.getElem?_eq_getElem hb)).2.1
  rw [e1, e2]
  exact List.pairwise_iff_getElem.mp h2 a b ha hb h
theorem TkR.tp {n : Nat} {T : Nat → Nat} {A : Nat → Nat → Nat} {N : Nat} (hn : n ≤ 2000) (h : TkR (Bt n T) A N (lex n T)) (h1 : 1 ≤ N) (h2 : N ≤ 401) (h4 : N = 401 ∨ N = (lex n T).length) : TP A (tkX n T) N := by
  have bd := tkX_bd n T hn
  refine ⟨h1, h2, fun k hk => ?_, ?_, fun k => (bd k).1, fun k => (bd k).2.1, fun k => (bd k).2.2.1, fun k => (bd k).2.2.2⟩
  · obtain ⟨b, q1, q2, q3⟩ := h k hk
    obtain ⟨e1, e2, e3, e4⟩ := tkX_at q1
    exact ⟨e1.symm, e2.symm, by rw [e3, q2], by rw [e4, q3]⟩
  · rcases h4 with e | e
    · exact Or.inr e
    · exact Or.inl (tkX_last.mpr (by omega))
/-! lines that are told well -/
section
variable {X : Nat → Nat → Nat} {N : Nat}
theorem ps1 (h4 : X 2 (N - 1) = 0 ∨ N = 401) {t t' : Nat} (ht : t < N) (hx : X 2 t ≠ 0) (h : pPass X t = .inr t') : t' = t + 1 ∧ t' < N := by
  unfold pPass at h
  split at h
  · cases h
  · injection h with h
    refine ⟨h.symm, ?_⟩
    rcases h4 with e | e
    · by_cases c : t = N - 1
      · rw [c] at hx; exact absurd e hx
      · omega
    · omega
theorem ms1 (h4 : X 2 (N - 1) = 0 ∨ N = 401) {k t t' : Nat} (hk : k ≠ 0) (ht : t < N) (h : pMust X k t = .inr t') : X 2 t = k ∧ t' = t + 1 ∧ t' < N := by
  unfold pMust at h
  split at h
  · rename_i c
    exact ⟨c, ps1 h4 ht (by omega) h⟩
  · cases h
theorem bd_ok {r : PR} {f : Nat → PR} {t' : Nat} (h : bd r f = .inr t') : ∃ t, r = .inr t ∧ f t = .inr t' := by
  cases r with
  | inl e => cases h
  | inr t => exact ⟨t, rfl, h⟩
theorem mn1 (h4 : X 2 (N - 1) = 0 ∨ N = 401) {k : Nat} (hk : k ≠ 0) : ∀ m t t', t < N → pMustN X k m (.inr t) = .inr t' → t' = t + m ∧ t' < N ∧ ∀ j, t ≤ j → j < t' → X 2 j = k
  | 0, t, t', ht, h => by
    injection h with h
    exact ⟨h.symm, by omega, fun j a b => by omega⟩
  | m + 1, t, t', ht, h => by
    have h' : pMustN X k m (pMust X k t) = .inr t' := h
    cases hp : pMust X k t with
    | inl e => rw [hp, pMustN_inl] at h'; cases h'
    | inr u =>
      rw [hp] at h'
      obtain ⟨a1, a2, a3⟩ := ms1 h4 hk ht hp
      obtain ⟨b1, b2, b3⟩ := mn1 h4 hk m u t' a3 h'
      refine ⟨by omega, b2, fun j c1 c2 => ?_⟩
      by_cases c : j = t
      · rw [c]; exact a1
      · exact b3 j (by omega) c2
theorem ct1 (h4 : X 2 (N - 1) = 0 ∨ N = 401) : ∀ m t t', t < N → pCtl X m t = .inr t' → t ≤ t' ∧ t' < N ∧ ∀ j, t ≤ j → j < t' → X 2 j = 1 ∨ X 2 j = 5
  | 0, t, t', ht, h => by
    unfold pCtl at h
    split at h
    · cases h
    · injection h with h
      exact ⟨by omega, by omega, fun j a b => by omega⟩
  | m + 1, t, t', ht, h => by
    unfold pCtl at h
    split at h
    · rename_i c
      obtain ⟨u, hu, h2⟩ := bd_ok h
      obtain ⟨v, hv, h3⟩ := bd_ok hu
      have hv' : (v = t ∨ v = t + 1) ∧ v < N ∧ (v = t + 1 → X 2 t = 5) := by
        split at hv
        · rename_i c5
          obtain ⟨a1, a2⟩ := ps1 h4 ht (by omega) hv
          exact ⟨Or.inr a1, a2, fun _ => c5⟩
        · injection hv with hv
          exact ⟨Or.inl hv.symm, by omega, fun q => by omega⟩
      obtain ⟨a1, a2, a3⟩ := ms1 h4 (by decide) hv'.2.1 h3
      obtain ⟨b1, b2, b3⟩ := ct1 h4 m u t' a3 h2
      refine ⟨by omega, b2, fun j c1 c2 => ?_⟩
      by_cases c6 : j < u
      · by_cases c7 : j = v
        · rw [c7]; exact Or.inl a1
        · have : v = t + 1 ∧ j = t := by omega
          rw [this.2]; exact Or.inr (hv'.2.2 this.1)
      · exact b3 j (by omega) c2
    · injection h with h
      exact ⟨by omega, by omega, fun j a b => by omega⟩
theorem vl1 (h4 : X 2 (N - 1) = 0 ∨ N = 401) : ∀ m t t', t < N → pVal X m t = .inr t' → t ≤ t' ∧ t' ≤ t + m ∧ t' < N ∧ ∀ j, t ≤ j → j < t' → X 2 j = 2
  | 0, t, t', ht, h => by
    unfold pVal at h
    split at h
    · cases h
    · injection h with h
      exact ⟨by omega, by omega, by omega, fun j a b => by omega⟩
  | m + 1, t, t', ht, h => by
    unfold pVal at h
    split at h
    · rename_i c
      obtain ⟨u, hu, h2⟩ := bd_ok h
      obtain ⟨a1, a2⟩ := ps1 h4 ht (by omega) hu
      obtain ⟨b1, b2, b3, b4⟩ := vl1 h4 m u t' a2 h2
      refine ⟨by omega, by omega, b3, fun j c1 c2 => ?_⟩
      by_cases c6 : j = t
      · rw [c6]; exact c
      · exact b4 j (by omega) c2
    · injection h with h
      exact ⟨by omega, by omega, by omega, fun j a b => by omega⟩
theorem ln1 (h4 : X 2 (N - 1) = 0 ∨ N = 401) {t t' nw ng : Nat} (ht : t < N) (h : pLine X t nw ng = .inr t') : t' < N ∧ t < t' ∧ lnOK X N (X 2 t) t (t' - 1) ∧ (∀ j, t < j → j < t' → X 2 j < 20) ∧ ¬ (X 2 t = 20 ∧ nw = 4) ∧ ¬ (X 2 t = 21 ∧ ng = 16) := by
  unfold pLine at h
  split at h
  · cases h
  · rename_i c1
    split at h
    · cases h
    · rename_i c2
      unfold pBody at h
      obtain ⟨e, he, hm⟩ := bd_ok h
      by_cases k20 : X 2 t = 20
      · rw [if_pos k20] at he
        obtain ⟨u, hu, h2⟩ := bd_ok he
        obtain ⟨a1, a2⟩ := ps1 h4 ht (by omega) hu
        obtain ⟨b1, b2, b3⟩ := ms1 h4 (by decide) a2 h2
        obtain ⟨d1, d2, d3⟩ := ms1 h4 (by decide) b3 hm
        have et : t' - 1 = e := by omega
        refine ⟨d3, by omega, ?_, fun j j1 j2 => ?_, by omega, by omega⟩
        · rw [et]
          exact ⟨by omega, rfl, by omega, b3, d1, fun _ => ⟨by omega, by rw [← a1]; exact b1⟩, fun q => by omega, fun q => by omega, fun q => by omega⟩
        · by_cases cj : j = e
          · rw [cj, d1]; decide
          · rw [show j = u by omega, b1]; decide
      · rw [if_neg k20] at he
        by_cases k21 : X 2 t = 21
        · rw [if_pos k21] at he
          obtain ⟨v, hv, h3⟩ := bd_ok he
          obtain ⟨u, hu, h2⟩ := bd_ok hv
          obtain ⟨a1, a2⟩ := ps1 h4 ht (by omega) hu
          obtain ⟨b1, b2, b3⟩ := ms1 h4 (by decide) a2 h2
          obtain ⟨g1, g2, g3⟩ := ct1 h4 _ _ _ b3 h3
          obtain ⟨d1, d2, d3⟩ := ms1 h4 (by decide) g2 hm
          have et : t' - 1 = e := by omega
          have hall : ∀ j, t < j → j < e → X 2 j = 1 ∨ X 2 j = 5 := fun j j1 j2 => by
            by_cases cj : j = u
            · rw [cj]; exact Or.inl b1
            · exact g3 j (by omega) j2
          refine ⟨d3, by omega, ?_, fun j j1 j2 => ?_, by omega, by omega⟩
          · rw [et]
            exact ⟨by omega, rfl, by omega, g2, d1, fun q => by omega, fun _ => ⟨by omega, by rw [← a1]; exact b1, hall⟩, fun q => by omega, fun q => by omega⟩
          · by_cases cj : j = e
            · rw [cj, d1]; decide
            · have := hall j j1 (by omega); omega
        · rw [if_neg k21] at he
          by_cases k22 : X 2 t = 22
          · rw [if_pos k22] at he
            cases hp : pPass X t with
            | inl q => rw [hp, pMustN_inl] at he; cases he
            | inr u =>
              rw [hp] at he
              obtain ⟨a1, a2⟩ := ps1 h4 ht (by omega) hp
              obtain ⟨b1, b2, b3⟩ := mn1 h4 (by decide) _ _ _ a2 he
              obtain ⟨d1, d2, d3⟩ := ms1 h4 (by decide) b2 hm
              have et : t' - 1 = e := by omega
              refine ⟨d3, by omega, ?_, fun j j1 j2 => ?_, by omega, by omega⟩
              · rw [et]
                exact ⟨by omega, rfl, by omega, b2, d1, fun q => by omega, fun q => by omega, fun _ => ⟨by omega, fun j j1 j2 => b3 j (by omega) j2⟩, fun q => by omega⟩
              · by_cases cj : j = e
                · rw [cj, d1]; decide
                · rw [b3 j (by omega) (by omega)]; decide
          · rw [if_neg k22] at he
            obtain ⟨v, hv, h3⟩ := bd_ok he
            cases hp : pPass X t with
            | inl q => rw [hp, pMustN_inl] at hv; cases hv
            | inr u =>
              rw [hp] at hv
              obtain ⟨a1, a2⟩ := ps1 h4 ht (by omega) hp
              obtain ⟨b1, b2, b3⟩ := mn1 h4 (by decide) _ _ _ a2 hv
              obtain ⟨g1, g2, g3, g4⟩ := vl1 h4 _ _ _ b2 h3
              obtain ⟨d1, d2, d3⟩ := ms1 h4 (by decide) g3 hm
              have et : t' - 1 = e := by omega
              have hall : ∀ j, t < j → j < e → X 2 j = 2 := fun j j1 j2 => by
                by_cases cj : j < v
                · exact b3 j (by omega) cj
                · exact g4 j (by omega) j2
              refine ⟨d3, by omega, ?_, fun j j1 j2 => ?_, by omega, by omega⟩
              · rw [et]
                exact ⟨by omega, rfl, by omega, g3, d1, fun q => by omega, fun q => by omega, fun q => by omega, fun _ => ⟨by omega, by omega, hall⟩⟩
              · by_cases cj : j = e
                · rw [cj, d1]; decide
                · rw [hall j j1 (by omega)]; decide
theorem LO.back {k k' : Nat} (hk : k ≤ k') (h : ∀ j, k ≤ j → j < k' → X 2 j < 20) : ∀ {ls}, LO X N k' ls → LO X N k ls
  | [], q => fun j a b => by
    by_cases c : j < k'
    · exact h j a c
    · exact q j (by omega) b
  | ln :: r, q => by
    obtain ⟨q1, q2, q3, q4⟩ := q
    refine ⟨by omega, fun j a b => ?_, q3, q4⟩
    by_cases c : j < k'
    · exact h j a c
    · exact q2 j (by omega) b
theorem pAll_ok (h4 : X 2 (N - 1) = 0 ∨ N = 401) (hl : ∀ t, t < N → X 2 t = 0 → t = N - 1) : ∀ m t nw ng acc ls, t < N → nw ≤ 4 → ng ≤ 16 → pAll X m t nw ng acc = .inr ls → ∃ r, ls = acc ++ r ∧ LO X N t r ∧ nw + nK 20 r ≤ 4 ∧ ng + nK 21 r ≤ 16
  | 0, t, nw, ng, acc, ls, ht, hw, hg, h => by cases h
  | m + 1, t, nw, ng, acc, ls, ht, hw, hg, h => by
    unfold pAll at h
    by_cases c0 : X 2 t = 0
    · rw [if_pos c0] at h
      injection h with h
      have := hl t ht c0
      refine ⟨[], by rw [List.append_nil]; exact h.symm, fun j a b => ?_, by show nw + 0 ≤ 4; omega, by show ng + 0 ≤ 16; omega⟩
      rw [show j = t by omega, c0]; decide
    · rw [if_neg c0] at h
      cases hp : pLine X t nw ng with
      | inl e => rw [hp] at h; cases h
      | inr t' =>
        rw [hp] at h
        obtain ⟨a1, a2, a3, a4, a5, a6⟩ := ln1 h4 ht hp
        have h2 : pAll X m t' (if X 2 t = 20 then nw + 1 else nw) (if X 2 t = 21 then ng + 1 else ng) (acc ++ [(X 2 t, t, t' - 1)]) = .inr ls := h
        have hw' : (if X 2 t = 20 then nw + 1 else nw) ≤ 4 := by split <;> omega
        have hg' : (if X 2 t = 21 then ng + 1 else ng) ≤ 16 := by split <;> omega
        obtain ⟨r, e1, e2, e3, e4⟩ := pAll_ok h4 hl m t' _ _ _ ls a1 hw' hg' h2
        have hLO : t ≤ t ∧ (∀ j, t ≤ j → j < t → X 2 j < 20) ∧ lnOK X N (X 2 t) t (t' - 1) ∧ LO X N (t + 1) r := ⟨Nat.le_refl _, fun j a b => by omega, a3, e2.back (by omega) (fun j a b => a4 j (by omega) b)⟩
        refine ⟨(X 2 t, t, t' - 1) :: r, by rw [e1, List.append_assoc]; rfl, hLO, ?_, ?_⟩
        · show nw + ((if X 2 t = 20 then 1 else 0) + nK 20 r) ≤ 4
          by_cases c : X 2 t = 20
          · rw [if_pos c] at e3 ⊢; omega
          · rw [if_neg c] at e3 ⊢; omega
        · show ng + ((if X 2 t = 21 then 1 else 0) + nK 21 r) ≤ 16
          by_cases c : X 2 t = 21
          · rw [if_pos c] at e4 ⊢; omega
          · rw [if_neg c] at e4 ⊢; omega
theorem nmd_lt {x : Nat} : ∀ m c r ls, m ≤ N → LO X N (N - m) ls → nmdF X x N m c = some r → r < c + nK 20 ls
  | 0, c, r, ls, _, _, h => by cases h
  | m + 1, c, r, ls, hm, hL, h => by
    unfold nmdF at h
    have e1 : N - (m + 1) + 1 = N - m := by omega
    by_cases c20 : X 2 (N - (m + 1)) < 20
    · rw [if_neg (by omega)] at h
      exact nmd_lt m c r ls (by omega) (by rw [← e1]; exact hL.skip c20) h
    · obtain ⟨e, q, e2, e3, e4⟩ := hL.take (by omega) c20
      rw [e1] at e4
      subst e2
      show r < c + ((if X 2 (N - (m + 1)) = 20 then 1 else 0) + nK 20 q)
      by_cases k : X 2 (N - (m + 1)) = 20
      · rw [if_pos k] at h
        rw [if_pos k]
        split at h
        · injection h with h; omega
        · have := nmd_lt m (c + 1) r q (by omega) e4 h; omega
      · rw [if_neg k] at h
        rw [if_neg k]
        have := nmd_lt m c r q (by omega) e4 h; omega
theorem LO_head : ∀ {ls k j}, LO X N k ls → k ≤ j → j < N → 20 ≤ X 2 j → ∃ e, lnOK X N (X 2 j) j e
  | [], k, j, h, h1, h2, h3 => by have := h j h1 h2; omega
  | (kd, t, e) :: r, k, j, h, h1, h2, h3 => by
    obtain ⟨q1, q2, q3, q4⟩ := h
    by_cases c : j < t
    · have := q2 j h1 c; omega
    · by_cases c2 : j = t
      · subst c2
        have : X 2 j = kd := q3.2.1
        exact ⟨e, by rw [this]; exact q3⟩
      · exact LO_head (k := t + 1) q4 (by omega) h2 h3
end
theorem MQ_ok {n : Nat} {T : Nat → Nat} {N : Nat} {ls} (h4 : N ≤ (lex n T).length) (hl : LO (tkX n T) N 0 ls) (hw : nK 20 ls ≤ 4) : MQr (tkX n T) N := by
  refine ⟨fun a b h1 h2 => tkX_mono h1 (by omega), fun k hk h20 => ?_, fun x c h => ?_⟩
  · obtain ⟨e, he⟩ := LO_head hl (Nat.zero_le _) hk (by omega)
    have := he.2.2.1; have := he.2.2.2.1; have := he.2.2.2.2.2.1 h20
    omega
  · have := nmd_lt N 0 c ls (Nat.le_refl _) (by rw [Nat.sub_self]; exact hl) h
    omega
