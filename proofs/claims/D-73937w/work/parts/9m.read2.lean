set_option maxRecDepth 100000
/-! ===== BackLogic.read ===== -/
theorem mean_len {X : Nat → Nat → Nat} {N : Nat} : ∀ (ls : List (Nat × Nat × Nat)) (s : MS), (ls.foldl (smS X N) s).2.2.2.length = s.2.2.2.length + nK 21 ls
  | [], s => rfl
  | ln :: ls, s => by
    have ih := mean_len (X := X) (N := N) ls (smS X N s ln)
    show (ls.foldl (smS X N) (smS X N s ln)).2.2.2.length = s.2.2.2.length + ((if ln.1 = 21 then 1 else 0) + nK 21 ls)
    rw [ih]
    have e : (smS X N s ln).2.2.2.length = s.2.2.2.length + if ln.1 = 21 then 1 else 0 := by
      unfold smS
      by_cases c20 : ln.1 = 20
      · rw [if_pos c20, if_neg (by omega)]; rfl
      · rw [if_neg c20]
        by_cases c21 : ln.1 = 21
        · rw [if_pos c21, if_pos c21]
          show (s.2.2.2 ++ [_]).length = _
          rw [List.length_append]; rfl
        · rw [if_neg c21, if_neg c21]
          split <;> rfl
    omega
theorem rd_ok {tp : Nat} {T : Nat → Nat} {q : Nat × MS} (h : rdS tp T = .inr q) : q.1 ≤ 4 ∧ q.2.2.2.2.length ≤ 16 ∧ MsOK q.1 q.2 := by
  have hl := lex_len tp T
  have hNb : 1 ≤ tkN tp T ∧ tkN tp T ≤ 401 ∧ tkN tp T ≤ (lex tp T).length := by unfold tkN; omega
  have h4 : tkX tp T 2 (tkN tp T - 1) = 0 ∨ tkN tp T = 401 := by
    by_cases c : tkN tp T = 401
    · exact Or.inr c
    · exact Or.inl (tkX_last.mpr (by unfold tkN at c ⊢; omega))
  have hlast : ∀ t, t < tkN tp T → tkX tp T 2 t = 0 → t = tkN tp T - 1 := fun t ht h => by
    have := tkX_last.mp h
    omega
  unfold rdS at h
  cases hp : pAll (tkX tp T) 402 0 0 0 [] with
  | inl e => rw [hp] at h; cases h
  | inr ls =>
    rw [hp] at h
    have h : (if (mean (tkX tp T) (tkN tp T) ls).1.1 ≠ 0 then Sum.inl ((mean (tkX tp T) (tkN tp T) ls).1.1, tkX tp T 3 (mean (tkX tp T) (tkN tp T) ls).1.2) else Sum.inr (nK 20 ls, mean (tkX tp T) (tkN tp T) ls)) = Sum.inr q := h
    by_cases c : (mean (tkX tp T) (tkN tp T) ls).1.1 = 0
    · rw [if_neg (fun z => z c)] at h
      cases h
      obtain ⟨r, e1, e2, e3, e4⟩ := pAll_ok h4 hlast 402 0 0 0 [] ls hNb.1 (by decide) (by decide) hp
      rw [List.nil_append] at e1
      subst e1
      refine ⟨by show nK 20 ls ≤ 4; omega, ?_, mean_ok e2 c⟩
      have := mean_len (X := tkX tp T) (N := tkN tp T) ls ms0
      show (mean (tkX tp T) (tkN tp T) ls).2.2.2.length ≤ 16
      unfold mean
      rw [this]
      show 0 + nK 21 ls ≤ 16
      omega
    · rw [if_pos c] at h; cases h
def SP : List Nat := [301, 302, 303, 304, 305, 306, 307, 308, 309, 310, 311, 312, 313, 314, 315, 316, 317]
theorem SP_i {x : Nat} : x ∈ SP ↔ 301 ≤ x ∧ x ≤ 317 := by unfold SP; simp; omega
theorem WO.par {f f' : Hp} {w : Nat} {gs : List Gt} {pa : List (List Gt)} {sl : Nat → Option (List Gt)} {ni no : Nat} {v p : Nat → Nat} {tp : Nat} {T : Nat → Nat} {pl : Int} (h : WO f w gs pa sl ni no v p tp T pl) (hk : KE SP f f') (hP : PW f' tp T) : WO f' w gs pa sl ni no v p tp T pl := by
  obtain ⟨h0, h1, h2, h3, h4, h5, h6, h7, h8, h9, h10, h11⟩ := h
  have g : ∀ x, (x < 301 ∨ 317 < x) → x ∉ SP := fun x q z => by have := SP_i.mp z; omega
  exact ⟨(hk.2.2 300 (by decide) (g _ (by omega))).trans h0, hP, h2.ke hk ⟨g _ (by omega), g _ (by omega)⟩, h3.ke hk ⟨g _ (by omega), g _ (by omega)⟩, h4.ke hk (g _ (by omega)), h5.ke hk (g _ (by omega)), h6.ke hk (g _ (by omega)), h7.ke hk ⟨g _ (by omega), g _ (by omega)⟩, h8.ke hk (fun x a b => g x (by omega)), h9.ke hk (fun x a b => g x (by omega)), h10.ke hk (fun x a b => g x (by omega)), h11.ke hk (fun x a b => g x (by omega))⟩
theorem KPr.ke {n : Nat} {f f' : Hp} {w : Nat} {gs : List Gt} {pa : List (List Gt)} {sl : Nat → Option (List Gt)} {ni no : Nat} {v p : Nat → Nat} {tp : Nat} {T : Nat → Nat} {pl : Int} (hk : KPr n f f') (h : WO f w gs pa sl ni no v p tp T pl) (hno : ∀ id, n ≤ id → f id = none) (hn : 392 ≤ n) : KE SP f f' := KE.of hno hn (fun id a b => hk id a (by have := mt SP_i.mpr b; omega)) (fun x hx => by
  have := SP_i.mp hx
  refine ⟨by omega, fun q => h.ng ?_ q⟩
  unfold fxB
  simp
  omega)
/-- what reading leaves of the component -/
def RXP (n : Nat) (f : Hp) (w : Nat) (gs : List Gt) (pa : List (List Gt)) (sl : Nat → Option (List Gt)) (ni no : Nat) (v p : Nat → Nat) (tp : Nat) (T : Nat → Nat) : Pt_ := fun r n' f' => n ≤ n' ∧ (∀ id, 358 ≤ id → id < 392 → f' id = f id) ∧ ((∃ e, rdS tp T = .inl e ∧ r = some (zI ((e.1 : Nat) : Int)) ∧ WO f' w gs pa sl ni no v p 0 T ((e.2 : Nat) : Int)) ∨ ∃ q ni' no' v', rdS tp T = .inr q ∧ r = some (zI 0) ∧ TBk q.2.2.2.1 ni' no' v' ∧ (∀ x, x < 8 → (v' x : Nat) < 10000) ∧ WO f' q.1 q.2.2.2.2 [] (fun _ => none) ni' no' v' q.2.2.1 0 T (-1))
