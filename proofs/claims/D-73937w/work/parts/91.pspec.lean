set_option maxRecDepth 100000
/-! ===== plain words for the parser: tokens as the component has them; the worst in any order ===== -/
theorem cutB_at : ∀ (l : List Tk) (k : Nat), k < (cutB l).length → (cutB l)[k]? = l[k]? ∧ (k + 1 < (cutB l).length → ∀ t, l[k]? = some t → t.1 ≠ 3)
  | [], k, h => absurd h (Nat.not_lt_zero _)
  | t :: l, k, h => by
    unfold cutB at h ⊢
    by_cases c : t.1 = 3
    · rw [if_pos c] at h ⊢
      have hk : k = 0 := by have : k < 1 := h; omega
      subst hk
      exact ⟨rfl, fun q => absurd (show 0 + 1 < 1 from q) (by decide)⟩
    · rw [if_neg c] at h ⊢
      cases k with
      | zero => exact ⟨rfl, fun _ t' e => by cases e; exact c⟩
      | succ k =>
        obtain ⟨h1, h2⟩ := cutB_at l k (by simpa using h)
        exact ⟨by simpa using h1, fun q t' e => h2 (by simpa using q) t' (by simpa using e)⟩
theorem cutB_last : ∀ (l : List Tk), l ≠ [] → 1 ≤ (cutB l).length ∧ (cutB l).length ≤ l.length ∧ ((cutB l).length = l.length ∨ ∃ t, l[(cutB l).length - 1]? = some t ∧ t.1 = 3)
  | [], h => absurd rfl h
  | t :: l, _ => by
    unfold cutB
    by_cases c : t.1 = 3
    · rw [if_pos c]
      exact ⟨Nat.le_refl _, by simp, Or.inr ⟨t, rfl, c⟩⟩
    · rw [if_neg c]
      by_cases e : l = []
      · subst e; exact ⟨Nat.le_refl _, Nat.le_refl _, Or.inl rfl⟩
      · obtain ⟨h1, h2, h3⟩ := cutB_last l e
        refine ⟨by simp, by simpa using h2, ?_⟩
        rcases h3 with z | ⟨t', z1, z2⟩
        · left; simp [z]
        · right
          refine ⟨t', ?_, z2⟩
          rw [List.length_cons, Nat.add_sub_cancel]
          obtain ⟨q, hq⟩ : ∃ q, (cutB l).length = q + 1 := ⟨(cutB l).length - 1, by omega⟩
          rw [hq] at z1 ⊢
          simpa using z1
/-- tokens of names and of numbers -/
def LT_ (n : Nat) (B : Nat → Nat) (t : Tk) : Prop := (t.1 ≤ 5 ∨ 20 ≤ t.1) ∧ (t.1 = 1 → t.2.1 ≤ t.2.2 ∧ t.2.2 ≤ n ∧ t.2.2 - t.2.1 ≤ 8 ∧ 0 < t.2.2 - t.2.1 ∧ ∀ j, j < t.2.2 - t.2.1 → isL (B (t.2.1 + j))) ∧ (t.1 = 2 → t.2.1 ≤ t.2.2 ∧ t.2.2 ≤ n ∧ t.2.2 ≤ t.2.1 + 4 ∧ 0 < t.2.2 - t.2.1 ∧ ∀ j, j < t.2.2 - t.2.1 → isD (B (t.2.1 + j)))
theorem kdL_1 {B : Nat → Nat} {i m : Nat} (h : kdL B i m = 1) : m ≤ 8 := by
  unfold kdL at h
  by_cases c : 8 < m
  · rw [if_pos c] at h; cases h
  · omega
theorem kdL_2 (B : Nat → Nat) (i m : Nat) : kdL B i m ≠ 2 := by
  have : ∀ nm k, kyF nm k ≠ 2 := by
    intro nm k
    induction k with
    | zero => show 1 ≠ 2; decide
    | succ k ih => unfold kyF; split; omega; exact ih
  unfold kdL
  split
  · decide
  · exact this _ _
theorem kdL_r (B : Nat → Nat) (i m : Nat) : kdL B i m ≤ 5 ∨ 20 ≤ kdL B i m := by
  have : ∀ nm k, kyF nm k ≤ 5 ∨ 20 ≤ kyF nm k := by
    intro nm k
    induction k with
    | zero => left; show 1 ≤ 5; decide
    | succ k ih => unfold kyF; split; right; omega; exact ih
  unfold kdL
  split
  · left; decide
  · exact this _ _
theorem sgK_5 (c : Nat) : sgK c ≤ 5 := by
  unfold sgK
  split
  · decide
  · split <;> decide
theorem sgK_12 (c : Nat) : sgK c ≠ 1 ∧ sgK c ≠ 2 := by
  unfold sgK
  split
  · decide
  · split <;> decide
theorem lexF_lt {n : Nat} {T : Nat → Nat} : ∀ m i, i ≤ n → ∀ t ∈ lexF n (Bt n T) m i, LT_ n (Bt n T) t
  | 0, i, _, t, ht => by rw [List.mem_singleton.mp ht]; exact ⟨Or.inl (Nat.zero_le _), fun q => (by cases q), fun q => (by cases q)⟩
  | m + 1, i, hi, t, ht => by
    unfold lexF at ht
    by_cases c : n ≤ i
    · rw [if_pos c] at ht; rw [List.mem_singleton.mp ht]; exact ⟨Or.inl (Nat.zero_le _), fun q => (by cases q), fun q => (by cases q)⟩
    · rw [if_neg c] at ht
      split at ht
      · exact lexF_lt m (i + 1) (by omega) t ht
      · split at ht
        · rename_i cl
          have al : ∀ j, j < rlL (Bt n T) 2001 i → isL (Bt n T (i + j)) := fun j hj => rlL_all 2001 i j hj
          have hin : i + rlL (Bt n T) 2001 i ≤ n := rl_in (T := T) (fun j hj => by have := al j hj; omega) hi
          rcases List.mem_cons.mp ht with e | e
          · rw [e]
            refine ⟨kdL_r _ _ _, fun q => ?_, fun q => absurd q (kdL_2 _ _ _)⟩
            have h8 := kdL_1 q
            have hp : 1 ≤ rlL (Bt n T) 2001 i := rlL_pos (m := 2000) cl
            show i ≤ i + _ ∧ i + _ ≤ n ∧ i + _ - i ≤ 8 ∧ 0 < i + _ - i ∧ ∀ j, j < i + _ - i → _
            exact ⟨by omega, hin, by omega, by omega, fun j hj => al j (by omega)⟩
          · exact lexF_lt m _ hin t e
        · split at ht
          · rename_i cd
            have al : ∀ j, j < rlD (Bt n T) 2001 i → isD (Bt n T (i + j)) := fun j hj => rlD_all 2001 i j hj
            have hin : i + rlD (Bt n T) 2001 i ≤ n := rl_in (T := T) (fun j hj => by have := al j hj; omega) hi
            rcases List.mem_cons.mp ht with e | e
            · rw [e]
              refine ⟨Or.inl (by show (if _ then 3 else 2) ≤ 5; split <;> decide), fun q => ?_, fun q => ?_⟩
              · have q : (if 4 < rlD (Bt n T) 2001 i then 3 else 2) = 1 := q
                split at q <;> cases q
              · have q : (if 4 < rlD (Bt n T) 2001 i then 3 else 2) = 2 := q
                have h4 : rlD (Bt n T) 2001 i ≤ 4 := by
                  by_cases z : 4 < rlD (Bt n T) 2001 i
                  · rw [if_pos z] at q; cases q
                  · omega
                have hp : 1 ≤ rlD (Bt n T) 2001 i := rlD_pos (m := 2000) cd
                show i ≤ i + _ ∧ i + _ ≤ n ∧ i + _ ≤ i + 4 ∧ 0 < i + _ - i ∧ ∀ j, j < i + _ - i → _
                exact ⟨by omega, hin, by omega, by omega, fun j hj => al j (by omega)⟩
            · exact lexF_lt m _ hin t e
          · rcases List.mem_cons.mp ht with e | e
            · rw [e]
              exact ⟨Or.inl (sgK_5 _), fun q => absurd q (sgK_12 _).1, fun q => absurd q (sgK_12 _).2⟩
            · exact lexF_lt m _ (by omega) t e
/-! the worst: told in any order -/
def mnW (a b : Nat × Nat) : Nat × Nat := if b.1 = 0 then a else tellS a b.1 b.2
def cz (s : Nat × Nat) : Prop := s.1 = 0 → s = (0, 0)
def leW (a b : Nat × Nat) : Prop := a.2 < b.2 ∨ b.2 = a.2 ∧ a.1 ≤ b.1
theorem mnW_0 (a : Nat × Nat) (k : Nat) : mnW a (0, k) = a := if_pos rfl
theorem mnW_z {a b : Nat × Nat} (h : a.1 = 0) (hb : b.1 ≠ 0) : mnW a b = b := by
  unfold mnW tellS
  rw [if_neg hb, if_neg (fun q => q.1 h)]
theorem mnW_l {a b : Nat × Nat} (ha : a.1 ≠ 0) (hl : leW a b) : mnW a b = a := by
  unfold mnW tellS
  by_cases hb : b.1 = 0
  · rw [if_pos hb]
  · rw [if_neg hb, if_pos ⟨ha, hl⟩]
theorem mnW_r {a b : Nat × Nat} (hb : b.1 ≠ 0) (hl : ¬ leW a b) : mnW a b = b := by
  unfold mnW tellS
  rw [if_neg hb, if_neg (fun q => hl q.2)]
theorem tell_mn {s : Nat × Nat} {n tok : Nat} (h : n ≠ 0) : tellS s n tok = mnW s (n, tok) := by unfold mnW; rw [if_neg h]
theorem mnW_ne {a b : Nat × Nat} (h : a.1 ≠ 0 ∨ b.1 ≠ 0) : (mnW a b).1 ≠ 0 := by
  by_cases hb : b.1 = 0
  · have : mnW a b = a := by unfold mnW; rw [if_pos hb]
    rw [this]; omega
  · unfold mnW; rw [if_neg hb]; exact tellS_ne hb
theorem mnW_as (a b c : Nat × Nat) : mnW (mnW a b) c = mnW a (mnW b c) := by
  by_cases hc : c.1 = 0
  · have e : ∀ x, mnW x c = x := fun x => by unfold mnW; rw [if_pos hc]
    rw [e, e]
  · by_cases hb : b.1 = 0
    · rw [mnW_z hb hc]
      have e : mnW a b = a := by unfold mnW; rw [if_pos hb]
      rw [e]
    · by_cases ha : a.1 = 0
      · rw [mnW_z ha hb, mnW_z ha (mnW_ne (Or.inl hb))]
      · by_cases l1 : leW a b
        · rw [mnW_l ha l1]
          by_cases l2 : leW b c
          · rw [mnW_l hb l2, mnW_l ha l1, mnW_l ha (by unfold leW at l1 l2 ⊢; omega)]
          · rw [mnW_r hc l2]
        · rw [mnW_r hb l1]
          by_cases l2 : leW b c
          · rw [mnW_l hb l2, mnW_r hb l1]
          · rw [mnW_r hc l2, mnW_r hc (by unfold leW at l1 l2 ⊢; omega)]
theorem mnW_co {a b : Nat × Nat} (ha : cz a) (hb : cz b) : mnW a b = mnW b a := by
  by_cases h1 : a.1 = 0
  · by_cases h2 : b.1 = 0
    · rw [ha h1, hb h2]
    · rw [mnW_z h1 h2]
      unfold mnW; rw [if_pos h1]
  · by_cases h2 : b.1 = 0
    · rw [mnW_z h2 h1]
      unfold mnW; rw [if_pos h2]
    · by_cases l1 : leW a b
      · rw [mnW_l h1 l1]
        by_cases l2 : leW b a
        · rw [mnW_l h2 l2]
          obtain ⟨a1, a2⟩ := a
          obtain ⟨b1, b2⟩ := b
          unfold leW at l1 l2
          simp only at l1 l2
          have : a1 = b1 := by omega
          have : a2 = b2 := by omega
          subst_vars; rfl
        · rw [mnW_r h1 l2]
      · rw [mnW_r h2 l1, mnW_l h2 (by unfold leW at l1 ⊢; omega)]
theorem cz_mn {a b : Nat × Nat} (ha : cz a) (hb : cz b) : cz (mnW a b) := by
  intro q
  by_cases h1 : a.1 = 0
  · by_cases h2 : b.1 = 0
    · have e : mnW a b = a := by unfold mnW; rw [if_pos h2]
      rw [e]; exact ha h1
    · exact absurd q (mnW_ne (Or.inr h2))
  · exact absurd q (mnW_ne (Or.inl h1))
theorem cz_0 : cz (0, 0) := fun _ => rfl
theorem cz_n {n k : Nat} (h : n ≠ 0) : cz (n, k) := fun q => absurd q h
theorem dpF_mn {X : Nat → Nat → Nat} {k i : Nat} (s : Nat × Nat) : ∀ c, dpF X k i s c = mnW s (dpF X k i (0, 0) c) ∧ cz (dpF X k i (0, 0) c)
  | 0 => ⟨(mnW_0 _ _).symm, cz_0⟩
  | c + 1 => by
    obtain ⟨h1, h2⟩ := dpF_mn (X := X) (k := k) (i := i) s c
    unfold dpF
    split
    · rw [tell_mn (by decide), tell_mn (by decide), h1, mnW_as]
      exact ⟨rfl, cz_mn h2 (cz_n (by decide))⟩
    · exact ⟨h1, h2⟩
theorem gtW_mn {X : Nat → Nat → Nat} {N k i : Nat} (s : Nat × Nat) : gtW X N k i s = mnW s (gtW X N k i (0, 0)) ∧ cz (gtW X N k i (0, 0)) := by
  obtain ⟨h1, h2⟩ := dpF_mn (X := X) (k := k) (i := i) s (i - (k + 1))
  unfold gtW
  cases nmd X N (X 5 i) with
  | none =>
    simp only
    rw [tell_mn (by decide), tell_mn (by decide), h1, mnW_as]
    exact ⟨rfl, cz_mn h2 (cz_n (by decide))⟩
  | some w => exact ⟨h1, h2⟩
theorem gsT_mn {X : Nat → Nat → Nat} {N k : Nat} (s : Nat × Nat) : ∀ c, (gsT X N k s c).1 = mnW s (gsT X N k (0, 0) c).1 ∧ cz (gsT X N k (0, 0) c).1 ∧ (gsT X N k s c).2 = (gsT X N k (0, 0) c).2
  | 0 => ⟨(mnW_0 _ _).symm, cz_0, rfl⟩
  | c + 1 => by
    obtain ⟨h1, h2, h3⟩ := gsT_mn (X := X) (N := N) (k := k) s c
    unfold gsT
    split
    · exact ⟨h1, h2, h3⟩
    · obtain ⟨g1, -⟩ := gtW_mn (X := X) (N := N) (k := k) (i := k + 1 + c) (gsT X N k s c).1
      obtain ⟨g2, g3⟩ := gtW_mn (X := X) (N := N) (k := k) (i := k + 1 + c) (gsT X N k (0, 0) c).1
      refine ⟨?_, ?_, ?_⟩
      · show gtW X N k (k + 1 + c) (gsT X N k s c).1 = mnW s (gtW X N k (k + 1 + c) (gsT X N k (0, 0) c).1)
        rw [g1, g2, h1, mnW_as]
      · show cz (gtW X N k (k + 1 + c) (gsT X N k (0, 0) c).1)
        rw [g2]; exact cz_mn h2 g3
      · simp only [h3]
theorem prF_mn {X : Nat → Nat → Nat} {t : Nat} (s : Nat × Nat) : ∀ c, prF X t s c = mnW s (prF X t (0, 0) c) ∧ cz (prF X t (0, 0) c)
  | 0 => ⟨(mnW_0 _ _).symm, cz_0⟩
  | c + 1 => by
    obtain ⟨h1, h2⟩ := prF_mn (X := X) (t := t) s c
    unfold prF
    split
    · exact ⟨h1, h2⟩
    · rw [tell_mn (by decide), tell_mn (by decide), h1, mnW_as]
      exact ⟨rfl, cz_mn h2 (cz_n (by decide))⟩
theorem tvF_mn {X : Nat → Nat → Nat} {k m : Nat} (s : Nat × Nat) : ∀ c, tvF X k m s c = mnW s (tvF X k m (0, 0) c) ∧ cz (tvF X k m (0, 0) c)
  | 0 => ⟨(mnW_0 _ _).symm, cz_0⟩
  | c + 1 => by
    obtain ⟨h1, h2⟩ := tvF_mn (X := X) (k := k) (m := m) s c
    unfold tvF
    split
    · rw [tell_mn (by decide), tell_mn (by decide), h1, mnW_as]
      exact ⟨rfl, cz_mn h2 (cz_n (by decide))⟩
    · exact ⟨h1, h2⟩
/-- what a table's line tells, piece by piece -/
def tb1 (X : Nat → Nat → Nat) (k : Nat) : Nat × Nat := if 1 ≤ X 4 (k + 1) ∧ X 4 (k + 1) ≤ 3 then (0, 0) else (5, k + 1)
def tb2 (X : Nat → Nat → Nat) (k : Nat) : Nat × Nat := if 1 ≤ X 4 (k + 2) ∧ X 4 (k + 2) ≤ 3 then (0, 0) else (5, k + 2)
def tb6 (X : Nat → Nat → Nat) (k e : Nat) : Nat × Nat := if (1 ≤ X 4 (k + 1) ∧ X 4 (k + 1) ≤ 3) ∧ e - (k + 3) ≠ rN (X 4 (k + 1)) then (6, e) else (0, 0)
theorem tb_cz (X : Nat → Nat → Nat) (k e : Nat) : cz (tb1 X k) ∧ cz (tb2 X k) ∧ cz (tb6 X k e) := by
  unfold tb1 tb2 tb6
  refine ⟨?_, ?_, ?_⟩
  · split; exact cz_0; exact cz_n (by decide)
  · split; exact cz_0; exact cz_n (by decide)
  · split; exact cz_n (by decide); exact cz_0
theorem tbW_mn {X : Nat → Nat → Nat} {k e : Nat} (s : Nat × Nat) : tbW X k e s = mnW (mnW (mnW (mnW s (tb1 X k)) (tb2 X k)) (tvF X k (X 4 (k + 2)) (0, 0) (e - (k + 3)))) (tb6 X k e) := by
  have e1 : (if 1 ≤ X 4 (k + 1) ∧ X 4 (k + 1) ≤ 3 then s else tellS s 5 (k + 1)) = mnW s (tb1 X k) := by
    unfold tb1; split; exact (mnW_0 _ _).symm; exact tell_mn (by decide)
  have e2 : ∀ q : Nat × Nat, (if 1 ≤ X 4 (k + 2) ∧ X 4 (k + 2) ≤ 3 then q else tellS q 5 (k + 2)) = mnW q (tb2 X k) := fun q => by
    unfold tb2; split; exact (mnW_0 _ _).symm; exact tell_mn (by decide)
  have e3 : ∀ q : Nat × Nat, (if (1 ≤ X 4 (k + 1) ∧ X 4 (k + 1) ≤ 3) ∧ e - (k + 3) ≠ rN (X 4 (k + 1)) then tellS q 6 e else q) = mnW q (tb6 X k e) := fun q => by
    unfold tb6; split; exact tell_mn (by decide); exact (mnW_0 _ _).symm
  unfold tbW
  simp only
  rw [e1, e2, e3, (tvF_mn _ _).1]
def w3 (o : Option Nat) (k : Nat) : Nat × Nat := match o with
  | none => (0, 0)
  | some _ => (3, k)
/-- a line's share -/
def cW (X : Nat → Nat → Nat) (N : Nat) (ln : Nat × Nat × Nat) : Nat × Nat :=
  if ln.1 = 20 then w3 (nmd X ln.2.1 (X 5 (ln.2.1 + 1))) (ln.2.1 + 1)
  else if ln.1 = 21 then (gsT X N ln.2.1 (0, 0) (ln.2.2 - (ln.2.1 + 1))).1
  else if ln.1 = 22 then prF X ln.2.1 (0, 0) 4
  else tbW X ln.2.1 ln.2.2 (0, 0)
theorem mn00 (a : Nat × Nat) (h : cz a) : mnW (0, 0) a = a := by
  by_cases c : a.1 = 0
  · rw [h c]; rfl
  · exact mnW_z rfl c
theorem tbW_mn' {X : Nat → Nat → Nat} {k e : Nat} (s : Nat × Nat) : tbW X k e s = mnW s (tbW X k e (0, 0)) ∧ cz (tbW X k e (0, 0)) := by
  obtain ⟨z1, z2, z6⟩ := tb_cz X k e
  have zv := (tvF_mn (X := X) (k := k) (m := X 4 (k + 2)) (0, 0) (e - (k + 3))).2
  rw [tbW_mn s, tbW_mn (0, 0), mn00 _ z1]
  refine ⟨?_, cz_mn (cz_mn (cz_mn z1 z2) zv) z6⟩
  rw [mnW_as, mnW_as, mnW_as, mnW_as, mnW_as]
theorem cW_cz (X : Nat → Nat → Nat) (N : Nat) (ln : Nat × Nat × Nat) : cz (cW X N ln) := by
  unfold cW
  split
  · cases nmd X ln.2.1 (X 5 (ln.2.1 + 1)) with
    | none => exact cz_0
    | some w => exact cz_n (by decide)
  · split
    · exact (gsT_mn (0, 0) _).2.1
    · split
      · exact (prF_mn (0, 0) _).2
      · exact (tbW_mn' (0, 0)).2
theorem smS_mn {X : Nat → Nat → Nat} {N : Nat} (s : MS) (ln : Nat × Nat × Nat) : (smS X N s ln).1 = mnW s.1 (cW X N ln) := by
  unfold smS cW
  split
  · cases nmd X ln.2.1 (X 5 (ln.2.1 + 1)) with
    | none => exact (mnW_0 _ _).symm
    | some w => exact tell_mn (by decide)
  · split
    · exact (gsT_mn s.1 _).1
    · split
      · exact (prF_mn s.1 _).1
      · exact (tbW_mn' s.1).1
/-- all shares together -/
def sumW (X : Nat → Nat → Nat) (N : Nat) : List (Nat × Nat × Nat) → Nat × Nat
  | [] => (0, 0)
  | ln :: l => mnW (cW X N ln) (sumW X N l)
theorem sumW_cz (X : Nat → Nat → Nat) (N : Nat) : ∀ l, cz (sumW X N l)
  | [] => cz_0
  | ln :: l => cz_mn (cW_cz X N ln) (sumW_cz X N l)
theorem fold_mn {X : Nat → Nat → Nat} {N : Nat} : ∀ (l : List (Nat × Nat × Nat)) (s : MS), (l.foldl (smS X N) s).1 = mnW s.1 (sumW X N l)
  | [], s => (mnW_0 _ _).symm
  | ln :: l, s => by
    show (l.foldl (smS X N) (smS X N s ln)).1 = mnW s.1 (mnW (cW X N ln) (sumW X N l))
    rw [fold_mn l, smS_mn, mnW_as]
theorem mean_sum {X : Nat → Nat → Nat} {N : Nat} (l : List (Nat × Nat × Nat)) : (mean X N l).1 = sumW X N l := by
  show (l.foldl (smS X N) ms0).1 = _
  rw [fold_mn]
  exact mn00 _ (sumW_cz X N l)
theorem sumW_sp {X : Nat → Nat → Nat} {N : Nat} (p : Nat × Nat × Nat → Bool) : ∀ l, sumW X N l = mnW (sumW X N (l.filter p)) (sumW X N (l.filter (fun x => !p x)))
  | [] => rfl
  | ln :: l => by
    have ih := sumW_sp (X := X) (N := N) p l
    have z1 := sumW_cz X N (l.filter p)
    have z2 := sumW_cz X N (l.filter (fun x => !p x))
    have z0 := cW_cz X N ln
    show mnW (cW X N ln) (sumW X N l) = _
    cases hp : p ln with
    | true =>
      rw [List.filter_cons_of_pos hp, List.filter_cons_of_neg (by simp [hp])]
      show _ = mnW (mnW (cW X N ln) (sumW X N (l.filter p))) _
      rw [ih, mnW_as]
    | false =>
      rw [List.filter_cons_of_neg (by simp [hp]), List.filter_cons_of_pos (by simp [hp])]
      show _ = mnW _ (mnW (cW X N ln) (sumW X N (l.filter (fun x => !p x))))
      rw [ih, ← mnW_as, ← mnW_as, mnW_co z0 z1]
theorem sumW_app {X : Nat → Nat → Nat} {N : Nat} (b : List (Nat × Nat × Nat)) : ∀ a, sumW X N (a ++ b) = mnW (sumW X N a) (sumW X N b)
  | [] => (mn00 _ (sumW_cz X N b)).symm
  | ln :: a => by
    show mnW (cW X N ln) (sumW X N (a ++ b)) = mnW (mnW (cW X N ln) (sumW X N a)) (sumW X N b)
    rw [sumW_app b a, mnW_as]
/-! wires by their names -/
def wnL (ls : List (Nat × Nat × Nat)) : List Nat := (ls.filter (fun l => l.1 == 20)).map (fun l => l.2.1 + 1)
def fndF (X : Nat → Nat → Nat) (x : Nat) : List Nat → Nat → Option Nat
  | [], _ => none
  | j :: l, c => if X 5 j = x then some c else fndF X x l (c + 1)
theorem nmd_fnd {X : Nat → Nat → Nat} {N x : Nat} : ∀ m c ls, m ≤ N → LO X N (N - m) ls → nmdF X x N m c = fndF X x (wnL ls) c
  | 0, c, ls, _, hL => by
    have : wnL ls = [] := by
      cases ls with
      | nil => rfl
      | cons ln r => have := hL.1; have := hL.2.2.1.2.2.1; have := hL.2.2.1.2.2.2.1; omega
    rw [this]; rfl
  | m + 1, c, ls, hm, hL => by
    unfold nmdF
    have e1 : N - (m + 1) + 1 = N - m := by omega
    by_cases c20 : X 2 (N - (m + 1)) < 20
    · rw [if_neg (by omega)]
      exact nmd_fnd m c ls (by omega) (by rw [← e1]; exact hL.skip c20)
    · obtain ⟨e, q, e2, e3, e4⟩ := hL.take (by omega) c20
      rw [e1] at e4
      subst e2
      by_cases k : X 2 (N - (m + 1)) = 20
      · rw [if_pos k]
        have ew : wnL ((X 2 (N - (m + 1)), N - (m + 1), e) :: q) = (N - (m + 1) + 1) :: wnL q := by
          unfold wnL
          rw [List.filter_cons_of_pos (by simp [k])]; rfl
        rw [ew]
        unfold fndF
        rw [nmd_fnd m (c + 1) q (by omega) e4]
      · rw [if_neg k]
        have ew : wnL ((X 2 (N - (m + 1)), N - (m + 1), e) :: q) = wnL q := by
          unfold wnL
          rw [List.filter_cons_of_neg (by simp [k])]
        rw [ew]
        exact nmd_fnd m c q (by omega) e4
theorem nmd_LO {X : Nat → Nat → Nat} {N x : Nat} {ls : List (Nat × Nat × Nat)} (h : LO X N 0 ls) : nmd X N x = fndF X x (wnL ls) 0 := nmd_fnd N 0 ls (Nat.le_refl _) (by rw [Nat.sub_self]; exact h)
theorem lnOK.mono {X : Nat → Nat → Nat} {N N' kd t e : Nat} (h : lnOK X N kd t e) (hn : N ≤ N') : lnOK X N' kd t e := ⟨h.1, h.2.1, h.2.2.1, by have := h.2.2.2.1; omega, h.2.2.2.2⟩
theorem LO_snoc {X : Nat → Nat → Nat} {t t' e kd : Nat} (hl : lnOK X t' kd t e) (hg : ∀ j, t < j → j < t' → X 2 j < 20) (htt : t < t') : ∀ {k ls}, k ≤ t → LO X t k ls → LO X t' k (ls ++ [(kd, t, e)])
  | k, [], hk, h => ⟨hk, fun j a b => h j a b, hl, fun j a b => hg j (by have : t + 1 ≤ j := a; omega) b⟩
  | k, ln :: r, hk, h => by
    obtain ⟨q1, q2, q3, q4⟩ := h
    have := q3.2.2.1
    have := q3.2.2.2.1
    exact ⟨q1, q2, q3.mono (by omega), LO_snoc hl hg htt (by omega) q4⟩
theorem LO_end {X : Nat → Nat → Nat} {t : Nat} (h0 : X 2 t < 20) : ∀ {k ls}, LO X t k ls → LO X (t + 1) k ls
  | k, [], h => fun j a b => by
    by_cases c : j = t
    · rw [c]; exact h0
    · exact h j a (by omega)
  | k, ln :: r, h => by
    obtain ⟨q1, q2, q3, q4⟩ := h
    exact ⟨q1, q2, q3.mono (by omega), LO_end h0 q4⟩
theorem fndF_lt {X : Nat → Nat → Nat} {x : Nat} : ∀ l c r, fndF X x l c = some r → c ≤ r ∧ r < c + l.length
  | [], c, r, h => by cases h
  | j :: l, c, r, h => by
    unfold fndF at h
    split at h
    · cases h; exact ⟨Nat.le_refl _, by simp⟩
    · have := fndF_lt l (c + 1) r h
      rw [List.length_cons]; omega
