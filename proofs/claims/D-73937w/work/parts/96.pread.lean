set_option maxRecDepth 100000
/-! ===== Parser.read: plain part ===== -/
def bW (B : Nat) (s : Nat × Nat) : Prop := s.1 ≠ 0 → s.2 ≤ B
theorem bW.tell {B a k : Nat} {s : Nat × Nat} (h : bW B s) (hk : k ≤ B) : bW B (tellS s a k) := by
  unfold tellS
  split
  · exact h
  · exact fun _ => hk
theorem bW.mn {B : Nat} {a b : Nat × Nat} (ha : bW B a) (hb : bW B b) : bW B (mnW a b) := by
  unfold mnW
  split
  · exact ha
  · rename_i c; exact ha.tell (hb c)
theorem bW.mono {B B' : Nat} {s : Nat × Nat} (h : bW B s) (hB : B ≤ B') : bW B' s := fun q => Nat.le_trans (h q) hB
theorem bW_0 {B k : Nat} : bW B (0, k) := fun q => absurd rfl q
theorem bW_dp {X : Nat → Nat → Nat} {B k i : Nat} {s : Nat × Nat} (h : bW B s) (hi : i ≤ B) : ∀ c, bW B (dpF X k i s c)
  | 0 => h
  | c + 1 => by
    unfold dpF
    split
    · exact (bW_dp h hi c).tell hi
    · exact bW_dp h hi c
theorem bW_gt {X : Nat → Nat → Nat} {N B k i : Nat} {s : Nat × Nat} (h : bW B s) (hi : i ≤ B) : bW B (gtW X N k i s) := by
  unfold gtW
  cases nmd X N (X 5 i) with
  | none => exact (bW_dp h hi _).tell hi
  | some w => exact bW_dp h hi _
theorem bW_gs {X : Nat → Nat → Nat} {N B k : Nat} {s : Nat × Nat} (h : bW B s) : ∀ c, k + c ≤ B → bW B (gsT X N k s c).1
  | 0, _ => h
  | c + 1, hc => by
    unfold gsT
    split
    · exact bW_gs h c (by omega)
    · exact bW_gt (bW_gs h c (by omega)) (by omega)
theorem bW_pr {X : Nat → Nat → Nat} {B k : Nat} {s : Nat × Nat} (h : bW B s) : ∀ c, k + c ≤ B → bW B (prF X k s c)
  | 0, _ => h
  | c + 1, hc => by
    unfold prF
    split
    · exact bW_pr h c (by omega)
    · exact (bW_pr h c (by omega)).tell (by omega)
theorem bW_tv {X : Nat → Nat → Nat} {B k m : Nat} {s : Nat × Nat} (h : bW B s) : ∀ c, k + 2 + c ≤ B → bW B (tvF X k m s c)
  | 0, _ => h
  | c + 1, hc => by
    unfold tvF
    split
    · exact (bW_tv h c (by omega)).tell (by omega)
    · exact bW_tv h c (by omega)
theorem cW_b {X : Nat → Nat → Nat} {N N' : Nat} {ln : Nat × Nat × Nat} (h : lnOK X N' ln.1 ln.2.1 ln.2.2) : bW ln.2.2 (cW X N ln) := by
  obtain ⟨h1, h2, h3, h4, h5, h20, h21, h22, h23⟩ := h
  unfold cW
  split
  · rename_i c
    have := h20 c
    cases nmd X ln.2.1 (X 5 (ln.2.1 + 1)) with
    | none => exact bW_0
    | some w => exact fun _ => by show ln.2.1 + 1 ≤ _; omega
  · split
    · rename_i c
      have := h21 c
      exact bW_gs bW_0 _ (by omega)
    · split
      · rename_i c
        have := h22 c
        exact bW_pr bW_0 _ (by omega)
      · have := h23 (by omega)
        rw [tbW_mn]
        refine ((bW_0.mn ?_).mn ?_).mn (bW_tv bW_0 _ (by omega)) |>.mn ?_
        · unfold tb1; split; exact bW_0; exact fun _ => by show ln.2.1 + 1 ≤ _; omega
        · unfold tb2; split; exact bW_0; exact fun _ => by show ln.2.1 + 2 ≤ _; omega
        · unfold tb6; split; exact fun _ => Nat.le_refl _; exact bW_0
theorem sumW_b {X : Nat → Nat → Nat} {N t : Nat} : ∀ {k : Nat} {ls : List (Nat × Nat × Nat)}, LO X t k ls → bW t (sumW X N ls)
  | _, [], _ => bW_0
  | _, ln :: ls, h => ((cW_b h.2.2.1).mono (by have := h.2.2.1.2.2.2.1; omega)).mn (sumW_b h.2.2.2)
theorem LO_mem {X : Nat → Nat → Nat} {t : Nat} : ∀ {k : Nat} {ls : List (Nat × Nat × Nat)} {ln}, LO X t k ls → ln ∈ ls → lnOK X t ln.1 ln.2.1 ln.2.2
  | _, [], _, _, h => absurd h List.not_mem_nil
  | _, l :: ls, ln, h, hm => by
    rcases List.mem_cons.mp hm with e | e
    · rw [e]; exact h.2.2.1
    · exact LO_mem h.2.2.2 e
abbrev T4_ : Type := Nat × Nat × Nat × (Nat → Nat)
/-- tables and gates of lines, one by one -/
def tgS (X : Nat → Nat → Nat) (N : Nat) (s : T4_ × List (Nat × Nat × Nat)) (ln : Nat × Nat × Nat) : T4_ × List (Nat × Nat × Nat) :=
  if ln.1 = 20 then s else if ln.1 = 21 then (s.1, s.2 ++ [(gsT X N ln.2.1 (0, 0) (ln.2.2 - (ln.2.1 + 1))).2]) else if ln.1 = 22 then s
  else ((X 4 (ln.2.1 + 1), X 4 (ln.2.1 + 2), ln.2.2 - (ln.2.1 + 3), fun x => X 4 (ln.2.1 + 3 + x)), s.2)
def TG (X : Nat → Nat → Nat) (N : Nat) (l : List (Nat × Nat × Nat)) : T4_ × List (Nat × Nat × Nat) := l.foldl (tgS X N) ((0, 0, 0, fun _ => 0), [])
theorem TG_s (X : Nat → Nat → Nat) (N : Nat) (l : List (Nat × Nat × Nat)) (ln : Nat × Nat × Nat) : TG X N (l ++ [ln]) = tgS X N (TG X N l) ln := by unfold TG; rw [List.foldl_append]; rfl
theorem fold_tg {X : Nat → Nat → Nat} {N : Nat} : ∀ (l : List (Nat × Nat × Nat)) (s : MS), (l.foldl (smS X N) s).2.2 = l.foldl (tgS X N) s.2.2 ∧ (l.foldl (smS X N) s).2.1 = l.foldl (prS X) s.2.1
  | [], s => ⟨rfl, rfl⟩
  | ln :: l, s => by
    have e : (smS X N s ln).2.2 = tgS X N s.2.2 ln ∧ (smS X N s ln).2.1 = prS X s.2.1 ln := by
      unfold smS tgS prS
      by_cases c20 : ln.1 = 20
      · rw [if_pos c20, if_pos c20, if_neg (by omega)]; exact ⟨rfl, rfl⟩
      · rw [if_neg c20, if_neg c20]
        by_cases c21 : ln.1 = 21
        · rw [if_pos c21, if_pos c21, if_neg (by omega)]
          refine ⟨?_, rfl⟩
          show (s.2.2.1, s.2.2.2 ++ [(gsT X N ln.2.1 s.1 (ln.2.2 - (ln.2.1 + 1))).2]) = _
          rw [(gsT_mn s.1 _).2.2]
        · rw [if_neg c21, if_neg c21]
          by_cases c22 : ln.1 = 22
          · rw [if_pos c22, if_pos c22, if_pos c22]; exact ⟨rfl, rfl⟩
          · rw [if_neg c22, if_neg c22, if_neg c22]; exact ⟨rfl, rfl⟩
    have ih := fold_tg (X := X) (N := N) l (smS X N s ln)
    rw [e.1, e.2] at ih
    exact ih
theorem tg_fil {X : Nat → Nat → Nat} {N : Nat} : ∀ (l : List (Nat × Nat × Nat)) (s : T4_ × List (Nat × Nat × Nat)), l.foldl (tgS X N) s = (l.filter (fun x => !p1 x)).foldl (tgS X N) s
  | [], s => rfl
  | ln :: l, s => by
    by_cases c : p1 ln = true
    · have e : tgS X N s ln = s := by
        unfold p1 at c
        unfold tgS
        have c' : ln.1 = 20 ∨ ln.1 = 22 := by simpa using c
        rcases c' with z | z
        · rw [if_pos z]
        · rw [if_neg (by omega), if_neg (by omega), if_pos z]
      rw [List.filter_cons_of_neg (by simp [c])]
      show l.foldl (tgS X N) (tgS X N s ln) = _
      rw [e]; exact tg_fil l s
    · rw [List.filter_cons_of_pos (by simp [c])]
      show l.foldl (tgS X N) (tgS X N s ln) = _
      exact tg_fil l _
theorem mean_tg {X : Nat → Nat → Nat} {N : Nat} (ls : List (Nat × Nat × Nat)) : (mean X N ls).2.2 = TG X N (ls.filter (fun x => !p1 x)) ∧ (mean X N ls).2.1 = prL X ls := by
  obtain ⟨h1, h2⟩ := fold_tg (X := X) (N := N) ls ms0
  refine ⟨?_, h2⟩
  show (ls.foldl (smS X N) ms0).2.2 = _
  rw [h1]
  exact tg_fil ls _
theorem wnL_len : ∀ ls : List (Nat × Nat × Nat), (wnL ls).length = nK 20 ls
  | [] => rfl
  | ln :: ls => by
    have ih := wnL_len ls
    unfold wnL at ih ⊢
    show _ = (if ln.1 = 20 then 1 else 0) + nK 20 ls
    by_cases c : ln.1 = 20
    · rw [if_pos c, List.filter_cons_of_pos (by simp [c]), List.map_cons, List.length_cons, ih]; omega
    · rw [if_neg c, List.filter_cons_of_neg (by simp [c]), ih]; omega
theorem nK_fil (kd : Nat) (p : Nat × Nat × Nat → Bool) : ∀ ls : List (Nat × Nat × Nat), nK kd (ls.filter p) ≤ nK kd ls
  | [] => Nat.le_refl _
  | ln :: ls => by
    have ih := nK_fil kd p ls
    show _ ≤ (if ln.1 = kd then 1 else 0) + nK kd ls
    by_cases c : p ln = true
    · rw [List.filter_cons_of_pos c]
      show (if ln.1 = kd then 1 else 0) + _ ≤ _
      omega
    · rw [List.filter_cons_of_neg c]; omega
theorem nK_take (kd : Nat) : ∀ (ls : List (Nat × Nat × Nat)) (c : Nat), nK kd (ls.take c) ≤ nK kd ls
  | [], c => by rw [List.take_nil]; exact Nat.le_refl _
  | ln :: ls, 0 => Nat.zero_le _
  | ln :: ls, c + 1 => by
    have ih := nK_take kd ls c
    show (if ln.1 = kd then 1 else 0) + nK kd (ls.take c) ≤ (if ln.1 = kd then 1 else 0) + nK kd ls
    omega
theorem take_s {α : Type} {l : List α} {c : Nat} {x : α} (h : l[c]? = some x) : l.take (c + 1) = l.take c ++ [x] := by
  rw [List.take_succ, h]; rfl
def z9 (g : Nat × Nat × Nat) : Nat × Nat × Nat := (if g.1 = 999999999 then 0 else g.1, g.2)
theorem z9_o {o : Option Nat} (h : ∀ c, o = some c → c < 4) (q : Nat × Nat) : z9 (o.getD 999999999, q) = (o.getD 0, q) := by
  cases o with
  | none => rfl
  | some c => have := h c rfl; unfold z9; show (if c = 999999999 then 0 else c, q) = (c, q); rw [if_neg (by omega)]
theorem z9_ok {W : Nat} (hW : W ≤ 4) : ∀ {gs : List (Nat × Nat × Nat)}, (∀ g ∈ gs, gok W g) → gs.map z9 = gs
  | [], _ => rfl
  | g :: gs, h => by
    rw [List.map_cons, z9_ok hW (fun x hx => h x (List.mem_cons_of_mem _ hx))]
    have := (h g List.mem_cons_self).1
    unfold z9
    rw [if_neg (by omega)]
def TBk (tb : T4_) (ni no : Nat) (v : Nat → Nat) : Prop := ni = tb.1 ∧ (tb.1 ≠ 0 → no = tb.2.1 ∧ ∀ x, x < tb.2.2.1 → v x = tb.2.2.2 x)
/-- the parser and its tokens -/
def PW (f : Hp) (tp : Nat) (T : Nat → Nat) : Prop := PRB f ∧ FA f ∧ (∃ mn, TKo f tp mn) ∧ TKw f ∧ TKt f T ∧ (∃ S A B W, TKa f S A B W) ∧ f 311 = some (.inl (4, [.ref 312])) ∧ (∃ lg, f 312 = some (cLL lg)) ∧ ∃ ni no v, CT f 313 314 ni no v ∧ ∀ x, x < 8 → v x < 10000
theorem PW.of {f f' : Hp} {tp : Nat} {T : Nat → Nat} (h : PW f tp T) (hB : PRB f') (hF : FA f') (hk : ∀ id, (302 ≤ id ∧ id ≤ 309 ∨ 311 ≤ id ∧ id ≤ 314) → f' id = f id) : PW f' tp T := by
  obtain ⟨-, -, ⟨mn, h3⟩, h4, h5, ⟨S, A, B, W, h6⟩, h7, ⟨lg, h8⟩, ni, no, v, h9, hvb⟩ := h
  exact ⟨hB, hF, ⟨mn, (hk 302 (by omega)).trans h3⟩, ⟨(hk 304 (by omega)).trans h4.1, (hk 303 (by omega)).trans h4.2⟩, (hk 305 (by omega)).trans h5, ⟨S, A, B, W, (hk 306 (by omega)).trans h6.1, (hk 307 (by omega)).trans h6.2.1, (hk 308 (by omega)).trans h6.2.2.1, (hk 309 (by omega)).trans h6.2.2.2⟩, (hk 311 (by omega)).trans h7, ⟨lg, (hk 312 (by omega)).trans h8⟩, ni, no, v, ⟨(hk 313 (by omega)).trans h9.1, (hk 314 (by omega)).trans h9.2⟩, hvb⟩
def KPr (n : Nat) (f f' : Hp) : Prop := ∀ id, id < n → (id < 301 ∨ 317 < id) → f' id = f id
def RDP (n : Nat) (f : Hp) (tp : Nat) (T : Nat → Nat) : Pt_ := fun r n' f' => r = none ∧ n ≤ n' ∧ PW f' tp T ∧ KPr n f f' ∧ ∃ q, rdS tp T = .inr q ∧ (∃ t ng wt, f' 310 = some (pC q.1 t ng 0 wt)) ∧ (∃ lg, f' 312 = some (cLL lg) ∧ GL f' lg q.2.2.2.2) ∧ (∃ ni no v, CT f' 313 314 ni no v ∧ TBk q.2.2.2.1 ni no v ∧ ∀ x, x < 8 → v x < 10000) ∧ ∃ hp : Nat → Value, f' 315 = some (.inr (0, 4, hp)) ∧ ∀ i, i < 4 → hp i = zI ((q.2.2.1 i : Nat) : Int)
def RDX (n : Nat) (f : Hp) (tp : Nat) (T : Nat → Nat) : Xt_ := fun n' f' => n ≤ n' ∧ PW f' tp T ∧ KPr n f f' ∧ ∃ e, rdS tp T = .inl e ∧ f' 301 = some (fC e.1 e.2)
/-- the second pass, c lines of it -/
def P2 (f : Hp) (X : Nat → Nat → Nat) (M N t : Nat) (ls : List (Nat × Nat × Nat)) (l : List Nat) (NL c w wt : Nat) : Prop :=
  f 310 = some (pC (wnL ls).length t (nK 21 ls) w wt) ∧ wR (mnW (sumW X N (ls.filter p1)) (sumW X N ((ls.filter (fun x => !p1 x)).take c))) w wt ∧ TF f X M N ∧ FA f ∧ NM f X M (wnL ls) ∧ (∃ hp : Nat → Value, f 315 = some (.inr (0, 4, hp)) ∧ ∀ i, i < 4 → hp i = zI ((prL X ls i : Nat) : Int)) ∧
  (f 317 = some (cAL NL l) ∧ (NL = 0 ∨ 10 ≤ NL) ∧ NL ≤ 700 ∧ LnL f l (ls.filter (fun x => !p1 x))) ∧ f 311 = some (.inl (4, [.ref 312])) ∧ (∃ lg, f 312 = some (cLL lg) ∧ GL f lg ((TG X N ((ls.filter (fun x => !p1 x)).take c)).2.map z9)) ∧ ∃ ni no v, CT f 313 314 ni no v ∧ TBk (TG X N ((ls.filter (fun x => !p1 x)).take c)).1 ni no v ∧ ∀ x, x < 8 → v x < 10000
theorem P2.b {f : Hp} {X : Nat → Nat → Nat} {M N t : Nat} {ls : List (Nat × Nat × Nat)} {l : List Nat} {NL c w wt : Nat} (h : P2 f X M N t ls l NL c w wt) : PRB f := by
  obtain ⟨h1, -, -, -, h5, ⟨hp, h6, -⟩, h7, -⟩ := h
  obtain ⟨hn, h5, -⟩ := h5.2.2
  exact ⟨⟨_, _, _, _, _, h1⟩, ⟨hp, h6⟩, ⟨hn, h5⟩, NL, l, h7.1, h7.2.1, h7.2.2.1⟩
