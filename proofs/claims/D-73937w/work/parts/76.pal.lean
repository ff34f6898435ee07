set_option maxRecDepth 100000
/-! ===== ArrayList, ArrayDeque, BitSet in the picture ===== -/
theorem el_raw {f g : Hp} {v : Nat} (h1 : ∀ id e, f id = some e → rawE e = true → g id = some e) (h : el f v) : el g v := by
  rw [el_E] at h ⊢
  rcases h with ⟨e, h2, h3⟩ | h
  · refine Or.inl ⟨e, h1 v e h2 ?_, h3⟩
    cases e with
    | inl o => simp [elE] at h3; simp [rawE]; omega
    | inr a => simp [elE] at h3; simp [rawE]; omega
  · exact Or.inr h
theorem cls_get {c : Nat} (h : c < 21) : ∃ r, cls[c]? = some r := ⟨_, List.getElem?_eq_getElem (by simpa [cls] using h)⟩
theorem pa_init {G : GT} {Rel : Nat → Hp → Hp → Prop} (hP : Rel = RelP) (hX : GX G) {n : Nat} {f : Hp} {id : Nat} {a b : Value} (h : f id = some (.inl (15, [a, b, zI ((0 : Nat) : Int)]))) : Ct G Rel yJ14_init cJ14_init 1 none 3 (0) [.ref id] n f (fun r n' f' => r = none ∧ n' = n ∧ f' = up f id (cAL 0 [])) := by
  subst hP
  refine Ct.lift (fun g hg hn0 h300 => ?_)
  obtain ⟨h1, ow, h2, h3, h4⟩ := hg
  refine (al_init RelId_ok hX (h1 id _ h rfl) rfl).mono ?_
  rintro r n' g' ⟨rfl, rfl, rfl⟩ hn'
  exact ⟨_, ⟨rfl, rfl, rfl⟩, RelP.set h1 h2 h3 h4 hn0 ⟨_, h, Or.inl ⟨rfl, rfl⟩⟩ (Or.inr (Or.inl ⟨0, [], rfl, by decide, 0, Or.inl ⟨rfl, rfl, rfl, up_s _ _ _⟩⟩)) (fun x a _ _ => up_n a) (fun x hx => absurd hx List.not_mem_nil) (Nat.le_refl _)⟩
theorem pa_size {G : GT} {Rel : Nat → Hp → Hp → Prop} (hP : Rel = RelP) {n : Nat} {f : Hp} {id N : Nat} {l : List Nat} (hN : N < 1000000) (h : f id = some (cAL N l)) : Ct G Rel yJ14_size cJ14_size 1 (some .int) 1 (0) [.ref id] n f (Pu (zI ((l.length : Nat) : Int)) n f) := by
  subst hP
  refine Ct.lift (fun g hg hn0 h300 => ?_)
  obtain ⟨h1, ow, h2, h3, h4⟩ := hg
  have hL := (h2 id _ h rfl).al hN
  have hid : id < n := by
    obtain ⟨c, fs, q⟩ := (h2 id _ h rfl).some
    by_cases c : id < n
    · exact c
    · rw [hn0 id (by omega)] at q; cases q
  have hn := fun x hx => (h3 id _ x h rfl hx).2
  have hs : ∃ a b, g id = some (.inl (15, [a, b, zI ((l.length : Nat) : Int)])) := by
    obtain ⟨mc, q⟩ := hL
    rcases q with ⟨-, e, -, q⟩ | ⟨arr, w, -, -, q, -⟩
    · rw [e]; exact ⟨_, _, q⟩
    · exact ⟨_, _, q⟩
  obtain ⟨a, b, hs⟩ := hs
  refine (al_size (c := a) RelId_ok hs).mono ?_
  rintro r n' g' ⟨rfl, rfl, rfl⟩ hn'
  exact ⟨_, ⟨rfl, rfl, rfl⟩, h1, ow, h2, h3, h4⟩
theorem pa_get {G : GT} {Rel : Nat → Hp → Hp → Prop} (hP : Rel = RelP) {n : Nat} {f : Hp} {id N : Nat} {l : List Nat} (hN : N < 1000000) (h : f id = some (cAL N l)) {i : Nat} (hi : i < l.length) : Ct G Rel yJ14_get cJ14_get 2 (some (.object "java/lang/Object")) 3 (0) [.ref id, zI (i : Int)] n f (Pu (.ref (l.getD i 0)) n f) := by
  subst hP
  refine Ct.lift (fun g hg hn0 h300 => ?_)
  obtain ⟨h1, ow, h2, h3, h4⟩ := hg
  have hL := (h2 id _ h rfl).al hN
  have hid : id < n := by
    obtain ⟨c, fs, q⟩ := (h2 id _ h rfl).some
    by_cases c : id < n
    · exact c
    · rw [hn0 id (by omega)] at q; cases q
  have hn := fun x hx => (h3 id _ x h rfl hx).2
  refine (al_get RelId_ok hL hi).mono ?_
  rintro r n' g' ⟨rfl, rfl, rfl⟩ hn'
  exact ⟨_, ⟨rfl, rfl, rfl⟩, h1, ow, h2, h3, h4⟩
theorem pa_addF {G : GT} {Rel : Nat → Hp → Hp → Prop} (hP : Rel = RelP) (hX : GX G) {n : Nat} {f : Hp} {id N : Nat} {l : List Nat} (hN : N < 1000000) (h : f id = some (cAL N l)) {v : Nat} (hl : l.length < N) (hv : el f v) : Ct G Rel yJ14_add cJ14_add 2 (some .boolean) 2 (0) [.ref id, .ref v] n f (fun r n' f' => r = some (zI ((1 : Nat) : Int)) ∧ n ≤ n' ∧ f' = up f id (cAL N (l ++ [v]))) := by
  subst hP
  refine Ct.lift (fun g hg hn0 h300 => ?_)
  obtain ⟨h1, ow, h2, h3, h4⟩ := hg
  have hL := (h2 id _ h rfl).al hN
  have hid : id < n := by
    obtain ⟨c, fs, q⟩ := (h2 id _ h rfl).some
    by_cases c : id < n
    · exact c
    · rw [hn0 id (by omega)] at q; cases q
  have hn := fun x hx => (h3 id _ x h rfl hx).2
  refine (al_addF RelId_ok hX hL hl (el_raw h1 hv)).mono ?_
  rintro r n' g' ⟨rfl, hle, ow', hL', ho, hg'⟩ hn'
  exact ⟨_, ⟨rfl, hle, rfl⟩, RelP.set h1 h2 h3 h4 hn0 ⟨_, h, Or.inr ⟨rfl, rfl⟩⟩ (Or.inr (Or.inl ⟨_, _, rfl, hN, hL'⟩)) hg' ho hle⟩
theorem al_wf {g : Hp} {id N : Nat} {l ow : List Nat} (h : ALs g id N l ow) : N = 0 ∨ 10 ≤ N := by
  obtain ⟨mc, q⟩ := h
  rcases q with ⟨e, -⟩ | ⟨arr, w, -, -, -, -, -, h10, -⟩
  · exact Or.inl e
  · exact Or.inr h10
theorem pa_addA {G : GT} {Rel : Nat → Hp → Hp → Prop} (hP : Rel = RelP) (hX : GX G) {n : Nat} {f : Hp} {id : Nat} {l : List Nat} (h : f id = some (cAL 0 l)) {v : Nat} (hv : el f v) : Ct G Rel yJ14_add cJ14_add 2 (some .boolean) 6 (1) [.ref id, .ref v] n f (fun r n' f' => r = some (zI ((1 : Nat) : Int)) ∧ n ≤ n' ∧ f' = up f id (cAL 10 (l ++ [v]))) := by
  subst hP
  refine Ct.lift (fun g hg hn0 h300 => ?_)
  obtain ⟨h1, ow, h2, h3, h4⟩ := hg
  have hL := (h2 id _ h rfl).al (by decide)
  have hid : id < n := by
    obtain ⟨c, fs, q⟩ := (h2 id _ h rfl).some
    by_cases c : id < n
    · exact c
    · rw [hn0 id (by omega)] at q; cases q
  have hn := fun x hx => (h3 id _ x h rfl hx).2
  refine (al_addA RelId_ok hX hL hid (el_raw h1 hv)).mono ?_
  rintro r n' g' ⟨rfl, hle, ow', hL', ho, hg'⟩ hn'
  exact ⟨_, ⟨rfl, hle, rfl⟩, RelP.set h1 h2 h3 h4 hn0 ⟨_, h, Or.inr ⟨rfl, rfl⟩⟩ (Or.inr (Or.inl ⟨_, _, rfl, by decide, hL'⟩)) hg' ho hle⟩
theorem pa_addB {G : GT} {Rel : Nat → Hp → Hp → Prop} (hP : Rel = RelP) (hX : GX G) {n : Nat} {f : Hp} {id N : Nat} {l : List Nat} (hN : N < 1000000) (h : f id = some (cAL N l)) {v : Nat} (hl : l.length = N) (h0 : 0 < N) (hN6 : N < 600000) (hel : ∀ x ∈ l, el f x) (hv : el f v) : Ct G Rel yJ14_add cJ14_add 2 (some .boolean) 7 (gwC N / 12 + 1) [.ref id, .ref v] n f (fun r n' f' => r = some (zI ((1 : Nat) : Int)) ∧ n ≤ n' ∧ f' = up f id (cAL (gwC N) (l ++ [v]))) := by
  subst hP
  refine Ct.lift (fun g hg hn0 h300 => ?_)
  obtain ⟨h1, ow, h2, h3, h4⟩ := hg
  have hL := (h2 id _ h rfl).al hN
  have hid : id < n := by
    obtain ⟨c, fs, q⟩ := (h2 id _ h rfl).some
    by_cases c : id < n
    · exact c
    · rw [hn0 id (by omega)] at q; cases q
  have hn := fun x hx => (h3 id _ x h rfl hx).2
  refine (al_addB RelId_ok hX hL hl h0 hN6 hid hn (fun x hx => el_raw h1 (hel x hx)) (el_raw h1 hv)).mono ?_
  rintro r n' g' ⟨rfl, hle, ow', hL', ho, hg'⟩ hn'
  exact ⟨_, ⟨rfl, hle, rfl⟩, RelP.set h1 h2 h3 h4 hn0 ⟨_, h, Or.inr ⟨rfl, rfl⟩⟩ (Or.inr (Or.inl ⟨_, _, rfl, (gwC_lt hN6 (al_wf hL)).1, hL'⟩)) hg' ho hle⟩
theorem pa_clear {G : GT} {Rel : Nat → Hp → Hp → Prop} (hP : Rel = RelP) {n : Nat} {f : Hp} {id N : Nat} {l : List Nat} (hN : N < 1000000) (h : f id = some (cAL N l)) : Ct G Rel yJ14_clear cJ14_clear 4 none 1 (0) [.ref id] n f (fun r n' f' => r = none ∧ n' = n ∧ f' = up f id (cAL N [])) := by
  subst hP
  refine Ct.lift (fun g hg hn0 h300 => ?_)
  obtain ⟨h1, ow, h2, h3, h4⟩ := hg
  have hL := (h2 id _ h rfl).al hN
  have hid : id < n := by
    obtain ⟨c, fs, q⟩ := (h2 id _ h rfl).some
    by_cases c : id < n
    · exact c
    · rw [hn0 id (by omega)] at q; cases q
  have hn := fun x hx => (h3 id _ x h rfl hx).2
  refine (al_clear RelId_ok hL).mono ?_
  rintro r n' g' ⟨rfl, rfl, hL', hg'⟩ hn'
  exact ⟨_, ⟨rfl, rfl, rfl⟩, RelP.set h1 h2 h3 h4 hn0 ⟨_, h, Or.inr ⟨rfl, rfl⟩⟩ (Or.inr (Or.inl ⟨_, [], rfl, hN, hL'⟩)) (fun x a b _ => hg' x a b) (fun x hx => Or.inl hx) (Nat.le_refl _)⟩
theorem pd_init {G : GT} {Rel : Nat → Hp → Hp → Prop} (hP : Rel = RelP) {n : Nat} {f : Hp} {id : Nat} {a : Value} (h : f id = some (.inl (17, [a, zI ((0 : Nat) : Int), zI ((0 : Nat) : Int)]))) (hid : id < n) : Ct G Rel yJ16_init cJ16_init 1 none 2 (2) [.ref id] n f (fun r n' f' => r = none ∧ n' = n + 1 ∧ f' = up f id (cAD [])) := by
  subst hP
  refine Ct.lift (fun g hg hn0 h300 => ?_)
  obtain ⟨h1, ow, h2, h3, h4⟩ := hg
  refine (ad_init RelId_ok (h1 id _ h rfl) hid).mono ?_
  rintro r n' g' ⟨rfl, rfl, hL', hg'⟩ hn'
  exact ⟨_, ⟨rfl, rfl, rfl⟩, RelP.set h1 h2 h3 h4 hn0 ⟨_, h, Or.inl ⟨rfl, rfl⟩⟩ (Or.inr (Or.inr (Or.inl ⟨[], rfl, hL'⟩))) (fun x a _ b => hg' x a b) (fun x hx => Or.inr (by have := List.mem_singleton.mp hx; omega)) (by omega)⟩
theorem pd_size {G : GT} {Rel : Nat → Hp → Hp → Prop} (hP : Rel = RelP) {n : Nat} {f : Hp} {id : Nat} {l : List Nat} (h : f id = some (cAD l)) : Ct G Rel yJ16_size cJ16_size 1 (some .int) 2 (0) [.ref id] n f (Pu (zI ((l.length : Nat) : Int)) n f) := by
  subst hP
  refine Ct.lift (fun g hg hn0 h300 => ?_)
  obtain ⟨h1, ow, h2, h3, h4⟩ := hg
  have hL := (h2 id _ h rfl).ad
  have hid : id < n := by
    obtain ⟨c, fs, q⟩ := (h2 id _ h rfl).some
    by_cases c : id < n
    · exact c
    · rw [hn0 id (by omega)] at q; cases q
  have hn := fun x hx => (h3 id _ x h rfl hx).2
  refine (ad_size RelId_ok hL).mono ?_
  rintro r n' g' ⟨rfl, rfl, rfl⟩ hn'
  exact ⟨_, ⟨rfl, rfl, rfl⟩, h1, ow, h2, h3, h4⟩
theorem pd_isEmpty {G : GT} {Rel : Nat → Hp → Hp → Prop} (hP : Rel = RelP) {n : Nat} {f : Hp} {id : Nat} {l : List Nat} (h : f id = some (cAD l)) : Ct G Rel yJ16_isEmpty cJ16_isEmpty 1 (some .boolean) 1 (0) [.ref id] n f (Pu (zI ((if l = [] then 1 else 0 : Nat) : Int)) n f) := by
  subst hP
  refine Ct.lift (fun g hg hn0 h300 => ?_)
  obtain ⟨h1, ow, h2, h3, h4⟩ := hg
  have hL := (h2 id _ h rfl).ad
  have hid : id < n := by
    obtain ⟨c, fs, q⟩ := (h2 id _ h rfl).some
    by_cases c : id < n
    · exact c
    · rw [hn0 id (by omega)] at q; cases q
  have hn := fun x hx => (h3 id _ x h rfl hx).2
  refine (ad_isEmpty RelId_ok hL).mono ?_
  rintro r n' g' ⟨rfl, rfl, rfl⟩ hn'
  exact ⟨_, ⟨rfl, rfl, rfl⟩, h1, ow, h2, h3, h4⟩
theorem pd_pollFirst {G : GT} {Rel : Nat → Hp → Hp → Prop} (hP : Rel = RelP) {n : Nat} {f : Hp} {id v : Nat} {l : List Nat} (h : f id = some (cAD (v :: l))) : Ct G Rel yJ16_pollFirst cJ16_pollFirst 4 (some (.object "java/lang/Object")) 2 (0) [.ref id] n f (fun r n' f' => r = some (.ref v) ∧ n' = n ∧ f' = up f id (cAD l)) := by
  subst hP
  refine Ct.lift (fun g hg hn0 h300 => ?_)
  obtain ⟨h1, ow, h2, h3, h4⟩ := hg
  have hL := (h2 id _ h rfl).ad
  have hid : id < n := by
    obtain ⟨c, fs, q⟩ := (h2 id _ h rfl).some
    by_cases c : id < n
    · exact c
    · rw [hn0 id (by omega)] at q; cases q
  have hn := fun x hx => (h3 id _ x h rfl hx).2
  refine (ad_pollFirst RelId_ok hL).mono ?_
  rintro r n' g' ⟨rfl, rfl, hle, ow', hL', ho, hg'⟩ hn'
  exact ⟨_, ⟨rfl, rfl, rfl⟩, RelP.set h1 h2 h3 h4 hn0 ⟨_, h, Or.inr ⟨rfl, rfl⟩⟩ (Or.inr (Or.inr (Or.inl ⟨_, rfl, hL'⟩))) hg' ho hle⟩
theorem pd_pollLast {G : GT} {Rel : Nat → Hp → Hp → Prop} (hP : Rel = RelP) {n : Nat} {f : Hp} {id v : Nat} {l : List Nat} (h : f id = some (cAD (l ++ [v]))) : Ct G Rel yJ16_pollLast cJ16_pollLast 4 (some (.object "java/lang/Object")) 2 (0) [.ref id] n f (fun r n' f' => r = some (.ref v) ∧ n' = n ∧ f' = up f id (cAD l)) := by
  subst hP
  refine Ct.lift (fun g hg hn0 h300 => ?_)
  obtain ⟨h1, ow, h2, h3, h4⟩ := hg
  have hL := (h2 id _ h rfl).ad
  have hid : id < n := by
    obtain ⟨c, fs, q⟩ := (h2 id _ h rfl).some
    by_cases c : id < n
    · exact c
    · rw [hn0 id (by omega)] at q; cases q
  have hn := fun x hx => (h3 id _ x h rfl hx).2
  refine (ad_pollLast RelId_ok hL).mono ?_
  rintro r n' g' ⟨rfl, rfl, hle, ow', hL', ho, hg'⟩ hn'
  exact ⟨_, ⟨rfl, rfl, rfl⟩, RelP.set h1 h2 h3 h4 hn0 ⟨_, h, Or.inr ⟨rfl, rfl⟩⟩ (Or.inr (Or.inr (Or.inl ⟨_, rfl, hL'⟩))) hg' ho hle⟩
theorem pd_clear {G : GT} {Rel : Nat → Hp → Hp → Prop} (hP : Rel = RelP) {n : Nat} {f : Hp} {id : Nat} {l : List Nat} (h : f id = some (cAD l)) : Ct G Rel yJ16_clear cJ16_clear 1 none 2 (0) [.ref id] n f (fun r n' f' => r = none ∧ n' = n ∧ f' = up f id (cAD [])) := by
  subst hP
  refine Ct.lift (fun g hg hn0 h300 => ?_)
  obtain ⟨h1, ow, h2, h3, h4⟩ := hg
  have hL := (h2 id _ h rfl).ad
  have hid : id < n := by
    obtain ⟨c, fs, q⟩ := (h2 id _ h rfl).some
    by_cases c : id < n
    · exact c
    · rw [hn0 id (by omega)] at q; cases q
  have hn := fun x hx => (h3 id _ x h rfl hx).2
  refine (ad_clear RelId_ok hL).mono ?_
  rintro r n' g' ⟨rfl, rfl, hle, ow', hL', ho, hg'⟩ hn'
  exact ⟨_, ⟨rfl, rfl, rfl⟩, RelP.set h1 h2 h3 h4 hn0 ⟨_, h, Or.inr ⟨rfl, rfl⟩⟩ (Or.inr (Or.inr (Or.inl ⟨[], rfl, hL'⟩))) hg' ho hle⟩
theorem pd_addLast {G : GT} {Rel : Nat → Hp → Hp → Prop} (hP : Rel = RelP) (hX : GX G) {n : Nat} {f : Hp} {id : Nat} {l : List Nat} (h : f id = some (cAD l)) {v : Nat} (hl : l.length ≤ 40) (hel : ∀ x ∈ l, el f x) (hv : el f v) : Ct G Rel yJ16_addLast cJ16_addLast 3 none 5 (8) [.ref id, .ref v] n f (fun r n' f' => r = none ∧ n ≤ n' ∧ f' = up f id (cAD (l ++ [v]))) := by
  subst hP
  refine Ct.lift (fun g hg hn0 h300 => ?_)
  obtain ⟨h1, ow, h2, h3, h4⟩ := hg
  have hL := (h2 id _ h rfl).ad
  have hid : id < n := by
    obtain ⟨c, fs, q⟩ := (h2 id _ h rfl).some
    by_cases c : id < n
    · exact c
    · rw [hn0 id (by omega)] at q; cases q
  have hn := fun x hx => (h3 id _ x h rfl hx).2
  refine (ad_addLast RelId_ok hX hL hl hid hn (fun x hx => el_raw h1 (hel x hx)) (el_raw h1 hv)).mono ?_
  rintro r n' g' ⟨rfl, hle, ow', hL', ho, hg'⟩ hn'
  exact ⟨_, ⟨rfl, hle, rfl⟩, RelP.set h1 h2 h3 h4 hn0 ⟨_, h, Or.inr ⟨rfl, rfl⟩⟩ (Or.inr (Or.inr (Or.inl ⟨_, rfl, hL'⟩))) hg' ho hle⟩
theorem pb_init {G : GT} {Rel : Nat → Hp → Hp → Prop} (hP : Rel = RelP) {n : Nat} {f : Hp} {id N m : Nat} {a b c : Value} (h : f id = some (.inl (16, [a, b, c]))) (hid : id < n) (hm : 0 < m) (hN : N = (m - 1) / 64 + 1) (hN1 : N < 10000) (hm1 : m < 1000000) : Ct G Rel yJ15_init cJ15_init 2 none 3 (N / 12 + 1) [.ref id, zI (m : Int)] n f (fun r n' f' => r = none ∧ n' = n + 1 ∧ f' = up f id (cBS N (fun _ => false))) := by
  subst hP
  refine Ct.lift (fun g hg hn0 h300 => ?_)
  obtain ⟨h1, ow, h2, h3, h4⟩ := hg
  refine (bs_init RelId_ok (h1 id _ h rfl) hid hm hN hN1 hm1).mono ?_
  rintro r n' g' ⟨rfl, rfl, hL', hg'⟩ hn'
  exact ⟨_, ⟨rfl, rfl, rfl⟩, RelP.set h1 h2 h3 h4 hn0 ⟨_, h, Or.inl ⟨rfl, rfl⟩⟩ (Or.inr (Or.inr (Or.inr ⟨N, _, rfl, hL'⟩))) (fun x a _ b => hg' x a b) (fun x hx => Or.inr (by have := List.mem_singleton.mp hx; omega)) (by omega)⟩
theorem pb_set {G : GT} {Rel : Nat → Hp → Hp → Prop} (hP : Rel = RelP) (hX : GX G) {n : Nat} {f : Hp} {id N : Nat} {b : Nat → Bool} (h : f id = some (cBS N b)) {i : Nat} (hi : i < 64 * N) : Ct G Rel yJ15_set cJ15_set 3 none 3 (0) [.ref id, zI (i : Int)] n f (fun r n' f' => r = none ∧ n' = n ∧ f' = up f id (cBS N (fun j => decide (j = i) || b j))) := by
  subst hP
  refine Ct.lift (fun g hg hn0 h300 => ?_)
  obtain ⟨h1, ow, h2, h3, h4⟩ := hg
  have hL := (h2 id _ h rfl).bs
  have hid : id < n := by
    obtain ⟨c, fs, q⟩ := (h2 id _ h rfl).some
    by_cases c : id < n
    · exact c
    · rw [hn0 id (by omega)] at q; cases q
  have hn := fun x hx => (h3 id _ x h rfl hx).2
  refine (bs_set RelId_ok hX hL hi).mono ?_
  rintro r n' g' ⟨rfl, rfl, hL', hg'⟩ hn'
  exact ⟨_, ⟨rfl, rfl, rfl⟩, RelP.set h1 h2 h3 h4 hn0 ⟨_, h, Or.inr ⟨rfl, rfl⟩⟩ (Or.inr (Or.inr (Or.inr ⟨_, _, rfl, hL'⟩))) (fun x a b _ => hg' x a b) (fun x hx => Or.inl hx) (Nat.le_refl _)⟩
theorem pb_clear2 {G : GT} {Rel : Nat → Hp → Hp → Prop} (hP : Rel = RelP) (hX : GX G) {n : Nat} {f : Hp} {id N : Nat} {b : Nat → Bool} (h : f id = some (cBS N b)) {i : Nat} (hi : i < 64 * N) : Ct G Rel yJ15_clear_2 cJ15_clear_2 3 none 2 (0) [.ref id, zI (i : Int)] n f (fun r n' f' => r = none ∧ n' = n ∧ f' = up f id (cBS N (fun j => !decide (j = i) && b j))) := by
  subst hP
  refine Ct.lift (fun g hg hn0 h300 => ?_)
  obtain ⟨h1, ow, h2, h3, h4⟩ := hg
  have hL := (h2 id _ h rfl).bs
  have hid : id < n := by
    obtain ⟨c, fs, q⟩ := (h2 id _ h rfl).some
    by_cases c : id < n
    · exact c
    · rw [hn0 id (by omega)] at q; cases q
  have hn := fun x hx => (h3 id _ x h rfl hx).2
  refine (bs_clear2 RelId_ok hX hL hi).mono ?_
  rintro r n' g' ⟨rfl, rfl, hL', hg'⟩ hn'
  exact ⟨_, ⟨rfl, rfl, rfl⟩, RelP.set h1 h2 h3 h4 hn0 ⟨_, h, Or.inr ⟨rfl, rfl⟩⟩ (Or.inr (Or.inr (Or.inr ⟨_, _, rfl, hL'⟩))) (fun x a b _ => hg' x a b) (fun x hx => Or.inl hx) (Nat.le_refl _)⟩
theorem pb_clear {G : GT} {Rel : Nat → Hp → Hp → Prop} (hP : Rel = RelP) {n : Nat} {f : Hp} {id N : Nat} {b : Nat → Bool} (h : f id = some (cBS N b))  : Ct G Rel yJ15_clear cJ15_clear 1 none 1 (0) [.ref id] n f (fun r n' f' => r = none ∧ n' = n ∧ f' = up f id (cBS N (fun _ => false))) := by
  subst hP
  refine Ct.lift (fun g hg hn0 h300 => ?_)
  obtain ⟨h1, ow, h2, h3, h4⟩ := hg
  have hL := (h2 id _ h rfl).bs
  have hid : id < n := by
    obtain ⟨c, fs, q⟩ := (h2 id _ h rfl).some
    by_cases c : id < n
    · exact c
    · rw [hn0 id (by omega)] at q; cases q
  have hn := fun x hx => (h3 id _ x h rfl hx).2
  refine (bs_clear RelId_ok hL).mono ?_
  rintro r n' g' ⟨rfl, rfl, hL', hg'⟩ hn'
  exact ⟨_, ⟨rfl, rfl, rfl⟩, RelP.set h1 h2 h3 h4 hn0 ⟨_, h, Or.inr ⟨rfl, rfl⟩⟩ (Or.inr (Or.inr (Or.inr ⟨_, _, rfl, hL'⟩))) (fun x a b _ => hg' x a b) (fun x hx => Or.inl hx) (Nat.le_refl _)⟩
theorem pb_set2 {G : GT} {Rel : Nat → Hp → Hp → Prop} (hP : Rel = RelP) (hX : GX G) {n : Nat} {f : Hp} {id : Nat} {b : Nat → Bool} (h : f id = some (cBS 1 b)) {e : Nat} (he : 0 < e ∧ e < 65) : Ct G Rel yJ15_set_2 cJ15_set_2 10 none 3 (0) [.ref id, zI ((0 : Nat) : Int), zI (e : Int)] n f (fun r n' f' => r = none ∧ n' = n ∧ f' = up f id (cBS 1 (fun j => decide (j < e) || b j))) := by
  subst hP
  refine Ct.lift (fun g hg hn0 h300 => ?_)
  obtain ⟨h1, ow, h2, h3, h4⟩ := hg
  have hL := (h2 id _ h rfl).bs
  have hid : id < n := by
    obtain ⟨c, fs, q⟩ := (h2 id _ h rfl).some
    by_cases c : id < n
    · exact c
    · rw [hn0 id (by omega)] at q; cases q
  have hn := fun x hx => (h3 id _ x h rfl hx).2
  refine (bs_set2 RelId_ok hX hL he).mono ?_
  rintro r n' g' ⟨rfl, rfl, hL', hg'⟩ hn'
  exact ⟨_, ⟨rfl, rfl, rfl⟩, RelP.set h1 h2 h3 h4 hn0 ⟨_, h, Or.inr ⟨rfl, rfl⟩⟩ (Or.inr (Or.inr (Or.inr ⟨_, _, rfl, hL'⟩))) (fun x a b _ => hg' x a b) (fun x hx => Or.inl hx) (Nat.le_refl _)⟩
theorem pb_get {G : GT} {Rel : Nat → Hp → Hp → Prop} (hP : Rel = RelP) (hX : GX G) {n : Nat} {f : Hp} {id N : Nat} {b : Nat → Bool} (h : f id = some (cBS N b)) {i : Nat} (hi : i < 64 * N) : Ct G Rel yJ15_get cJ15_get 3 (some .boolean) 2 (0) [.ref id, zI (i : Int)] n f (Pu (vB (b i)) n f) := by
  subst hP
  refine Ct.lift (fun g hg hn0 h300 => ?_)
  obtain ⟨h1, ow, h2, h3, h4⟩ := hg
  have hL := (h2 id _ h rfl).bs
  have hid : id < n := by
    obtain ⟨c, fs, q⟩ := (h2 id _ h rfl).some
    by_cases c : id < n
    · exact c
    · rw [hn0 id (by omega)] at q; cases q
  have hn := fun x hx => (h3 id _ x h rfl hx).2
  refine (bs_get RelId_ok hX hL hi).mono ?_
  rintro r n' g' ⟨rfl, rfl, rfl⟩ hn'
  exact ⟨_, ⟨rfl, rfl, rfl⟩, h1, ow, h2, h3, h4⟩
theorem pb_next {G : GT} {Rel : Nat → Hp → Hp → Prop} (hP : Rel = RelP) (hX : GX G) {n : Nat} {f : Hp} {id : Nat} {b : Nat → Bool} (h : f id = some (cBS 1 b)) {t : Nat} (ht : t < 64) (hb1 : b t = true) (hb2 : ∀ i, i < t → b i = false) : Ct G Rel yJ15_nextSetBit cJ15_nextSetBit 5 (some .int) 3 (0) [.ref id, zI ((0 : Nat) : Int)] n f (Pu (zI (t : Int)) n f) := by
  subst hP
  refine Ct.lift (fun g hg hn0 h300 => ?_)
  obtain ⟨h1, ow, h2, h3, h4⟩ := hg
  have hL := (h2 id _ h rfl).bs
  have hid : id < n := by
    obtain ⟨c, fs, q⟩ := (h2 id _ h rfl).some
    by_cases c : id < n
    · exact c
    · rw [hn0 id (by omega)] at q; cases q
  have hn := fun x hx => (h3 id _ x h rfl hx).2
  refine (bs_next RelId_ok hX hL ht hb1 hb2).mono ?_
  rintro r n' g' ⟨rfl, rfl, rfl⟩ hn'
  exact ⟨_, ⟨rfl, rfl, rfl⟩, h1, ow, h2, h3, h4⟩
