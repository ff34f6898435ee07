set_option maxRecDepth 100000
/-! ===== LinkedList in the picture ===== -/
theorem pl_addLast {G : GT} {Rel : Nat → Hp → Hp → Prop} (hP : Rel = RelP) {n : Nat} {f : Hp} {id : Nat} {l : List Nat} (h : f id = some (cLL l)) {v : Nat} : Ct G Rel yJ13_addLast cJ13_addLast 2 none 3 1 [.ref id, .ref v] n f (fun r n' f' => r = none ∧ n ≤ n' ∧ f' = up f id (cLL (l ++ [v]))) := by
  subst hP
  refine Ct.lift (fun g hg hn0 h300 => ?_)
  obtain ⟨h1, ow, h2, h3, h4⟩ := hg
  have hL := (h2 id _ h rfl).ll
  have hid : id < n := by
    obtain ⟨mc, q⟩ := hL.2.2.1
    by_cases c : id < n
    · exact c
    · rw [hn0 id (by omega)] at q; cases q
  have hn := fun x hx => (h3 id _ x h rfl hx).2
  refine (ll_addLast RelId_ok hL hn hid).mono ?_
  rintro r n' g' ⟨rfl, hle, ns', hL', ho, hg'⟩ hn'
  exact ⟨_, ⟨rfl, hle, rfl⟩, RelP.set h1 h2 h3 h4 hn0 ⟨_, h, Or.inr ⟨rfl, rfl⟩⟩ (Or.inl ⟨_, rfl, hL'⟩) hg' ho hle⟩
theorem pl_addFirst {G : GT} {Rel : Nat → Hp → Hp → Prop} (hP : Rel = RelP) {n : Nat} {f : Hp} {id : Nat} {l : List Nat} (h : f id = some (cLL l)) {v : Nat} : Ct G Rel yJ13_addFirst cJ13_addFirst 2 none 3 1 [.ref id, .ref v] n f (fun r n' f' => r = none ∧ n ≤ n' ∧ f' = up f id (cLL (v :: l))) := by
  subst hP
  refine Ct.lift (fun g hg hn0 h300 => ?_)
  obtain ⟨h1, ow, h2, h3, h4⟩ := hg
  have hL := (h2 id _ h rfl).ll
  have hid : id < n := by
    obtain ⟨mc, q⟩ := hL.2.2.1
    by_cases c : id < n
    · exact c
    · rw [hn0 id (by omega)] at q; cases q
  have hn := fun x hx => (h3 id _ x h rfl hx).2
  refine (ll_addFirst RelId_ok hL hn hid).mono ?_
  rintro r n' g' ⟨rfl, hle, ns', hL', ho, hg'⟩ hn'
  exact ⟨_, ⟨rfl, hle, rfl⟩, RelP.set h1 h2 h3 h4 hn0 ⟨_, h, Or.inr ⟨rfl, rfl⟩⟩ (Or.inl ⟨_, rfl, hL'⟩) hg' ho hle⟩
theorem pl_add {G : GT} {Rel : Nat → Hp → Hp → Prop} (hP : Rel = RelP) {n : Nat} {f : Hp} {id : Nat} {l : List Nat} (h : f id = some (cLL l)) {v i : Nat} (hi : i ≤ l.length) (hs : l.length < 1000000) : Ct G Rel yJ13_add cJ13_add 3 none 3 1 [.ref id, zI (i : Int), .ref v] n f (fun r n' f' => r = none ∧ n ≤ n' ∧ f' = up f id (cLL (l.take i ++ v :: l.drop i))) := by
  subst hP
  refine Ct.lift (fun g hg hn0 h300 => ?_)
  obtain ⟨h1, ow, h2, h3, h4⟩ := hg
  have hL := (h2 id _ h rfl).ll
  have hid : id < n := by
    obtain ⟨mc, q⟩ := hL.2.2.1
    by_cases c : id < n
    · exact c
    · rw [hn0 id (by omega)] at q; cases q
  have hn := fun x hx => (h3 id _ x h rfl hx).2
  refine (ll_add RelId_ok hL hn hid hi hs).mono ?_
  rintro r n' g' ⟨rfl, hle, ns', hL', ho, hg'⟩ hn'
  exact ⟨_, ⟨rfl, hle, rfl⟩, RelP.set h1 h2 h3 h4 hn0 ⟨_, h, Or.inr ⟨rfl, rfl⟩⟩ (Or.inl ⟨_, rfl, hL'⟩) hg' ho hle⟩
theorem pl_remove {G : GT} {Rel : Nat → Hp → Hp → Prop} (hP : Rel = RelP) {n : Nat} {f : Hp} {id : Nat} {l : List Nat} (h : f id = some (cLL l)) {i : Nat} (hi : i < l.length) (hs : l.length < 1000000) : Ct G Rel yJ13_remove cJ13_remove 2 (some (.object "java/lang/Object")) 3 0 [.ref id, zI (i : Int)] n f (fun r n' f' => r = some (.ref (l.getD i 0)) ∧ n' = n ∧ f' = up f id (cLL (l.eraseIdx i))) := by
  subst hP
  refine Ct.lift (fun g hg hn0 h300 => ?_)
  obtain ⟨h1, ow, h2, h3, h4⟩ := hg
  have hL := (h2 id _ h rfl).ll
  have hid : id < n := by
    obtain ⟨mc, q⟩ := hL.2.2.1
    by_cases c : id < n
    · exact c
    · rw [hn0 id (by omega)] at q; cases q
  have hn := fun x hx => (h3 id _ x h rfl hx).2
  refine (ll_remove RelId_ok hL hi hs).mono ?_
  rintro r n' g' ⟨rfl, rfl, ns', hL', ho, hg'⟩ hn'
  exact ⟨_, ⟨rfl, rfl, rfl⟩, RelP.set h1 h2 h3 h4 hn0 ⟨_, h, Or.inr ⟨rfl, rfl⟩⟩ (Or.inl ⟨_, rfl, hL'⟩) (fun x a b _ => hg' x a b) (fun x hx => Or.inl (ho x hx)) (Nat.le_refl _)⟩
theorem pl_pollFirst {G : GT} {Rel : Nat → Hp → Hp → Prop} (hP : Rel = RelP) {n : Nat} {f : Hp} {id v : Nat} {l : List Nat} (h : f id = some (cLL (v :: l))) : Ct G Rel yJ13_pollFirst cJ13_pollFirst 2 (some (.object "java/lang/Object")) 2 0 [.ref id] n f (fun r n' f' => r = some (.ref v) ∧ n' = n ∧ f' = up f id (cLL l)) := by
  subst hP
  refine Ct.lift (fun g hg hn0 h300 => ?_)
  obtain ⟨h1, ow, h2, h3, h4⟩ := hg
  have hL := (h2 id _ h rfl).ll
  have hid : id < n := by
    obtain ⟨mc, q⟩ := hL.2.2.1
    by_cases c : id < n
    · exact c
    · rw [hn0 id (by omega)] at q; cases q
  have hn := fun x hx => (h3 id _ x h rfl hx).2
  refine (ll_pollFirst RelId_ok hL).mono ?_
  rintro r n' g' ⟨rfl, rfl, ns', hL', ho, hg'⟩ hn'
  exact ⟨_, ⟨rfl, rfl, rfl⟩, RelP.set h1 h2 h3 h4 hn0 ⟨_, h, Or.inr ⟨rfl, rfl⟩⟩ (Or.inl ⟨_, rfl, hL'⟩) (fun x a b _ => hg' x a b) (fun x hx => Or.inl (ho x hx)) (Nat.le_refl _)⟩
theorem pl_clear {G : GT} {Rel : Nat → Hp → Hp → Prop} (hP : Rel = RelP) {n : Nat} {f : Hp} {id : Nat} {l : List Nat} (h : f id = some (cLL l)) : Ct G Rel yJ13_clear cJ13_clear 3 none 1 0 [.ref id] n f (fun r n' f' => r = none ∧ n' = n ∧ f' = up f id (cLL [])) := by
  subst hP
  refine Ct.lift (fun g hg hn0 h300 => ?_)
  obtain ⟨h1, ow, h2, h3, h4⟩ := hg
  have hL := (h2 id _ h rfl).ll
  have hid : id < n := by
    obtain ⟨mc, q⟩ := hL.2.2.1
    by_cases c : id < n
    · exact c
    · rw [hn0 id (by omega)] at q; cases q
  have hn := fun x hx => (h3 id _ x h rfl hx).2
  refine (ll_clear RelId_ok hL).mono ?_
  rintro r n' g' ⟨rfl, rfl, hL', hg'⟩ hn'
  exact ⟨_, ⟨rfl, rfl, rfl⟩, RelP.set h1 h2 h3 h4 hn0 ⟨_, h, Or.inr ⟨rfl, rfl⟩⟩ (Or.inl ⟨_, rfl, hL'⟩) (fun x a b _ => hg' x a b) (fun x hx => absurd hx List.not_mem_nil) (Nat.le_refl _)⟩
theorem pl_get {G : GT} {Rel : Nat → Hp → Hp → Prop} (hP : Rel = RelP) {n : Nat} {f : Hp} {id : Nat} {l : List Nat} (h : f id = some (cLL l)) {i : Nat} (hi : i < l.length) (hs : l.length < 1000000) : Ct G Rel yJ13_get cJ13_get 2 (some (.object "java/lang/Object")) 3 0 [.ref id, zI (i : Int)] n f (Pu (.ref (l.getD i 0)) n f) := by
  subst hP
  refine Ct.lift (fun g hg hn0 h300 => ?_)
  obtain ⟨h1, ow, h2, h3, h4⟩ := hg
  have hL := (h2 id _ h rfl).ll
  have hid : id < n := by
    obtain ⟨mc, q⟩ := hL.2.2.1
    by_cases c : id < n
    · exact c
    · rw [hn0 id (by omega)] at q; cases q
  have hn := fun x hx => (h3 id _ x h rfl hx).2
  refine (ll_get RelId_ok hL hi hs).mono ?_
  rintro r n' g' ⟨rfl, rfl, rfl⟩ hn'
  exact ⟨_, ⟨rfl, rfl, rfl⟩, h1, ow, h2, h3, h4⟩
theorem pl_size {G : GT} {Rel : Nat → Hp → Hp → Prop} (hP : Rel = RelP) {n : Nat} {f : Hp} {id : Nat} {l : List Nat} (h : f id = some (cLL l)) : Ct G Rel yJ13_size cJ13_size 1 (some .int) 1 0 [.ref id] n f (Pu (zI ((l.length : Nat) : Int)) n f) := by
  subst hP
  refine Ct.lift (fun g hg hn0 h300 => ?_)
  obtain ⟨h1, ow, h2, h3, h4⟩ := hg
  have hL := (h2 id _ h rfl).ll
  have hid : id < n := by
    obtain ⟨mc, q⟩ := hL.2.2.1
    by_cases c : id < n
    · exact c
    · rw [hn0 id (by omega)] at q; cases q
  have hn := fun x hx => (h3 id _ x h rfl hx).2
  refine (ll_size RelId_ok hL).mono ?_
  rintro r n' g' ⟨rfl, rfl, rfl⟩ hn'
  exact ⟨_, ⟨rfl, rfl, rfl⟩, h1, ow, h2, h3, h4⟩
theorem pl_isEmpty {G : GT} {Rel : Nat → Hp → Hp → Prop} (hP : Rel = RelP) {n : Nat} {f : Hp} {id : Nat} {l : List Nat} (h : f id = some (cLL l)) (hs : l.length < 1000000) : Ct G Rel yJ6_isEmpty cJ6_isEmpty 1 (some .boolean) 2 0 [.ref id] n f (Pu (zI ((if l = [] then 1 else 0 : Nat) : Int)) n f) := by
  subst hP
  refine Ct.lift (fun g hg hn0 h300 => ?_)
  obtain ⟨h1, ow, h2, h3, h4⟩ := hg
  have hL := (h2 id _ h rfl).ll
  have hid : id < n := by
    obtain ⟨mc, q⟩ := hL.2.2.1
    by_cases c : id < n
    · exact c
    · rw [hn0 id (by omega)] at q; cases q
  have hn := fun x hx => (h3 id _ x h rfl hx).2
  refine (ll_isEmpty RelId_ok hL hs).mono ?_
  rintro r n' g' ⟨rfl, rfl, rfl⟩ hn'
  exact ⟨_, ⟨rfl, rfl, rfl⟩, h1, ow, h2, h3, h4⟩
theorem pl_init {G : GT} {Rel : Nat → Hp → Hp → Prop} (hP : Rel = RelP) {n : Nat} {f : Hp} {id : Nat} {a b : Value} (h : f id = some (.inl (12, [a, b, .null, .null]))) : Ct G Rel yJ13_init cJ13_init 1 none 4 0 [.ref id] n f (fun r n' f' => r = none ∧ n' = n ∧ f' = up f id (cLL [])) := by
  subst hP
  refine Ct.lift (fun g hg hn0 h300 => ?_)
  obtain ⟨h1, ow, h2, h3, h4⟩ := hg
  refine (ll_init RelId_ok (h1 id _ h rfl)).mono ?_
  rintro r n' g' ⟨rfl, rfl, rfl⟩ hn'
  exact ⟨_, ⟨rfl, rfl, rfl⟩, RelP.set h1 h2 h3 h4 hn0 ⟨_, h, Or.inl ⟨rfl, rfl⟩⟩ (Or.inl ⟨_, rfl, LLs_new⟩) (fun x a _ _ => up_n a) (fun x hx => absurd hx List.not_mem_nil) (Nat.le_refl _)⟩
