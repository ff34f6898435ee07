set_option maxRecDepth 100000
/-! ===== cascades in the picture: turning, shrinking ===== -/
theorem up_comm {f : Hp} {j k : Nat} {a b : E_} (h : j ≠ k) : up (up f j a) k b = up (up f k b) j a := by
  funext i; unfold up
  by_cases q1 : i = k
  · rw [if_pos q1, if_neg (by omega), if_pos q1]
  · rw [if_neg q1]
    by_cases q2 : i = j
    · rw [if_pos q2, if_pos q2]
    · rw [if_neg q2, if_neg q2, if_neg q1]
theorem getD_er (l : List Nat) (k i : Nat) : (l.eraseIdx k).getD i 0 = if i < k then l.getD i 0 else l.getD (i + 1) 0 := by
  rw [List.getD_eq_getElem?_getD, List.getElem?_eraseIdx, List.getD_eq_getElem?_getD, List.getD_eq_getElem?_getD]
  split <;> rfl
theorem gt_er (gs : List Gt) (k i : Nat) : gt (gs.eraseIdx k) i = if i < k then gt gs i else gt gs (i + 1) := by
  unfold gt
  rw [List.getD_eq_getElem?_getD, List.getElem?_eraseIdx, List.getD_eq_getElem?_getD, List.getD_eq_getElem?_getD]
  split <;> rfl
theorem GL.er {f : Hp} {l : List Nat} {gs : List Gt} (h : GL f l gs) {k : Nat} (hk : k < gs.length) : GL f (l.eraseIdx k) (gs.eraseIdx k) := by
  have hl := h.1
  refine ⟨by rw [List.length_eraseIdx_of_lt (by omega), List.length_eraseIdx_of_lt hk, hl], fun i hi => ?_⟩
  rw [List.length_eraseIdx_of_lt (by omega)] at hi
  rw [getD_er, gt_er]
  split
  · exact h.2 i (by omega)
  · exact h.2 (i + 1) (by omega)
theorem GL.set {f : Hp} {l : List Nat} {gs : List Gt} (h : GL f l gs) {k x : Nat} {g : Gt} (hx : f x = some (cG g)) (hk : k < gs.length) : GL f (l.set k x) (gs.set k g) := by
  have hl := h.1
  refine ⟨by rw [List.length_set, List.length_set, hl], fun i hi => ?_⟩
  rw [List.length_set] at hi
  unfold gt
  rw [List.getD_eq_getElem?_getD, List.getD_eq_getElem?_getD]
  by_cases c : i = k
  · subst c
    rw [List.getElem?_set_self (by omega), List.getElem?_set_self hk]
    exact hx
  · rw [List.getElem?_set_ne (by omega), List.getElem?_set_ne (by omega), ← List.getD_eq_getElem?_getD, ← List.getD_eq_getElem?_getD]
    exact h.2 i hi
theorem ins_set {l : List Nat} {k x : Nat} (h : k < l.length) : (l.eraseIdx k).take k ++ x :: (l.eraseIdx k).drop k = l.set k x := by
  rw [List.eraseIdx_eq_take_drop_succ, List.take_left' (by rw [List.length_take]; omega), List.drop_left' (by rw [List.length_take]; omega), List.set_eq_take_append_cons_drop, if_pos h]
/-- the picture of the list alone has changed, and new ones have come -/
def Kp (n : Nat) (f : Hp) (ll : Nat) (f' : Hp) : Prop := ∀ id, id < n → id ≠ ll → f' id = f id
-- the last one becomes the first; the list row of the way stays, empty
set_option maxHeartbeats 4000000 in
theorem ct_cTurns {G : GT} {Rel : Nat → Hp → Hp → Prop} (hR : RelOK Rel) (hP : Rel = RelP) (hX : GX G) {n : Nat} {f : Hp} {c ll : Nat} {l : List Nat} {gs : List Gt} (h : CC f c ll l gs) (hs : l.length ≤ 16) : Ct G Rel yX4_turns cX4_turns 2 none (5) (40) [.ref c] n (f) (fun r n' f' => r = none ∧ n < n' ∧ f' = up (up f n (cLL [])) ll (cLL l.reverse)) := by
  refine ct_intro [some (.ref c), none] hR rfl (Nat.le_of_ble_eq_true rfl) ?_
  intro K hG hRel hK hRt hnm
  have hQ : kRel K = RelP := by rw [hRel]; exact hP
  have hXK : GX (kG K) := by rw [hG]; exact hX
  obtain ⟨c1, c2, c3, c4⟩ := h
  have hge : ∀ v ∈ l, ∃ g, f v = some (cG g) := fun v hv => by
    obtain ⟨i, hi, e⟩ := List.getElem_of_mem hv
    have := c3.2 i hi
    rw [List.getD_eq_getElem?_getD, List.getElem?_eq_getElem hi] at this
    exact ⟨_, by rw [← e]; exact this⟩
  refine r_fact hK (fun _ hno => ?_)
  have nn : ∀ j e, f j = some e → j ≠ n := fun j e q z => by rw [z, hno n (Nat.le_refl _)] at q; cases q
  have lln := nn _ _ c2
  have cn := nn _ _ c1
  have cll : c ≠ ll := fun q => by rw [q, c2] at c1; cases c1
  have vl : ∀ v ∈ l, v ≠ ll ∧ v ≠ n := fun v hv => by
    obtain ⟨g, hg⟩ := hge v hv
    exact ⟨fun q => (by rw [q, c2] at hg; cases hg), nn _ _ hg⟩
  have hc1 : ∀ a b, (up (up f n (cLL a)) ll (cLL b)) c = some (.inl (4, [.ref ll])) := fun a b => by rw [up_n cll, up_n cn]; exact c1
  have hrow : ∀ a b, (up (up f n (cLL a)) ll (cLL b)) n = some (cLL a) := fun a b => by rw [up_n (Ne.symm lln), up_s]
  have hgc : ∀ v ∈ l, ∀ a b, ∃ g, (up (up f n (cLL a)) ll (cLL b)) v = some (cG g) := fun v hv a b => by
    obtain ⟨g, hg⟩ := hge v hv
    exact ⟨g, by rw [up_n (vl v hv).1, up_n (vl v hv).2]; exact hg⟩
  have e1 : ∀ a b b', up (up (up f n (cLL a)) ll (cLL b)) ll (cLL b') = up (up f n (cLL a)) ll (cLL b') := fun a b b' => up_up _ _ _ _
  have e2 : ∀ a a' b, up (up (up f n (cLL a)) ll (cLL b)) n (cLL a') = up (up f n (cLL a')) ll (cLL b) := fun a a' b => by rw [up_comm lln, up_up]
  -- back again
  have lp2 : ∀ (a b : List Nat) (n1 u : Nat), b ++ a = l.reverse → n < n1 → u + a.length ≤ 40 → Wx K 35 [some (.ref c), some (.ref n)] [] n1 (up (up f n (cLL a)) ll (cLL b)) u := by
    intro a
    induction a with
    | nil =>
      intro b n1 u hb hn1 hu
      refine r_aload_1 hK dX4_turns_35 ?_
      refine r_callU0 hK (pl_isEmpty hQ (hrow [] b) (by simp)) lu_X4_66_J13 (rcv_ll hQ (hrow [] b)) dX4_turns_36 (fun r n2 f2 hp => ?_) (hu := by omega)
      obtain ⟨rfl, rfl, rfl⟩ := hp
      rw [if_pos rfl]
      refine r_if_ne 59 hK dX4_turns_39 (by omega) (fun h39 => ?_) (fun h39 => ?_)
      · refine r_vret hK hRt dX4_turns_59 ⟨rfl, hn1, ?_⟩ (by omega)
        rw [← hb, List.append_nil]
      · exact absurd h39 (by omega)
    | cons v a ih =>
      intro b n1 u hb hn1 hu
      have hvl : v ∈ l := List.mem_reverse.mp (by rw [← hb]; simp)
      have hal : (v :: a).length ≤ 16 := by
        have := congrArg List.length hb
        rw [List.length_append, List.length_reverse] at this
        omega
      obtain ⟨g, hg⟩ := hgc v hvl a b
      simp only [List.length_cons] at hu hal
      refine r_aload_1 hK dX4_turns_35 ?_
      refine r_callU0 hK (pl_isEmpty hQ (hrow (v :: a) b) (by simp only [List.length_cons]; omega)) lu_X4_66_J13 (rcv_ll hQ (hrow (v :: a) b)) dX4_turns_36 (fun r n2 f2 hp => ?_) (hu := by omega)
      obtain ⟨rfl, rfl, rfl⟩ := hp
      rw [if_neg (List.cons_ne_nil _ _)]
      refine r_if_ne 59 hK dX4_turns_39 (by omega) (fun h39 => ?_) (fun h39 => ?_)
      · exact absurd rfl h39
      · refine r_aload_0 hK dX4_turns_42 ?_
        refine r_get hK fl_X4_10 dX4_turns_43 (hc1 _ _) rfl ?_
        refine r_aload_1 hK dX4_turns_46 ?_
        refine r_callV0 hK (pl_pollFirst hQ (hrow (v :: a) b)) lk_X4_69 (rcv_ll hQ (hrow (v :: a) b)) dX4_turns_47 (fun r n2 f2 hp => ?_) (hu := by omega)
        obtain ⟨rfl, rfl, rfl⟩ := hp
        rw [e2]
        refine r_cast hK cl_X4_38 (Rcv.raw hK.rel hg rfl) dX4_turns_50 ?_
        refine r_callV1 hK (pl_addLast hQ (up_s _ _ _)) lk_X4_40 (rcv_ll hQ (up_s _ _ _)) dX4_turns_53 (fun r n3 f3 hp => ?_) (hu := by omega)
        obtain ⟨rfl, hle, rfl⟩ := hp
        rw [e1]
        refine r_goto 35 hK dX4_turns_56 ?_
        exact ih (b ++ [v]) n3 _ (by rw [List.append_assoc]; exact hb) (by omega) (by omega)
  have lp1 : ∀ (b a : List Nat) (n1 u : Nat), a.reverse ++ b = l → n < n1 → u + b.length + l.length ≤ 40 → Wx K 8 [some (.ref c), some (.ref n)] [] n1 (up (up f n (cLL a)) ll (cLL b)) u := by
    intro b
    induction b with
    | nil =>
      intro a n1 u hb hn1 hu
      have ha : a = l.reverse := by rw [← hb, List.append_nil, List.reverse_reverse]
      refine r_aload_0 hK dX4_turns_8 ?_
      refine r_get hK fl_X4_10 dX4_turns_9 (hc1 _ _) rfl ?_
      refine r_callU0 hK (pl_isEmpty hQ (up_s _ _ _) (by simp)) lu_X4_66_J13 (rcv_ll hQ (up_s _ _ _)) dX4_turns_12 (fun r n2 f2 hp => ?_) (hu := by omega)
      obtain ⟨rfl, rfl, rfl⟩ := hp
      rw [if_pos rfl]
      refine r_if_ne 35 hK dX4_turns_15 (by omega) (fun h15 => ?_) (fun h15 => ?_)
      · exact lp2 a [] _ _ (by rw [ha]; rfl) hn1 (by rw [ha, List.length_reverse]; simp only [List.length_nil] at hu; omega)
      · exact absurd h15 (by omega)
    | cons v b ih =>
      intro a n1 u hb hn1 hu
      have hvl : v ∈ l := by rw [← hb]; simp
      have hbl : (v :: b).length ≤ 16 := by
        have := congrArg List.length hb
        rw [List.length_append] at this
        omega
      obtain ⟨g, hg⟩ := hgc v hvl a b
      simp only [List.length_cons] at hu hbl
      refine r_aload_0 hK dX4_turns_8 ?_
      refine r_get hK fl_X4_10 dX4_turns_9 (hc1 _ _) rfl ?_
      refine r_callU0 hK (pl_isEmpty hQ (up_s _ _ _) (by simp only [List.length_cons]; omega)) lu_X4_66_J13 (rcv_ll hQ (up_s _ _ _)) dX4_turns_12 (fun r n2 f2 hp => ?_) (hu := by omega)
      obtain ⟨rfl, rfl, rfl⟩ := hp
      rw [if_neg (List.cons_ne_nil _ _)]
      refine r_if_ne 35 hK dX4_turns_15 (by omega) (fun h15 => ?_) (fun h15 => ?_)
      · exact absurd rfl h15
      · refine r_aload_1 hK dX4_turns_18 ?_
        refine r_aload_0 hK dX4_turns_19 ?_
        refine r_get hK fl_X4_10 dX4_turns_20 (hc1 _ _) rfl ?_
        refine r_callV0 hK (pl_pollFirst hQ (up_s _ _ _)) lk_X4_69 (rcv_ll hQ (up_s _ _ _)) dX4_turns_23 (fun r n2 f2 hp => ?_) (hu := by omega)
        obtain ⟨rfl, rfl, rfl⟩ := hp
        rw [e1]
        refine r_cast hK cl_X4_38 (Rcv.raw hK.rel hg rfl) dX4_turns_26 ?_
        refine r_callV1 hK (pl_addFirst hQ (hrow a b)) lk_X4_72 (rcv_ll hQ (hrow a b)) dX4_turns_29 (fun r n3 f3 hp => ?_) (hu := by omega)
        obtain ⟨rfl, hle, rfl⟩ := hp
        rw [e2]
        refine r_goto 8 hK dX4_turns_32 ?_
        exact ih (v :: a) n3 _ (by rw [List.reverse_cons, List.append_assoc]; exact hb) (by omega) (by omega)
  have e0 : up f n (cLL []) = up (up f n (cLL [])) ll (cLL l) := by
    funext j; unfold up
    by_cases q : j = ll
    · rw [if_pos q, if_neg (by omega), q]; exact c2
    · rw [if_neg q]
  refine r_new (fs := [zI 0, zI 0, .null, .null]) 1 hK nw_X4_7 dX4_turns_0 (by decide) ?_ (hw := new12)
  refine r_dup hK dX4_turns_3 ?_
  refine r_callI0 hK (pl_init hQ (up_s _ _ _)) lk_X4_9 dX4_turns_4 (fun r n1 f1 hp => ?_)
  obtain ⟨rfl, rfl, rfl⟩ := hp
  rw [up_up, e0]
  refine r_astore_1 hK dX4_turns_7 ?_
  exact lp1 l [] _ _ rfl (by omega) (by omega)
