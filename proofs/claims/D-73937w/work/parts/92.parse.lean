set_option maxRecDepth 100000
/-! ===== class Parser: the small methods ===== -/
def fC (a b : Nat) : E_ := .inl (1, [.null, .null, .null, .ref 5, .null, zI ((0 : Nat) : Int), zI (a : Int), zI (b : Int)])
def pC (nw t ng w wt : Nat) : E_ := .inl (3, [.ref 302, .ref 301, .ref 311, .ref 313, .ref 315, zI (nw : Int), .ref 316, .ref 317, zI (t : Int), zI (ng : Int), zI (w : Int), zI (wt : Int)])
/-- the tokens lie in the heap -/
def TF (f : Hp) (X : Nat → Nat → Nat) (M N : Nat) : Prop := ∃ (tp : Nat) (T : Nat → Nat) (S A B W : Nat → Value), X = tkX tp T ∧ M = (cutB (lex tp T)).length ∧ N = tkN tp T ∧ tp ≤ 2000 ∧ (∀ i, T i < 256) ∧ M ≤ 2001 ∧ TKo f tp M ∧ TKt f T ∧ TKa f S A B W ∧ TKs (cutB (lex tp T)) S A B W
theorem TF.kp {f f' : Hp} {X : Nat → Nat → Nat} {M N : Nat} (h : TF f X M N) (hk : ∀ id, 302 ≤ id → id ≤ 309 → f' id = f id) : TF f' X M N := by
  obtain ⟨tp, T, S, A, B, W, h1, h2, h3, h4, h5, h6, h7, h8, h9, h10⟩ := h
  exact ⟨tp, T, S, A, B, W, h1, h2, h3, h4, h5, h6, (hk 302 (by decide) (by decide)).trans h7, (hk 305 (by decide) (by decide)).trans h8, ⟨(hk 306 (by decide) (by decide)).trans h9.1, (hk 307 (by decide) (by decide)).trans h9.2.1, (hk 308 (by decide) (by decide)).trans h9.2.2.1, (hk 309 (by decide) (by decide)).trans h9.2.2.2⟩, h10⟩
theorem TF.up {f : Hp} {X : Nat → Nat → Nat} {M N k : Nat} {e : E_} (h : TF f X M N) (hk : k < 302 ∨ 309 < k) : TF (up f k e) X M N := h.kp (fun id _ _ => up_n (by omega))
/-- a token by its place -/
theorem TF.at {f : Hp} {X : Nat → Nat → Nat} {M N k : Nat} (h : TF f X M N) (hk : k < M) : ∃ (tp : Nat) (T : Nat → Nat) (S A B W : Nat → Value) (a b : Nat), TKo f tp M ∧ TKt f T ∧ TKa f S A B W ∧ (∀ i, T i < 256) ∧ M ≤ 2001 ∧ X 3 k = a ∧ tkOK (X 2 k, a, b) (S k) (A k) (B k) (W k) ∧ a ≤ 2000 ∧ (X 2 k ≤ 23 ∧ (X 2 k ≤ 5 ∨ 20 ≤ X 2 k)) ∧ (k + 1 < M → X 2 k ≠ 3 ∧ X 2 k ≠ 0) ∧ (X 2 k ≠ 3 → X 2 k ≠ 0 → k + 1 < M) := by
  obtain ⟨tp, T, S, A, B, W, h1, h2, h3, h4, h5, h6, h7, h8, h9, h10⟩ := h
  have hk' := hk
  rw [h2] at hk'
  obtain ⟨c1, c2⟩ := cutB_at (lex tp T) k hk'
  obtain ⟨⟨kd, a, b⟩, ht⟩ : ∃ t, (cutB (lex tp T))[k]? = some t := ⟨_, List.getElem?_eq_getElem hk'⟩
  rw [c1] at ht
  have hx := tkX_at ht
  have hb := tkX_bd tp T h4 k
  have hok := h10 k (kd, a, b) (by rw [c1]; exact ht)
  have hne : lex tp T ≠ [] := fun q => by have := lex_len tp T; rw [q] at this; exact absurd this (by decide)
  obtain ⟨l1, l2, l3⟩ := cutB_last (lex tp T) hne
  have hlt := lexF_lt (n := tp) (T := T) (tp + 1) 0 (by omega) (kd, a, b) (List.mem_of_getElem? ht)
  refine ⟨tp, T, S, A, B, W, a, b, h7, h8, h9, h5, h6, by rw [h1]; exact hx.2.1, by rw [h1, hx.1]; exact hok, by rw [← hx.2.1]; exact hb.2.1, ⟨by rw [h1]; exact hb.1, by rw [h1, hx.1]; exact hlt.1⟩, fun q => ?_, fun q1 q2 => ?_⟩
  · rw [h1, hx.1]
    refine ⟨c2 (by omega) (kd, a, b) ht, fun q0 => ?_⟩
    have := (tkX_last (n := tp) (T := T) (k := k)).mp (by rw [hx.1]; exact q0)
    omega
  · by_cases z : k + 1 < M
    · exact z
    · have ke : k = M - 1 := by omega
      rcases l3 with z1 | ⟨t, z1, z2⟩
      · have := (tkX_last (n := tp) (T := T) (k := k)).mpr (by omega)
        rw [h1] at q2; exact absurd this q2
      · rw [← h2, ← ke, ht] at z1
        cases z1
        rw [h1, hx.1] at q1; exact absurd z2 q1
theorem srt_lt {kd : Nat} : srtK kd < 6 := by
  unfold srtK
  repeat (first | split | decide)
theorem srt_5 {kd : Nat} : srtK kd = 5 ↔ kd = 3 := by
  unfold srtK
  constructor
  · intro h
    repeat (first | omega | split at h)
  · intro h; subst h; rfl
theorem srt_0 {kd : Nat} : srtK kd = 0 ↔ kd = 1 := by
  unfold srtK
  constructor
  · intro h
    repeat (first | omega | split at h)
  · intro h; subst h; rfl
theorem srt_1 {kd : Nat} : srtK kd = 1 ↔ kd = 2 := by
  unfold srtK
  constructor
  · intro h
    repeat (first | omega | split at h)
  · intro h; subst h; rfl
theorem srt_4 {kd : Nat} : srtK kd = 4 ↔ kd = 0 := by
  unfold srtK
  constructor
  · intro h
    repeat (first | omega | split at h)
  · intro h; subst h; rfl
theorem srt_3 {kd : Nat} : srtK kd = 3 ↔ 20 ≤ kd := by
  unfold srtK
  constructor
  · intro h
    repeat (first | omega | split at h)
  · intro h
    rw [if_neg (by omega), if_neg (by omega), if_neg (by omega), if_neg (by omega), if_neg (by omega)]
theorem srt_2 {kd : Nat} (h : kd ≤ 5 ∨ 20 ≤ kd) : srtK kd = 2 ↔ kd = 4 ∨ kd = 5 := by
  unfold srtK
  constructor
  · intro h
    repeat (first | omega | split at h)
  · intro h
    rw [if_neg (by omega), if_neg (by omega), if_neg (by omega), if_neg (by omega), if_pos (by omega)]
/-- there is a fault to be thrown -/
def FA (f : Hp) : Prop := ∃ a b, f 301 = some (fC a b)
theorem FA.cell {f : Hp} (h : FA f) : ∃ fs, f 301 = some (.inl (1, fs)) := by obtain ⟨a, b, h⟩ := h; exact ⟨_, h⟩
theorem FA.up {f : Hp} {k : Nat} {e : E_} (h : FA f) (hk : k ≠ 301) : FA (up f k e) := by obtain ⟨a, b, h⟩ := h; exact ⟨a, b, (up_n (Ne.symm hk)).trans h⟩
set_option maxHeartbeats 4000000 in
theorem ct_faOf {G : GT} {Rel : Nat → Hp → Hp → Prop} (hR : RelOK Rel) {n : Nat} {f : Hp} {a b : Nat} (hF : FA f) : Ct G Rel yX1_of cX1_of 3 (some (.object "BackLogic$Fault")) (1) (0) [.ref 301, zI (a : Int), zI (b : Int)] n (f) (Pu (.ref 301) n (up f 301 (fC a b))) := by
  refine ct_intro [some (.ref 301), some (zI (a : Int)), some (zI (b : Int))] hR rfl (Nat.le_of_ble_eq_true rfl) ?_
  intro K hG hRel hK hRt hnm
  obtain ⟨a0, b0, h⟩ := hF
  refine r_aload_0 hK dX1_of_0 ?_
  refine r_iload_1 hK dX1_of_1 ?_
  refine r_put hK fl_X1_9 dX1_of_2 (h) (by simp) ?_
  refine r_aload_0 hK dX1_of_5 ?_
  refine r_iload_2 hK dX1_of_6 ?_
  refine r_put hK fl_X1_15 dX1_of_7 (up_s _ _ _) (by simp) ?_
  refine r_aload_0 hK dX1_of_10 ?_
  exact r_aret hK hRt dX1_of_11 ⟨rfl, rfl, by rw [up_up]; rfl⟩
set_option maxHeartbeats 4000000 in
theorem ct_pWrongAt {G : GT} {Rel : Nat → Hp → Hp → Prop} (hR : RelOK Rel) {n : Nat} {f : Hp} {nw t ng w wt a k M N : Nat} {X : Nat → Nat → Nat} (hP : f 310 = some (pC nw t ng w wt)) (hT : TF f X M N) (hF : FA f) (hk : k < M) : Ct G Rel yX3_wrongAt cX3_wrongAt 3 (some (.object "BackLogic$Fault")) (2) (0) [.ref 310, zI (a : Int), zI (k : Int)] n (f) (Pu (.ref 301) n (up f 301 (fC a (X 3 k)))) := by
  refine ct_intro [some (.ref 310), some (zI (a : Int)), some (zI (k : Int))] hR rfl (Nat.le_of_ble_eq_true rfl) ?_
  intro K hG hRel hK hRt hnm
  obtain ⟨tp, T, S, A, B, W, pa, pb, t1, t2, t3, t4, t5, t6, t7, t8, t9, t10⟩ := hT.at hk
  refine r_aload_0 hK dX3_wrongAt_0 ?_
  refine r_get hK fl_X3_43 dX3_wrongAt_1 (hP) rfl ?_
  refine r_iload_1 hK dX3_wrongAt_4 ?_
  refine r_aload_0 hK dX3_wrongAt_5 ?_
  refine r_get hK fl_X3_39 dX3_wrongAt_6 (hP) rfl ?_
  refine r_get hK fl_X3_47 dX3_wrongAt_9 (t1) rfl ?_
  refine r_iload_2 hK dX3_wrongAt_12 ?_
  refine r_sald hK dX3_wrongAt_13 t3.2.1 (by omega) ?_
  rw [t7.2.1]
  refine r_pV2 hK (ct_faOf hK.rel hF) lk_X3_53 (Rcv.raw hK.rel (Classical.choose_spec hF.cell) rfl) dX3_wrongAt_14 ?_
  exact r_aret hK hRt dX3_wrongAt_17 ⟨rfl, rfl, by rw [t6]⟩
set_option maxHeartbeats 4000000 in
theorem ct_pWrong {G : GT} {Rel : Nat → Hp → Hp → Prop} (hR : RelOK Rel) {n : Nat} {f : Hp} {nw t ng w wt a M N : Nat} {X : Nat → Nat → Nat} (hP : f 310 = some (pC nw t ng w wt)) (hT : TF f X M N) (hF : FA f) (hk : t < M) : Ct G Rel yX3_wrong cX3_wrong 2 (some (.object "BackLogic$Fault")) (3) (0) [.ref 310, zI (a : Int)] n (f) (Pu (.ref 301) n (up f 301 (fC a (X 3 t)))) := by
  refine ct_intro [some (.ref 310), some (zI (a : Int))] hR rfl (Nat.le_of_ble_eq_true rfl) ?_
  intro K hG hRel hK hRt hnm
  refine r_aload_0 hK dX3_wrong_0 ?_
  refine r_iload_1 hK dX3_wrong_1 ?_
  refine r_aload_0 hK dX3_wrong_2 ?_
  refine r_get hK fl_X3_59 dX3_wrong_3 (hP) rfl ?_
  refine r_pV2 hK (ct_pWrongAt hK.rel hP hT hF hk) lk_X3_63 (Rcv.raw hK.rel hP rfl) dX3_wrong_6 ?_
  exact r_aret hK hRt dX3_wrong_9 ⟨rfl, rfl, rfl⟩
set_option maxHeartbeats 4000000 in
theorem ct_pTell {G : GT} {Rel : Nat → Hp → Hp → Prop} (hR : RelOK Rel) {n : Nat} {f : Hp} {nw t ng w wt a k : Nat} (hP : f 310 = some (pC nw t ng w wt)) (hw : w < 100) (hwt : w ≠ 0 → wt < 100000) (ha : a < 100) (hk : k < 100000) : Ct G Rel yX3_tell cX3_tell 3 none (1) (0) [.ref 310, zI (a : Int), zI (k : Int)] n (f) (Pv n (up f 310 (pC nw t ng (tellS (w, wt) a k).1 (tellS (w, wt) a k).2))) := by
  refine ct_intro [some (.ref 310), some (zI (a : Int)), some (zI (k : Int))] hR rfl (Nat.le_of_ble_eq_true rfl) ?_
  intro K hG hRel hK hRt hnm
  have no : ¬ (w ≠ 0 ∧ (wt < k ∨ k = wt ∧ w ≤ a)) → Wx K 32 [some (.ref 310), some (zI (a : Int)), some (zI (k : Int))] [] n f 0 := by
    intro hno
    have e : tellS (w, wt) a k = (a, k) := if_neg hno
    rw [e] at hRt
    refine r_aload_0 hK dX3_tell_32 ?_
    refine r_iload_1 hK dX3_tell_33 ?_
    refine r_put hK fl_X3_66 dX3_tell_34 (hP) (by simp) ?_
    refine r_aload_0 hK dX3_tell_37 ?_
    refine r_iload_2 hK dX3_tell_38 ?_
    refine r_put hK fl_X3_69 dX3_tell_39 (up_s _ _ _) (by simp) ?_
    exact r_vret hK hRt dX3_tell_42 ⟨rfl, rfl, by rw [up_up]; rfl⟩
  have yes : (w ≠ 0 ∧ (wt < k ∨ k = wt ∧ w ≤ a)) → Wx K 31 [some (.ref 310), some (zI (a : Int)), some (zI (k : Int))] [] n f 0 := by
    intro hy
    have e : tellS (w, wt) a k = (w, wt) := if_pos hy
    rw [e] at hRt
    exact r_vret hK hRt dX3_tell_31 ⟨rfl, rfl, (up_self hP).symm⟩
  refine r_aload_0 hK dX3_tell_0 ?_
  refine r_get hK fl_X3_66 dX3_tell_1 (hP) rfl ?_
  refine r_if_eq 32 hK dX3_tell_4 (by omega) (fun h4 => ?_) (fun h4 => ?_)
  · exact no (by omega) --!
  · refine r_iload_2 hK dX3_tell_7 ?_
    refine r_aload_0 hK dX3_tell_8 ?_
    refine r_get hK fl_X3_69 dX3_tell_9 (hP) rfl ?_
    refine r_icmp_gt 31 hK dX3_tell_12 (by omega) (by omega) (fun h12 => ?_) (fun h12 => ?_)
    · exact yes (by omega) --!
    · refine r_iload_2 hK dX3_tell_15 ?_
      refine r_aload_0 hK dX3_tell_16 ?_
      refine r_get hK fl_X3_69 dX3_tell_17 (hP) rfl ?_
      refine r_icmp_ne 32 hK dX3_tell_20 (by omega) (by omega) (fun h20 => ?_) (fun h20 => ?_)
      · exact no (by omega) --!
      · refine r_iload_1 hK dX3_tell_23 ?_
        refine r_aload_0 hK dX3_tell_24 ?_
        refine r_get hK fl_X3_66 dX3_tell_25 (hP) rfl ?_
        refine r_icmp_lt 32 hK dX3_tell_28 (by omega) (by omega) (fun h28 => ?_) (fun h28 => ?_)
        · exact no (by omega) --!
        · exact yes (by omega)
set_option maxHeartbeats 4000000 in
theorem ct_pSort {G : GT} {Rel : Nat → Hp → Hp → Prop} (hR : RelOK Rel) {n : Nat} {f : Hp} {nw t ng w wt M N : Nat} {X : Nat → Nat → Nat} (hP : f 310 = some (pC nw t ng w wt)) (hT : TF f X M N) (hF : FA f) (hk : t < M) : Cx G Rel yX3_sort cX3_sort 1 (some .int) (4) (0) [.ref 310] n (f) (fun r n' f' => X 2 t ≠ 3 ∧ r = some (zI ((srtK (X 2 t) : Nat) : Int)) ∧ n' = n ∧ f' = f) (fun n' f' => X 2 t = 3 ∧ n' = n ∧ f' = up f 301 (fC 1 (X 3 t))) := by
  refine cx_intro [some (.ref 310)] hR rfl (Nat.le_of_ble_eq_true rfl) ?_
  intro K hG hRel hK hRt hRx hnm
  obtain ⟨tp, T, S, A, B, W, pa, pb, t1, t2, t3, t4, t5, t6, t7, t8, t9, t10⟩ := hT.at hk
  have hs := srt_lt (kd := X 2 t)
  have hs5 := srt_5 (kd := X 2 t)
  have e1 : S t = zI ((srtK (X 2 t) : Nat) : Int) := t7.1
  refine r_aload_0 hK dX3_sort_0 ?_
  refine r_get hK fl_X3_39 dX3_sort_1 (hP) rfl ?_
  refine r_get hK fl_X3_72 dX3_sort_4 (t1) rfl ?_
  refine r_aload_0 hK dX3_sort_7 ?_
  refine r_get hK fl_X3_59 dX3_sort_8 (hP) rfl ?_
  refine r_bald hK dX3_sort_11 t3.1 (by omega) ?_
  rw [e1]
  refine r_iconstN (c := 5) hK dX3_sort_12 ?_
  refine r_icmp_ne 22 hK dX3_sort_13 (by omega) (by omega) (fun h13 => ?_) (fun h13 => ?_)
  · refine r_aload_0 hK dX3_sort_22 ?_
    refine r_get hK fl_X3_39 dX3_sort_23 (hP) rfl ?_
    refine r_get hK fl_X3_72 dX3_sort_26 (t1) rfl ?_
    refine r_aload_0 hK dX3_sort_29 ?_
    refine r_get hK fl_X3_59 dX3_sort_30 (hP) rfl ?_
    refine r_bald hK dX3_sort_33 t3.1 (by omega) ?_
    rw [e1]
    exact r_iret hK hRt dX3_sort_34 ⟨fun q => by have := hs5.mpr q; omega, rfl, rfl, rfl⟩
  · refine r_aload_0 hK dX3_sort_16 ?_
    refine r_iconstN (c := 1) hK dX3_sort_17 ?_
    refine r_pV1 hK (ct_pWrong hK.rel hP hT hF hk) lk_X3_76 (Rcv.raw hK.rel hP rfl) dX3_sort_18 ?_
    exact r_throw hK hRx dX3_sort_21 ⟨hs5.mp (by omega), rfl, rfl⟩ ⟨_, up_s _ _ _⟩
set_option maxHeartbeats 4000000 in
theorem ct_pPass {G : GT} {Rel : Nat → Hp → Hp → Prop} (hR : RelOK Rel) {n : Nat} {f : Hp} {nw t ng w wt M N : Nat} {X : Nat → Nat → Nat} (hP : f 310 = some (pC nw t ng w wt)) (hT : TF f X M N) (hF : FA f) (hk : t < M) (h400 : t ≤ 400) : Cx G Rel yX3_pass cX3_pass 1 none (4) (0) [.ref 310] n (f) (fun r n' f' => pPass X t = .inr (t + 1) ∧ t + 1 ≤ 400 ∧ r = none ∧ n' = n ∧ f' = up f 310 (pC nw (t + 1) ng w wt)) (fun n' f' => ∃ e, pPass X t = .inl e ∧ n' = n ∧ f' = up f 301 (fC e.1 e.2)) := by
  refine cx_intro [some (.ref 310)] hR rfl (Nat.le_of_ble_eq_true rfl) ?_
  intro K hG hRel hK hRt hRx hnm
  refine r_aload_0 hK dX3_pass_0 ?_
  refine r_get hK fl_X3_59 dX3_pass_1 (hP) rfl ?_
  refine r_sipushN (c := 400) hK dX3_pass_4 ?_
  refine r_icmp_lt 16 hK dX3_pass_7 (by omega) (by omega) (fun h7 => ?_) (fun h7 => ?_)
  · refine r_aload_0 hK dX3_pass_16 ?_
    refine r_dup hK dX3_pass_17 ?_
    refine r_get hK fl_X3_59 dX3_pass_18 (hP) rfl ?_
    refine r_iconstN (c := 1) hK dX3_pass_21 ?_
    first | refine r_iaddN hK dX3_pass_22 ?_ | refine r_iadd hK dX3_pass_22 ?_
    refine r_put hK fl_X3_59 dX3_pass_23 (hP) (by simp) ?_
    exact r_vret hK hRt dX3_pass_26 ⟨by unfold pPass; rw [if_neg (by omega)], by omega, rfl, rfl, rfl⟩
  · refine r_aload_0 hK dX3_pass_10 ?_
    refine r_iconstN (c := 2) hK dX3_pass_11 ?_
    refine r_pV1 hK (ct_pWrong hK.rel hP hT hF hk) lk_X3_76 (Rcv.raw hK.rel hP rfl) dX3_pass_12 ?_
    exact r_throw hK hRx dX3_pass_15 ⟨(2, X 3 t), by unfold pPass; rw [if_pos (by omega)], rfl, rfl⟩ ⟨_, up_s _ _ _⟩
set_option maxHeartbeats 4000000 in
theorem ct_pTake {G : GT} {Rel : Nat → Hp → Hp → Prop} (hR : RelOK Rel) {n : Nat} {f : Hp} {nw t ng w wt s kd M N : Nat} {X : Nat → Nat → Nat} (hP : f 310 = some (pC nw t ng w wt)) (hT : TF f X M N) (hF : FA f) (hk : t < M) (h400 : t ≤ 400) (hs : s < 6) (hkd : ∀ k, srtK k = s ↔ k = kd) (h3 : kd ≠ 3) : Cx G Rel yX3_take cX3_take 2 (some .int) (5) (0) [.ref 310, zI (s : Int)] n (f) (fun r n' f' => pMust X kd t = .inr (t + 1) ∧ X 2 t = kd ∧ t + 1 ≤ 400 ∧ r = some (zI (t : Int)) ∧ n' = n ∧ f' = up f 310 (pC nw (t + 1) ng w wt)) (fun n' f' => ∃ e, pMust X kd t = .inl e ∧ n' = n ∧ f' = up f 301 (fC e.1 e.2)) := by
  refine cx_intro [some (.ref 310), some (zI (s : Int))] hR rfl (Nat.le_of_ble_eq_true rfl) ?_
  intro K hG hRel hK hRt hRx hnm
  have hs1 := srt_lt (kd := X 2 t)
  have hks := hkd (X 2 t)
  refine r_aload_0 hK dX3_take_0 ?_
  refine r_xV0 hK hRx (ct_pSort hK.rel hP hT hF hk) lk_X3_80 (Rcv.raw hK.rel hP rfl) dX3_take_1 (fun n1 f1 hx => ?_) (fun r n1 f1 hp => ?_)
  · obtain ⟨x1, rfl, rfl⟩ := hx
    exact ⟨⟨(1, X 3 t), by unfold pMust; rw [if_neg (by omega)], rfl, rfl⟩, _, up_s _ _ _⟩
  obtain ⟨p1, rfl, rfl, rfl⟩ := hp
  refine r_iload_1 hK dX3_take_4 ?_
  refine r_icmp_eq 14 hK dX3_take_5 (by omega) (by omega) (fun h5 => ?_) (fun h5 => ?_)
  · refine r_aload_0 hK dX3_take_14 ?_
    have hkt : X 2 t = kd := hks.mp (by omega)
    refine r_xV0 hK hRx (ct_pPass hK.rel hP hT hF hk h400) lk_X3_83 (Rcv.raw hK.rel hP rfl) dX3_take_15 (fun n1 f1 hx => ?_) (fun r n1 f1 hp => ?_)
    · obtain ⟨e, x1, rfl, rfl⟩ := hx
      exact ⟨⟨e, by unfold pMust; rw [if_pos hkt]; exact x1, rfl, rfl⟩, _, up_s _ _ _⟩
    obtain ⟨p2, p3, rfl, rfl, rfl⟩ := hp
    refine r_aload_0 hK dX3_take_18 ?_
    refine r_get hK fl_X3_59 dX3_take_19 (up_s _ _ _) rfl ?_
    refine r_iconstN (c := 1) hK dX3_take_22 ?_
    first | refine r_isubN hK dX3_take_23 (by omega) ?_ | refine r_isub hK dX3_take_23 ?_
    exact r_iret hK hRt dX3_take_24 ⟨by unfold pMust; rw [if_pos hkt]; exact p2, hkt, p3, rfl, rfl, rfl⟩
  · refine r_aload_0 hK dX3_take_8 ?_
    refine r_iconstN (c := 1) hK dX3_take_9 ?_
    refine r_pV1 hK (ct_pWrong hK.rel hP hT hF hk) lk_X3_76 (Rcv.raw hK.rel hP rfl) dX3_take_10 ?_
    exact r_throw hK hRx dX3_take_13 ⟨(1, X 3 t), by unfold pMust; rw [if_neg (fun q => h5 (by have := hks.mpr q; omega))], rfl, rfl⟩ ⟨_, up_s _ _ _⟩
theorem ct_pSg {G : GT} {Rel : Nat → Hp → Hp → Prop} (hR : RelOK Rel) {n : Nat} {f : Hp} {X : Nat → Nat → Nat} {M N k e kd : Nat} (hT : TF f X M N) (hk : k < M) (he : e = 59 ∧ kd = 4 ∨ e = 45 ∧ kd = 5) : Ct G Rel yX2_isSign cX2_isSign 3 (some .boolean) 1 0 [.ref 302, zI (k : Int), zI (e : Int)] n f (Pu (zB (X 2 k = kd)) n f) := by
  obtain ⟨tp, T, S, A, B, W, pa, pb, t1, t2, t3, t4, t5, t6, t7, t8, t9, t10⟩ := hT.at hk
  have h2 := srt_2 (kd := X 2 k) t9.2
  have e4 : zB (srtK (X 2 k) = 2 ∧ (if X 2 k = 4 then 59 else 45) = e) = zB (X 2 k = kd) := zB_iff (by
    rw [h2]
    by_cases c : X 2 k = 4
    · rw [if_pos c]; omega
    · rw [if_neg c]; omega)
  have := ct_kSign (G := G) (n := n) hR (s := srtK (X 2 k)) (c := if X 2 k = 4 then 59 else 45) (e := e) t1 t3 (by omega) srt_lt t7.1 (fun q => by
    rcases h2.mp q with z | z
    · rw [if_pos z]; exact t7.2.2.2.2.1 z
    · rw [if_neg (by omega)]; exact t7.2.2.2.2.2 z) (by split <;> decide) (by omega)
  rw [e4] at this
  exact this
theorem TF.tok {f : Hp} {X : Nat → Nat → Nat} {M N : Nat} (h : TF f X M N) : ∃ fs, f 302 = some (.inl (2, fs)) := by
  obtain ⟨tp, T, S, A, B, W, h1, h2, h3, h4, h5, h6, h7, h8, h9, h10⟩ := h
  exact ⟨_, h7⟩
theorem TF.rcv {f : Hp} {X : Nat → Nat → Nat} {M N n : Nat} {Rel : Nat → Hp → Hp → Prop} (hR : RelOK Rel) (h : TF f X M N) : Rcv Rel RX2 n f 302 := by
  obtain ⟨fs, h⟩ := h.tok
  exact Rcv.raw hR h rfl
/-- names and numbers of tokens -/
theorem TF.nm {f : Hp} {X : Nat → Nat → Nat} {M N : Nat} (h : TF f X M N) : ∃ (tp : Nat) (T : Nat → Nat) (S A B W : Nat → Value), TKo f tp M ∧ TKt f T ∧ TKa f S A B W ∧ (∀ i, T i < 256) ∧ M ≤ 2001 ∧ tp ≤ 2000 ∧ ∀ k, k < M → ∃ a b : Nat, A k = zI ((a : Nat) : Int) ∧ B k = zI ((b : Nat) : Int) ∧ X 4 k = vlT (Bt tp T) a b ∧ X 5 k = nmT (Bt tp T) a b ∧ LT_ tp (Bt tp T) (X 2 k, a, b) := by
  obtain ⟨tp, T, S, A, B, W, h1, h2, h3, h4, h5, h6, h7, h8, h9, h10⟩ := h
  refine ⟨tp, T, S, A, B, W, h7, h8, h9, h5, h6, h4, fun k hk => ?_⟩
  have hk' := hk
  rw [h2] at hk'
  obtain ⟨c1, c2⟩ := cutB_at (lex tp T) k hk'
  obtain ⟨⟨kd, a, b⟩, ht⟩ : ∃ t, (cutB (lex tp T))[k]? = some t := ⟨_, List.getElem?_eq_getElem hk'⟩
  have ht2 := ht
  rw [c1] at ht2
  have hx := tkX_at ht2
  have hok := h10 k (kd, a, b) ht
  have hlt := lexF_lt (n := tp) (T := T) (tp + 1) 0 (by omega) (kd, a, b) (List.mem_of_getElem? ht2)
  refine ⟨a, b, hok.2.1, hok.2.2.1, ?_, ?_, ?_⟩
  · rw [h1]; exact hx.2.2.1
  · rw [h1]; exact hx.2.2.2
  · rw [h1, hx.1]; exact hlt
theorem vl_ext {B B' : Nat → Nat} {i : Nat} : ∀ m, (∀ j, j < m → B (i + j) = B' (i + j)) → vlF B i m = vlF B' i m
  | 0, _ => rfl
  | m + 1, h => by
    show 10 * vlF B i m + (B (i + m) - 48) = 10 * vlF B' i m + (B' (i + m) - 48)
    rw [vl_ext m (fun j hj => h j (by omega)), h m (by omega)]
theorem Bt_T {tp : Nat} {T : Nat → Nat} {i : Nat} (h : Bt tp T i ≠ 0) : Bt tp T i = T i := by
  have := Bt_in h
  unfold Bt; rw [if_pos this]
theorem ct_pNum {G : GT} {Rel : Nat → Hp → Hp → Prop} (hR : RelOK Rel) {n : Nat} {f : Hp} {X : Nat → Nat → Nat} {M N k : Nat} (hT : TF f X M N) (hk : k < M) (h2 : X 2 k = 2) : Ct G Rel yX2_number cX2_number 4 (some .int) 1 0 [.ref 302, zI (k : Int)] n f (Pu (zI ((X 4 k : Nat) : Int)) n f) := by
  obtain ⟨tp, T, S, A, B, W, t1, t2, t3, t4, t5, t6, tk⟩ := hT.nm
  obtain ⟨a, b, t10, t11, t12, t13, t14⟩ := tk k hk
  obtain ⟨l1, l2, l3, l4, l5⟩ := t14.2.2 h2
  have l1 : a ≤ b := l1
  have l2 : b ≤ tp := l2
  have l3 : b ≤ a + 4 := l3
  have l4 : 0 < b - a := l4
  have l5 : ∀ j, j < b - a → isD (Bt tp T (a + j)) := l5
  have eT : ∀ j, j < b - a → Bt tp T (a + j) = T (a + j) := fun j hj => Bt_T (by have := l5 j hj; omega)
  have e : X 4 k = vlF T a (b - a) := by
    rw [t12]
    unfold vlT
    have h0 : isD (Bt tp T a) := l5 0 (by omega)
    rw [if_pos h0, Nat.min_eq_left (by omega)]
    exact vl_ext _ eT
  rw [e]
  exact ct_kNum hR t1 t2 t3 (by omega) t10 t11 (by omega) (fun j hj => by rw [← eT j hj]; exact l5 j hj)
theorem ct_pAl {G : GT} {Rel : Nat → Hp → Hp → Prop} (hR : RelOK Rel) {n : Nat} {f : Hp} {X : Nat → Nat → Nat} {M N j k : Nat} (hT : TF f X M N) (hj : j < M) (hk : k < M) (h1 : X 2 j = 1) (h2 : X 2 k = 1) : Ct G Rel yX2_isAlike cX2_isAlike 4 (some .boolean) 1 0 [.ref 302, zI (j : Int), zI (k : Int)] n f (Pu (zB (X 5 j = X 5 k)) n f) := by
  obtain ⟨tp, T, S, A, B, W, t1, t2, t3, t4, t5, t6, tk⟩ := hT.nm
  obtain ⟨a, b, a10, a11, a12, a13, a14⟩ := tk j hj
  obtain ⟨a', b', b10, b11, b12, b13, b14⟩ := tk k hk
  obtain ⟨l1, l2, l3, l4, l5⟩ := a14.2.1 h1
  obtain ⟨m1, m2, m3, m4, m5⟩ := b14.2.1 h2
  have l1 : a ≤ b := l1
  have l2 : b ≤ tp := l2
  have l3 : b - a ≤ 8 := l3
  have l4 : 0 < b - a := l4
  have l5 : ∀ j, j < b - a → isL (Bt tp T (a + j)) := l5
  have m1 : a' ≤ b' := m1
  have m2 : b' ≤ tp := m2
  have m3 : b' - a' ≤ 8 := m3
  have m4 : 0 < b' - a' := m4
  have m5 : ∀ j, j < b' - a' → isL (Bt tp T (a' + j)) := m5
  have eT : ∀ j, j < b - a → Bt tp T (a + j) = T (a + j) := fun j hj => Bt_T (by have := l5 j hj; omega)
  have eT' : ∀ j, j < b' - a' → Bt tp T (a' + j) = T (a' + j) := fun j hj => Bt_T (by have := m5 j hj; omega)
  have e1 : X 5 j = nmF (Bt tp T) a (b - a) := by
    rw [a13]; unfold nmT
    have h0 : isL (Bt tp T a) := l5 0 (by omega)
    rw [if_pos h0, Nat.min_eq_left (by omega)]
  have e2 : X 5 k = nmF (Bt tp T) a' (b' - a') := by
    rw [b13]; unfold nmT
    have h0 : isL (Bt tp T a') := m5 0 (by omega)
    rw [if_pos h0, Nat.min_eq_left (by omega)]
  have e3 : zB (b - a = b' - a' ∧ ∀ j, j < b - a → T (a + j) = T (a' + j)) = zB (X 5 j = X 5 k) := zB_iff (by
    rw [e1, e2]
    constructor
    · rintro ⟨q1, q2⟩
      rw [← q1]
      exact nm_ext _ (fun i hi => by rw [eT i hi, eT' i (by omega), q2 i hi])
    · intro q
      obtain ⟨q1, q2⟩ := nm_inj _ _ l5 m5 q
      exact ⟨q1, fun i hi => by rw [← eT i hi, ← eT' i (by omega), q2 i hi]⟩)
  have := ct_kAlike (G := G) (n := n) hR t1 t2 t4 t3 (by omega) (by omega) a10 a11 b10 b11 (by omega) (by omega)
  rw [e3] at this
  exact this
set_option maxHeartbeats 4000000 in
theorem ct_pStop {G : GT} {Rel : Nat → Hp → Hp → Prop} (hR : RelOK Rel) {n : Nat} {f : Hp} {nw t ng w wt M N : Nat} {X : Nat → Nat → Nat} (hP : f 310 = some (pC nw t ng w wt)) (hT : TF f X M N) (hF : FA f) (hk : t < M) (h400 : t ≤ 400) : Cx G Rel yX3_stop cX3_stop 1 (some .int) (5) (0) [.ref 310] n (f) (fun r n' f' => pMust X 4 t = .inr (t + 1) ∧ X 2 t = 4 ∧ t + 1 ≤ 400 ∧ r = some (zI (t : Int)) ∧ n' = n ∧ f' = up f 310 (pC nw (t + 1) ng w wt)) (fun n' f' => ∃ e, pMust X 4 t = .inl e ∧ n' = n ∧ f' = up f 301 (fC e.1 e.2)) := by
  refine cx_intro [some (.ref 310)] hR rfl (Nat.le_of_ble_eq_true rfl) ?_
  intro K hG hRel hK hRt hRx hnm
  refine r_aload_0 hK dX3_stop_0 ?_
  refine r_xV0 hK hRx (ct_pSort hK.rel hP hT hF hk) lk_X3_80 (Rcv.raw hK.rel hP rfl) dX3_stop_1 (fun n1 f1 hx => ?_) (fun r n1 f1 hp => ?_)
  · obtain ⟨x1, rfl, rfl⟩ := hx
    exact ⟨⟨(1, X 3 t), by unfold pMust; rw [if_neg (by omega)], rfl, rfl⟩, _, up_s _ _ _⟩
  obtain ⟨p1, rfl, rfl, rfl⟩ := hp
  refine r_pop hK dX3_stop_4 ?_
  refine r_aload_0 hK dX3_stop_5 ?_
  refine r_get hK fl_X3_39 dX3_stop_6 (hP) rfl ?_
  refine r_aload_0 hK dX3_stop_9 ?_
  refine r_get hK fl_X3_59 dX3_stop_10 (hP) rfl ?_
  refine r_bipushN (c := 59) hK dX3_stop_13 ?_
  refine r_pV2 hK (ct_pSg hK.rel hT hk (kd := 4) (Or.inl ⟨rfl, rfl⟩)) lk_X3_86 (hT.rcv hK.rel) dX3_stop_15 ?_
  refine r_ifB_ne 27 hK dX3_stop_18 (fun h18 => ?_) (fun h18 => ?_)
  · refine r_aload_0 hK dX3_stop_27 ?_
    refine r_xV0 hK hRx (ct_pPass hK.rel hP hT hF hk h400) lk_X3_83 (Rcv.raw hK.rel hP rfl) dX3_stop_28 (fun n1 f1 hx => ?_) (fun r n1 f1 hp => ?_)
    · obtain ⟨e, x1, rfl, rfl⟩ := hx
      exact ⟨⟨e, by unfold pMust; rw [if_pos h18]; exact x1, rfl, rfl⟩, _, up_s _ _ _⟩
    obtain ⟨p2, p3, rfl, rfl, rfl⟩ := hp
    refine r_aload_0 hK dX3_stop_31 ?_
    refine r_get hK fl_X3_59 dX3_stop_32 (up_s _ _ _) rfl ?_
    refine r_iconstN (c := 1) hK dX3_stop_35 ?_
    first | refine r_isubN hK dX3_stop_36 (by omega) ?_ | refine r_isub hK dX3_stop_36 ?_
    exact r_iret hK hRt dX3_stop_37 ⟨by unfold pMust; rw [if_pos h18]; exact p2, h18, p3, rfl, rfl, rfl⟩
  · refine r_aload_0 hK dX3_stop_21 ?_
    refine r_iconstN (c := 1) hK dX3_stop_22 ?_
    refine r_pV1 hK (ct_pWrong hK.rel hP hT hF hk) lk_X3_76 (Rcv.raw hK.rel hP rfl) dX3_stop_23 ?_
    exact r_throw hK hRx dX3_stop_26 ⟨(1, X 3 t), by unfold pMust; rw [if_neg h18], rfl, rfl⟩ ⟨_, up_s _ _ _⟩
theorem TF.next {f : Hp} {X : Nat → Nat → Nat} {M N t : Nat} (h : TF f X M N) (hk : t < M) (h3 : X 2 t ≠ 3) (h0 : X 2 t ≠ 0) : t + 1 < M := by
  obtain ⟨tp, T, S, A, B, W, pa, pb, t1, t2, t3, t4, t5, t6, t7, t8, t9, t10, t11⟩ := h.at hk
  exact t11 h3 h0
set_option maxHeartbeats 4000000 in
theorem ct_pCtl {G : GT} {Rel : Nat → Hp → Hp → Prop} (hR : RelOK Rel) {n : Nat} {f : Hp} {nw t ng w wt M N : Nat} {X : Nat → Nat → Nat} (hP : f 310 = some (pC nw t ng w wt)) (hT : TF f X M N) (hF : FA f) (hk : t < M) (h400 : t ≤ 400) : Cx G Rel yX3_controls cX3_controls 2 none (6) (0) [.ref 310] n (f) (fun r n' f' => ∃ t', pCtl X 3 t = .inr t' ∧ t' < M ∧ t' ≤ 400 ∧ r = none ∧ n' = n ∧ f' = up f 310 (pC nw t' ng w wt)) (fun n' f' => ∃ e t', bd (pCtl X 3 t) (pMust X 4) = .inl e ∧ n' = n ∧ f' = up (up f 310 (pC nw t' ng w wt)) 301 (fC e.1 e.2)) := by
  refine cx_intro [some (.ref 310), none] hR rfl (Nat.le_of_ble_eq_true rfl) ?_
  intro K hG hRel hK hRt hRx hnm
  obtain ⟨R, hR0⟩ : ∃ R, R = pCtl X 3 t := ⟨_, rfl⟩
  rw [← hR0] at hRt hRx
  have lp : ∀ (m c t1 : Nat), c + m = 3 → t1 < M → t1 ≤ 400 → pCtl X m t1 = R → Wx K 2 [some (.ref 310), some (zI (c : Int))] [] n (up f 310 (pC nw t1 ng w wt)) 0 := by
    intro m
    induction m with
    | zero =>
      intro c t1 hc ht1 h400 he
      have hP1 : up f 310 (pC nw t1 ng w wt) 310 = some (pC nw t1 ng w wt) := up_s _ _ _
      have hT1 : TF (up f 310 (pC nw t1 ng w wt)) X M N := hT.up (by decide)
      have hF1 : FA (up f 310 (pC nw t1 ng w wt)) := hF.up (by decide)
      have hs0 := srt_0 (kd := X 2 t1)
      have hs6 := srt_lt (kd := X 2 t1)
      have e0 : pCtl X 0 t1 = if X 2 t1 = 5 ∨ X 2 t1 = 1 then .inl (2, X 3 t1) else .inr t1 := rfl
      rw [e0] at he
      have bad : X 2 t1 = 5 ∨ X 2 t1 = 1 → Wx K 25 [some (.ref 310), some (zI (c : Int))] [] n (up f 310 (pC nw t1 ng w wt)) 0 := by
        intro hb
        rw [if_pos hb] at he
        refine r_iload_1 hK dX3_controls_25 ?_
        refine r_iconstN (c := 3) hK dX3_controls_26 ?_
        refine r_icmp_ne 36 hK dX3_controls_27 (by omega) (by omega) (fun h27 => ?_) (fun h27 => ?_)
        · omega --!
        · refine r_aload_0 hK dX3_controls_30 ?_
          refine r_iconstN (c := 2) hK dX3_controls_31 ?_
          refine r_pV1 hK (ct_pWrong hK.rel hP1 hT1 hF1 ht1) lk_X3_76 (Rcv.raw hK.rel hP1 rfl) dX3_controls_32 ?_
          exact r_throw hK hRx dX3_controls_35 ⟨(2, X 3 t1), t1, by rw [← he]; rfl, rfl, rfl⟩ ⟨_, up_s _ _ _⟩
      refine r_aload_0 hK dX3_controls_2 ?_
      refine r_xV0 hK hRx (ct_pSort hK.rel hP1 hT1 hF1 ht1) lk_X3_80 (Rcv.raw hK.rel hP1 rfl) dX3_controls_3 (fun n1 f1 hx => ?_) (fun r n1 f1 hp => ?_)
      · obtain ⟨x1, rfl, rfl⟩ := hx
        rw [if_neg (by omega)] at he
        exact ⟨⟨(1, X 3 t1), t1, by rw [← he]; show pMust X 4 t1 = _; unfold pMust; rw [if_neg (by omega)], rfl, rfl⟩, _, up_s _ _ _⟩
      obtain ⟨p1, rfl, rfl, rfl⟩ := hp
      refine r_if_eq 25 hK dX3_controls_6 (by omega) (fun h6 => ?_) (fun h6 => ?_)
      · exact bad (Or.inr (hs0.mp (by omega))) --!
      · refine r_aload_0 hK dX3_controls_9 ?_
        refine r_get hK fl_X3_39 dX3_controls_10 (hP1) rfl ?_
        refine r_aload_0 hK dX3_controls_13 ?_
        refine r_get hK fl_X3_59 dX3_controls_14 (hP1) rfl ?_
        refine r_bipushN (c := 45) hK dX3_controls_17 ?_
        refine r_pV2 hK (ct_pSg hK.rel hT1 ht1 (kd := 5) (Or.inr ⟨rfl, rfl⟩)) lk_X3_86 (hT1.rcv hK.rel) dX3_controls_19 ?_
        refine r_ifB_eq 68 hK dX3_controls_22 (fun h22 => ?_) (fun h22 => ?_)
        · rw [if_neg (fun q => by rcases q with q | q; exact h22 q; have := hs0.mpr q; omega)] at he
          exact r_vret hK hRt dX3_controls_68 ⟨t1, he.symm, ht1, h400, rfl, rfl, rfl⟩
        · exact bad (Or.inl h22) --!
    | succ m ih =>
      intro c t1 hc ht1 h400 he
      have hP1 : up f 310 (pC nw t1 ng w wt) 310 = some (pC nw t1 ng w wt) := up_s _ _ _
      have hT1 : TF (up f 310 (pC nw t1 ng w wt)) X M N := hT.up (by decide)
      have hF1 : FA (up f 310 (pC nw t1 ng w wt)) := hF.up (by decide)
      have hs0 := srt_0 (kd := X 2 t1)
      have hs6 := srt_lt (kd := X 2 t1)
      have e0 : pCtl X (m + 1) t1 = if X 2 t1 = 5 ∨ X 2 t1 = 1 then bd (bd (if X 2 t1 = 5 then pPass X t1 else .inr t1) (pMust X 1)) (pCtl X m) else .inr t1 := rfl
      rw [e0] at he
      have tk : ∀ t2 : Nat, t2 < M → t2 ≤ 400 → bd (pMust X 1 t2) (pCtl X m) = R → Wx K 56 [some (.ref 310), some (zI (c : Int))] [] n (up f 310 (pC nw t2 ng w wt)) 0 := by
        intro t2 ht2 h4002 he2
        have hP2 : up f 310 (pC nw t2 ng w wt) 310 = some (pC nw t2 ng w wt) := up_s _ _ _
        have hT2 : TF (up f 310 (pC nw t2 ng w wt)) X M N := hT.up (by decide)
        have hF2 : FA (up f 310 (pC nw t2 ng w wt)) := hF.up (by decide)
        refine r_aload_0 hK dX3_controls_56 ?_
        refine r_iconstN (c := 0) hK dX3_controls_57 ?_
        refine r_xV1 hK hRx (ct_pTake hK.rel hP2 hT2 hF2 ht2 h4002 (s := 0) (kd := 1) (by decide) (fun k => srt_0) (by decide)) lk_X3_136 (Rcv.raw hK.rel hP2 rfl) dX3_controls_58 (fun n1 f1 hx => ?_) (fun r n1 f1 hp => ?_)
        · obtain ⟨e, x1, rfl, rfl⟩ := hx
          exact ⟨⟨e, t2, by rw [← he2, x1]; rfl, rfl, rfl⟩, _, up_s _ _ _⟩
        obtain ⟨p1, p2, p3, rfl, rfl, rfl⟩ := hp
        rw [up_up]
        refine r_pop hK dX3_controls_61 ?_
        first | refine r_incN_1 hK dX3_controls_62 ?_ | refine r_iinc_1 hK dX3_controls_62 ?_
        refine r_goto 2 hK dX3_controls_65 ?_
        exact ih (c + 1) (t2 + 1) (by omega) (hT2.next ht2 (by omega) (by omega)) p3 (by rw [← he2, p1]; rfl)
      have good : X 2 t1 = 5 ∨ X 2 t1 = 1 → Wx K 25 [some (.ref 310), some (zI (c : Int))] [] n (up f 310 (pC nw t1 ng w wt)) 0 := by
        intro hb
        rw [if_pos hb] at he
        refine r_iload_1 hK dX3_controls_25 ?_
        refine r_iconstN (c := 3) hK dX3_controls_26 ?_
        refine r_icmp_ne 36 hK dX3_controls_27 (by omega) (by omega) (fun h27 => ?_) (fun h27 => ?_)
        · refine r_aload_0 hK dX3_controls_36 ?_
          refine r_get hK fl_X3_39 dX3_controls_37 (hP1) rfl ?_
          refine r_aload_0 hK dX3_controls_40 ?_
          refine r_get hK fl_X3_59 dX3_controls_41 (hP1) rfl ?_
          refine r_bipushN (c := 45) hK dX3_controls_44 ?_
          refine r_pV2 hK (ct_pSg hK.rel hT1 ht1 (kd := 5) (Or.inr ⟨rfl, rfl⟩)) lk_X3_86 (hT1.rcv hK.rel) dX3_controls_46 ?_
          refine r_ifB_eq 56 hK dX3_controls_49 (fun h49 => ?_) (fun h49 => ?_)
          · rw [if_neg h49] at he
            exact tk t1 ht1 h400 he --!
          · rw [if_pos h49] at he
            refine r_aload_0 hK dX3_controls_52 ?_
            refine r_xV0 hK hRx (ct_pPass hK.rel hP1 hT1 hF1 ht1 h400) lk_X3_83 (Rcv.raw hK.rel hP1 rfl) dX3_controls_53 (fun n1 f1 hx => ?_) (fun r n1 f1 hp => ?_)
            · obtain ⟨e, x1, rfl, rfl⟩ := hx
              exact ⟨⟨e, t1, by rw [← he, x1]; rfl, rfl, rfl⟩, _, up_s _ _ _⟩
            obtain ⟨p1, p2, rfl, rfl, rfl⟩ := hp
            rw [up_up]
            exact tk (t1 + 1) (hT1.next ht1 (by omega) (by omega)) p2 (by rw [← he, p1]; rfl)
        · omega --!
      refine r_aload_0 hK dX3_controls_2 ?_
      refine r_xV0 hK hRx (ct_pSort hK.rel hP1 hT1 hF1 ht1) lk_X3_80 (Rcv.raw hK.rel hP1 rfl) dX3_controls_3 (fun n1 f1 hx => ?_) (fun r n1 f1 hp => ?_)
      · obtain ⟨x1, rfl, rfl⟩ := hx
        rw [if_neg (by omega)] at he
        exact ⟨⟨(1, X 3 t1), t1, by rw [← he]; show pMust X 4 t1 = _; unfold pMust; rw [if_neg (by omega)], rfl, rfl⟩, _, up_s _ _ _⟩
      obtain ⟨p1, rfl, rfl, rfl⟩ := hp
      refine r_if_eq 25 hK dX3_controls_6 (by omega) (fun h6 => ?_) (fun h6 => ?_)
      · exact good (Or.inr (hs0.mp (by omega))) --!
      · refine r_aload_0 hK dX3_controls_9 ?_
        refine r_get hK fl_X3_39 dX3_controls_10 (hP1) rfl ?_
        refine r_aload_0 hK dX3_controls_13 ?_
        refine r_get hK fl_X3_59 dX3_controls_14 (hP1) rfl ?_
        refine r_bipushN (c := 45) hK dX3_controls_17 ?_
        refine r_pV2 hK (ct_pSg hK.rel hT1 ht1 (kd := 5) (Or.inr ⟨rfl, rfl⟩)) lk_X3_86 (hT1.rcv hK.rel) dX3_controls_19 ?_
        refine r_ifB_eq 68 hK dX3_controls_22 (fun h22 => ?_) (fun h22 => ?_)
        · rw [if_neg (fun q => by rcases q with q | q; exact h22 q; have := hs0.mpr q; omega)] at he
          exact r_vret hK hRt dX3_controls_68 ⟨t1, he.symm, ht1, h400, rfl, rfl, rfl⟩
        · exact good (Or.inl h22) --!
  refine r_iconstN (c := 0) hK dX3_controls_0 ?_
  refine r_istore_1 hK dX3_controls_1 ?_
  have := lp 3 0 t rfl hk h400 hR0.symm
  rw [up_self hP] at this
  exact this
/-- the wires' names, by their tokens -/
def NM (f : Hp) (X : Nat → Nat → Nat) (M : Nat) (wl : List Nat) : Prop := wl.length ≤ 4 ∧ (∀ j ∈ wl, j < M ∧ X 2 j = 1) ∧ ∃ hn : Nat → Value, f 316 = some (.inr (0, 4, hn)) ∧ ∀ i, i < wl.length → hn i = zI ((wl.getD i 0 : Nat) : Int)
theorem NM.kp {f f' : Hp} {X : Nat → Nat → Nat} {M : Nat} {wl : List Nat} (h : NM f X M wl) (hk : f' 316 = f 316) : NM f' X M wl := ⟨h.1, h.2.1, by rw [hk]; exact h.2.2⟩
set_option maxHeartbeats 4000000 in
theorem ct_pFind {G : GT} {Rel : Nat → Hp → Hp → Prop} (hR : RelOK Rel) {n : Nat} {f : Hp} {t ng w wt k M N : Nat} {wl : List Nat} {X : Nat → Nat → Nat} (hP : f 310 = some (pC wl.length t ng w wt)) (hT : TF f X M N) (hN : NM f X M wl) (hk : k < M) (hk1 : X 2 k = 1) : Ct G Rel yX3_find cX3_find 3 (some .int) (2) (0) [.ref 310, zI (k : Int)] n (f) (Pu (zI (oI (fndF X (X 5 k) wl 0))) n f) := by
  refine ct_intro [some (.ref 310), some (zI (k : Int)), none] hR rfl (Nat.le_of_ble_eq_true rfl) ?_
  intro K hG hRel hK hRt hnm
  obtain ⟨h4, hwl, hn, hA, hV⟩ := hN
  have lp : ∀ (l : List Nat) (c : Nat), wl.drop c = l → c + l.length = wl.length → fndF X (X 5 k) wl 0 = fndF X (X 5 k) l c → Wx K 2 [some (.ref 310), some (zI (k : Int)), some (zI (c : Int))] [] n f 0 := by
    intro l
    induction l with
    | nil =>
      intro c hd hc he
      have hc : c = wl.length := hc
      refine r_iload_2 hK dX3_find_2 ?_
      refine r_aload_0 hK dX3_find_3 ?_
      refine r_get hK fl_X3_105 dX3_find_4 (hP) rfl ?_
      refine r_icmp_ge 35 hK dX3_find_7 (by omega) (by omega) (fun h7 => ?_) (fun h7 => ?_)
      · refine r_iconst hK dX3_find_35 ?_
        refine r_iret hK hRt dX3_find_36 ⟨?_, rfl, rfl⟩
        rw [he]; rfl
      · omega --!
    | cons j l ih =>
      intro c hd hc he
      have hc' : c < wl.length := by rw [List.length_cons] at hc; omega
      have hj : wl.getD c 0 = j := by
        have := List.getElem_cons_drop hc'
        rw [hd] at this
        rw [List.getD_eq_getElem?_getD, List.getElem?_eq_getElem hc']
        exact (List.cons.inj this).1
      have hd' : wl.drop (c + 1) = l := by
        have := List.drop_drop (i := 1) (j := c) (l := wl)
        rw [hd] at this
        rw [← this]; rfl
      have hjm : j ∈ wl := by rw [← hj, List.getD_eq_getElem?_getD, List.getElem?_eq_getElem hc']; exact List.getElem_mem _
      obtain ⟨j1, j2⟩ := hwl j hjm
      have e : fndF X (X 5 k) (j :: l) c = if X 5 j = X 5 k then some c else fndF X (X 5 k) l (c + 1) := rfl
      refine r_iload_2 hK dX3_find_2 ?_
      refine r_aload_0 hK dX3_find_3 ?_
      refine r_get hK fl_X3_105 dX3_find_4 (hP) rfl ?_
      refine r_icmp_ge 35 hK dX3_find_7 (by omega) (by omega) (fun h7 => ?_) (fun h7 => ?_)
      · omega --!
      · refine r_aload_0 hK dX3_find_10 ?_
        refine r_get hK fl_X3_39 dX3_find_11 (hP) rfl ?_
        refine r_aload_0 hK dX3_find_14 ?_
        refine r_get hK fl_X3_29 dX3_find_15 (hP) rfl ?_
        refine r_iload_2 hK dX3_find_18 ?_
        refine r_iald hK dX3_find_19 hA (by omega) ?_
        rw [hV c hc', hj]
        refine r_iload_1 hK dX3_find_20 ?_
        refine r_pV2 hK (ct_pAl hK.rel hT j1 hk j2 hk1) lk_X3_167 (hT.rcv hK.rel) dX3_find_21 ?_
        refine r_ifB_eq 29 hK dX3_find_24 (fun h24 => ?_) (fun h24 => ?_)
        · first | refine r_incN_2 hK dX3_find_29 ?_ | refine r_iinc_2 hK dX3_find_29 ?_
          refine r_goto 2 hK dX3_find_32 ?_
          exact ih (c + 1) hd' (by rw [List.length_cons] at hc; omega) (by rw [he, e, if_neg h24])
        · refine r_iload_2 hK dX3_find_27 ?_
          refine r_iret hK hRt dX3_find_28 ⟨?_, rfl, rfl⟩
          rw [he, e, if_pos h24]; rfl
  refine r_iconstN (c := 0) hK dX3_find_0 ?_
  refine r_istore_2 hK dX3_find_1 ?_
  exact lp wl 0 rfl (by omega) rfl
