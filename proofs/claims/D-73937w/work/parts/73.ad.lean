set_option maxRecDepth 100000
/-! ===== ArrayDeque: raw ===== -/
theorem mdI {a k N : Nat} (ha : a < N) (hk : k ≤ N) : (a + k) % N = if a + k < N then a + k else a + k - N := by
  by_cases c : a + k < N
  · rw [if_pos c, Nat.mod_eq_of_lt c]
  · rw [if_neg c, Nat.mod_eq_sub_mod (by omega), Nat.mod_eq_of_lt (by omega)]
set_option maxHeartbeats 4000000 in
theorem ad_inc {G : GT} {Rel : Nat → Hp → Hp → Prop} (hR : RelOK Rel) {n : Nat} {g : Hp} {i N : Nat} (hi : i < N) (hN : N < 100) : Ct G Rel yJ16_inc cJ16_inc 2 (some .int) (1) (0) [zI (i : Int), zI (N : Int)] n (g) (Pu (zI (((i + 1) % N : Nat) : Int)) n g) := by
  refine ct_intro [some (zI (i : Int)), some (zI (N : Int))] hR rfl (Nat.le_of_ble_eq_true rfl) ?_
  intro K hG hRel hK hRt hnm
  have e := mdI (k := 1) hi (by omega)
  first | refine r_incN_0 hK dJ16_inc_0 ?_ | refine r_iinc_0 hK dJ16_inc_0 ?_
  refine r_iload_0 hK dJ16_inc_3 ?_
  refine r_iload_1 hK dJ16_inc_4 ?_
  refine r_icmp_lt 10 hK dJ16_inc_5 (by omega) (by omega) (fun h5 => ?_) (fun h5 => ?_)
  · refine r_iload_0 hK dJ16_inc_10 ?_
    exact r_iret hK hRt dJ16_inc_11 ⟨by rw [e, if_pos (by omega)], rfl, rfl⟩
  · refine r_iconstN (c := 0) hK dJ16_inc_8 ?_
    refine r_istore_0 hK dJ16_inc_9 ?_
    refine r_iload_0 hK dJ16_inc_10 ?_
    exact r_iret hK hRt dJ16_inc_11 ⟨by rw [e, if_neg (by omega), show i + 1 - N = 0 from by omega], rfl, rfl⟩
set_option maxHeartbeats 4000000 in
theorem ad_dec0 {G : GT} {Rel : Nat → Hp → Hp → Prop} (hR : RelOK Rel) {n : Nat} {g : Hp} {N : Nat} (hN : N < 100) (h0 : 0 < N) : Ct G Rel yJ16_dec cJ16_dec 2 (some .int) (1) (0) [zI ((0 : Nat) : Int), zI (N : Int)] n (g) (Pu (zI ((N - 1 : Nat) : Int)) n g) := by
  refine ct_intro [some (zI ((0 : Nat) : Int)), some (zI (N : Int))] hR rfl (Nat.le_of_ble_eq_true rfl) ?_
  intro K hG hRel hK hRt hnm
  first | refine r_decN_0 hK dJ16_dec_0 ?_ | refine r_iinc_0 hK dJ16_dec_0 ?_
  refine r_iload_0 hK dJ16_dec_3 ?_
  refine r_if_ge 11 hK dJ16_dec_4 (by decide) (fun h4 => ?_) (fun h4 => ?_)
  · exact absurd h4 (by decide) --!
  · refine r_iload_1 hK dJ16_dec_7 ?_
    refine r_iconstN (c := 1) hK dJ16_dec_8 ?_
    first | refine r_isubN hK dJ16_dec_9 (by omega) ?_ | refine r_isub hK dJ16_dec_9 ?_
    refine r_istore_0 hK dJ16_dec_10 ?_
    refine r_iload_0 hK dJ16_dec_11 ?_
    exact r_iret hK hRt dJ16_dec_12 ⟨rfl, rfl, rfl⟩
set_option maxHeartbeats 4000000 in
theorem ad_decS {G : GT} {Rel : Nat → Hp → Hp → Prop} (hR : RelOK Rel) {n : Nat} {g : Hp} {i N : Nat} (hi : i + 1 < N) (hN : N < 100) : Ct G Rel yJ16_dec cJ16_dec 2 (some .int) (1) (0) [zI ((i + 1 : Nat) : Int), zI (N : Int)] n (g) (Pu (zI (i : Int)) n g) := by
  refine ct_intro [some (zI ((i + 1 : Nat) : Int)), some (zI (N : Int))] hR rfl (Nat.le_of_ble_eq_true rfl) ?_
  intro K hG hRel hK hRt hnm
  first | refine r_decN_0 hK dJ16_dec_0 ?_ | refine r_iinc_0 hK dJ16_dec_0 ?_
  refine r_iload_0 hK dJ16_dec_3 ?_
  refine r_if_ge 11 hK dJ16_dec_4 (by omega) (fun h4 => ?_) (fun h4 => ?_)
  · refine r_iload_0 hK dJ16_dec_11 ?_
    exact r_iret hK hRt dJ16_dec_12 ⟨rfl, rfl, rfl⟩
  · omega --!
set_option maxHeartbeats 4000000 in
theorem ad_sub {G : GT} {Rel : Nat → Hp → Hp → Prop} (hR : RelOK Rel) {n : Nat} {g : Hp} {t h N : Nat} (hN : N < 100) (ht : t < N) (hh : h < N) : Ct G Rel yJ16_sub cJ16_sub 3 (some .int) (1) (0) [zI (t : Int), zI (h : Int), zI (N : Int)] n (g) (Pu (zI ((if h ≤ t then t - h else t + N - h : Nat) : Int)) n g) := by
  refine ct_intro [some (zI (t : Int)), some (zI (h : Int)), some (zI (N : Int))] hR rfl (Nat.le_of_ble_eq_true rfl) ?_
  intro K hG hRel hK hRt hnm
  refine r_iload_0 hK dJ16_sub_0 ?_
  refine r_iload_1 hK dJ16_sub_1 ?_
  refine r_isub hK dJ16_sub_2 ?_
  refine r_dup hK dJ16_sub_3 ?_
  refine r_istore_0 hK dJ16_sub_4 ?_
  refine r_if_ge 12 hK dJ16_sub_5 (by omega) (fun h5 => ?_) (fun h5 => ?_)
  · refine r_iload_0 hK dJ16_sub_12 ?_
    exact r_iret hK hRt dJ16_sub_13 ⟨by rw [if_pos (by omega)]; congr 3; omega, rfl, rfl⟩
  · refine r_iload_0 hK dJ16_sub_8 ?_
    refine r_iload_2 hK dJ16_sub_9 ?_
    first | refine r_iaddN hK dJ16_sub_10 ?_ | refine r_iadd hK dJ16_sub_10 ?_
    refine r_istore_0 hK dJ16_sub_11 ?_
    refine r_iload_0 hK dJ16_sub_12 ?_
    exact r_iret hK hRt dJ16_sub_13 ⟨by rw [if_neg (by omega)]; congr 3; omega, rfl, rfl⟩
set_option maxHeartbeats 4000000 in
theorem ad_eAt {G : GT} {Rel : Nat → Hp → Hp → Prop} (hR : RelOK Rel) {n : Nat} {g : Hp} {arr N i v : Nat} {h : Nat → Value} (h2 : g arr = some (.inr (5, N, h))) (hi : i < N) (hN : N < 100) (hv : h i = .ref v) : Ct G Rel yJ16_elementAt cJ16_elementAt 2 (some (.object "java/lang/Object")) (1) (0) [.ref arr, zI (i : Int)] n (g) (Pu (.ref v) n g) := by
  refine ct_intro [some (.ref arr), some (zI (i : Int))] hR rfl (Nat.le_of_ble_eq_true rfl) ?_
  intro K hG hRel hK hRt hnm
  refine r_aload_0 hK dJ16_elementAt_0 ?_
  refine r_iload_1 hK dJ16_elementAt_1 ?_
  refine r_aald hK dJ16_elementAt_2 h2 hi ?_ (hN := by omega)
  rw [hv]
  exact r_aret hK hRt dJ16_elementAt_3 ⟨rfl, rfl, rfl⟩
set_option maxHeartbeats 4000000 in
theorem ad_init {G : GT} {Rel : Nat → Hp → Hp → Prop} (hR : RelOK Rel) {n : Nat} {g : Hp} {k : Nat} {a : Value} (h : g k = some (.inl (17, [a, zI ((0 : Nat) : Int), zI ((0 : Nat) : Int)]))) (hk : k < n) : Ct G Rel yJ16_init cJ16_init 1 none (2) (2) [.ref k] n (g) (fun r n' g' => r = none ∧ n' = n + 1 ∧ ADs g' k [] [n] ∧ ∀ x, x ≠ k → x < n → g' x = g x) := by
  refine ct_intro [some (.ref k)] hR rfl (Nat.le_of_ble_eq_true rfl) ?_
  intro K hG hRel hK hRt hnm
  have hne : k ≠ n := by omega
  refine r_aload_0 hK dJ16_init_0 ?_
  refine r_callI0 hK (ct_acInit hK.rel) lk_J16_42 dJ16_init_1 (fun r n1 f1 hp => ?_)
  obtain ⟨e1, e2, e3⟩ := hp
  rw [e1, e2, e3]
  refine r_aload_0 hK dJ16_init_4 ?_
  refine r_bipushN (c := 17) hK dJ16_init_5 ?_
  refine r_anew (N := 17) 2 5 hK ⟨rfl, by decide, by decide⟩ cl_J16_47 q277 dJ16_init_7 (by omega) ?_
  refine r_put hK fl_J16_3 dJ16_init_10 ((by rw [up_n hne]; exact h)) (by simp) ?_
  refine r_vret hK hRt dJ16_init_13 ⟨rfl, rfl, ⟨n, 17, 0, fun _ => .null, rfl, hne.symm, ?_, ?_, by decide, by decide, by decide, fun j hj => absurd hj (Nat.not_lt_zero _), fun j _ _ => rfl⟩, fun x a b => ?_⟩
  · rw [up_s]; rfl
  · rw [up_n hne.symm, up_s]
  · rw [up_n a, up_n (by omega)]
set_option maxHeartbeats 4000000 in
theorem ad_size {G : GT} {Rel : Nat → Hp → Hp → Prop} (hR : RelOK Rel) {n : Nat} {g : Hp} {id : Nat} {l ow : List Nat} (hL : ADs g id l ow) : Ct G Rel yJ16_size cJ16_size 1 (some .int) (2) (0) [.ref id] n (g) (Pu (zI ((l.length : Nat) : Int)) n g) := by
  refine ct_intro [some (.ref id)] hR rfl (Nat.le_of_ble_eq_true rfl) ?_
  intro K hG hRel hK hRt hnm
  obtain ⟨arr, N, a, h, how, hne, h1, h2, ha, hl, hN, h3, h4⟩ := hL
  have em := mdI (k := l.length) ha (by omega)
  have hm : (a + l.length) % N < N := Nat.mod_lt _ (by omega)
  refine r_aload_0 hK dJ16_size_0 ?_
  refine r_get hK fl_J16_20 dJ16_size_1 (by assumption) rfl ?_
  refine r_aload_0 hK dJ16_size_4 ?_
  refine r_get hK fl_J16_24 dJ16_size_5 (by assumption) rfl ?_
  refine r_aload_0 hK dJ16_size_8 ?_
  refine r_get hK fl_J16_3 dJ16_size_9 (by assumption) rfl ?_
  refine r_alen hK dJ16_size_12 h2 ?_
  refine r_pS3 hK (ad_sub hK.rel hN hm ha) lk_J16_127 dJ16_size_13 ?_
  rw [show (if a ≤ (a + l.length) % N then (a + l.length) % N - a else (a + l.length) % N + N - a) = l.length from by rw [em]; split <;> split <;> omega]
  exact r_iret hK hRt dJ16_size_16 ⟨rfl, rfl, rfl⟩
set_option maxHeartbeats 4000000 in
theorem ad_isEmpty {G : GT} {Rel : Nat → Hp → Hp → Prop} (hR : RelOK Rel) {n : Nat} {g : Hp} {id : Nat} {l ow : List Nat} (hL : ADs g id l ow) : Ct G Rel yJ16_isEmpty cJ16_isEmpty 1 (some .boolean) (1) (0) [.ref id] n (g) (Pu (zI ((if l = [] then 1 else 0 : Nat) : Int)) n g) := by
  refine ct_intro [some (.ref id)] hR rfl (Nat.le_of_ble_eq_true rfl) ?_
  intro K hG hRel hK hRt hnm
  obtain ⟨arr, N, a, h, how, hne, h1, h2, ha, hl, hN, h3, h4⟩ := hL
  have em := mdI (k := l.length) ha (by omega)
  have hm : (a + l.length) % N < N := Nat.mod_lt _ (by omega)
  have hz : a = (a + l.length) % N ↔ l = [] := by
    rw [em, ← List.length_eq_zero_iff]
    split <;> omega
  refine r_aload_0 hK dJ16_isEmpty_0 ?_
  refine r_get hK fl_J16_24 dJ16_isEmpty_1 (by assumption) rfl ?_
  refine r_aload_0 hK dJ16_isEmpty_4 ?_
  refine r_get hK fl_J16_20 dJ16_isEmpty_5 (by assumption) rfl ?_
  refine r_icmp_ne 15 hK dJ16_isEmpty_8 (by omega) (by omega) (fun h8 => ?_) (fun h8 => ?_)
  · refine r_iconstN (c := 0) hK dJ16_isEmpty_15 ?_
    exact r_zret hK hRt dJ16_isEmpty_16 rfl ⟨by rw [if_neg (fun q => h8 (by have := hz.mpr q; omega))], rfl, rfl⟩
  · refine r_iconstN (c := 1) hK dJ16_isEmpty_11 ?_
    refine r_goto 16 hK dJ16_isEmpty_12 ?_
    exact r_zret hK hRt dJ16_isEmpty_16 rfl ⟨by rw [if_pos (hz.mp (by omega))], rfl, rfl⟩
/-- what a change leaves -/
def ADP (n : Nat) (g : Hp) (id : Nat) (ow l' : List Nat) (n' : Nat) (g' : Hp) : Prop := n ≤ n' ∧ ∃ ow', ADs g' id l' ow' ∧ (∀ x ∈ ow', x ∈ ow ∨ n ≤ x ∧ x < n') ∧ ∀ x, x ≠ id → x ∉ ow → x < n → g' x = g x
set_option maxHeartbeats 4000000 in
theorem ad_pollFirst {G : GT} {Rel : Nat → Hp → Hp → Prop} (hR : RelOK Rel) {n : Nat} {g : Hp} {id v : Nat} {l ow : List Nat} (hL : ADs g id (v :: l) ow) : Ct G Rel yJ16_pollFirst cJ16_pollFirst 4 (some (.object "java/lang/Object")) (2) (0) [.ref id] n (g) (fun r n' g' => r = some (.ref v) ∧ n' = n ∧ ADP n g id ow l n' g') := by
  refine ct_intro [some (.ref id), none, none, none] hR rfl (Nat.le_of_ble_eq_true rfl) ?_
  intro K hG hRel hK hRt hnm
  obtain ⟨arr, N, a, h, how, hne, h1, h2, ha, hl, hN, h3, h4⟩ := hL
  have hl' : l.length + 1 < N := hl
  have hv : h a = .ref v := by have := h3 0 (by simp); rw [Nat.add_zero, Nat.mod_eq_of_lt ha] at this; exact this
  have ei := mdI (k := 1) ha (by omega)
  have hi : (a + 1) % N < N := Nat.mod_lt _ (by omega)
  have et : ((a + 1) % N + l.length) % N = (a + (v :: l).length) % N := by
    rw [List.length_cons, Nat.add_comm l.length 1, ← Nat.add_assoc, Nat.mod_add_mod]
  have es : ∀ j, ((a + 1) % N + j) % N = (a + (j + 1)) % N := fun j => by rw [Nat.mod_add_mod]; congr 1; omega
  have ne0 : ∀ j, j + 1 < N → (a + (j + 1)) % N ≠ a := fun j hj => by rw [mdI ha (by omega)]; split <;> omega
  refine r_aload_0 hK dJ16_pollFirst_0 ?_
  refine r_get hK fl_J16_3 dJ16_pollFirst_1 (by assumption) rfl ?_
  refine r_dup hK dJ16_pollFirst_4 ?_
  refine r_astore_1 hK dJ16_pollFirst_5 ?_
  refine r_aload_0 hK dJ16_pollFirst_6 ?_
  refine r_get hK fl_J16_24 dJ16_pollFirst_7 (by assumption) rfl ?_
  refine r_dup hK dJ16_pollFirst_10 ?_
  refine r_istore_2 hK dJ16_pollFirst_11 ?_
  refine r_pS2 hK (ad_eAt hK.rel h2 ha hN hv) lk_J16_103 dJ16_pollFirst_12 ?_
  refine r_astore_3 hK dJ16_pollFirst_15 ?_
  refine r_aload_3 hK dJ16_pollFirst_16 ?_
  refine r_ifnull hK dJ16_pollFirst_17 ?_
  refine r_aload_1 hK dJ16_pollFirst_20 ?_
  refine r_iload_2 hK dJ16_pollFirst_21 ?_
  refine r_null hK dJ16_pollFirst_22 ?_
  refine r_aastN hK dJ16_pollFirst_23 h2 ha ?_ (hN := by omega)
  refine r_aload_0 hK dJ16_pollFirst_24 ?_
  refine r_iload_2 hK dJ16_pollFirst_25 ?_
  refine r_aload_1 hK dJ16_pollFirst_26 ?_
  refine r_alen hK dJ16_pollFirst_27 (up_s _ _ _) ?_
  refine r_pS2 hK (ad_inc hK.rel ha hN) lk_J16_74 dJ16_pollFirst_28 ?_
  refine r_put hK fl_J16_24 dJ16_pollFirst_31 ((by rw [up_n hne.symm]; exact h1)) (by simp) ?_
  refine r_aload_3 hK dJ16_pollFirst_34 ?_
  refine r_aret hK hRt dJ16_pollFirst_35 ⟨rfl, rfl, Nat.le_refl _, [arr], ⟨arr, N, (a + 1) % N, updV h a .null, rfl, hne, ?_, ?_, hi, by omega, hN, fun j hj => ?_, fun j hj hj2 => ?_⟩, fun x hx => Or.inl (by rw [how]; exact hx), fun x p q _ => ?_⟩
  · rw [up_s, et]; rfl
  · rw [up_n hne, up_s]
  · rw [es]; unfold updV; rw [if_neg (ne0 j (by omega))]; exact h3 (j + 1) (by rw [List.length_cons]; omega)
  · rw [es]
    unfold updV
    by_cases c : j + 1 < N
    · rw [if_neg (ne0 j c)]; exact h4 (j + 1) (by rw [List.length_cons]; omega) c
    · rw [if_pos (by rw [mdI ha (by omega), if_neg (by omega)]; omega)]
  · rw [how] at q
    rw [up_n p, up_n (fun z => q (by rw [z]; simp))]
set_option maxHeartbeats 4000000 in
theorem ad_pollLast {G : GT} {Rel : Nat → Hp → Hp → Prop} (hR : RelOK Rel) {n : Nat} {g : Hp} {id v : Nat} {l ow : List Nat} (hL : ADs g id (l ++ [v]) ow) : Ct G Rel yJ16_pollLast cJ16_pollLast 4 (some (.object "java/lang/Object")) (2) (0) [.ref id] n (g) (fun r n' g' => r = some (.ref v) ∧ n' = n ∧ ADP n g id ow l n' g') := by
  refine ct_intro [some (.ref id), none, none, none] hR rfl (Nat.le_of_ble_eq_true rfl) ?_
  intro K hG hRel hK hRt hnm
  obtain ⟨arr, N, a, h, how, hne, h1, h2, ha, hl, hN, h3, h4⟩ := hL
  have elen : (l ++ [v]).length = l.length + 1 := by simp
  rw [elen] at h1 hl h4
  have em := mdI (k := l.length) ha (by omega)
  have em1 := mdI (k := l.length + 1) ha (by omega)
  have hm : (a + l.length) % N < N := Nat.mod_lt _ (by omega)
  have hv : h ((a + l.length) % N) = .ref v := by
    have := h3 l.length (by rw [elen]; omega)
    rw [getD_app (Nat.le_refl _), if_pos rfl] at this; exact this
  have ne0 : ∀ j, j < N → j ≠ l.length → (a + j) % N ≠ (a + l.length) % N := fun j hj hjl => by rw [mdI ha (by omega), em]; split <;> split <;> omega
  have fin : ∀ st2, Wx K 15 [some (.ref id), some (.ref arr), st2, none] [zI (((a + l.length) % N : Nat) : Int), .ref arr] n g 0 := by
    intro st2
    refine r_dup hK dJ16_pollLast_15 ?_
    refine r_istore_2 hK dJ16_pollLast_16 ?_
    refine r_pS2 hK (ad_eAt hK.rel h2 hm hN hv) lk_J16_103 dJ16_pollLast_17 ?_
    refine r_astore_3 hK dJ16_pollLast_20 ?_
    refine r_aload_3 hK dJ16_pollLast_21 ?_
    refine r_ifnull hK dJ16_pollLast_22 ?_
    refine r_aload_1 hK dJ16_pollLast_25 ?_
    refine r_aload_0 hK dJ16_pollLast_26 ?_
    refine r_iload_2 hK dJ16_pollLast_27 ?_
    refine r_dup_x1 hK dJ16_pollLast_28 ?_
    refine r_put hK fl_J16_20 dJ16_pollLast_29 (by assumption) (by simp) ?_
    refine r_null hK dJ16_pollLast_32 ?_
    refine r_aastN hK dJ16_pollLast_33 (by rw [up_n hne]; exact h2) hm ?_ (hN := by omega)
    refine r_aload_3 hK dJ16_pollLast_34 ?_
    refine r_aret hK hRt dJ16_pollLast_35 ⟨rfl, rfl, Nat.le_refl _, [arr], ⟨arr, N, a, updV h ((a + l.length) % N) .null, rfl, hne, ?_, ?_, ha, by omega, hN, fun j hj => ?_, fun j hj hj2 => ?_⟩, fun x hx => Or.inl (by rw [how]; exact hx), fun x p q _ => ?_⟩
    · rw [up_n hne.symm, up_s]; rfl
    · rw [up_s]
    · unfold updV; rw [if_neg (ne0 j (by omega) (by omega))]
      have := h3 j (by rw [elen]; omega)
      rw [getD_app (by omega), if_neg (by omega)] at this; exact this
    · unfold updV
      by_cases c : j = l.length
      · rw [c, if_pos rfl]
      · rw [if_neg (ne0 j hj2 c)]; exact h4 j (by omega) hj2
    · rw [how] at q
      rw [up_n (fun z => q (by rw [z]; simp)), up_n p]
  refine r_aload_0 hK dJ16_pollLast_0 ?_
  refine r_get hK fl_J16_3 dJ16_pollLast_1 (by assumption) rfl ?_
  refine r_dup hK dJ16_pollLast_4 ?_
  refine r_astore_1 hK dJ16_pollLast_5 ?_
  refine r_aload_0 hK dJ16_pollLast_6 ?_
  refine r_get hK fl_J16_20 dJ16_pollLast_7 (by assumption) rfl ?_
  refine r_aload_1 hK dJ16_pollLast_10 ?_
  refine r_alen hK dJ16_pollLast_11 h2 ?_
  by_cases c : (a + (l.length + 1)) % N = 0
  · rw [c]
    refine r_pS2 hK (ad_dec0 hK.rel hN (by omega)) lk_J16_68 dJ16_pollLast_12 ?_
    rw [show N - 1 = (a + l.length) % N from by rw [em1] at c; rw [em]; split at c <;> split <;> omega]
    exact fin _
  · obtain ⟨i, hi⟩ : ∃ i, (a + (l.length + 1)) % N = i + 1 := ⟨(a + (l.length + 1)) % N - 1, by omega⟩
    have hi2 : i + 1 < N := by rw [← hi]; exact Nat.mod_lt _ (by omega)
    rw [hi]
    refine r_pS2 hK (ad_decS hK.rel hi2 hN) lk_J16_68 dJ16_pollLast_12 ?_
    rw [show i = (a + l.length) % N from by rw [em1] at hi; rw [em]; split at hi <;> split <;> omega]
    exact fin _
set_option maxHeartbeats 4000000 in
theorem ad_circ {G : GT} {Rel : Nat → Hp → Hp → Prop} (hR : RelOK Rel) {n : Nat} {g : Hp} {arr N a b : Nat} {h : Nat → Value} (hA : g arr = some (.inr (5, N, h))) (ha : a < N) (hb : b < N) (hN : N < 100) : Ct G Rel yJ16_circularClear cJ16_circularClear 4 none (1) (0) [.ref arr, zI (a : Int), zI (b : Int)] n (g) (fun r n' g' => r = none ∧ n' = n ∧ ∃ h', g' = up g arr (.inr (5, N, h')) ∧ (∀ j, a ≤ b → a ≤ j → j < b → h' j = .null) ∧ (∀ j, b < a → (a ≤ j ∨ j < b) → j < N → h' j = .null) ∧ ∀ j, h j = .null → h' j = .null) := by
  refine ct_intro [some (.ref arr), some (zI (a : Int)), some (zI (b : Int)), none] hR rfl (Nat.le_of_ble_eq_true rfl) ?_
  intro K hG hRel hK hRt hnm
  have L2 : ∀ (m i : Nat) (h' : Nat → Value), m = b - i → i ≤ b → b < a → (∀ j, (a ≤ j ∨ j < i) → j < N → h' j = .null) → (∀ j, h j = .null → h' j = .null) → Wx K 12 [some (.ref arr), some (zI (i : Int)), some (zI (b : Int)), some (zI (b : Int))] [] n (up g arr (.inr (5, N, h'))) 0 := by
    intro m
    induction m using Nat.strongRecOn with
    | _ m ih =>
      intro i h' hm hi hba k1 k2
      refine r_iload_1 hK dJ16_circularClear_12 ?_
      refine r_iload_3 hK dJ16_circularClear_13 ?_
      refine r_icmp_ge 27 hK dJ16_circularClear_14 (by omega) (by omega) (fun h14 => ?_) (fun h14 => ?_)
      · refine r_iload_3 hK dJ16_circularClear_27 ?_
        refine r_iload_2 hK dJ16_circularClear_28 ?_
        refine r_icmp_ne 35 hK dJ16_circularClear_29 (by omega) (by omega) (fun h29 => ?_) (fun h29 => ?_)
        · omega --!
        · refine r_goto 42 hK dJ16_circularClear_32 ?_
          exact r_vret hK hRt dJ16_circularClear_42 ⟨rfl, rfl, h', rfl, fun j p q r => by omega, fun j p q r => k1 j (by omega) r, k2⟩
      · refine r_aload_0 hK dJ16_circularClear_17 ?_
        refine r_iload_1 hK dJ16_circularClear_18 ?_
        refine r_null hK dJ16_circularClear_19 ?_
        refine r_aastN hK dJ16_circularClear_20 (up_s _ _ _) (by omega) ?_ (hN := by omega)
        first | refine r_incN_1 hK dJ16_circularClear_21 ?_ | refine r_iinc_1 hK dJ16_circularClear_21 ?_
        refine r_goto 12 hK dJ16_circularClear_24 ?_
        rw [up_up]
        refine ih (b - (i + 1)) (by omega) (i + 1) _ rfl (by omega) hba (fun j hj hj2 => ?_) (fun j hj => ?_)
        · unfold updV; split
          · rfl
          · exact k1 j (by omega) hj2
        · unfold updV; split
          · rfl
          · exact k2 j hj
  have L1 : ∀ (m i to : Nat) (h' : Nat → Value), m = to - i → i ≤ to → (a ≤ b ∧ to = b ∨ b < a ∧ to = N) → a ≤ i → (∀ j, a ≤ j → j < i → h' j = .null) → (∀ j, h j = .null → h' j = .null) → Wx K 12 [some (.ref arr), some (zI (i : Int)), some (zI (b : Int)), some (zI (to : Int))] [] n (up g arr (.inr (5, N, h'))) 0 := by
    intro m
    induction m using Nat.strongRecOn with
    | _ m ih =>
      intro i to h' hm hi hto hai k1 k2
      refine r_iload_1 hK dJ16_circularClear_12 ?_
      refine r_iload_3 hK dJ16_circularClear_13 ?_
      refine r_icmp_ge 27 hK dJ16_circularClear_14 (by omega) (by omega) (fun h14 => ?_) (fun h14 => ?_)
      · refine r_iload_3 hK dJ16_circularClear_27 ?_
        refine r_iload_2 hK dJ16_circularClear_28 ?_
        refine r_icmp_ne 35 hK dJ16_circularClear_29 (by omega) (by omega) (fun h29 => ?_) (fun h29 => ?_)
        · refine r_iconstN (c := 0) hK dJ16_circularClear_35 ?_
          refine r_istore_1 hK dJ16_circularClear_36 ?_
          refine r_iload_2 hK dJ16_circularClear_37 ?_
          refine r_istore_3 hK dJ16_circularClear_38 ?_
          refine r_goto 12 hK dJ16_circularClear_39 ?_
          exact L2 b 0 h' rfl (by omega) (by omega) (fun j hj hj2 => k1 j (by omega) (by omega)) k2
        · refine r_goto 42 hK dJ16_circularClear_32 ?_
          exact r_vret hK hRt dJ16_circularClear_42 ⟨rfl, rfl, h', rfl, fun j p q r => k1 j q (by omega), fun j p q r => by omega, k2⟩
      · refine r_aload_0 hK dJ16_circularClear_17 ?_
        refine r_iload_1 hK dJ16_circularClear_18 ?_
        refine r_null hK dJ16_circularClear_19 ?_
        refine r_aastN hK dJ16_circularClear_20 (up_s _ _ _) (by omega) ?_ (hN := by omega)
        first | refine r_incN_1 hK dJ16_circularClear_21 ?_ | refine r_iinc_1 hK dJ16_circularClear_21 ?_
        refine r_goto 12 hK dJ16_circularClear_24 ?_
        rw [up_up]
        refine ih (to - (i + 1)) (by omega) (i + 1) to _ rfl (by omega) hto (by omega) (fun j hj hj2 => ?_) (fun j hj => ?_)
        · unfold updV; split
          · rfl
          · exact k1 j hj (by omega)
        · unfold updV; split
          · rfl
          · exact k2 j hj
  have e0 : g = up g arr (.inr (5, N, h)) := by
    funext x
    by_cases c : x = arr
    · subst c; rw [up_s]; exact hA
    · rw [up_n c]
  refine r_iload_1 hK dJ16_circularClear_0 ?_
  refine r_iload_2 hK dJ16_circularClear_1 ?_
  refine r_icmp_gt 9 hK dJ16_circularClear_2 (by omega) (by omega) (fun h2 => ?_) (fun h2 => ?_)
  · refine r_aload_0 hK dJ16_circularClear_9 ?_
    refine r_alen hK dJ16_circularClear_10 hA ?_
    refine r_istore_3 hK dJ16_circularClear_11 ?_
    rw [e0]
    exact L1 (N - a) a N h rfl (by omega) (by omega) (Nat.le_refl _) (fun j p q => by omega) (fun j p => p)
  · refine r_iload_2 hK dJ16_circularClear_5 ?_
    refine r_goto 11 hK dJ16_circularClear_6 ?_
    refine r_istore_3 hK dJ16_circularClear_11 ?_
    rw [e0]
    exact L1 (b - a) a b h rfl (by omega) (by omega) (Nat.le_refl _) (fun j p q => by omega) (fun j p => p)
set_option maxHeartbeats 4000000 in
theorem ad_clear {G : GT} {Rel : Nat → Hp → Hp → Prop} (hR : RelOK Rel) {n : Nat} {g : Hp} {id : Nat} {l ow : List Nat} (hL : ADs g id l ow) : Ct G Rel yJ16_clear cJ16_clear 1 none (2) (0) [.ref id] n (g) (fun r n' g' => r = none ∧ n' = n ∧ ADP n g id ow [] n' g') := by
  refine ct_intro [some (.ref id)] hR rfl (Nat.le_of_ble_eq_true rfl) ?_
  intro K hG hRel hK hRt hnm
  obtain ⟨arr, N, a, h, how, hne, h1, h2, ha, hl, hN, h3, h4⟩ := hL
  have hm : (a + l.length) % N < N := Nat.mod_lt _ (by omega)
  have em := mdI (k := l.length) ha (by omega)
  refine r_aload_0 hK dJ16_clear_0 ?_
  refine r_get hK fl_J16_3 dJ16_clear_1 (by assumption) rfl ?_
  refine r_aload_0 hK dJ16_clear_4 ?_
  refine r_get hK fl_J16_24 dJ16_clear_5 (by assumption) rfl ?_
  refine r_aload_0 hK dJ16_clear_8 ?_
  refine r_get hK fl_J16_20 dJ16_clear_9 (by assumption) rfl ?_
  refine r_callS3 hK (ad_circ hK.rel h2 ha hm hN) lk_J16_181 dJ16_clear_12 (fun r n1 f1 hp => ?_)
  obtain ⟨rfl, rfl, h', rfl, p1, p2, p3⟩ := hp
  refine r_aload_0 hK dJ16_clear_15 ?_
  refine r_aload_0 hK dJ16_clear_16 ?_
  refine r_iconstN (c := 0) hK dJ16_clear_17 ?_
  refine r_dup_x1 hK dJ16_clear_18 ?_
  refine r_put hK fl_J16_20 dJ16_clear_19 ((by rw [up_n hne.symm]; exact h1)) (by simp) ?_
  refine r_put hK fl_J16_24 dJ16_clear_22 ((up_s _ _ _)) (by simp) ?_
  refine r_vret hK hRt dJ16_clear_25 ⟨rfl, rfl, Nat.le_refl _, [arr], ⟨arr, N, 0, h', rfl, hne, ?_, ?_, by omega, ?_, hN, fun j hj => absurd hj (Nat.not_lt_zero _), fun j _ hj => ?_⟩, fun x hx => Or.inl (by rw [how]; exact hx), fun x p q _ => ?_⟩
  · rw [up_s, show (0 + ([] : List Nat).length) % N = 0 from Nat.zero_mod _]; rfl
  · rw [up_n hne, up_n hne, up_s]
  · show 0 < N; omega
  · rw [Nat.zero_add, Nat.mod_eq_of_lt hj]
    by_cases c1 : a ≤ j
    · by_cases c2 : j < a + l.length
      · rw [em] at p1 p2
        by_cases c3 : a + l.length < N
        · rw [if_pos c3] at p1; exact p1 j (by omega) c1 c2
        · rw [if_neg c3] at p2; exact p2 j (by omega) (Or.inl c1) hj
      · have := h4 (j - a) (by omega) (by omega)
        rw [show a + (j - a) = j from by omega, Nat.mod_eq_of_lt hj] at this
        exact p3 j this
    · by_cases c2 : j + N < a + l.length
      · rw [em, if_neg (by omega)] at p2
        exact p2 j (by omega) (Or.inr (by omega)) hj
      · have := h4 (j + N - a) (by omega) (by omega)
        rw [show a + (j + N - a) = j + N from by omega, Nat.add_mod_right, Nat.mod_eq_of_lt hj] at this
        exact p3 j this
  · rw [how] at q
    rw [up_n p, up_n p, up_n (fun z => q (by rw [z]; simp))]
set_option maxHeartbeats 4000000 in
theorem ad_grow {G : GT} {Rel : Nat → Hp → Hp → Prop} (hR : RelOK Rel) (hX : GX G) {n : Nat} {g : Hp} {id arr N a : Nat} {h : Nat → Value} (h1 : g id = some (.inl (17, [.ref arr, zI (a : Int), zI (a : Int)]))) (hA : g arr = some (.inr (5, N, h))) (ha : a < N) (hN : N ≤ 41) (hid : id < n) (harr : arr < n) (hel : ∀ j, j < N → ∃ v, h j = .ref v ∧ el g v) : Ct G Rel yJ16_grow cJ16_grow 9 none (4) (8) [.ref id, zI ((1 : Nat) : Int)] n (g) (fun r n' g' => r = none ∧ n' = n + 1 ∧ ∃ h', g' id = some (.inl (17, [.ref n, zI ((a + (N + 2) : Nat) : Int), zI (a : Int)])) ∧ g' n = some (.inr (5, N + (N + 2), h')) ∧ (∀ x, x ≠ id → x ≠ n → g' x = g x) ∧ (∀ j, j < a → h' j = h j) ∧ (∀ j, a ≤ j → j < a + (N + 2) → h' j = .null) ∧ ∀ j, a ≤ j → j < N → h' (j + (N + 2)) = h j) := by
  refine ct_intro [some (.ref id), some (zI ((1 : Nat) : Int)), none, none, none, none, none, none, none] hR rfl (Nat.le_of_ble_eq_true rfl) ?_
  intro K hG hRel hK hRt hnm
  have hXK : GX (kG K) := by rw [hG]; exact hX
  have hne : id ≠ n := by omega
  obtain ⟨v0, hv0, -⟩ := hel a ha
  refine r_fact hK (fun _ hno => ?_)
  obtain ⟨hA1, hA1d⟩ : ∃ hA1, hA1 = va_cpy h (fun _ => Value.null) 0 0 N := ⟨_, rfl⟩
  have a1 : ∀ j, j < N → hA1 j = h j := fun j hj => by rw [hA1d]; unfold va_cpy; rw [if_pos (by omega), Nat.zero_add, Nat.sub_zero]
  have lp : ∀ (m i : Nat) (h' : Nat → Value) (g' : Hp) a4, m = a + (N + 2) - i → a ≤ i → i ≤ a + (N + 2) → g' id = some (.inl (17, [.ref n, zI ((a + (N + 2) : Nat) : Int), zI (a : Int)])) → g' n = some (.inr (5, N + (N + 2), h')) → (∀ x, x ≠ id → x ≠ n → g' x = g x) → (∀ j, j < a → h' j = h j) → (∀ j, a ≤ j → j < i → h' j = .null) → (∀ j, a ≤ j → j < N → h' (j + (N + 2)) = h j) → Wx K 145 [some (.ref id), some (zI ((1 : Nat) : Int)), some (zI (N : Int)), some (zI ((N + (N + 2) : Nat) : Int)), a4, some (.ref n), some (zI ((N + 2 : Nat) : Int)), some (zI (i : Int)), some (zI ((a + (N + 2) : Nat) : Int))] [] (n + 1) g' (0 + ((N + (N + 2)) / 12 + 1)) := by
    intro m
    induction m using Nat.strongRecOn with
    | _ m ih =>
      intro i h' g' a4 hm hi1 hi2 k1 k2 k3 k4 k5 k6
      refine r_iload_7 hK dJ16_grow_145 ?_
      refine r_iload_8 hK dJ16_grow_147 ?_
      refine r_icmp_ge 164 hK dJ16_grow_149 (by omega) (by omega) (fun h149 => ?_) (fun h149 => ?_)
      · exact r_vret hK hRt dJ16_grow_164 ⟨rfl, rfl, h', k1, k2, k3, k4, fun j p q => k5 j p (by omega), k6⟩ (by omega)
      · refine r_aload_5 hK dJ16_grow_152 ?_
        refine r_iload_7 hK dJ16_grow_154 ?_
        refine r_null hK dJ16_grow_156 ?_
        refine r_aastN hK dJ16_grow_157 k2 (by omega) ?_ (hN := by omega)
        first | refine r_incN_7 hK dJ16_grow_158 ?_ | refine r_iinc_7 hK dJ16_grow_158 ?_
        refine r_goto 145 hK dJ16_grow_161 ?_
        refine ih (a + (N + 2) - (i + 1)) (by omega) (i + 1) _ _ _ rfl (by omega) (by omega) (by rw [up_n hne]; exact k1) (up_s _ _ _) (fun x p q => by rw [up_n q]; exact k3 x p q) (fun j hj => ?_) (fun j hj hj2 => ?_) (fun j hj hj2 => ?_)
        · unfold updV; rw [if_neg (by omega)]; exact k4 j hj
        · unfold updV; split
          · rfl
          · exact k5 j hj (by omega)
        · unfold updV; rw [if_neg (by omega)]; exact k6 j hj hj2
  refine r_aload_0 hK dJ16_grow_0 ?_
  refine r_get hK fl_J16_3 dJ16_grow_1 (by assumption) rfl ?_
  refine r_alen hK dJ16_grow_4 hA ?_
  refine r_istore_2 hK dJ16_grow_5 ?_
  refine r_iload_2 hK dJ16_grow_6 ?_
  refine r_bipushN (c := 64) hK dJ16_grow_7 ?_
  refine r_icmp_ge 18 hK dJ16_grow_9 (by omega) (by omega) (fun h9 => ?_) (fun h9 => ?_)
  · omega --!
  · refine r_iload_2 hK dJ16_grow_12 ?_
    refine r_iconstN (c := 2) hK dJ16_grow_13 ?_
    first | refine r_iaddN hK dJ16_grow_14 ?_ | refine r_iadd hK dJ16_grow_14 ?_
    refine r_goto 21 hK dJ16_grow_15 ?_
    refine r_istore_4 hK dJ16_grow_21 ?_
    refine r_iload_4 hK dJ16_grow_23 ?_
    refine r_iload_1 hK dJ16_grow_25 ?_
    refine r_icmp_lt 41 hK dJ16_grow_26 (by omega) (by omega) (fun h26 => ?_) (fun h26 => ?_)
    · omega --!
    · refine r_iload_2 hK dJ16_grow_29 ?_
      refine r_iload_4 hK dJ16_grow_30 ?_
      first | refine r_iaddN hK dJ16_grow_32 ?_ | refine r_iadd hK dJ16_grow_32 ?_
      refine r_dup hK dJ16_grow_33 ?_
      refine r_istore_3 hK dJ16_grow_34 ?_
      refine r_ldcN (c := 2147483639) hK q1519 dJ16_grow_35 (by decide +kernel) ?_
      refine r_isub hK dJ16_grow_37 ?_
      refine r_if_le 49 hK dJ16_grow_38 (by omega) (fun h38 => ?_) (fun h38 => ?_)
      · refine r_aload_0 hK dJ16_grow_49 ?_
        refine r_aload_0 hK dJ16_grow_50 ?_
        refine r_get hK fl_J16_3 dJ16_grow_51 (by assumption) rfl ?_
        refine r_iload_3 hK dJ16_grow_54 ?_
        refine r_callS2 hK (ct_copyOf hK.rel hXK hA (M := N + (N + 2)) (by omega) (by omega) (fun j hj => by obtain ⟨v, e1, e2⟩ := hel j hj; exact Or.inr ⟨v, e1, e2⟩) harr) lk_J16_14 dJ16_grow_55 (fun r n1 f1 hp => ?_) (hu := by omega)
        obtain ⟨rfl, rfl, rfl⟩ := hp
        rw [← hA1d]
        refine r_dup_x1 hK dJ16_grow_58 ?_
        refine r_put hK fl_J16_3 dJ16_grow_59 ((by rw [up_n hne]; exact h1)) (by simp) ?_
        refine r_astore_5 hK dJ16_grow_62 ?_
        refine r_aload_0 hK dJ16_grow_64 ?_
        refine r_get hK fl_J16_20 dJ16_grow_65 (up_s _ _ _) rfl ?_
        refine r_aload_0 hK dJ16_grow_68 ?_
        refine r_get hK fl_J16_24 dJ16_grow_69 (up_s _ _ _) rfl ?_
        refine r_icmp_lt 96 hK dJ16_grow_72 (by omega) (by omega) (fun h72 => ?_) (fun h72 => ?_)
        · omega --!
        · refine r_aload_0 hK dJ16_grow_75 ?_
          refine r_get hK fl_J16_20 dJ16_grow_76 (up_s _ _ _) rfl ?_
          refine r_aload_0 hK dJ16_grow_79 ?_
          refine r_get hK fl_J16_24 dJ16_grow_80 (up_s _ _ _) rfl ?_
          refine r_icmp_ne 164 hK dJ16_grow_83 (by omega) (by omega) (fun h83 => ?_) (fun h83 => ?_)
          · omega --!
          · refine r_aload_5 hK dJ16_grow_86 ?_
            refine r_aload_0 hK dJ16_grow_88 ?_
            refine r_get hK fl_J16_24 dJ16_grow_89 (up_s _ _ _) rfl ?_
            refine r_aald hK dJ16_grow_92 (by rw [up_n hne.symm, up_s]) (by omega) ?_ (hN := by omega)
            rw [a1 a ha, hv0]
            refine r_ifnull hK dJ16_grow_93 ?_
            refine r_iload_3 hK dJ16_grow_96 ?_
            refine r_iload_2 hK dJ16_grow_97 ?_
            first | refine r_isubN hK dJ16_grow_98 (by omega) ?_ | refine r_isub hK dJ16_grow_98 ?_
            rw [show N + (N + 2) - N = N + 2 from by omega]
            refine r_istore_6 hK dJ16_grow_99 ?_
            refine r_aload_5 hK dJ16_grow_101 ?_
            refine r_aload_0 hK dJ16_grow_103 ?_
            refine r_get hK fl_J16_24 dJ16_grow_104 (up_s _ _ _) rfl ?_
            refine r_aload_5 hK dJ16_grow_107 ?_
            refine r_aload_0 hK dJ16_grow_109 ?_
            refine r_get hK fl_J16_24 dJ16_grow_110 (up_s _ _ _) rfl ?_
            refine r_iload_6 hK dJ16_grow_113 ?_
            first | refine r_iaddN hK dJ16_grow_115 ?_ | refine r_iadd hK dJ16_grow_115 ?_
            refine r_iload_2 hK dJ16_grow_116 ?_
            refine r_aload_0 hK dJ16_grow_117 ?_
            refine r_get hK fl_J16_24 dJ16_grow_118 (up_s _ _ _) rfl ?_
            first | refine r_isubN hK dJ16_grow_121 (by omega) ?_ | refine r_isub hK dJ16_grow_121 ?_
            refine r_acpyO hK hXK q1526 dJ16_grow_122 (by rw [up_n hne.symm, up_s]) (by rw [up_n hne.symm, up_s]) (by omega) (by omega) (fun j hj => ?_) ?_ (by omega)
            · rw [a1 _ (by omega)]
              obtain ⟨v, e1, e2⟩ := hel (a + j) (by omega)
              exact Or.inr ⟨v, e1, (e2.up (fun e0 q => by rw [hno n (Nat.le_refl n)] at q; cases q)).up (fun e0 q => by rw [up_n hne, h1] at q; cases q; rfl)⟩
            refine r_aload_0 hK dJ16_grow_125 ?_
            refine r_get hK fl_J16_24 dJ16_grow_126 ((by rw [up_n hne, up_s])) rfl ?_
            refine r_istore_7 hK dJ16_grow_129 ?_
            refine r_aload_0 hK dJ16_grow_131 ?_
            refine r_dup hK dJ16_grow_132 ?_
            refine r_get hK fl_J16_24 dJ16_grow_133 ((by rw [up_n hne, up_s])) rfl ?_
            refine r_iload_6 hK dJ16_grow_136 ?_
            first | refine r_iaddN hK dJ16_grow_138 ?_ | refine r_iadd hK dJ16_grow_138 ?_
            refine r_dup_x1 hK dJ16_grow_139 ?_
            refine r_put hK fl_J16_24 dJ16_grow_140 ((by rw [up_n hne, up_s])) (by simp) ?_
            refine r_istore_8 hK dJ16_grow_143 ?_
            refine lp (N + 2) a (va_cpy hA1 hA1 a (a + (N + 2)) (N - a)) _ _ (by omega) (Nat.le_refl _) (by omega) (by rw [up_s]; rfl) (by rw [up_n hne.symm, up_s]) (fun x p q => by rw [up_n p, up_n q, up_n p, up_n q]) (fun j hj => ?_) (fun j hj hj2 => by omega) (fun j hj hj2 => ?_)
            · unfold va_cpy; rw [if_neg (by omega)]; exact a1 j (by omega)
            · unfold va_cpy; rw [if_pos (by omega), show a + (j + (N + 2) - (a + (N + 2))) = j from by omega]; exact a1 j hj2
      · omega --!
set_option maxHeartbeats 4000000 in
theorem ad_addLast {G : GT} {Rel : Nat → Hp → Hp → Prop} (hR : RelOK Rel) (hX : GX G) {n : Nat} {g : Hp} {id v : Nat} {l ow : List Nat} (hL : ADs g id l ow) (hl40 : l.length ≤ 40) (hid : id < n) (how0 : ∀ x ∈ ow, x < n) (hel : ∀ x ∈ l, el g x) (hv : el g v) : Ct G Rel yJ16_addLast cJ16_addLast 3 none (5) (8) [.ref id, .ref v] n (g) (fun r n' g' => r = none ∧ ADP n g id ow (l ++ [v]) n' g') := by
  refine ct_intro [some (.ref id), some (.ref v), none] hR rfl (Nat.le_of_ble_eq_true rfl) ?_
  intro K hG hRel hK hRt hnm
  have hXK : GX (kG K) := by rw [hG]; exact hX
  obtain ⟨arr, N, a, h, how, hne, h1, hA, ha, hl, hN, h3, h4⟩ := hL
  have harr : arr < n := how0 arr (by rw [how]; simp)
  have elen : (l ++ [v]).length = l.length + 1 := by simp
  have em := mdI (k := l.length) ha (by omega)
  have em1 := mdI (k := l.length + 1) ha (by omega)
  have hm : (a + l.length) % N < N := Nat.mod_lt _ (by omega)
  have e1 : ((a + l.length) % N + 1) % N = (a + (l.length + 1)) % N := by rw [Nat.mod_add_mod]; rfl
  have ne0 : ∀ j, j < N → j ≠ l.length → (a + j) % N ≠ (a + l.length) % N := fun j hj hjl => by rw [mdI ha (by omega), em]; split <;> split <;> omega
  have hkA : ∀ e0, g arr = some e0 → elE e0 = false := fun e0 q => by rw [hA] at q; cases q; rfl
  obtain ⟨hB, hBd⟩ : ∃ hB, hB = updV h ((a + l.length) % N) (.ref v) := ⟨_, rfl⟩
  have b1 : ∀ j, j < l.length + 1 → hB ((a + j) % N) = .ref ((l ++ [v]).getD j 0) := fun j hj => by
    rw [hBd, getD_app (by omega)]
    unfold updV
    by_cases c : j = l.length
    · rw [c, if_pos rfl, if_pos rfl]
    · rw [if_neg (ne0 j (by omega) c), if_neg c]; exact h3 j (by omega)
  have b2 : ∀ j, l.length + 1 ≤ j → j < N → hB ((a + j) % N) = .null := fun j hj hj2 => by
    rw [hBd]
    unfold updV
    rw [if_neg (ne0 j hj2 (by omega))]; exact h4 j (by omega) hj2
  have helv : ∀ j, j < l.length + 1 → el g ((l ++ [v]).getD j 0) := fun j hj => by
    rw [getD_app (by omega)]
    by_cases c : j = l.length
    · rw [if_pos c]; exact hv
    · rw [if_neg c]; exact hel _ (by rw [List.getD_eq_getElem?_getD, List.getElem?_eq_getElem (by omega)]; exact List.getElem_mem _)
  refine r_aload_1 hK dJ16_addLast_0 ?_
  refine r_ifnonnull 12 hK dJ16_addLast_1 ?_
  refine r_aload_0 hK dJ16_addLast_12 ?_
  refine r_get hK fl_J16_3 dJ16_addLast_13 (by assumption) rfl ?_
  refine r_astore_2 hK dJ16_addLast_16 ?_
  refine r_aload_2 hK dJ16_addLast_17 ?_
  refine r_aload_0 hK dJ16_addLast_18 ?_
  refine r_get hK fl_J16_20 dJ16_addLast_19 (by assumption) rfl ?_
  refine r_aload_1 hK dJ16_addLast_22 ?_
  refine r_aastE hK hXK dJ16_addLast_23 hA hm hv ?_ (hN := by omega)
  rw [← hBd]
  refine r_aload_0 hK dJ16_addLast_24 ?_
  refine r_get hK fl_J16_24 dJ16_addLast_25 ((by rw [up_n hne.symm]; exact h1)) rfl ?_
  refine r_aload_0 hK dJ16_addLast_28 ?_
  refine r_aload_0 hK dJ16_addLast_29 ?_
  refine r_get hK fl_J16_20 dJ16_addLast_30 ((by rw [up_n hne.symm]; exact h1)) rfl ?_
  refine r_aload_2 hK dJ16_addLast_33 ?_
  refine r_alen hK dJ16_addLast_34 (up_s _ _ _) ?_
  refine r_pS2 hK (ad_inc hK.rel hm hN) lk_J16_74 dJ16_addLast_35 ?_
  rw [e1]
  refine r_dup_x1 hK dJ16_addLast_38 ?_
  refine r_put hK fl_J16_20 dJ16_addLast_39 ((by rw [up_n hne.symm]; exact h1)) (by simp) ?_
  refine r_icmp_ne 50 hK dJ16_addLast_42 (by omega) (by have : (a + (l.length + 1)) % N < N := Nat.mod_lt _ (by omega); omega) (fun h42 => ?_) (fun h42 => ?_)
  · refine r_vret hK hRt dJ16_addLast_50 ⟨rfl, Nat.le_refl _, [arr], ⟨arr, N, a, hB, rfl, hne, ?_, ?_, ha, ?_, hN, fun j hj => b1 j (by rw [elen] at hj; exact hj), fun j hj hj2 => b2 j (by rw [elen] at hj; exact hj) hj2⟩, fun x hx => Or.inl (by rw [how]; exact hx), fun x p q _ => ?_⟩
    · rw [up_s, elen]; rfl
    · rw [up_n hne, up_s]
    · rw [elen]
      by_cases c : l.length + 1 = N
      · exfalso; apply h42; rw [em1, if_neg (by omega)]; omega
      · omega
    · rw [how] at q
      rw [up_n p, up_n (fun z => q (by rw [z]; simp))]
  · have hfull : l.length + 1 = N := by
      rw [em1] at h42
      split at h42 <;> omega
    have e2 : (a + (l.length + 1)) % N = a := by omega
    rw [e2]
    refine r_aload_0 hK dJ16_addLast_45 ?_
    refine r_iconstN (c := 1) hK dJ16_addLast_46 ?_
    refine r_callV1 hK (ad_grow hK.rel hXK (id := id) (arr := arr) (N := N) (a := a) (h := hB) (by rw [up_s]; rfl) (by rw [up_n hne, up_s]) ha (by omega) hid harr (fun j hj => ?_)) lk_J16_71 (Rcv.ups (ci := 17) hK.rel rfl) dJ16_addLast_47 (fun r n1 f1 hp => ?_)
    · obtain ⟨i, hi, hij⟩ : ∃ i, i < N ∧ (a + i) % N = j := by
        by_cases c : a ≤ j
        · exact ⟨j - a, by omega, by rw [show a + (j - a) = j from by omega, Nat.mod_eq_of_lt hj]⟩
        · exact ⟨j + N - a, by omega, by rw [show a + (j + N - a) = j + N from by omega, Nat.add_mod_right, Nat.mod_eq_of_lt hj]⟩
      refine ⟨_, by rw [← hij]; exact b1 i (by omega), ((helv i (by omega)).up hkA).up (fun e0 q => by rw [up_n hne.symm, h1] at q; cases q; rfl)⟩
    obtain ⟨rfl, rfl, h', k1, k2, k3, k4, k5, k6⟩ := hp
    refine r_vret hK hRt dJ16_addLast_50 ⟨rfl, by omega, [n], ⟨n, N + (N + 2), a + (N + 2), h', rfl, by omega, ?_, k2, by omega, by rw [elen]; omega, by omega, fun j hj => ?_, fun j hj hj2 => ?_⟩, fun x hx => Or.inr (by have := List.mem_singleton.mp hx; omega), fun x p q hx => ?_⟩
    · rw [k1, show (a + (N + 2) + (l ++ [v]).length) % (N + (N + 2)) = a from by rw [elen, mdI (by omega) (by omega), if_neg (by omega)]; omega]
    · rw [elen] at hj
      rw [← b1 j hj, mdI (by omega) (by omega), mdI ha (by omega)]
      by_cases c : a + j < N
      · rw [if_pos (by omega), if_pos c, show a + (N + 2) + j = (a + j) + (N + 2) from by omega]; exact k6 _ (by omega) c
      · rw [if_neg (by omega), if_neg c, show a + (N + 2) + j - (N + (N + 2)) = a + j - N from by omega]; exact k4 _ (by omega)
    · rw [elen] at hj
      rw [mdI (by omega) (by omega), if_neg (by omega)]; exact k5 _ (by omega) (by omega)
    · rw [how] at q
      rw [k3 x p (by omega), up_n p, up_n (fun z => q (by rw [z]; simp))]
