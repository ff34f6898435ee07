set_option maxRecDepth 100000
/-! ===== constructors: Throwable .. Fault; List.of, Tokens ===== -/
set_option maxHeartbeats 4000000 in
theorem ct_iThr {G : GT} {Rel : Nat → Hp → Hp → Prop} (hR : RelOK Rel) (hP : Rel = RelP) (hX : GX G) {n : Nat} {f : Hp} {k : Nat} {a b : Value} (h : f k = some (.inl (1, [.null, .null, .null, .null, .null, zI 0, a, b]))) : Ct G Rel yJ0_init_2 cJ0_init_2 5 none (1) (0) [.ref k, .ref 5, .null, zI 0, zI 0] n (f) (Pv n (up f k (.inl (1, [.null, .null, .null, .ref 5, .null, zI 0, a, b])))) := by
  refine ct_intro [some (.ref k), some (.ref 5), some (.null), some (zI 0), some (zI 0)] hR rfl (Nat.le_of_ble_eq_true rfl) ?_
  intro K hG hRel hK hRt hnm
  have hQ : kRel K = RelP := by rw [hRel]; exact hP
  have hXK : GX (kG K) := by rw [hG]; exact hX
  have j23 : ∀ c s p : Value, Wx K 23 [some (.ref k), some (.ref 5), some .null, some (zI 0), some (zI 0)] [] n (up f k (.inl (1, [c, s, p, .null, .null, zI 0, a, b]))) 0 := by
    intro c s p
    refine r_iload_4 hK dJ0_init_2_23 ?_
    refine r_if_eq 36 hK dJ0_init_2_25 (by omega) (fun h25 => ?_) (fun h25 => ?_)
    · refine r_aload_0 hK dJ0_init_2_36 ?_
      refine r_null hK dJ0_init_2_37 ?_
      refine r_put hK fl_J0_17 dJ0_init_2_38 (up_s _ _ _) (by simp) ?_
      rw [up_up]
      refine r_aload_0 hK dJ0_init_2_41 ?_
      refine r_aload_1 hK dJ0_init_2_42 ?_
      refine r_put hK fl_J0_31 dJ0_init_2_43 (up_s _ _ _) (by simp) ?_
      rw [up_up]
      refine r_aload_0 hK dJ0_init_2_46 ?_
      refine r_aload_2 hK dJ0_init_2_47 ?_
      refine r_put hK fl_J0_7 dJ0_init_2_48 (up_s _ _ _) (by simp) ?_
      rw [up_up]
      refine r_iload_3 hK dJ0_init_2_51 ?_
      refine r_if_ne 60 hK dJ0_init_2_52 (by omega) (fun h52 => ?_) (fun h52 => ?_)
      · exact absurd rfl h52 --!
      · refine r_aload_0 hK dJ0_init_2_55 ?_
        refine r_null hK dJ0_init_2_56 ?_
        refine r_put hK fl_J0_24 dJ0_init_2_57 (up_s _ _ _) (by simp) ?_
        rw [up_up]
        exact r_vret hK hRt dJ0_init_2_60 ⟨rfl, rfl, rfl⟩
    · exact absurd rfl h25 --!
  have j16 : ∀ c s : Value, Wx K 16 [some (.ref k), some (.ref 5), some .null, some (zI 0), some (zI 0)] [] n (up f k (.inl (1, [c, s, .null, .null, .null, zI 0, a, b]))) 0 := by
    intro c s
    refine r_aload_0 hK dJ0_init_2_16 ?_
    refine r_getsQ hK hXK (C := "java/lang/Throwable") (nm := "SUPPRESSED_SENTINEL") (ds := "Ljava/util/List;") (k := 1) (by simp [sfT]) q216 dJ0_init_2_17 ?_ ?_
    · refine r_put hK fl_J0_24 dJ0_init_2_20 (up_s _ _ _) (by simp) ?_
      rw [up_up]
      exact j23 _ _ _
    · refine r_put hK fl_J0_24 dJ0_init_2_20 (up_s _ _ _) (by simp) ?_
      rw [up_up]
      exact j23 _ _ _
  refine r_aload_0 hK dJ0_init_2_0 ?_
  refine r_objInit hK oi_J0_1 dJ0_init_2_1 ?_
  refine r_aload_0 hK dJ0_init_2_4 ?_
  refine r_aload_0 hK dJ0_init_2_5 ?_
  refine r_put hK fl_J0_7 dJ0_init_2_6 h (by simp) ?_
  refine r_aload_0 hK dJ0_init_2_9 ?_
  refine r_getsQ hK hXK (C := "java/lang/Throwable") (nm := "UNASSIGNED_STACK") (ds := "[Ljava/lang/StackTraceElement;") (k := 0) (by simp [sfT]) q214 dJ0_init_2_10 ?_ ?_
  · refine r_put hK fl_J0_17 dJ0_init_2_13 (up_s _ _ _) (by simp) ?_
    rw [up_up]
    exact j16 _ _
  · refine r_put hK fl_J0_17 dJ0_init_2_13 (up_s _ _ _) (by simp) ?_
    rw [up_up]
    exact j16 _ _
set_option maxHeartbeats 4000000 in
theorem ct_iExc {G : GT} {Rel : Nat → Hp → Hp → Prop} (hR : RelOK Rel) (hP : Rel = RelP) (hX : GX G) {n : Nat} {f : Hp} {k : Nat} {a b : Value} (h : f k = some (.inl (1, [.null, .null, .null, .null, .null, zI 0, a, b]))) : Ct G Rel yJ1_init cJ1_init 5 none (2) (0) [.ref k, .ref 5, .null, zI 0, zI 0] n (f) (Pv n (up f k (.inl (1, [.null, .null, .null, .ref 5, .null, zI 0, a, b])))) := by
  refine ct_intro [some (.ref k), some (.ref 5), some (.null), some (zI 0), some (zI 0)] hR rfl (Nat.le_of_ble_eq_true rfl) ?_
  intro K hG hRel hK hRt hnm
  have hQ : kRel K = RelP := by rw [hRel]; exact hP
  have hXK : GX (kG K) := by rw [hG]; exact hX
  refine r_aload_0 hK dJ1_init_0 ?_
  refine r_aload_1 hK dJ1_init_1 ?_
  refine r_aload_2 hK dJ1_init_2 ?_
  refine r_iload_3 hK dJ1_init_3 ?_
  refine r_iload_4 hK dJ1_init_4 ?_
  refine r_callI4 hK (ct_iThr hK.rel hQ hXK h) lk_J1_16 dJ1_init_6 (fun r n1 f1 hp => ?_)
  obtain ⟨rfl, rfl, rfl⟩ := hp
  exact r_vret hK hRt dJ1_init_9 ⟨rfl, rfl, rfl⟩
set_option maxHeartbeats 4000000 in
theorem ct_iRte {G : GT} {Rel : Nat → Hp → Hp → Prop} (hR : RelOK Rel) (hP : Rel = RelP) (hX : GX G) {n : Nat} {f : Hp} {k : Nat} {a b : Value} (h : f k = some (.inl (1, [.null, .null, .null, .null, .null, zI 0, a, b]))) : Ct G Rel yJ2_init cJ2_init 5 none (3) (0) [.ref k, .ref 5, .null, zI 0, zI 0] n (f) (Pv n (up f k (.inl (1, [.null, .null, .null, .ref 5, .null, zI 0, a, b])))) := by
  refine ct_intro [some (.ref k), some (.ref 5), some (.null), some (zI 0), some (zI 0)] hR rfl (Nat.le_of_ble_eq_true rfl) ?_
  intro K hG hRel hK hRt hnm
  have hQ : kRel K = RelP := by rw [hRel]; exact hP
  have hXK : GX (kG K) := by rw [hG]; exact hX
  refine r_aload_0 hK dJ2_init_0 ?_
  refine r_aload_1 hK dJ2_init_1 ?_
  refine r_aload_2 hK dJ2_init_2 ?_
  refine r_iload_3 hK dJ2_init_3 ?_
  refine r_iload_4 hK dJ2_init_4 ?_
  refine r_callI4 hK (ct_iExc hK.rel hQ hXK h) lk_J2_16 dJ2_init_6 (fun r n1 f1 hp => ?_)
  obtain ⟨rfl, rfl, rfl⟩ := hp
  exact r_vret hK hRt dJ2_init_9 ⟨rfl, rfl, rfl⟩
set_option maxHeartbeats 4000000 in
theorem ct_iFault {G : GT} {Rel : Nat → Hp → Hp → Prop} (hR : RelOK Rel) (hP : Rel = RelP) (hX : GX G) {n : Nat} {f : Hp} {k : Nat} {a b : Value} (h : f k = some (.inl (1, [.null, .null, .null, .null, .null, zI 0, a, b]))) : Ct G Rel yX1_init cX1_init 1 none (4) (0) [.ref k] n (f) (Pv n (up f k (.inl (1, [.null, .null, .null, .ref 5, .null, zI 0, a, b])))) := by
  refine ct_intro [some (.ref k)] hR rfl (Nat.le_of_ble_eq_true rfl) ?_
  intro K hG hRel hK hRt hnm
  have hQ : kRel K = RelP := by rw [hRel]; exact hP
  have hXK : GX (kG K) := by rw [hG]; exact hX
  refine r_aload_0 hK dX1_init_0 ?_
  refine r_ldcS (k := 5) hK hXK (by simp [strT, RX1]) dX1_init_1 ?_
  refine r_null hK dX1_init_3 ?_
  refine r_iconstN (c := 0) hK dX1_init_4 ?_
  refine r_iconstN (c := 0) hK dX1_init_5 ?_
  refine r_callI4 hK (ct_iRte hK.rel hQ hXK h) lk_X1_3 dX1_init_6 (fun r n1 f1 hp => ?_)
  obtain ⟨rfl, rfl, rfl⟩ := hp
  exact r_vret hK hRt dX1_init_9 ⟨rfl, rfl, rfl⟩
set_option maxHeartbeats 4000000 in
theorem ct_i7 {G : GT} {Rel : Nat → Hp → Hp → Prop} (hR : RelOK Rel) {n : Nat} {f : Hp} {k : Nat} : Ct G Rel yJ7_init cJ7_init 1 none (2) (0) [.ref k] n (f) (Pv n f) := by
  refine ct_intro [some (.ref k)] hR rfl (Nat.le_of_ble_eq_true rfl) ?_
  intro K hG hRel hK hRt hnm
  refine r_aload_0 hK dJ7_init_0 ?_
  refine r_callI0 hK (ct_acInit hK.rel) lk_J7_1 dJ7_init_1 (fun r n1 f1 hp => ?_)
  obtain ⟨rfl, rfl, rfl⟩ := hp
  exact r_vret hK hRt dJ7_init_4 ⟨rfl, rfl, rfl⟩
set_option maxHeartbeats 4000000 in
theorem ct_i8 {G : GT} {Rel : Nat → Hp → Hp → Prop} (hR : RelOK Rel) {n : Nat} {f : Hp} {k : Nat} : Ct G Rel yJ8_init cJ8_init 1 none (3) (0) [.ref k] n (f) (Pv n f) := by
  refine ct_intro [some (.ref k)] hR rfl (Nat.le_of_ble_eq_true rfl) ?_
  intro K hG hRel hK hRt hnm
  refine r_aload_0 hK dJ8_init_0 ?_
  refine r_callI0 hK (ct_i7 hK.rel) lk_J8_1 dJ8_init_1 (fun r n1 f1 hp => ?_)
  obtain ⟨rfl, rfl, rfl⟩ := hp
  exact r_vret hK hRt dJ8_init_4 ⟨rfl, rfl, rfl⟩
set_option maxHeartbeats 4000000 in
theorem ct_i10 {G : GT} {Rel : Nat → Hp → Hp → Prop} (hR : RelOK Rel) {n : Nat} {f : Hp} {k e : Nat} {a b : Value} (h : f k = some (.inl (18, [a, b]))) : Ct G Rel yJ10_init cJ10_init 3 none (4) (0) [.ref k, .ref e, zI 0] n (f) (Pv n (up f k (.inl (18, [.ref e, zI 0])))) := by
  refine ct_intro [some (.ref k), some (.ref e), some (zI 0)] hR rfl (Nat.le_of_ble_eq_true rfl) ?_
  intro K hG hRel hK hRt hnm
  refine r_aload_0 hK dJ10_init_0 ?_
  refine r_callI0 hK (ct_i8 hK.rel) lk_J10_1 dJ10_init_1 (fun r n1 f1 hp => ?_)
  obtain ⟨rfl, rfl, rfl⟩ := hp
  refine r_aload_0 hK dJ10_init_4 ?_
  refine r_aload_1 hK dJ10_init_5 ?_
  refine r_put hK fl_J10_7 dJ10_init_6 h (by simp) ?_ (hfin := ⟨_, rfl, Or.inr ⟨hnm, rfl⟩⟩)
  refine r_aload_0 hK dJ10_init_9 ?_
  refine r_iload_2 hK dJ10_init_10 ?_
  refine r_put hK fl_J10_13 dJ10_init_11 (up_s _ _ _) (by simp) ?_ (hfin := ⟨_, rfl, Or.inr ⟨hnm, rfl⟩⟩)
  rw [up_up]
  exact r_vret hK hRt dJ10_init_14 ⟨rfl, rfl, rfl⟩
set_option maxHeartbeats 4000000 in
theorem ct_rnn {G : GT} {Rel : Nat → Hp → Hp → Prop} (hR : RelOK Rel) {n : Nat} {f : Hp} {k : Nat} : Ct G Rel yJ5_requireNonNull cJ5_requireNonNull 1 (some (.object "java/lang/Object")) (1) (0) [.ref k] n (f) (Pu (.ref k) n f) := by
  refine ct_intro [some (.ref k)] hR rfl (Nat.le_of_ble_eq_true rfl) ?_
  intro K hG hRel hK hRt hnm
  refine r_aload_0 hK dJ5_requireNonNull_0 ?_
  refine r_ifnonnull 12 hK dJ5_requireNonNull_1 ?_
  refine r_aload_0 hK dJ5_requireNonNull_12 ?_
  exact r_aret hK hRt dJ5_requireNonNull_13 ⟨rfl, rfl, rfl⟩
theorem new18 {G : GT} : ∃ r, cls[18]? = some r ∧ r.2.2 ≤ 12 * 1 ∧ 1 ≤ 1 ∧ ∀ j, j < r.2.2 → defaultValue (tyC 18 j) = cv G (vp_V [.null, zI 0] j) := ⟨_, rfl, by decide, by decide, fun j hj => by
  have h3 : j = 0 ∨ j = 1 := by have : j < 2 := hj; omega
  rcases h3 with e | e <;> subst e <;> rfl⟩
set_option maxHeartbeats 4000000 in
theorem ct_lfta {G : GT} {Rel : Nat → Hp → Hp → Prop} (hR : RelOK Rel) (hP : Rel = RelP) (hX : GX G) {n : Nat} {f : Hp} {a : Nat} {h : Nat → Value} (hf : f a = some (.inr (5, 4, h))) (hh : ∀ j, j < 4 → h j = .ref (6 + j)) : Ct G Rel yJ4_listFromTrustedArray cJ4_listFromTrustedArray 5 (some (.object "java/util/List")) (5) (1) [.ref a] n (f) (fun r n' f' => r = some (.ref n) ∧ n' = n + 1 ∧ f' = up f n (.inl (18, [.ref a, zI 0]))) := by
  refine ct_intro [some (.ref a), none, none, none, none] hR rfl (Nat.le_of_ble_eq_true rfl) ?_
  intro K hG hRel hK hRt hnm
  have hQ : kRel K = RelP := by rw [hRel]; exact hP
  have hXK : GX (kG K) := by rw [hG]; exact hX
  have lp : ∀ (d k : Nat) (x : Option Value), k + d = 4 → Wx K 30 [some (.ref a), some (.ref a), some (zI ((4 : Nat) : Int)), some (zI (k : Int)), x] [] n f 0 := by
    intro d
    induction d with
    | zero =>
      intro k x hk
      have ek : k = 4 := hk
      subst ek
      refine r_iload_3 hK dJ4_listFromTrustedArray_30 ?_
      refine r_iload_2 hK dJ4_listFromTrustedArray_31 ?_
      refine r_icmp_ge 52 hK dJ4_listFromTrustedArray_32 (by omega) (by omega) (fun h32 => ?_) (fun h32 => ?_)
      · refine r_aload_0 hK dJ4_listFromTrustedArray_52 ?_
        refine r_alen hK dJ4_listFromTrustedArray_53 hf ?_
        refine r_tabOut 115 hK dJ4_listFromTrustedArray_54 (by decide) (Or.inr (by decide)) rfl ?_
      · exact absurd h32 (by decide) --!
      refine r_new (fs := [.null, zI 0]) 1 hK nw_J4_12 dJ4_listFromTrustedArray_115 (by decide) ?_ (hw := new18)
      refine r_dup hK dJ4_listFromTrustedArray_118 ?_
      refine r_aload_0 hK dJ4_listFromTrustedArray_119 ?_
      refine r_iconstN (c := 0) hK dJ4_listFromTrustedArray_120 ?_
      refine r_callIN2 hK (ct_i10 hK.rel (up_s _ _ _)) lk_J4_43 dJ4_listFromTrustedArray_121 (fun r n1 f1 hp => ?_)
      obtain ⟨rfl, rfl, rfl⟩ := hp
      rw [up_up]
      exact r_aret hK hRt dJ4_listFromTrustedArray_124 ⟨rfl, rfl, rfl⟩
    | succ d ih =>
      intro k x hk
      refine r_iload_3 hK dJ4_listFromTrustedArray_30 ?_
      refine r_iload_2 hK dJ4_listFromTrustedArray_31 ?_
      refine r_icmp_ge 52 hK dJ4_listFromTrustedArray_32 (by omega) (by omega) (fun h32 => ?_) (fun h32 => ?_)
      · omega --!
      · refine r_aload_1 hK dJ4_listFromTrustedArray_35 ?_
        refine r_iload_3 hK dJ4_listFromTrustedArray_36 ?_
        refine r_aald hK dJ4_listFromTrustedArray_37 hf (by omega) ?_
        rw [hh k (by omega)]
        refine r_astore_4 hK dJ4_listFromTrustedArray_38 ?_
        refine r_aload_4 hK dJ4_listFromTrustedArray_40 ?_
        refine r_pS1 hK (ct_rnn hK.rel) lk_J4_37 dJ4_listFromTrustedArray_42 ?_
        refine r_pop hK dJ4_listFromTrustedArray_45 ?_
        first | refine r_incN_3 hK dJ4_listFromTrustedArray_46 ?_ | refine r_iinc_3 hK dJ4_listFromTrustedArray_46 ?_
        refine r_goto 30 hK dJ4_listFromTrustedArray_49 ?_
        exact ih (k + 1) _ (by omega)
  refine r_gets hK hXK (C := "java/util/ImmutableCollections") (nm := "$assertionsDisabled") (ds := "Z") (v := zI 1) (by simp [stT]) q281 dJ4_listFromTrustedArray_0 ?_
  refine r_if_ne 23 hK dJ4_listFromTrustedArray_3 (by omega) (fun h3 => ?_) (fun h3 => ?_)
  · refine r_aload_0 hK dJ4_listFromTrustedArray_23 ?_
    refine r_astore_1 hK dJ4_listFromTrustedArray_24 ?_
    refine r_aload_1 hK dJ4_listFromTrustedArray_25 ?_
    refine r_alen hK dJ4_listFromTrustedArray_26 hf ?_
    refine r_istore_2 hK dJ4_listFromTrustedArray_27 ?_
    refine r_iconstN (c := 0) hK dJ4_listFromTrustedArray_28 ?_
    refine r_istore_3 hK dJ4_listFromTrustedArray_29 ?_
    exact lp 4 0 none rfl
  · exact absurd h3 (by decide) --!
set_option maxHeartbeats 4000000 in
theorem ct_lof {G : GT} {Rel : Nat → Hp → Hp → Prop} (hR : RelOK Rel) (hP : Rel = RelP) (hX : GX G) {n : Nat} {f : Hp} : Ct G Rel yJ3_of cJ3_of 4 (some (.object "java/util/List")) (6) (2) [.ref 6, .ref 7, .ref 8, .ref 9] n (f) (fun r n' f' => r = some (.ref (n + 1)) ∧ n' = n + 2 ∧ f' = up (up f n (.inr (5, 4, fun j => .ref (6 + j)))) (n + 1) (.inl (18, [.ref n, zI 0]))) := by
  refine ct_intro [some (.ref 6), some (.ref 7), some (.ref 8), some (.ref 9)] hR rfl (Nat.le_of_ble_eq_true rfl) ?_
  intro K hG hRel hK hRt hnm
  have hQ : kRel K = RelP := by rw [hRel]; exact hP
  have hXK : GX (kG K) := by rw [hG]; exact hX
  refine r_iconstN (c := 4) hK dJ3_of_0 ?_
  refine r_anew (N := 4) 1 5 hK ⟨rfl, by decide, by decide⟩ cl_J3_103 q277 dJ3_of_1 (by decide) ?_
  refine r_dup hK dJ3_of_4 ?_
  refine r_iconstN (c := 0) hK dJ3_of_5 ?_
  refine r_aload_0 hK dJ3_of_6 ?_
  refine r_aastE (i := 0) hK hXK dJ3_of_7 (up_s _ _ _) (by decide) (Or.inr (Or.inr (Or.inl ⟨by decide, by decide⟩))) ?_
  rw [up_up]
  refine r_dup hK dJ3_of_8 ?_
  refine r_iconstN (c := 1) hK dJ3_of_9 ?_
  refine r_aload_1 hK dJ3_of_10 ?_
  refine r_aastE (i := 1) hK hXK dJ3_of_11 (up_s _ _ _) (by decide) (Or.inr (Or.inr (Or.inl ⟨by decide, by decide⟩))) ?_
  rw [up_up]
  refine r_dup hK dJ3_of_12 ?_
  refine r_iconstN (c := 2) hK dJ3_of_13 ?_
  refine r_aload_2 hK dJ3_of_14 ?_
  refine r_aastE (i := 2) hK hXK dJ3_of_15 (up_s _ _ _) (by decide) (Or.inr (Or.inr (Or.inl ⟨by decide, by decide⟩))) ?_
  rw [up_up]
  refine r_dup hK dJ3_of_16 ?_
  refine r_iconstN (c := 3) hK dJ3_of_17 ?_
  refine r_aload_3 hK dJ3_of_18 ?_
  refine r_aastE (i := 3) hK hXK dJ3_of_19 (up_s _ _ _) (by decide) (Or.inr (Or.inr (Or.inl ⟨by decide, by decide⟩))) ?_
  rw [up_up]
  refine r_arr (g1 := fun j => .ref (6 + j)) hK (up_s _ _ _) (by decide) (fun j hj => ?_) ?_
  · have h3 : j = 0 ∨ j = 1 ∨ j = 2 ∨ j = 3 := by omega
    rcases h3 with e | e | e | e <;> subst e <;> rfl
  rw [up_up]
  refine r_callS1 hK (ct_lfta hK.rel hQ hXK (up_s _ _ _) (fun j _ => rfl)) lk_J3_105 dJ3_of_20 (fun r n1 f1 hp => ?_)
  obtain ⟨rfl, rfl, rfl⟩ := hp
  exact r_aret hK hRt dJ3_of_23 ⟨rfl, rfl, rfl⟩
set_option maxHeartbeats 4000000 in
theorem ct_iTok {G : GT} {Rel : Nat → Hp → Hp → Prop} (hR : RelOK Rel) (hP : Rel = RelP) (hX : GX G) {n : Nat} {f : Hp} {k : Nat} (h : f k = some (.inl (2, [.null, .null, zI 0, .null, .null, .null, .null, zI 0]))) (hk : k < n) : Ct G Rel yX2_init cX2_init 1 none (7) (837) [.ref k] n (f) (fun r n' f' => r = none ∧ n' = n + 7 ∧ f' = up (up (up (up (up (up (up (up f n (.inr (5, 4, fun j => .ref (6 + j)))) (n + 1) (.inl (18, [.ref n, zI 0]))) (n + 2) (.inr (1, 2000, fun _ => zI 0))) (n + 3) (.inr (1, 2001, fun _ => zI 0))) (n + 4) (.inr (2, 2001, fun _ => zI 0))) (n + 5) (.inr (2, 2001, fun _ => zI 0))) (n + 6) (.inr (2, 2001, fun _ => zI 0))) k (.inl (2, [.ref (n + 1), .ref (n + 2), zI 0, .ref (n + 3), .ref (n + 4), .ref (n + 5), .ref (n + 6), zI 0]))) := by
  refine ct_intro [some (.ref k)] hR rfl (Nat.le_of_ble_eq_true rfl) ?_
  intro K hG hRel hK hRt hnm
  have hQ : kRel K = RelP := by rw [hRel]; exact hP
  have hXK : GX (kG K) := by rw [hG]; exact hX
  refine r_aload_0 hK dX2_init_0 ?_
  refine r_objInit hK oi_X2_3 dX2_init_1 ?_
  refine r_aload_0 hK dX2_init_4 ?_
  refine r_ldcS (k := 6) hK hXK (by simp [strT, RX2]) dX2_init_5 ?_
  refine r_ldcS (k := 7) hK hXK (by simp [strT, RX2]) dX2_init_7 ?_
  refine r_ldcS (k := 8) hK hXK (by simp [strT, RX2]) dX2_init_9 ?_
  refine r_ldcS (k := 9) hK hXK (by simp [strT, RX2]) dX2_init_11 ?_
  refine r_callS4 hK (ct_lof hK.rel hQ hXK) lk_X2_17 dX2_init_13 (fun r n1 f1 hp => ?_)
  obtain ⟨rfl, rfl, rfl⟩ := hp
  refine r_put hK fl_X2_23 dX2_init_16 ((up_n (by omega)).trans ((up_n (by omega)).trans h)) (by simp) ?_ (hfin := ⟨_, rfl, Or.inr ⟨hnm, rfl⟩⟩)
  refine r_aload_0 hK dX2_init_19 ?_
  refine r_sipushN (c := 2000) hK dX2_init_20 ?_
  refine r_newarr (N := 2000) (ty := 1) (atype := .byte) 167 hK q262 dX2_init_23 (by decide) ?_
  rw [up_comm (j := k) (k := n + 2) (by omega)]
  refine r_put hK fl_X2_29 dX2_init_25 (up_s _ _ _) (by simp) ?_ (hfin := ⟨_, rfl, Or.inr ⟨hnm, rfl⟩⟩)
  rw [up_up]
  refine r_aload_0 hK dX2_init_28 ?_
  refine r_sipushN (c := 2001) hK dX2_init_29 ?_
  refine r_newarr (N := 2001) (ty := 1) (atype := .byte) 167 hK q262 dX2_init_32 (by decide) ?_
  rw [up_comm (j := k) (k := n + 2 + 1) (by omega)]
  refine r_put hK fl_X2_33 dX2_init_34 (up_s _ _ _) (by simp) ?_ (hfin := ⟨_, rfl, Or.inr ⟨hnm, rfl⟩⟩)
  rw [up_up]
  refine r_aload_0 hK dX2_init_37 ?_
  refine r_sipushN (c := 2001) hK dX2_init_38 ?_
  refine r_newarr (N := 2001) (ty := 2) (atype := .short) 167 hK q390 dX2_init_41 (by decide) ?_
  rw [up_comm (j := k) (k := n + 2 + 1 + 1) (by omega)]
  refine r_put hK fl_X2_36 dX2_init_43 (up_s _ _ _) (by simp) ?_ (hfin := ⟨_, rfl, Or.inr ⟨hnm, rfl⟩⟩)
  rw [up_up]
  refine r_aload_0 hK dX2_init_46 ?_
  refine r_sipushN (c := 2001) hK dX2_init_47 ?_
  refine r_newarr (N := 2001) (ty := 2) (atype := .short) 167 hK q390 dX2_init_50 (by decide) ?_
  rw [up_comm (j := k) (k := n + 2 + 1 + 1 + 1) (by omega)]
  refine r_put hK fl_X2_40 dX2_init_52 (up_s _ _ _) (by simp) ?_ (hfin := ⟨_, rfl, Or.inr ⟨hnm, rfl⟩⟩)
  rw [up_up]
  refine r_aload_0 hK dX2_init_55 ?_
  refine r_sipushN (c := 2001) hK dX2_init_56 ?_
  refine r_newarr (N := 2001) (ty := 2) (atype := .short) 167 hK q390 dX2_init_59 (by decide) ?_
  rw [up_comm (j := k) (k := n + 2 + 1 + 1 + 1 + 1) (by omega)]
  refine r_put hK fl_X2_43 dX2_init_61 (up_s _ _ _) (by simp) ?_ (hfin := ⟨_, rfl, Or.inr ⟨hnm, rfl⟩⟩)
  rw [up_up]
  exact r_vret hK hRt dX2_init_64 ⟨rfl, rfl, rfl⟩
