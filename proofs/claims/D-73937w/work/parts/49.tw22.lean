set_option maxRecDepth 100000
/-! ===== the reference: numbers of orders, the table ===== -/
set_option maxHeartbeats 4000000 in
theorem ct_placeOf {G : GT} {Rel : Nat → Hp → Hp → Prop} (hR : RelOK Rel) {n : Nat} {f0 : Hp} {F : Nat → Nat} {A : Nat → Nat → Nat} {R : Nat} (h8 : R ≤ 8) (hb : ∀ i, i < R → A 29 i < 1000) : Ct G Rel yX9_placeOf cX9_placeOf 6 (some .int) (1) (0) [.ref 358, zI (R : Int)] n (tw f0 F A) (Pu (zI ((plc (A 29) R : Nat) : Int)) n (tw f0 F A)) := by
  refine ct_intro [some (.ref 358), some (zI (R : Int)), none, none, none, none] hR rfl (Nat.le_of_ble_eq_true rfl) ?_
  intro K hG hRel hK hRt hnm
  have lp : ∀ (m i : Nat) a4 a5, nl a4 = true → nl a5 = true → i + m = R → Wx K 4 [some (.ref 358), some (zI (R : Int)), some (zI ((plF (A 29) R i : Nat) : Int)), some (zI (i : Int)), a4, a5] [] n (tw f0 F A) 0 := by
    intro m
    induction m with
    | zero =>
      intro i a4 a5 n4 n5 hi
      refine r_iload_3 hK dX9_placeOf_4 ?_
      refine r_iload_1 hK dX9_placeOf_5 ?_
      refine r_icmp_ge 63 hK dX9_placeOf_6 (by omega) (by omega) (fun h6 => ?_) (fun h6 => ?_)
      · refine r_iload_2 hK dX9_placeOf_63 ?_
        exact r_iret hK hRt dX9_placeOf_64 ⟨by rw [show i = R by omega]; rfl, rfl, rfl⟩
      · exact absurd h6 (by omega)
    | succ m ih =>
      intro i a4 a5 n4 n5 hi
      have hbi := hb i (by omega)
      have lj : ∀ (m2 j : Nat), i + 1 + j + m2 = R → Wx K 17 [some (.ref 358), some (zI (R : Int)), some (zI ((plF (A 29) R i : Nat) : Int)), some (zI (i : Int)), some (zI ((cL (A 29) (A 29 i) (i + 1) j : Nat) : Int)), some (zI ((i + 1 + j : Nat) : Int))] [] n (tw f0 F A) 0 := by
        intro m2
        induction m2 with
        | zero =>
          intro j hj
          have ej : j = R - (i + 1) := by omega
          refine r_iload_5 hK dX9_placeOf_17 ?_
          refine r_iload_1 hK dX9_placeOf_19 ?_
          refine r_icmp_ge 48 hK dX9_placeOf_20 (by omega) (by omega) (fun h20 => ?_) (fun h20 => ?_)
          · refine r_iload_2 hK dX9_placeOf_48 ?_
            refine r_iload_1 hK dX9_placeOf_49 ?_
            refine r_iload_3 hK dX9_placeOf_50 ?_
            first | refine r_isubN hK dX9_placeOf_51 (by omega) ?_ | refine r_isub hK dX9_placeOf_51 ?_
            first | refine r_imulN hK dX9_placeOf_52 ?_ | refine r_imul hK dX9_placeOf_52 ?_
            refine r_iload_4 hK dX9_placeOf_53 ?_
            first | refine r_iaddN hK dX9_placeOf_55 ?_ | refine r_iadd hK dX9_placeOf_55 ?_
            refine r_istore_2 hK dX9_placeOf_56 ?_
            first | refine r_incN_3 hK dX9_placeOf_57 ?_ | refine r_iinc_3 hK dX9_placeOf_57 ?_
            refine r_goto 4 hK dX9_placeOf_60 ?_
            have := ih (i + 1) (some (zI ((cL (A 29) (A 29 i) (i + 1) j : Nat) : Int))) (some (zI ((i + 1 + j : Nat) : Int))) rfl rfl (by omega)
            rw [show plF (A 29) R (i + 1) = plF (A 29) R i * (R - i) + cL (A 29) (A 29 i) (i + 1) j by rw [ej]; rfl] at this
            exact this
          · exact absurd h20 (by omega)
        | succ m2 ih2 =>
          intro j hj
          obtain ⟨y, hy⟩ : ∃ y, y = i + 1 + j := ⟨_, rfl⟩
          have hby := hb y (by omega)
          have e1 : cL (A 29) (A 29 i) (i + 1) (j + 1) = cL (A 29) (A 29 i) (i + 1) j + if A 29 y < A 29 i then 1 else 0 := by rw [hy]; rfl
          rw [← hy]
          refine r_iload_5 hK dX9_placeOf_17 ?_
          refine r_iload_1 hK dX9_placeOf_19 ?_
          refine r_icmp_ge 48 hK dX9_placeOf_20 (by omega) (by omega) (fun h20 => ?_) (fun h20 => ?_)
          · exact absurd h20 (by omega)
          · refine r_aload_0 hK dX9_placeOf_23 ?_
            refine r_get hK fl_X9_111 dX9_placeOf_24 tw_obj rfl ?_
            refine r_iload_5 hK dX9_placeOf_27 ?_
            refine t_ild hK dX9_placeOf_29 (show _ < 8 by omega) ?_
            refine r_aload_0 hK dX9_placeOf_30 ?_
            refine r_get hK fl_X9_111 dX9_placeOf_31 tw_obj rfl ?_
            refine r_iload_3 hK dX9_placeOf_34 ?_
            refine t_ild hK dX9_placeOf_35 (show _ < 8 by omega) ?_
            refine r_icmp_ge 42 hK dX9_placeOf_36 (by omega) (by omega) (fun h36 => ?_) (fun h36 => ?_)
            · first | refine r_incN_5 hK dX9_placeOf_42 ?_ | refine r_iinc_5 hK dX9_placeOf_42 ?_
              refine r_goto 17 hK dX9_placeOf_45 ?_
              have := ih2 (j + 1) (by omega)
              rw [e1, if_neg (by omega), Nat.add_zero, show i + 1 + (j + 1) = y + 1 by omega] at this
              exact this
            · first | refine r_incN_4 hK dX9_placeOf_39 ?_ | refine r_iinc_4 hK dX9_placeOf_39 ?_
              first | refine r_incN_5 hK dX9_placeOf_42 ?_ | refine r_iinc_5 hK dX9_placeOf_42 ?_
              refine r_goto 17 hK dX9_placeOf_45 ?_
              have := ih2 (j + 1) (by omega)
              rw [e1, if_pos (by omega), show i + 1 + (j + 1) = y + 1 by omega] at this
              exact this
      refine r_iload_3 hK dX9_placeOf_4 ?_
      refine r_iload_1 hK dX9_placeOf_5 ?_
      refine r_icmp_ge 63 hK dX9_placeOf_6 (by omega) (by omega) (fun h6 => ?_) (fun h6 => ?_)
      · exact absurd h6 (by omega)
      · refine r_iconstN (c := 0) hK dX9_placeOf_9 ?_
        refine r_istore_4 hK dX9_placeOf_10 ?_
        refine r_iload_3 hK dX9_placeOf_12 ?_
        refine r_iconstN (c := 1) hK dX9_placeOf_13 ?_
        first | refine r_iaddN hK dX9_placeOf_14 ?_ | refine r_iadd hK dX9_placeOf_14 ?_
        refine r_istore_5 hK dX9_placeOf_15 ?_
        exact lj (m) 0 (by omega)
  refine r_iconstN (c := 0) hK dX9_placeOf_0 ?_
  refine r_istore_2 hK dX9_placeOf_1 ?_
  refine r_iconstN (c := 0) hK dX9_placeOf_2 ?_
  refine r_istore_3 hK dX9_placeOf_3 ?_
  exact lp R 0 none none rfl rfl (by omega)
set_option maxHeartbeats 4000000 in
theorem ct_laysPlace {G : GT} {Rel : Nat → Hp → Hp → Prop} (hR : RelOK Rel) {n : Nat} {f0 : Hp} {F : Nat → Nat} {A : Nat → Nat → Nat} {R c : Nat} {p : Nat → Nat} (h8 : R ≤ 8) (hR1 : 1 ≤ R) (hp : Pm R p) (hc : c = plc p R) : Ct G Rel yX9_laysPlace cX9_laysPlace 6 none (1) (0) [.ref 358, zI (c : Int), zI (R : Int)] n (tw f0 F A) (Tv n f0 (fun F' A' => F' = F ∧ (∀ a, a ≠ 28 → A' a = A a) ∧ ∀ j, j < R → A' 28 j = p j)) := by
  refine ct_intro [some (.ref 358), some (zI (c : Int)), some (zI (R : Int)), none, none, none] hR rfl (Nat.le_of_ble_eq_true rfl) ?_
  intro K hG hRel hK hRt hnm
  have lp : ∀ (i : Nat) (A1 : Nat → Nat → Nat) a5, nl a5 = true → i ≤ R → (∀ a, a ≠ 28 → A1 a = A a) → (∀ j, i ≤ j → j < R → A1 28 j = cL p (p j) i (R - i)) → Wx K 7 [some (.ref 358), some (zI (c : Int)), some (zI (R : Int)), some (zI ((plF p R i : Nat) : Int)), some (zI ((i : Int) - 1)), a5] [] n (tw f0 F A1) 0 := by
    intro i
    induction i with
    | zero =>
      intro A1 a5 n5 hi hA hl
      refine r_iload_4 hK dX9_laysPlace_7 ?_
      refine r_if_lt 84 hK dX9_laysPlace_9 (by omega) (fun h9 => ?_) (fun h9 => ?_)
      · exact r_vret hK hRt dX9_laysPlace_84 ⟨rfl, rfl, _, _, rfl, rfl, hA, fun j hj => by rw [hl j (by omega) hj, Nat.sub_zero, cL_full hp (Nat.le_of_lt (hp.1 j hj))]⟩
      · exact absurd h9 (by omega)
    | succ i ih =>
      intro A1 a5 n5 hi hA hl
      rw [show ((i + 1 : Nat) : Int) - 1 = (i : Int) by omega]
      have hiR : i < R := by omega
      obtain ⟨m1, m2⟩ := plF_mod (p := p) hiR
      have hn := plF_b h8 p (i := i + 1) hi
      have cb : ∀ y a m, m ≤ 8 → cL p y a m ≤ 8 := fun y a m hm => by have := cL_le p y a m; omega
      have lj : ∀ (m3 j : Nat) (A2 : Nat → Nat → Nat), i + 1 + j + m3 = R → (∀ a, a ≠ 28 → A2 a = A a) → A2 28 i = cL p (p i) (i + 1) (R - (i + 1)) → (∀ k, i < k → k < i + 1 + j → A2 28 k = cL p (p k) i (R - i)) → (∀ k, i + 1 + j ≤ k → k < R → A2 28 k = cL p (p k) (i + 1) (R - (i + 1))) → Wx K 38 [some (.ref 358), some (zI (c : Int)), some (zI (R : Int)), some (zI ((plF p R i : Nat) : Int)), some (zI (i : Int)), some (zI ((i + 1 + j : Nat) : Int))] [] n (tw f0 F A2) 0 := by
        intro m3
        induction m3 with
        | zero =>
          intro j A2 hj hA2 h2i h2a h2b
          refine r_iload_5 hK dX9_laysPlace_38 ?_
          refine r_iload_2 hK dX9_laysPlace_40 ?_
          refine r_icmp_ge 78 hK dX9_laysPlace_41 (by omega) (by omega) (fun h41 => ?_) (fun h41 => ?_)
          · first | refine r_decN_4 hK dX9_laysPlace_78 ?_ | refine r_iinc_4 hK dX9_laysPlace_78 ?_
            refine r_goto 7 hK dX9_laysPlace_81 ?_
            refine ih A2 _ rfl (by omega) hA2 (fun k k1 k2 => ?_)
            by_cases ck : k = i
            · rw [ck, rk_i hiR]; exact h2i
            · exact h2a k (by omega) (by omega)
          · exact absurd h41 (by omega)
        | succ m3 ih2 =>
          intro j A2 hj hA2 h2i h2a h2b
          obtain ⟨y, hy⟩ : ∃ y, y = i + 1 + j := ⟨_, rfl⟩
          have hyR : y < R := by omega
          have v1 : A2 28 y = cL p (p y) (i + 1) (R - (i + 1)) := h2b y (by omega) hyR
          have c1 := cb (p y) (i + 1) (R - (i + 1)) (by omega)
          have c2 := cb (p i) (i + 1) (R - (i + 1)) (by omega)
          have rc := rk_c hp (show i < y by omega) hyR
          have rj := rk_j (p := p) (j := y) hiR
          rw [← hy]
          refine r_iload_5 hK dX9_laysPlace_38 ?_
          refine r_iload_2 hK dX9_laysPlace_40 ?_
          refine r_icmp_ge 78 hK dX9_laysPlace_41 (by omega) (by omega) (fun h41 => ?_) (fun h41 => ?_)
          · exact absurd h41 (by omega)
          · refine r_aload_0 hK dX9_laysPlace_44 ?_
            refine r_get hK fl_X9_108 dX9_laysPlace_45 tw_obj rfl ?_
            refine r_iload_5 hK dX9_laysPlace_48 ?_
            refine t_ild hK dX9_laysPlace_50 (show _ < 8 by omega) ?_
            rw [v1]
            refine r_aload_0 hK dX9_laysPlace_51 ?_
            refine r_get hK fl_X9_108 dX9_laysPlace_52 tw_obj rfl ?_
            refine r_iload_4 hK dX9_laysPlace_55 ?_
            refine t_ild hK dX9_laysPlace_57 (show _ < 8 by omega) ?_
            rw [h2i]
            refine r_icmp_lt 72 hK dX9_laysPlace_58 (by omega) (by omega) (fun h58 => ?_) (fun h58 => ?_)
            · first | refine r_incN_5 hK dX9_laysPlace_72 ?_ | refine r_iinc_5 hK dX9_laysPlace_72 ?_
              refine r_goto 38 hK dX9_laysPlace_75 ?_
              have hlt : ¬ p i < p y := fun z => by have := rc.mpr z; omega
              rw [if_neg hlt] at rj
              have := ih2 (j + 1) A2 (by omega) hA2 h2i (fun k k1 k2 => ?_) (fun k k1 k2 => h2b k (by omega) k2)
              · rw [show i + 1 + (j + 1) = y + 1 by omega] at this
                exact this
              · by_cases ck : k = y
                · rw [ck, v1, rj]; rfl
                · exact h2a k k1 (by omega)
            · refine r_aload_0 hK dX9_laysPlace_61 ?_
              refine r_get hK fl_X9_108 dX9_laysPlace_62 tw_obj rfl ?_
              refine r_iload_5 hK dX9_laysPlace_65 ?_
              refine r_dup2 hK dX9_laysPlace_67 ?_
              refine t_ild hK dX9_laysPlace_68 (show _ < 8 by omega) ?_
              rw [v1]
              refine r_iconstN (c := 1) hK dX9_laysPlace_69 ?_
              first | refine r_iaddN hK dX9_laysPlace_70 ?_ | refine r_iadd hK dX9_laysPlace_70 ?_
              refine t_ist hK dX9_laysPlace_71 (show _ < 8 by omega) ?_
              first | refine r_incN_5 hK dX9_laysPlace_72 ?_ | refine r_iinc_5 hK dX9_laysPlace_72 ?_
              refine r_goto 38 hK dX9_laysPlace_75 ?_
              have hlt : p i < p y := rc.mp (by omega)
              rw [if_pos hlt] at rj
              have := ih2 (j + 1) (upA A2 28 y (cL p (p y) (i + 1) (R - (i + 1)) + 1)) (by omega) (fun a ha => by rw [upA_j ha]; exact hA2 a ha) (by rw [upA_n (by omega)]; exact h2i) (fun k k1 k2 => ?_) (fun k k1 k2 => by rw [upA_n (by omega)]; exact h2b k (by omega) k2)
              · rw [show i + 1 + (j + 1) = y + 1 by omega] at this
                exact this
              · by_cases ck : k = y
                · rw [ck, upA_s, rj]
                · rw [upA_n ck]; exact h2a k k1 (by omega)
      refine r_iload_4 hK dX9_laysPlace_7 ?_
      refine r_if_lt 84 hK dX9_laysPlace_9 (by omega) (fun h9 => ?_) (fun h9 => ?_)
      · exact absurd h9 (by omega)
      · refine r_aload_0 hK dX9_laysPlace_12 ?_
        refine r_get hK fl_X9_108 dX9_laysPlace_13 tw_obj rfl ?_
        refine r_iload_4 hK dX9_laysPlace_16 ?_
        refine r_iload_3 hK dX9_laysPlace_18 ?_
        refine r_iload_2 hK dX9_laysPlace_19 ?_
        refine r_iload_4 hK dX9_laysPlace_20 ?_
        first | refine r_isubN hK dX9_laysPlace_22 (by omega) ?_ | refine r_isub hK dX9_laysPlace_22 ?_
        refine r_irem hK dX9_laysPlace_23 (by omega) (by omega) (by omega) ?_
        rw [m1]
        refine t_ist hK dX9_laysPlace_24 (show _ < 8 by omega) ?_
        refine r_iload_3 hK dX9_laysPlace_25 ?_
        refine r_iload_2 hK dX9_laysPlace_26 ?_
        refine r_iload_4 hK dX9_laysPlace_27 ?_
        first | refine r_isubN hK dX9_laysPlace_29 (by omega) ?_ | refine r_isub hK dX9_laysPlace_29 ?_
        refine r_idiv hK dX9_laysPlace_30 (by omega) (by omega) (by omega) ?_
        rw [m2]
        refine r_istore_3 hK dX9_laysPlace_31 ?_
        refine r_iload_4 hK dX9_laysPlace_32 ?_
        refine r_iconstN (c := 1) hK dX9_laysPlace_34 ?_
        first | refine r_iaddN hK dX9_laysPlace_35 ?_ | refine r_iadd hK dX9_laysPlace_35 ?_
        refine r_istore_5 hK dX9_laysPlace_36 ?_
        refine lj (R - (i + 1)) 0 _ (by omega) (fun a ha => by rw [upA_j ha]; exact hA a ha) (by rw [upA_s]) (fun k k1 k2 => by omega) (fun k k1 k2 => ?_)
        rw [upA_n (by omega)]
        exact hl k (by omega) k2
  refine r_iload_1 hK dX9_laysPlace_0 ?_
  refine r_istore_3 hK dX9_laysPlace_1 ?_
  refine r_iload_2 hK dX9_laysPlace_2 ?_
  refine r_iconstN (c := 1) hK dX9_laysPlace_3 ?_
  first | refine r_isubN hK dX9_laysPlace_4 (by omega) ?_ | refine r_isub hK dX9_laysPlace_4 ?_
  rw [show ((R - 1 : Nat) : Int) = (R : Int) - 1 by omega, hc]
  refine r_istore_4 hK dX9_laysPlace_5 ?_
  have := lp R A none rfl (Nat.le_refl _) (fun _ _ => rfl) (fun j j1 j2 => by omega)
  rw [hc] at this
  exact this
theorem dR {R c : Nat} (h0 : 0 < R) {w : Nat} (h : c < w * R) : c / R < w ∧ c % R < R := ⟨Nat.div_lt_of_lt_mul (by rw [Nat.mul_comm]; exact h), Nat.mod_lt _ h0⟩
set_option maxHeartbeats 4000000 in
theorem ct_laysTable {G : GT} {Rel : Nat → Hp → Hp → Prop} (hR : RelOK Rel) {n : Nat} {f0 : Hp} {F : Nat → Nat} {A : Nat → Nat → Nat} (hw : F 17 ≤ 3) (hD : D8 (F 17)) (h48 : F 48 = 999999999 ∨ F 48 ≤ 3) (hT : F 48 = F 17 → TabR (F 17) (A 26)) : Ct G Rel yX9_laysTable cX9_laysTable 6 none (2) (0) [.ref 358] n (tw f0 F A) (Tv n f0 (fun F' A' => F' = upF F 48 (F 17) ∧ (∀ a, a ≠ 26 → a ≠ 27 → a ≠ 28 → a ≠ 29 → A' a = A a) ∧ TabR (F 17) (A' 26))) := by
  refine ct_intro [some (.ref 358), none, none, none, none, none] hR rfl (Nat.le_of_ble_eq_true rfl) ?_
  intro K hG hRel hK hRt hnm
  obtain ⟨w, hwE⟩ : ∃ w, w = F 17 := ⟨_, rfl⟩
  obtain ⟨R, hRE⟩ : ∃ R, R = rN w := ⟨_, rfl⟩
  have hR8 : R ≤ 8 := by rw [hRE]; exact rN_le (k := 3) (by omega)
  have hR1 : 1 ≤ R := by rw [hRE]; exact rN_pos w
  have hrF : rN (F 17) = R := by rw [hRE, hwE]
  have hwR : w * R ≤ 24 := Nat.mul_le_mul (show w ≤ 3 by omega) hR8
  rw [← hwE] at hD hT
  obtain ⟨F1, hF1⟩ : ∃ F1, F1 = upF F 48 (F 17) := ⟨_, rfl⟩
  have f17 : F1 17 = w := by rw [hF1, upF_n (by decide)]; exact hwE.symm
  have f17' : F1 17 ≤ 4 := by omega
  have r17 : rN (F1 17) = R := by rw [f17, hRE]
  -- the queue is walked
  have lpK : ∀ (d k m : Nat) (ps : Nat → Nat → Nat) (e : Nat → Nat) (A1 : Nat → Nat → Nat) a3 a4 a5, nl a3 = true → nl a4 = true → nl a5 = true → (∀ a, a ≠ 26 → a ≠ 27 → a ≠ 28 → a ≠ 29 → A1 a = A a) → BQ w m ps e (A1 27) (A1 26) → k ≤ m → m ≤ 40320 → k + d = 40321 → (∀ j g, j < k → gq w g → nbQ w m ps j g) → (k < m → ∀ j, j < m → e j ≤ e k + 1) → Wx K 95 [some (.ref 358), some (zI (m : Int)), some (zI (k : Int)), a3, a4, a5] [] n (tw f0 F1 A1) 0 := by
    intro d
    induction d with
    | zero => intro k m ps e A1 a3 a4 a5 _ _ _ _ _ h1 h2 h3; omega
    | succ d ih =>
      intro k m ps e A1 a3 a4 a5 n3 n4 n5 hA hB hkm hm hd hn hs
      by_cases ck : k = m
      · refine r_iload_2 hK dX9_laysTable_95 ?_
        refine r_iload_1 hK dX9_laysTable_96 ?_
        refine r_icmp_ge 266 hK dX9_laysTable_97 (by omega) (by omega) (fun h97 => ?_) (fun h97 => ?_)
        · refine r_vret hK hRt dX9_laysTable_266 ⟨rfl, rfl, _, _, rfl, hF1, hA, ?_⟩
          rw [← hwE]
          exact hB.tab hD (fun j g hj hg => hn j g (by omega) hg)
        · exact absurd h97 (by omega)
      · have hk : k < m := by omega
        have hs' := hs hk
        have hW := (hB.2.2.1 k hk).1
        have hPk := (hB.2.2.1 k hk).2.2.1.pm
        rw [← hRE] at hPk hW
        -- all gates of one order
        have lpG : ∀ (dg c m1 : Nat) (ps1 : Nat → Nat → Nat) (e1 : Nat → Nat) (A2 : Nat → Nat → Nat) a4 a5, nl a4 = true → nl a5 = true → (∀ a, a ≠ 26 → a ≠ 27 → a ≠ 28 → a ≠ 29 → A2 a = A a) → BQ w m1 ps1 e1 (A2 27) (A2 26) → k < m1 → m1 ≤ 40320 → c + dg = w * R → (∀ j g, j < k → gq w g → nbQ w m1 ps1 j g) → (∀ j, j < m1 → e1 j ≤ e1 k + 1) → (∀ i, i < R → A2 28 i = ps1 k i) → (∀ c', c' < c → (c' % R).testBit (c' / R) = false → nbQ w m1 ps1 k (c' / R, c' % R, 0)) → Wx K 116 [some (.ref 358), some (zI (m1 : Int)), some (zI (k : Int)), some (zI (c : Int)), a4, a5] [] n (tw f0 F1 A2) 0 := by
          intro dg
          induction dg with
          | zero =>
            intro c m1 ps1 e1 A2 a4 a5 n4 n5 hA2 hB2 hk1 hm1 hc hn2 hs2 hl hg2
            refine r_iload_3 hK dX9_laysTable_116 ?_
            refine r_aload_0 hK dX9_laysTable_117 ?_
            refine r_get hK fl_X9_203 dX9_laysTable_118 tw_obj rfl ?_
            refine r_aload_0 hK dX9_laysTable_121 ?_
            refine r_pV0 hK (ct_rows hK.rel f17') lk_X9_248 (tw_rcv hK) dX9_laysTable_122 ?_
            first | refine r_imulN hK dX9_laysTable_125 ?_ | refine r_imul hK dX9_laysTable_125 ?_
            rw [r17, f17]
            refine r_icmp_ge 260 hK dX9_laysTable_126 (by omega) (by omega) (fun h126 => ?_) (fun h126 => ?_)
            · first | refine r_incN_2 hK dX9_laysTable_260 ?_ | refine r_iinc_2 hK dX9_laysTable_260 ?_
              refine r_goto 95 hK dX9_laysTable_263 ?_
              refine ih (k + 1) m1 ps1 e1 A2 _ _ _ rfl n4 n5 hA2 hB2 (by omega) hm1 (by omega) (fun j g hj hg => ?_) (fun hk2 j hj => ?_)
              · by_cases cj : j = k
                · subst cj
                  obtain ⟨t, on, off⟩ := g
                  have q1 : t < w := hg.1
                  have q2 : on < R := by rw [hRE]; exact hg.2.1
                  have q3 : on.testBit t = false := hg.2.2.1
                  have q4 : off = 0 := hg.2.2.2
                  subst q4
                  have hc2 : t * R + on < w * R := by
                    have : (t + 1) * R ≤ w * R := Nat.mul_le_mul_right _ q1
                    rw [Nat.add_mul, Nat.one_mul] at this; omega
                  have ed : (t * R + on) / R = t := by rw [Nat.mul_comm, Nat.mul_add_div (by omega), Nat.div_eq_of_lt q2, Nat.add_zero]
                  have em : (t * R + on) % R = on := by rw [Nat.mul_comm, Nat.mul_add_mod, Nat.mod_eq_of_lt q2]
                  have := hg2 (t * R + on) (by omega) (by rw [ed, em]; exact q3)
                  rw [ed, em] at this
                  exact this
                · exact hn2 j g (by omega) hg
              · have a1 := hs2 j hj
                have a2 := hB2.2.2.2.2.1 k (k + 1) (by omega) hk2
                omega
            · exact absurd h126 (by omega)
          | succ dg ihg =>
            intro c m1 ps1 e1 A2 a4 a5 n4 n5 hA2 hB2 hk1 hm1 hc hn2 hs2 hl hg2
            have hcw : c < w * R := by omega
            obtain ⟨d1, d2⟩ := dR hR1 hcw
            have hPk1 := (hB2.2.2.1 k hk1).2.2.1.pm
            have pkb : ∀ i, i < R → ps1 k i < R := fun i hi => by rw [hRE] at hi ⊢; exact hPk1.1 i hi
            have n254 : ∀ (m2 : Nat) (ps2 : Nat → Nat → Nat) (e2 : Nat → Nat) (A3 : Nat → Nat → Nat) (y5 : Option Value), nl y5 = true → (∀ a, a ≠ 26 → a ≠ 27 → a ≠ 28 → a ≠ 29 → A3 a = A a) → BQ w m2 ps2 e2 (A3 27) (A3 26) → k < m2 → m2 ≤ 40320 → (∀ j g, j < k → gq w g → nbQ w m2 ps2 j g) → (∀ j, j < m2 → e2 j ≤ e2 k + 1) → (∀ i, i < R → A3 28 i = ps2 k i) → (∀ c', c' < c + 1 → (c' % R).testBit (c' / R) = false → nbQ w m2 ps2 k (c' / R, c' % R, 0)) → Wx K 254 [some (.ref 358), some (zI (m2 : Int)), some (zI (k : Int)), some (zI (c : Int)), some (zI ((c / R : Nat) : Int)), y5] [] n (tw f0 F1 A3) 0 := by
              intro m2 ps2 e2 A3 y5 ny5 x1 x2 x3 x4 x5 x6 x7 x8
              first | refine r_incN_3 hK dX9_laysTable_254 ?_ | refine r_iinc_3 hK dX9_laysTable_254 ?_
              refine r_goto 116 hK dX9_laysTable_257 ?_
              exact ihg (c + 1) m2 ps2 e2 A3 _ _ rfl ny5 x1 x2 x3 x4 (by omega) x5 x6 x7 x8
            -- the order behind the gate
            have lpR : (c % R).testBit (c / R) = false → ∀ (dr r : Nat) (A3 : Nat → Nat → Nat), r + dr = R → (∀ a, a ≠ 29 → A3 a = A2 a) → (∀ i, i < r → A3 29 i = mk (c / R, c % R, 0) (ps1 k i)) → Wx K 157 [some (.ref 358), some (zI (m1 : Int)), some (zI (k : Int)), some (zI (c : Int)), some (zI ((c / R : Nat) : Int)), some (zI (r : Int))] [] n (tw f0 F1 A3) 0 := by
              intro hbit
              have hgq : gq w (c / R, c % R, 0) := ⟨d1, by rw [← hRE]; exact d2, hbit, rfl⟩
              intro dr
              induction dr with
              | zero =>
                intro r A3 hr hA3 h29
                have er : R = r := hr.symm
                subst er
                have b29 : ∀ i, i < R → A3 29 i < 1000 := fun i hi => by
                  rw [h29 i hi]
                  have : mk (c / R, c % R, 0) (ps1 k i) < rN w := mk_lt d1 (by rw [← hRE]; exact pkb i hi)
                  omega
                have ep : plc (A3 29) R < 40320 := plc_b hR8 _
                have h26 : A3 26 = A2 26 := hA3 26 (by decide)
                have h27 : A3 27 = A2 27 := hA3 27 (by decide)
                have h28 : A3 28 = A2 28 := hA3 28 (by decide)
                have hBe : BQ w m1 ps1 e1 (A3 27) (A3 26) := by rw [h26, h27]; exact hB2
                have hek := (hBe.2.2.1 k hk1)
                have hWk : A3 27 k < 40320 := by rw [hek.1, ← hRE]; exact plc_b hR8 _
                have he8 := hek.2.2.le8 hD
                have hq : ∀ x, x < rN w → A3 29 x = mk (c / R, c % R, 0) (ps1 k x) := fun x hx => h29 x (by rw [hRE]; exact hx)
                have hc99 : A3 26 (plc (A3 29) R) < 99 ∨ A3 26 (plc (A3 29) R) = 99 := by
                  by_cases cc : ∀ j, j < m1 → plc (A3 29) R ≠ A3 27 j
                  · exact Or.inr (hBe.2.2.2.2.2 _ ep cc)
                  · refine Or.inl ?_
                    apply Classical.byContradiction
                    intro z
                    refine cc (fun j hj zz => ?_)
                    rw [zz, (hBe.2.2.1 j hj).2.1] at z
                    have := (hBe.2.2.1 j hj).2.2.le8 hD
                    omega
                refine r_iload_5 hK dX9_laysTable_157 ?_
                refine r_aload_0 hK dX9_laysTable_159 ?_
                refine r_pV0 hK (ct_rows hK.rel f17') lk_X9_248 (tw_rcv hK) dX9_laysTable_160 ?_
                rw [r17]
                refine r_icmp_ge 198 hK dX9_laysTable_163 (by omega) (by omega) (fun h163 => ?_) (fun h163 => ?_)
                · refine r_aload_0 hK dX9_laysTable_198 ?_
                  refine r_aload_0 hK dX9_laysTable_199 ?_
                  refine r_pV0 hK (ct_rows hK.rel f17') lk_X9_248 (tw_rcv hK) dX9_laysTable_200 ?_
                  rw [r17]
                  refine r_pV1 hK (ct_placeOf hK.rel hR8 b29) lk_X9_363 (tw_rcv hK) dX9_laysTable_203 ?_
                  refine r_istore_5 hK dX9_laysTable_206 ?_
                  refine r_aload_0 hK dX9_laysTable_208 ?_
                  refine r_get hK fl_X9_102 dX9_laysTable_209 tw_obj rfl ?_
                  refine r_iload_5 hK dX9_laysTable_212 ?_
                  refine t_ild hK dX9_laysTable_214 (show _ < 40320 by omega) ?_
                  refine r_bipushN (c := 99) hK dX9_laysTable_215 ?_
                  refine r_icmp_ge 223 hK dX9_laysTable_217 (by omega) (by omega) (fun h217 => ?_) (fun h217 => ?_)
                  · have h99 : ¬ A3 26 (plc (A3 29) R) < 99 := by omega
                    rw [hRE] at h99
                    obtain ⟨am, ab⟩ := hBe.add (by omega) hD hk1 hn2 hs2 hgq hq h99
                    rw [← hRE] at ab
                    refine r_aload_0 hK dX9_laysTable_223 ?_
                    refine r_get hK fl_X9_102 dX9_laysTable_224 tw_obj rfl ?_
                    refine r_iload_5 hK dX9_laysTable_227 ?_
                    refine r_aload_0 hK dX9_laysTable_229 ?_
                    refine r_get hK fl_X9_102 dX9_laysTable_230 tw_obj rfl ?_
                    refine r_aload_0 hK dX9_laysTable_233 ?_
                    refine r_get hK fl_X9_105 dX9_laysTable_234 tw_obj rfl ?_
                    refine r_iload_2 hK dX9_laysTable_237 ?_
                    refine t_ild hK dX9_laysTable_238 (show _ < 40320 by omega) ?_
                    refine t_ild hK dX9_laysTable_239 (show _ < 40320 by omega) ?_
                    rw [hek.2.1]
                    refine r_iconstN (c := 1) hK dX9_laysTable_240 ?_
                    first | refine r_iaddN hK dX9_laysTable_241 ?_ | refine r_iadd hK dX9_laysTable_241 ?_
                    refine t_ist hK dX9_laysTable_242 (show _ < 40320 by omega) ?_
                    refine r_aload_0 hK dX9_laysTable_243 ?_
                    refine r_get hK fl_X9_105 dX9_laysTable_244 tw_obj rfl ?_
                    refine r_iload_1 hK dX9_laysTable_247 ?_
                    refine r_iload_5 hK dX9_laysTable_248 ?_
                    refine t_ist hK dX9_laysTable_250 (show _ < 40320 by omega) ?_
                    first | refine r_incN_1 hK dX9_laysTable_251 ?_ | refine r_iinc_1 hK dX9_laysTable_251 ?_
                    have eW : (upA (upA A3 26 (plc (A3 29) R) (e1 k + 1)) 27 m1 (plc (A3 29) R)) 27 = fun j => if j = m1 then plc (A3 29) R else A3 27 j := by
                      funext b; unfold upA; rfl
                    have eT : (upA (upA A3 26 (plc (A3 29) R) (e1 k + 1)) 27 m1 (plc (A3 29) R)) 26 = fun b => if b = plc (A3 29) R then e1 k + 1 else A3 26 b := by
                      funext b; unfold upA; rfl
                    refine n254 (m1 + 1) _ _ _ _ rfl (fun a a1 a2 a3 a4 => by rw [upA_j a2, upA_j a1, hA3 a a4]; exact hA2 a a1 a2 a3 a4) (by rw [eW, eT]; exact ab) (by omega) (by omega) (fun j g hj hg => (hn2 j g hj hg).up (by omega)) (fun j hj => ?_) (fun i hi => ?_) (fun c' hc' hb' => ?_)
                    · show (if j = m1 then _ else _) ≤ (if k = m1 then _ else _) + 1
                      rw [if_neg (show ¬ k = m1 by omega)]
                      split
                      · exact Nat.le_refl _
                      · exact hs2 j (by omega)
                    · rw [upA_j (by decide), upA_j (by decide), h28, hl i hi]
                      show _ = (if k = m1 then _ else ps1 k) i
                      rw [if_neg (show ¬ k = m1 by omega)]
                    · by_cases cc : c' = c
                      · subst cc
                        refine ⟨m1, by omega, fun x hx => ?_⟩
                        show (if m1 = m1 then A3 29 else ps1 m1) x = mk _ ((if k = m1 then A3 29 else ps1 k) x)
                        rw [if_pos rfl, if_neg (show ¬ k = m1 by omega)]
                        exact hq x hx
                      · exact (hg2 c' (by omega) hb').up hk1
                  · refine r_goto 254 hK dX9_laysTable_220 ?_
                    refine n254 m1 ps1 e1 A3 _ rfl (fun a a1 a2 a3 a4 => by rw [hA3 a a4]; exact hA2 a a1 a2 a3 a4) hBe hk1 hm1 hn2 hs2 (fun i hi => by rw [h28]; exact hl i hi) (fun c' hc' hb' => ?_)
                    by_cases cc : c' = c
                    · subst cc
                      have hin : ¬ ∀ j, j < m1 → plc (A3 29) R ≠ A3 27 j := fun z => by have := hBe.2.2.2.2.2 _ ep z; omega
                      obtain ⟨j, z⟩ := Classical.not_forall.mp hin
                      obtain ⟨hj, z⟩ := Classical.not_imp.mp z
                      have z : plc (A3 29) R = A3 27 j := Classical.byContradiction z
                      refine ⟨j, hj, fun x hx => ?_⟩
                      rw [(hBe.2.2.1 j hj).1, hRE] at z
                      have hPq : Pm (rN w) (A3 29) := (hPk1.post hgq.ok).ext (fun i hi => (hq i hi).symm)
                      rw [← plc_inj hPq (hBe.2.2.1 j hj).2.2.1.pm z x hx]
                      exact hq x hx
                    · exact hg2 c' (by omega) hb'
                · exact absurd h163 (by omega)
              | succ dr ihr =>
                intro r A3 hr hA3 h29
                have h28 : A3 28 = A2 28 := hA3 28 (by decide)
                have pb := pkb r (by omega)
                refine r_iload_5 hK dX9_laysTable_157 ?_
                refine r_aload_0 hK dX9_laysTable_159 ?_
                refine r_pV0 hK (ct_rows hK.rel f17') lk_X9_248 (tw_rcv hK) dX9_laysTable_160 ?_
                rw [r17]
                refine r_icmp_ge 198 hK dX9_laysTable_163 (by omega) (by omega) (fun h163 => ?_) (fun h163 => ?_)
                · exact absurd h163 (by omega)
                · refine r_aload_0 hK dX9_laysTable_166 ?_
                  refine r_get hK fl_X9_111 dX9_laysTable_167 tw_obj rfl ?_
                  refine r_iload_5 hK dX9_laysTable_170 ?_
                  refine r_aload_0 hK dX9_laysTable_172 ?_
                  refine r_get hK fl_X9_108 dX9_laysTable_173 tw_obj rfl ?_
                  refine r_iload_5 hK dX9_laysTable_176 ?_
                  refine t_ild hK dX9_laysTable_178 (show _ < 8 by omega) ?_
                  rw [h28, hl r (by omega)]
                  refine r_iload_4 hK dX9_laysTable_179 ?_
                  refine r_iload_3 hK dX9_laysTable_181 ?_
                  refine r_aload_0 hK dX9_laysTable_182 ?_
                  refine r_pV0 hK (ct_rows hK.rel f17') lk_X9_248 (tw_rcv hK) dX9_laysTable_183 ?_
                  rw [r17]
                  refine r_irem hK dX9_laysTable_186 (by omega) (by omega) (by omega) ?_
                  refine r_iconstN (c := 0) hK dX9_laysTable_187 ?_
                  refine r_pS4 hK (ct_turned hK.rel (by omega) (by omega) (by omega) (by omega)) lk_X9_299 dX9_laysTable_188 ?_
                  refine t_ist hK dX9_laysTable_191 (show _ < 8 by omega) ?_
                  first | refine r_incN_5 hK dX9_laysTable_192 ?_ | refine r_iinc_5 hK dX9_laysTable_192 ?_
                  refine r_goto 157 hK dX9_laysTable_195 ?_
                  refine ihr (r + 1) _ (by omega) (fun a ha => by rw [upA_j ha]; exact hA3 a ha) (fun i hi => ?_)
                  by_cases ci : i = r
                  · rw [ci, upA_s]
                  · rw [upA_n ci]; exact h29 i (by omega)
            refine r_iload_3 hK dX9_laysTable_116 ?_
            refine r_aload_0 hK dX9_laysTable_117 ?_
            refine r_get hK fl_X9_203 dX9_laysTable_118 tw_obj rfl ?_
            refine r_aload_0 hK dX9_laysTable_121 ?_
            refine r_pV0 hK (ct_rows hK.rel f17') lk_X9_248 (tw_rcv hK) dX9_laysTable_122 ?_
            first | refine r_imulN hK dX9_laysTable_125 ?_ | refine r_imul hK dX9_laysTable_125 ?_
            rw [r17, f17]
            refine r_icmp_ge 260 hK dX9_laysTable_126 (by omega) (by omega) (fun h126 => ?_) (fun h126 => ?_)
            · exact absurd h126 (by omega)
            · refine r_iload_3 hK dX9_laysTable_129 ?_
              refine r_aload_0 hK dX9_laysTable_130 ?_
              refine r_pV0 hK (ct_rows hK.rel f17') lk_X9_248 (tw_rcv hK) dX9_laysTable_131 ?_
              rw [r17]
              refine r_idiv hK dX9_laysTable_134 (by omega) (by omega) (by omega) ?_
              refine r_istore_4 hK dX9_laysTable_135 ?_
              refine r_iload_3 hK dX9_laysTable_137 ?_
              refine r_aload_0 hK dX9_laysTable_138 ?_
              refine r_pV0 hK (ct_rows hK.rel f17') lk_X9_248 (tw_rcv hK) dX9_laysTable_139 ?_
              rw [r17]
              refine r_irem hK dX9_laysTable_142 (by omega) (by omega) (by omega) ?_
              refine r_iload_4 hK dX9_laysTable_143 ?_
              refine r_pS2 hK (ct_has hK.rel (by omega) (by omega)) lk_X9_261 dX9_laysTable_145 ?_
              refine r_ifB_eq 154 hK dX9_laysTable_148 (fun h148 => ?_) (fun h148 => ?_)
              · refine r_iconstN (c := 0) hK dX9_laysTable_154 ?_
                refine r_istore_5 hK dX9_laysTable_155 ?_
                exact lpR (Bool.eq_false_iff.mpr h148) R 0 A2 (by omega) (fun _ _ => rfl) (fun i hi => absurd hi (Nat.not_lt_zero _))
              · refine r_goto 254 hK dX9_laysTable_151 ?_
                refine n254 m1 ps1 e1 A2 _ n5 hA2 hB2 hk1 hm1 hn2 hs2 hl (fun c' hc' hb' => ?_)
                by_cases cc : c' = c
                · subst cc; rw [h148] at hb'; cases hb'
                · exact hg2 c' (by omega) hb'
        have hRk : A1 27 k < 40320 := by rw [hW]; exact plc_b hR8 _
        refine r_iload_2 hK dX9_laysTable_95 ?_
        refine r_iload_1 hK dX9_laysTable_96 ?_
        refine r_icmp_ge 266 hK dX9_laysTable_97 (by omega) (by omega) (fun h97 => ?_) (fun h97 => ?_)
        · exact absurd h97 (by omega)
        · refine r_aload_0 hK dX9_laysTable_100 ?_
          refine r_aload_0 hK dX9_laysTable_101 ?_
          refine r_get hK fl_X9_105 dX9_laysTable_102 tw_obj rfl ?_
          refine r_iload_2 hK dX9_laysTable_105 ?_
          refine t_ild hK dX9_laysTable_106 (show _ < 40320 by omega) ?_
          refine r_aload_0 hK dX9_laysTable_107 ?_
          refine r_pV0 hK (ct_rows hK.rel f17') lk_X9_248 (tw_rcv hK) dX9_laysTable_108 ?_
          rw [r17]
          refine r_tvV2 hK (ct_laysPlace hK.rel hR8 hR1 hPk hW) lk_X9_366 (tw_rcv hK) dX9_laysTable_111 (fun F3 A3 h5 => ?_)
          obtain ⟨g1, g2, g3⟩ := h5
          subst g1
          refine r_iconstN (c := 0) hK dX9_laysTable_114 ?_
          refine r_istore_3 hK dX9_laysTable_115 ?_
          refine lpG (w * R) 0 m ps e A3 _ _ n4 n5 (fun a a1 a2 a3 a4 => by rw [g2 a a3]; exact hA a a1 a2 a3 a4) (by rw [g2 26 (by decide), g2 27 (by decide)]; exact hB) hk hm (by omega) hn hs' g3 (fun c' hc' => absurd hc' (Nat.not_lt_zero _))
  -- the start
  have lpI : ∀ (d r : Nat) (A1 : Nat → Nat → Nat), r + d = R → (∀ a, a ≠ 26 → a ≠ 27 → a ≠ 28 → a ≠ 29 → A1 a = A a) → (∀ c, c < 40320 → A1 26 c = 99) → (∀ i, i < r → A1 29 i = i) → Wx K 44 [some (.ref 358), some (zI (r : Int)), none, none, none, none] [] n (tw f0 F1 A1) 0 := by
    intro d
    induction d with
    | zero =>
      intro r A1 hr hA h99 hid
      have er : R = r := hr.symm
      subst er
      have ep : plc (A1 29) R < 40320 := plc_b hR8 _
      refine r_iload_1 hK dX9_laysTable_44 ?_
      refine r_aload_0 hK dX9_laysTable_45 ?_
      refine r_pV0 hK (ct_rows hK.rel f17') lk_X9_248 (tw_rcv hK) dX9_laysTable_46 ?_
      rw [r17]
      refine r_icmp_ge 65 hK dX9_laysTable_49 (by omega) (by omega) (fun h49 => ?_) (fun h49 => ?_)
      · refine r_aload_0 hK dX9_laysTable_65 ?_
        refine r_get hK fl_X9_105 dX9_laysTable_66 tw_obj rfl ?_
        refine r_iconstN (c := 0) hK dX9_laysTable_69 ?_
        refine r_aload_0 hK dX9_laysTable_70 ?_
        refine r_aload_0 hK dX9_laysTable_71 ?_
        refine r_pV0 hK (ct_rows hK.rel f17') lk_X9_248 (tw_rcv hK) dX9_laysTable_72 ?_
        rw [r17]
        refine r_pV1 hK (ct_placeOf hK.rel hR8 (fun i hi => by rw [hid i hi]; omega)) lk_X9_363 (tw_rcv hK) dX9_laysTable_75 ?_
        refine t_ist hK dX9_laysTable_78 (show _ < 40320 by omega) ?_
        refine r_aload_0 hK dX9_laysTable_79 ?_
        refine r_get hK fl_X9_102 dX9_laysTable_80 tw_obj rfl ?_
        refine r_aload_0 hK dX9_laysTable_83 ?_
        refine r_get hK fl_X9_105 dX9_laysTable_84 tw_obj rfl ?_
        refine r_iconstN (c := 0) hK dX9_laysTable_87 ?_
        refine t_ild hK dX9_laysTable_88 (show _ < 40320 by omega) ?_
        rw [upA_s]
        refine r_iconstN (c := 0) hK dX9_laysTable_89 ?_
        refine t_ist hK dX9_laysTable_90 (show _ < 40320 by omega) ?_
        refine r_iconstN (c := 1) hK dX9_laysTable_91 ?_
        refine r_istore_1 hK dX9_laysTable_92 ?_
        refine r_iconstN (c := 0) hK dX9_laysTable_93 ?_
        refine r_istore_2 hK dX9_laysTable_94 ?_
        refine lpK 40321 0 1 (fun _ => A1 29) (fun _ => 0) _ none none none rfl rfl rfl (fun a a1 a2 a3 a4 => by rw [upA_j a1, upA_j a2]; exact hA a a1 a2 a3 a4) ?_ (by omega) (by omega) (by omega) (fun j g hj _ => absurd hj (Nat.not_lt_zero _)) (fun _ j _ => by show 0 ≤ 0 + 1; omega)
        refine ⟨Nat.le_refl _, fun i hi => hid i (by rw [hRE]; exact hi), fun j hj => ?_, fun i j h1 h2 => by omega, fun _ _ _ _ => Nat.le_refl _, fun c hc hcn => ?_⟩
        · have : j = 0 := by omega
          subst this
          refine ⟨by rw [upA_j (by decide), upA_s, hRE], ?_, ⟨[], rfl, fun g hg => absurd hg List.not_mem_nil, fun i hi => hid i (by rw [hRE]; exact hi)⟩, fun j hj => absurd hj (Nat.not_lt_zero _)⟩
          rw [upA_j (a := 27) (by decide), upA_s, upA_s]
        · have := hcn 0 (by omega)
          rw [upA_j (a := 27) (by decide), upA_s] at this
          rw [upA_n this, upA_j (by decide)]
          exact h99 c hc
      · exact absurd h49 (by omega)
    | succ d ih =>
      intro r A1 hr hA h99 hid
      refine r_iload_1 hK dX9_laysTable_44 ?_
      refine r_aload_0 hK dX9_laysTable_45 ?_
      refine r_pV0 hK (ct_rows hK.rel f17') lk_X9_248 (tw_rcv hK) dX9_laysTable_46 ?_
      rw [r17]
      refine r_icmp_ge 65 hK dX9_laysTable_49 (by omega) (by omega) (fun h49 => ?_) (fun h49 => ?_)
      · exact absurd h49 (by omega)
      · refine r_aload_0 hK dX9_laysTable_52 ?_
        refine r_get hK fl_X9_111 dX9_laysTable_53 tw_obj rfl ?_
        refine r_iload_1 hK dX9_laysTable_56 ?_
        refine r_iload_1 hK dX9_laysTable_57 ?_
        refine t_ist hK dX9_laysTable_58 (show _ < 8 by omega) ?_
        first | refine r_incN_1 hK dX9_laysTable_59 ?_ | refine r_iinc_1 hK dX9_laysTable_59 ?_
        refine r_goto 44 hK dX9_laysTable_62 ?_
        refine ih (r + 1) _ (by omega) (fun a a1 a2 a3 a4 => by rw [upA_j a4]; exact hA a a1 a2 a3 a4) (by rw [upA_j (by decide)]; exact h99) (fun i hi => ?_)
        by_cases ci : i = r
        · rw [ci, upA_s]
        · rw [upA_n ci]; exact hid i (by omega)
  have lp9 : ∀ (d c : Nat) (A1 : Nat → Nat → Nat), c + d = 40320 → (∀ a, a ≠ 26 → A1 a = A a) → (∀ i, i < c → A1 26 i = 99) → Wx K 22 [some (.ref 358), some (zI (c : Int)), none, none, none, none] [] n (tw f0 F1 A1) 0 := by
    intro d
    induction d with
    | zero =>
      intro c A1 hc hA h99
      refine r_iload_1 hK dX9_laysTable_22 ?_
      refine r_ldcN (c := 40320) hK q2098 dX9_laysTable_23 (by decide +kernel) ?_
      refine r_icmp_ge 42 hK dX9_laysTable_25 (by omega) (by omega) (fun h25 => ?_) (fun h25 => ?_)
      · refine r_iconstN (c := 0) hK dX9_laysTable_42 ?_
        refine r_istore_1 hK dX9_laysTable_43 ?_
        exact lpI R 0 A1 (by omega) (fun a a1 _ _ _ => hA a a1) (fun i hi => h99 i (by omega)) (fun i hi => absurd hi (Nat.not_lt_zero _))
      · exact absurd h25 (by omega)
    | succ d ih =>
      intro c A1 hc hA h99
      refine r_iload_1 hK dX9_laysTable_22 ?_
      refine r_ldcN (c := 40320) hK q2098 dX9_laysTable_23 (by decide +kernel) ?_
      refine r_icmp_ge 42 hK dX9_laysTable_25 (by omega) (by omega) (fun h25 => ?_) (fun h25 => ?_)
      · exact absurd h25 (by omega)
      · refine r_aload_0 hK dX9_laysTable_28 ?_
        refine r_get hK fl_X9_102 dX9_laysTable_29 tw_obj rfl ?_
        refine r_iload_1 hK dX9_laysTable_32 ?_
        refine r_bipushN (c := 99) hK dX9_laysTable_33 ?_
        refine t_ist hK dX9_laysTable_35 (show _ < 40320 by omega) ?_
        first | refine r_incN_1 hK dX9_laysTable_36 ?_ | refine r_iinc_1 hK dX9_laysTable_36 ?_
        refine r_goto 22 hK dX9_laysTable_39 ?_
        refine ih (c + 1) _ (by omega) (fun a ha => by rw [upA_j ha]; exact hA a ha) (fun i hi => ?_)
        by_cases ci : i = c
        · rw [ci, upA_s]
        · rw [upA_n ci]; exact h99 i (by omega)
  have h48r : inR (dz (F 48)) := by
    rcases h48 with q | q
    · rw [q]; exact ⟨by decide, by decide⟩
    · rw [dz_n (by omega)]; exact ⟨by omega, by omega⟩
  have h48e : dz (F 48) = (F 17 : Int) ↔ F 48 = F 17 := by
    rcases h48 with q | q
    · rw [q]; exact ⟨fun z => by have : (-1 : Int) = (F 17 : Int) := z; omega, fun z => by omega⟩
    · rw [dz_n (by omega)]; omega
  refine r_aload_0 hK dX9_laysTable_0 ?_
  refine r_get hK fl_X9_98 dX9_laysTable_1 tw_obj rfl ?_
  refine r_aload_0 hK dX9_laysTable_4 ?_
  refine r_get hK fl_X9_203 dX9_laysTable_5 tw_obj rfl ?_
  refine r_icmp_ne 12 hK dX9_laysTable_8 h48r (by omega) (fun h8 => ?_) (fun h8 => ?_)
  · refine r_aload_0 hK dX9_laysTable_12 ?_
    refine r_aload_0 hK dX9_laysTable_13 ?_
    refine r_get hK fl_X9_203 dX9_laysTable_14 tw_obj rfl ?_
    rw [← dz_n (show F 17 < 999999999 by omega)]
    refine t_putz hK fl_X9_98 dX9_laysTable_17 ?_
    rw [← hF1]
    refine r_iconstN (c := 0) hK dX9_laysTable_20 ?_
    refine r_istore_1 hK dX9_laysTable_21 ?_
    exact lp9 40320 0 A (by omega) (fun _ _ => rfl) (fun i hi => absurd hi (Nat.not_lt_zero _))
  · refine r_vret hK hRt dX9_laysTable_11 ⟨rfl, rfl, _, _, rfl, ?_, fun _ _ _ _ _ => rfl, ?_⟩
    · rw [← h48e.mp (by omega), upF_id]
    · rw [← hwE]; exact hT ((h48e.mp (by omega)).trans hwE.symm)
set_option maxHeartbeats 4000000 in
theorem ct_fewestFor {G : GT} {Rel : Nat → Hp → Hp → Prop} (hR : RelOK Rel) {n : Nat} {f0 : Hp} {F : Nat → Nat} {A : Nat → Nat → Nat} {p : Nat → Nat} (hw : F 17 ≤ 3) (hT : TabR (F 17) (A 26)) (hp : Pm (rN (F 17)) p) (hA : ∀ r, r < rN (F 17) → A 16 r = p r) : Ct G Rel yX9_fewestFor cX9_fewestFor 2 (some .int) (2) (0) [.ref 358] n (tw f0 F A) (Ti n f0 (fun z F' A' => z = ((A 26 (plc p (rN (F 17))) : Nat) : Int) ∧ F' = F ∧ (∀ a, a ≠ 29 → A' a = A a))) := by
  refine ct_intro [some (.ref 358), none] hR rfl (Nat.le_of_ble_eq_true rfl) ?_
  intro K hG hRel hK hRt hnm
  have hR8 : rN (F 17) ≤ 8 := rN_le (k := 3) hw
  have lp : ∀ (d r : Nat) (A1 : Nat → Nat → Nat), r + d = rN (F 17) → (∀ a, a ≠ 29 → A1 a = A a) → (∀ i, i < r → A1 29 i = p i) → Wx K 2 [some (.ref 358), some (zI (r : Int))] [] n (tw f0 F A1) 0 := by
    intro d
    induction d with
    | zero =>
      intro r A1 hr hA1 h29
      have er : r = rN (F 17) := hr
      have ep : plc (A1 29) (rN (F 17)) = plc p (rN (F 17)) := plc_ext (fun i hi => h29 i (by omega))
      have eb := plc_b hR8 p
      refine r_iload_1 hK dX9_fewestFor_2 ?_
      refine r_aload_0 hK dX9_fewestFor_3 ?_
      refine r_pV0 hK (ct_rows hK.rel (by omega)) lk_X9_248 (tw_rcv hK) dX9_fewestFor_4 ?_
      refine r_icmp_ge 28 hK dX9_fewestFor_7 (by omega) (by omega) (fun h7 => ?_) (fun h7 => ?_)
      · refine r_aload_0 hK dX9_fewestFor_28 ?_
        refine r_get hK fl_X9_102 dX9_fewestFor_29 tw_obj rfl ?_
        refine r_aload_0 hK dX9_fewestFor_32 ?_
        refine r_aload_0 hK dX9_fewestFor_33 ?_
        refine r_pV0 hK (ct_rows hK.rel (by omega)) lk_X9_248 (tw_rcv hK) dX9_fewestFor_34 ?_
        refine r_pV1 hK (ct_placeOf hK.rel hR8 (fun i hi => by rw [h29 i (by omega)]; have := hp.1 i hi; omega)) lk_X9_363 (tw_rcv hK) dX9_fewestFor_37 ?_
        rw [ep]
        refine t_ild hK dX9_fewestFor_40 (show _ < 40320 by omega) ?_
        exact r_iret hK hRt dX9_fewestFor_41 ⟨_, rfl, rfl, _, _, rfl, by rw [hA1 26 (by decide)], rfl, hA1⟩
      · exact absurd h7 (by omega)
    | succ d ih =>
      intro r A1 hr hA1 h29
      refine r_iload_1 hK dX9_fewestFor_2 ?_
      refine r_aload_0 hK dX9_fewestFor_3 ?_
      refine r_pV0 hK (ct_rows hK.rel (by omega)) lk_X9_248 (tw_rcv hK) dX9_fewestFor_4 ?_
      refine r_icmp_ge 28 hK dX9_fewestFor_7 (by omega) (by omega) (fun h7 => ?_) (fun h7 => ?_)
      · exact absurd h7 (by omega)
      · refine r_aload_0 hK dX9_fewestFor_10 ?_
        refine r_get hK fl_X9_111 dX9_fewestFor_11 tw_obj rfl ?_
        refine r_iload_1 hK dX9_fewestFor_14 ?_
        refine r_aload_0 hK dX9_fewestFor_15 ?_
        refine r_get hK fl_X9_68 dX9_fewestFor_16 tw_obj rfl ?_
        refine r_iload_1 hK dX9_fewestFor_19 ?_
        refine t_ild hK dX9_fewestFor_20 (show _ < 64 by omega) ?_
        rw [hA1 16 (by decide), hA r (by omega)]
        refine t_ist hK dX9_fewestFor_21 (show _ < 8 by omega) ?_
        first | refine r_incN_1 hK dX9_fewestFor_22 ?_ | refine r_iinc_1 hK dX9_fewestFor_22 ?_
        refine r_goto 2 hK dX9_fewestFor_25 ?_
        refine ih (r + 1) _ (by omega) (fun a ha => by rw [upA_j ha]; exact hA1 a ha) (fun i hi => ?_)
        by_cases ci : i = r
        · rw [ci, upA_s]
        · rw [upA_n ci]; exact h29 i (by omega)
  refine r_iconstN (c := 0) hK dX9_fewestFor_0 ?_
  refine r_istore_1 hK dX9_fewestFor_1 ?_
  exact lp (rN (F 17)) 0 A (by omega) (fun _ _ => rfl) (fun i hi => absurd hi (Nat.not_lt_zero _))
/-- the table's place: laid for these wires or not laid -/
def CaR (F : Nat → Nat) (A : Nat → Nat → Nat) : Prop := (F 48 = 999999999 ∨ F 48 ≤ 3) ∧ (F 48 ≤ 3 → TabR (F 48) (A 26))
def kT (A A' : Nat → Nat → Nat) : Prop := ∀ a, a ≠ 16 → a ≠ 18 → a ≠ 19 → a ≠ 20 → a ≠ 26 → a ≠ 27 → a ≠ 28 → a ≠ 29 → A' a = A a
set_option maxHeartbeats 4000000 in
theorem ct_laysFirst {G : GT} {Rel : Nat → Hp → Hp → Prop} (hR : RelOK Rel) {n : Nat} {f0 : Hp} {F : Nat → Nat} {A : Nat → Nat → Nat} {gs : List Gt} (hw : F 17 ≤ 3) (hD : D8 (F 17)) (hC : CaR F A) (hg : GA (A 11) gs) (ho : ∀ g ∈ gs, gok (F 17) g) : Ct G Rel yX9_laysFirst cX9_laysFirst 7 none (4) (0) [.ref 358] n (tw f0 F A) (Tv n f0 (fun F' A' => ∃ T l, TabR (F 17) T ∧ l = fstL T (F 17) (T (plc (run gs) (rN (F 17)))) (run gs) ∧ F' 38 = l.length ∧ l.length ≤ 8 ∧ (∀ i, i < l.length → l[i]? = some (A' 19 i, A' 20 i)) ∧ (∀ k, k ≠ 38 → k ≠ 48 → F' k = F k) ∧ kT A A' ∧ CaR F' A')) := by
  refine ct_intro [some (.ref 358), none, none, none, none, none, none] hR rfl (Nat.le_of_ble_eq_true rfl) ?_
  intro K hG hRel hK hRt hnm
  obtain ⟨w, hwE⟩ : ∃ w, w = F 17 := ⟨_, rfl⟩
  obtain ⟨R, hRE⟩ : ∃ R, R = rN w := ⟨_, rfl⟩
  have hR8 : R ≤ 8 := by rw [hRE]; exact rN_le (k := 3) (by omega)
  have hR1 : 1 ≤ R := by rw [hRE]; exact rN_pos w
  have hwR : w * R ≤ 24 := Nat.mul_le_mul (show w ≤ 3 by omega) hR8
  -- one more gate, left times
  have lpL : ∀ (T : Nat → Nat), TabR w T → ∀ (left : Nat) (p : Nat → Nat) (pre : List (Nat × Nat)) (F2 : Nat → Nat) (A2 : Nat → Nat → Nat) a2 a3 a4 a5 a6, nl a2 = true → nl a3 = true → nl a4 = true → nl a5 = true → nl a6 = true → left ≤ 8 → pre.length + left ≤ 8 → Pm R p → pre ++ fstL T w left p = fstL T w (T (plc (run gs) R)) (run gs) → A2 26 = T → (∀ r, r < R → A2 16 r = p r) → F2 48 = w → F2 38 = pre.length → (∀ i, i < pre.length → pre[i]? = some (A2 19 i, A2 20 i)) → (∀ k, k ≠ 38 → k ≠ 48 → F2 k = F k) → kT A A2 → Wx K 22 [some (.ref 358), some (zI (left : Int)), a2, a3, a4, a5, a6] [] n (tw f0 F2 A2) 0 := by
    intro T hT left
    induction left with
    | zero =>
      intro p pre F2 A2 a2 a3 a4 a5 a6 n2 n3 n4 n5 n6 hl8 hl hp hpre h26 h16 h48 h38 hpr hF2 hA2
      have e0 : pre = fstL T w (T (plc (run gs) R)) (run gs) := by rw [← hpre]; show pre = pre ++ []; rw [List.append_nil]
      refine r_iload_1 hK dX9_laysFirst_22 ?_
      refine r_if_le 192 hK dX9_laysFirst_23 (by omega) (fun h23 => ?_) (fun h23 => ?_)
      · exact r_vret hK hRt dX9_laysFirst_192 ⟨rfl, rfl, _, _, rfl, T, pre, by rw [← hwE]; exact hT, by rw [← hwE, ← hRE]; exact e0, h38, by omega, hpr, hF2, hA2, Or.inr (by omega), fun _ => by rw [h48, h26]; exact hT⟩
      · exact absurd h23 (by omega)
    | succ left ih =>
      intro p pre F2 A2 a2 a3 a4 a5 a6 n2 n3 n4 n5 n6 hl8 hl hp hpre h26 h16 h48 h38 hpr hF2 hA2
      have f17 : F2 17 = w := by rw [hF2 17 (by decide) (by decide)]; exact hwE.symm
      have f17' : F2 17 ≤ 4 := by omega
      have r17 : rN (F2 17) = R := by rw [f17, hRE]
      -- a gate is met
      have met : ∀ (p2 : Nat → Nat) (pre2 : List (Nat × Nat)) (F3 : Nat → Nat) (A3 : Nat → Nat → Nat) (c : Nat) a4 a5 a6, nl a4 = true → nl a5 = true → nl a6 = true → c ≤ 24 → pre2.length + left ≤ 8 → Pm R p2 → pre2 ++ fstL T w left p2 = fstL T w (T (plc (run gs) R)) (run gs) → A3 26 = T → (∀ r, r < R → A3 16 r = p2 r) → F3 48 = w → F3 38 = pre2.length → (∀ i, i < pre2.length → pre2[i]? = some (A3 19 i, A3 20 i)) → (∀ k, k ≠ 38 → k ≠ 48 → F3 k = F k) → kT A A3 → Wx K 30 [some (.ref 358), some (zI ((left + 1 : Nat) : Int)), some (zI ((1 : Nat) : Int)), some (zI (c : Int)), a4, a5, a6] [] n (tw f0 F3 A3) 0 := by
        intro p2 pre2 F3 A3 c a4 a5 a6 n4 n5 n6 hc x1 x2 x3 x4 x5 x6 x7 x8 x9 x10
        have f17'' : F3 17 ≤ 4 := by rw [x9 17 (by decide) (by decide)]; omega
        have f3r : rN (F3 17) ≤ 8 := by rw [x9 17 (by decide) (by decide), ← hwE, ← hRE]; exact hR8
        have f3m : F3 17 * rN (F3 17) ≤ 24 := by rw [x9 17 (by decide) (by decide), ← hwE, ← hRE]; exact hwR
        have nx : Wx K 186 [some (.ref 358), some (zI ((left + 1 : Nat) : Int)), some (zI ((1 : Nat) : Int)), some (zI (c : Int)), a4, a5, a6] [] n (tw f0 F3 A3) 0 := by
          first | refine r_decN_1 hK dX9_laysFirst_186 ?_ | refine r_iinc_1 hK dX9_laysFirst_186 ?_
          refine r_goto 22 hK dX9_laysFirst_189 ?_
          exact ih p2 pre2 F3 A3 _ _ _ _ _ rfl rfl n4 n5 n6 (by omega) x1 x2 x3 x4 x5 x6 x7 x8 x9 x10
        refine r_iload_3 hK dX9_laysFirst_30 ?_
        refine r_aload_0 hK dX9_laysFirst_31 ?_
        refine r_get hK fl_X9_203 dX9_laysFirst_32 tw_obj rfl ?_
        refine r_aload_0 hK dX9_laysFirst_35 ?_
        refine r_pV0 hK (ct_rows hK.rel f17'') lk_X9_248 (tw_rcv hK) dX9_laysFirst_36 ?_
        first | refine r_imulN hK dX9_laysFirst_39 ?_ | refine r_imul hK dX9_laysFirst_39 ?_
        refine r_icmp_ge 186 hK dX9_laysFirst_40 (by omega) (by omega) (fun h40 => ?_) (fun h40 => ?_)
        · exact nx
        · refine r_iload_2 hK dX9_laysFirst_43 ?_
          refine r_if_ne 186 hK dX9_laysFirst_44 (by omega) (fun h44 => ?_) (fun h44 => ?_)
          · exact nx
          · exact absurd h44 (by omega)
      have lpG : ∀ (dg c : Nat) (A3 : Nat → Nat → Nat) a4 a5 a6, nl a4 = true → nl a5 = true → nl a6 = true → c + dg = w * R → (∀ a, a ≠ 29 → A3 a = A2 a) → fsI T R p left (w * R) 0 = fsI T R p left dg c → Wx K 30 [some (.ref 358), some (zI ((left + 1 : Nat) : Int)), some (zI ((0 : Nat) : Int)), some (zI (c : Int)), a4, a5, a6] [] n (tw f0 F2 A3) 0 := by
        intro dg
        induction dg with
        | zero =>
          intro c A3 a4 a5 a6 n4 n5 n6 hc hA3 hfs
          have eN : fstL T w (left + 1) p = fstL T w left p := by
            show (match fsI T (rN w) p left (w * rN w) 0 with | some g => g :: fstL T w left (fun r => p (mk (g.1, g.2, 0) r)) | none => fstL T w left p) = _
            rw [← hRE, hfs]; rfl
          rw [eN] at hpre
          refine r_iload_3 hK dX9_laysFirst_30 ?_
          refine r_aload_0 hK dX9_laysFirst_31 ?_
          refine r_get hK fl_X9_203 dX9_laysFirst_32 tw_obj rfl ?_
          refine r_aload_0 hK dX9_laysFirst_35 ?_
          refine r_pV0 hK (ct_rows hK.rel f17') lk_X9_248 (tw_rcv hK) dX9_laysFirst_36 ?_
          first | refine r_imulN hK dX9_laysFirst_39 ?_ | refine r_imul hK dX9_laysFirst_39 ?_
          rw [r17, f17]
          refine r_icmp_ge 186 hK dX9_laysFirst_40 (by omega) (by omega) (fun h40 => ?_) (fun h40 => ?_)
          · first | refine r_decN_1 hK dX9_laysFirst_186 ?_ | refine r_iinc_1 hK dX9_laysFirst_186 ?_
            refine r_goto 22 hK dX9_laysFirst_189 ?_
            exact ih p pre F2 A3 _ _ _ _ _ rfl rfl n4 n5 n6 (by omega) (by omega) hp hpre (by rw [hA3 26 (by decide)]; exact h26) (by rw [hA3 16 (by decide)]; exact h16) h48 h38 (by rw [hA3 19 (by decide), hA3 20 (by decide)]; exact hpr) hF2 (fun a a1 a2 a3 a4 a5 a6 a7 a8 => by rw [hA3 a a8]; exact hA2 a a1 a2 a3 a4 a5 a6 a7 a8)
          · exact absurd h40 (by omega)
        | succ dg ihg =>
          intro c A3 a4 a5 a6 n4 n5 n6 hc hA3 hfs
          have hcw : c < w * R := by omega
          obtain ⟨d1, d2⟩ := dR hR1 hcw
          have efs : fsI T R p left (dg + 1) c = if (c % R).testBit (c / R) then fsI T R p left dg (c + 1) else if T (plc (fun r => p (mk (c / R, c % R, 0) r)) R) = left then some (c / R, c % R) else fsI T R p left dg (c + 1) := rfl
          rw [efs] at hfs
          have n180 : ∀ (A4 : Nat → Nat → Nat) a6, nl a6 = true → (∀ a, a ≠ 29 → A4 a = A2 a) → fsI T R p left (w * R) 0 = fsI T R p left dg (c + 1) → Wx K 180 [some (.ref 358), some (zI ((left + 1 : Nat) : Int)), some (zI ((0 : Nat) : Int)), some (zI (c : Int)), some (zI ((c / R : Nat) : Int)), some (zI ((c % R : Nat) : Int)), a6] [] n (tw f0 F2 A4) 0 := by
            intro A4 a6 n6 h4 h5
            first | refine r_incN_3 hK dX9_laysFirst_180 ?_ | refine r_iinc_3 hK dX9_laysFirst_180 ?_
            refine r_goto 30 hK dX9_laysFirst_183 ?_
            exact ihg (c + 1) A4 _ _ _ rfl rfl n6 (by omega) h4 h5
          have lpR : (c % R).testBit (c / R) = false → ∀ (dr r : Nat) (A4 : Nat → Nat → Nat), r + dr = R → (∀ a, a ≠ 29 → A4 a = A2 a) → (∀ i, i < r → A4 29 i = p (mk (c / R, c % R, 0) i)) → Wx K 79 [some (.ref 358), some (zI ((left + 1 : Nat) : Int)), some (zI ((0 : Nat) : Int)), some (zI (c : Int)), some (zI ((c / R : Nat) : Int)), some (zI ((c % R : Nat) : Int)), some (zI (r : Int))] [] n (tw f0 F2 A4) 0 := by
            intro hbit
            rw [if_neg (by rw [hbit]; decide)] at hfs
            have hgk : gok w (c / R, c % R, 0) := (show gq w (c / R, c % R, 0) from ⟨d1, by rw [← hRE]; exact d2, hbit, rfl⟩).ok
            have hml : ∀ i, i < R → mk (c / R, c % R, 0) i < R := fun i hi => by have h := mk_lt (w := w) (g := (c / R, c % R, 0)) (x := i) d1 (by rw [← hRE]; exact hi); rw [← hRE] at h; exact h
            intro dr
            induction dr with
            | zero =>
              intro r A4 hr hA4 h29
              have er : r = R := hr
              have hP2 : Pm R (fun i => p (mk (c / R, c % R, 0) i)) := by have hp' : Pm (rN w) p := (by rw [← hRE]; exact hp); have h := hp'.pre hgk; rw [← hRE] at h; exact h
              have ep : plc (A4 29) R = plc (fun i => p (mk (c / R, c % R, 0) i)) R := plc_ext (fun i hi => h29 i (by omega))
              have eb := plc_b hR8 (fun i => p (mk (c / R, c % R, 0) i))
              have h26' : A4 26 = T := by rw [hA4 26 (by decide)]; exact h26
              have hT8 := (hT _ (by rw [← hRE]; exact hP2)).1
              rw [← hRE] at hT8
              -- the order is taken over
              have lpC : T (plc (fun i => p (mk (c / R, c % R, 0) i)) R) = left → ∀ (dc r : Nat) (A5 : Nat → Nat → Nat), r + dc = R → A5 26 = T → (∀ i, i < r → A5 16 i = p (mk (c / R, c % R, 0) i)) → A5 29 = A4 29 → (∀ i, i < (pre ++ [(c / R, c % R)]).length → (pre ++ [(c / R, c % R)])[i]? = some (A5 19 i, A5 20 i)) → kT A A5 → Wx K 151 [some (.ref 358), some (zI ((left + 1 : Nat) : Int)), some (zI ((1 : Nat) : Int)), some (zI (c : Int)), some (zI ((c / R : Nat) : Int)), some (zI ((c % R : Nat) : Int)), some (zI (r : Int))] [] n (tw f0 (upF F2 38 (F2 38 + 1)) A5) 0 := by
                intro hmet
                rw [if_pos hmet] at hfs
                have eS : fstL T w (left + 1) p = (c / R, c % R) :: fstL T w left (fun r => p (mk (c / R, c % R, 0) r)) := by
                  show (match fsI T (rN w) p left (w * rN w) 0 with | some g => g :: fstL T w left (fun r => p (mk (g.1, g.2, 0) r)) | none => fstL T w left p) = _
                  rw [← hRE, hfs]
                intro dc
                induction dc with
                | zero =>
                  intro r A5 hr x1 x2 x3 x4 x5
                  refine r_iload_6 hK dX9_laysFirst_151 ?_
                  refine r_aload_0 hK dX9_laysFirst_153 ?_
                  refine r_pV0 hK (ct_rows hK.rel (by rw [upF_n (by decide)]; exact f17')) lk_X9_248 (tw_rcv hK) dX9_laysFirst_154 ?_
                  rw [upF_n (by decide), r17]
                  refine r_icmp_ge 180 hK dX9_laysFirst_157 (by omega) (by omega) (fun h157 => ?_) (fun h157 => ?_)
                  · first | refine r_incN_3 hK dX9_laysFirst_180 ?_ | refine r_iinc_3 hK dX9_laysFirst_180 ?_
                    refine r_goto 30 hK dX9_laysFirst_183 ?_
                    refine met _ (pre ++ [(c / R, c % R)]) _ A5 (c + 1) _ _ _ rfl rfl rfl (by omega) (by rw [List.length_append]; show pre.length + 1 + left ≤ 8; omega) hP2 ?_ x1 (fun i hi => x2 i (by omega)) (by rw [upF_n (by decide)]; exact h48) (by rw [upF_s, h38, List.length_append]; rfl) x4 (fun k k1 k2 => by rw [upF_n k1]; exact hF2 k k1 k2) x5
                    rw [← hpre, eS, List.append_assoc]; rfl
                  · exact absurd h157 (by omega)
                | succ dc ihc =>
                  intro r A5 hr x1 x2 x3 x4 x5
                  refine r_iload_6 hK dX9_laysFirst_151 ?_
                  refine r_aload_0 hK dX9_laysFirst_153 ?_
                  refine r_pV0 hK (ct_rows hK.rel (by rw [upF_n (by decide)]; exact f17')) lk_X9_248 (tw_rcv hK) dX9_laysFirst_154 ?_
                  rw [upF_n (by decide), r17]
                  refine r_icmp_ge 180 hK dX9_laysFirst_157 (by omega) (by omega) (fun h157 => ?_) (fun h157 => ?_)
                  · exact absurd h157 (by omega)
                  · refine r_aload_0 hK dX9_laysFirst_160 ?_
                    refine r_get hK fl_X9_68 dX9_laysFirst_161 tw_obj rfl ?_
                    refine r_iload_6 hK dX9_laysFirst_164 ?_
                    refine r_aload_0 hK dX9_laysFirst_166 ?_
                    refine r_get hK fl_X9_111 dX9_laysFirst_167 tw_obj rfl ?_
                    refine r_iload_6 hK dX9_laysFirst_170 ?_
                    refine t_ild hK dX9_laysFirst_172 (show _ < 8 by omega) ?_
                    refine t_ist hK dX9_laysFirst_173 (show _ < 64 by omega) ?_
                    first | refine r_incN_6 hK dX9_laysFirst_174 ?_ | refine r_iinc_6 hK dX9_laysFirst_174 ?_
                    refine r_goto 151 hK dX9_laysFirst_177 ?_
                    refine ihc (r + 1) _ (by omega) (by rw [upA_j (by decide)]; exact x1) (fun i hi => ?_) (by rw [upA_j (by decide)]; exact x3) (by rw [upA_j (by decide), upA_j (by decide)]; exact x4) (fun a a1 a2 a3 a4 a5 a6 a7 a8 => by rw [upA_j a1]; exact x5 a a1 a2 a3 a4 a5 a6 a7 a8)
                    by_cases ci : i = r
                    · rw [ci, upA_s, x3]; exact h29 r (by omega)
                    · rw [upA_n ci]; exact x2 i (by omega)
              refine r_iload_6 hK dX9_laysFirst_79 ?_
              refine r_aload_0 hK dX9_laysFirst_81 ?_
              refine r_pV0 hK (ct_rows hK.rel f17') lk_X9_248 (tw_rcv hK) dX9_laysFirst_82 ?_
              rw [r17]
              refine r_icmp_ge 116 hK dX9_laysFirst_85 (by omega) (by omega) (fun h85 => ?_) (fun h85 => ?_)
              · refine r_aload_0 hK dX9_laysFirst_116 ?_
                refine r_get hK fl_X9_102 dX9_laysFirst_117 tw_obj rfl ?_
                refine r_aload_0 hK dX9_laysFirst_120 ?_
                refine r_aload_0 hK dX9_laysFirst_121 ?_
                refine r_pV0 hK (ct_rows hK.rel f17') lk_X9_248 (tw_rcv hK) dX9_laysFirst_122 ?_
                rw [r17]
                refine r_pV1 hK (ct_placeOf hK.rel hR8 (fun i hi => by rw [h29 i (by omega)]; have := hp.1 _ (hml i hi); omega)) lk_X9_363 (tw_rcv hK) dX9_laysFirst_125 ?_
                rw [ep]
                refine t_ild hK dX9_laysFirst_128 (show _ < 40320 by omega) ?_
                rw [h26']
                refine r_iload_1 hK dX9_laysFirst_129 ?_
                refine r_iconstN (c := 1) hK dX9_laysFirst_130 ?_
                first | refine r_isubN hK dX9_laysFirst_131 (by omega) ?_ | refine r_isub hK dX9_laysFirst_131 ?_
                refine r_icmp_eq 138 hK dX9_laysFirst_132 (by omega) (by omega) (fun h132 => ?_) (fun h132 => ?_)
                · refine r_iconstN (c := 1) hK dX9_laysFirst_138 ?_
                  refine r_istore_2 hK dX9_laysFirst_139 ?_
                  refine r_aload_0 hK dX9_laysFirst_140 ?_
                  refine r_iload_4 hK dX9_laysFirst_141 ?_
                  refine r_iload_5 hK dX9_laysFirst_143 ?_
                  refine r_vV2 hK (ct_foundGate hK.rel (by omega)) lk_X9_357 (tw_rcv hK) dX9_laysFirst_145 ?_
                  refine r_iconstN (c := 0) hK dX9_laysFirst_148 ?_
                  refine r_istore_6 hK dX9_laysFirst_149 ?_
                  refine lpC (by omega) R 0 _ (by omega) (by rw [upA_j (by decide), upA_j (by decide)]; exact h26') (fun i hi => absurd hi (Nat.not_lt_zero _)) (by rw [upA_j (by decide), upA_j (by decide)]) (fun i hi => ?_) (fun a a1 a2 a3 a4 a5 a6 a7 a8 => by rw [upA_j a4, upA_j a3, hA4 a a8]; exact hA2 a a1 a2 a3 a4 a5 a6 a7 a8)
                  rw [List.length_append] at hi
                  have hi' : i < pre.length + 1 := hi
                  by_cases ci : i = pre.length
                  · rw [ci, List.getElem?_append_right (Nat.le_refl _), Nat.sub_self, ← h38, upA_s, upA_j (by decide), upA_s]; rfl
                  · rw [List.getElem?_append_left (by omega), h38, upA_n ci, upA_j (by decide), upA_n ci, upA_j (by decide), hA4 19 (by decide), hA4 20 (by decide)]; exact hpr i (by omega)
                · refine r_goto 180 hK dX9_laysFirst_135 ?_
                  exact n180 A4 _ rfl hA4 (by rw [hfs, if_neg (by omega)])
              · exact absurd h85 (by omega)
            | succ dr ihr =>
              intro r A4 hr hA4 h29
              have hm := hml r (by omega)
              refine r_iload_6 hK dX9_laysFirst_79 ?_
              refine r_aload_0 hK dX9_laysFirst_81 ?_
              refine r_pV0 hK (ct_rows hK.rel f17') lk_X9_248 (tw_rcv hK) dX9_laysFirst_82 ?_
              rw [r17]
              refine r_icmp_ge 116 hK dX9_laysFirst_85 (by omega) (by omega) (fun h85 => ?_) (fun h85 => ?_)
              · exact absurd h85 (by omega)
              · refine r_aload_0 hK dX9_laysFirst_88 ?_
                refine r_get hK fl_X9_111 dX9_laysFirst_89 tw_obj rfl ?_
                refine r_iload_6 hK dX9_laysFirst_92 ?_
                refine r_aload_0 hK dX9_laysFirst_94 ?_
                refine r_get hK fl_X9_68 dX9_laysFirst_95 tw_obj rfl ?_
                refine r_iload_6 hK dX9_laysFirst_98 ?_
                refine r_iload_4 hK dX9_laysFirst_100 ?_
                refine r_iload_5 hK dX9_laysFirst_102 ?_
                refine r_iconstN (c := 0) hK dX9_laysFirst_104 ?_
                refine r_pS4 hK (ct_turned hK.rel (by omega) (by omega) (by omega) (by omega)) lk_X9_299 dX9_laysFirst_105 ?_
                refine t_ild hK dX9_laysFirst_108 (show _ < 64 by omega) ?_
                rw [hA4 16 (by decide), h16 _ hm]
                refine t_ist hK dX9_laysFirst_109 (show _ < 8 by omega) ?_
                first | refine r_incN_6 hK dX9_laysFirst_110 ?_ | refine r_iinc_6 hK dX9_laysFirst_110 ?_
                refine r_goto 79 hK dX9_laysFirst_113 ?_
                refine ihr (r + 1) _ (by omega) (fun a ha => by rw [upA_j ha]; exact hA4 a ha) (fun i hi => ?_)
                by_cases ci : i = r
                · rw [ci, upA_s]
                · rw [upA_n ci]; exact h29 i (by omega)
          refine r_iload_3 hK dX9_laysFirst_30 ?_
          refine r_aload_0 hK dX9_laysFirst_31 ?_
          refine r_get hK fl_X9_203 dX9_laysFirst_32 tw_obj rfl ?_
          refine r_aload_0 hK dX9_laysFirst_35 ?_
          refine r_pV0 hK (ct_rows hK.rel f17') lk_X9_248 (tw_rcv hK) dX9_laysFirst_36 ?_
          first | refine r_imulN hK dX9_laysFirst_39 ?_ | refine r_imul hK dX9_laysFirst_39 ?_
          rw [r17, f17]
          refine r_icmp_ge 186 hK dX9_laysFirst_40 (by omega) (by omega) (fun h40 => ?_) (fun h40 => ?_)
          · exact absurd h40 (by omega)
          · refine r_iload_2 hK dX9_laysFirst_43 ?_
            refine r_if_ne 186 hK dX9_laysFirst_44 (by omega) (fun h44 => ?_) (fun h44 => ?_)
            · exact absurd rfl h44 --!
            · refine r_iload_3 hK dX9_laysFirst_47 ?_
              refine r_aload_0 hK dX9_laysFirst_48 ?_
              refine r_pV0 hK (ct_rows hK.rel f17') lk_X9_248 (tw_rcv hK) dX9_laysFirst_49 ?_
              rw [r17]
              refine r_idiv hK dX9_laysFirst_52 (by omega) (by omega) (by omega) ?_
              refine r_istore_4 hK dX9_laysFirst_53 ?_
              refine r_iload_3 hK dX9_laysFirst_55 ?_
              refine r_aload_0 hK dX9_laysFirst_56 ?_
              refine r_pV0 hK (ct_rows hK.rel f17') lk_X9_248 (tw_rcv hK) dX9_laysFirst_57 ?_
              rw [r17]
              refine r_irem hK dX9_laysFirst_60 (by omega) (by omega) (by omega) ?_
              refine r_istore_5 hK dX9_laysFirst_61 ?_
              refine r_iload_5 hK dX9_laysFirst_63 ?_
              refine r_iload_4 hK dX9_laysFirst_65 ?_
              refine r_pS2 hK (ct_has hK.rel (by omega) (by omega)) lk_X9_261 dX9_laysFirst_67 ?_
              refine r_ifB_eq 76 hK dX9_laysFirst_70 (fun h70 => ?_) (fun h70 => ?_)
              · refine r_iconstN (c := 0) hK dX9_laysFirst_76 ?_
                refine r_istore_6 hK dX9_laysFirst_77 ?_
                exact lpR (Bool.eq_false_iff.mpr h70) R 0 A3 (by omega) hA3 (fun i hi => absurd hi (Nat.not_lt_zero _))
              · refine r_goto 180 hK dX9_laysFirst_73 ?_
                exact n180 A3 _ n6 hA3 (by rw [hfs, if_pos h70])
      refine r_iload_1 hK dX9_laysFirst_22 ?_
      refine r_if_le 192 hK dX9_laysFirst_23 (by omega) (fun h23 => ?_) (fun h23 => ?_)
      · exact absurd h23 (by omega)
      · refine r_iconstN (c := 0) hK dX9_laysFirst_26 ?_
        refine r_istore_2 hK dX9_laysFirst_27 ?_
        refine r_iconstN (c := 0) hK dX9_laysFirst_28 ?_
        refine r_istore_3 hK dX9_laysFirst_29 ?_
        exact lpG (w * R) 0 A2 _ _ _ n4 n5 n6 (by omega) (fun _ _ => rfl) rfl
  refine r_aload_0 hK dX9_laysFirst_0 ?_
  refine r_tvV0 hK (ct_laysTable hK.rel hw hD hC.1 (fun q => by rw [← q]; exact hC.2 (by omega))) lk_X9_369 (tw_rcv hK) dX9_laysFirst_1 (fun F1 A1 h1 => ?_)
  obtain ⟨t1, t2, t3⟩ := h1
  subst t1
  refine r_aload_0 hK dX9_laysFirst_4 ?_
  refine r_aload_0 hK dX9_laysFirst_5 ?_
  refine r_get hK fl_X9_52 dX9_laysFirst_6 tw_obj rfl ?_
  refine r_tvV1 hK (ct_laysOrder (j := 11) (gs := gs) hK.rel (Or.inl rfl) (by rw [upF_n (by decide)]; omega) (by rw [t2 11 (by decide) (by decide) (by decide) (by decide)]; exact hg) (fun g hg => gok4 (by omega) (ho g hg))) lk_X9_285 (tw_rcv hK) dX9_laysFirst_9 (fun F2 A2 h2 => ?_)
  obtain ⟨o1, o2, o3⟩ := h2
  subst o1
  have f17 : upF (upF F 48 (F 17)) 38 0 17 = F 17 := by rw [upF_n (by decide), upF_n (by decide)]
  have f17b : upF F 48 (F 17) 17 = F 17 := by rw [upF_n (by decide)]
  rw [f17b] at o3
  refine r_aload_0 hK dX9_laysFirst_12 ?_
  refine r_iconstN (c := 0) hK dX9_laysFirst_13 ?_
  refine t_put hK fl_X9_296 dX9_laysFirst_14 ?_
  refine r_aload_0 hK dX9_laysFirst_17 ?_
  refine r_tiV0 hK (ct_fewestFor (p := run gs) hK.rel (by rw [f17]; exact hw) (by rw [f17, o2 26 (by decide)]; exact t3) (by rw [f17]; exact Pm_run ho) (by rw [f17]; exact o3)) lk_X9_372 (tw_rcv hK) dX9_laysFirst_18 (fun z F3 A3 h3 => ?_)
  obtain ⟨e1, e2, e3⟩ := h3
  subst e1
  subst e2
  rw [f17]
  have hT : TabR w (A2 26) := by rw [hwE, o2 26 (by decide)]; exact t3
  have hT8 := (hT (run gs) (by rw [hwE]; exact Pm_run ho)).1
  refine r_istore_1 hK dX9_laysFirst_21 ?_
  refine lpL (A2 26) hT _ (run gs) [] _ A3 none none none none none rfl rfl rfl rfl rfl (by rw [← hwE]; exact hT8) (by rw [← hwE]; show 0 + _ ≤ 8; omega) (by rw [hRE, hwE]; exact Pm_run ho) (by rw [← hwE, ← hRE]; rfl) (e3 26 (by decide)) (by rw [e3 16 (by decide), hRE, hwE]; exact o3) (by rw [upF_n (by decide), upF_s]; exact hwE.symm) (by rw [upF_s]; rfl) (fun i hi => absurd hi (Nat.not_lt_zero _)) (fun k k1 k2 => by rw [upF_n k1, upF_n k2]) ?_
  intro a a1 a2 a3 a4 a5 a6 a7 a8
  rw [e3 a a8, o2 a a1, t2 a a5 a6 a7 a8]
