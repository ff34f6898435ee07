set_option maxRecDepth 100000
/-! ===== the reference: bits, gates of a row ===== -/
set_option maxHeartbeats 4000000 in
theorem ct_bitsOf {G : GT} {Rel : Nat → Hp → Hp → Prop} (hR : RelOK Rel) {n : Nat} {f : Hp} {s : Nat} (hs : s < 2147483648) : Ct G Rel yX9_bitsOf cX9_bitsOf 3 (some .int) (1) (0) [zI (s : Int)] n (f) (Pu (zI ((bits s : Nat) : Int)) n f) := by
  refine ct_intro [some (zI (s : Int)), none, none] hR rfl (Nat.le_of_ble_eq_true rfl) ?_
  intro K hG hRel hK hRt hnm
  have lp : ∀ k c, k ≤ s → c + bits k = bits s → Wx K 4 [some (zI (s : Int)), some (zI (c : Int)), some (zI (k : Int))] [] n f 0 := by
    intro k
    induction k using Nat.strongRecOn with
    | _ k ih =>
      intro c hk hc
      have hb := bits_step (n := k) (by omega)
      have hm : k &&& 1 = k % 2 := Nat.and_one_is_mod k
      have hs1 : k >>> 1 = k / 2 := by rw [Nat.shiftRight_eq_div_pow]
      refine r_iload_2 hK dX9_bitsOf_4 ?_
      refine r_if_le 21 hK dX9_bitsOf_5 (by omega) (fun h5 => ?_) (fun h5 => ?_)
      · have hk0 : k = 0 := by omega
        subst hk0
        refine r_iload_1 hK dX9_bitsOf_21 ?_
        exact r_iret hK hRt dX9_bitsOf_22 ⟨by rw [← hc, bits_0]; rfl, rfl, rfl⟩
      · refine r_iload_1 hK dX9_bitsOf_8 ?_
        refine r_iload_2 hK dX9_bitsOf_9 ?_
        refine r_iconstN (c := 1) hK dX9_bitsOf_10 ?_
        first | refine r_iand hK dX9_bitsOf_11 ?_ | refine r_andnot hK dX9_bitsOf_11 (by omega) ?_
        rw [hm]
        first | refine r_iaddN hK dX9_bitsOf_12 ?_ | refine r_iadd hK dX9_bitsOf_12 ?_
        refine r_istore_1 hK dX9_bitsOf_13 ?_
        refine r_iload_2 hK dX9_bitsOf_14 ?_
        refine r_iconstN (c := 1) hK dX9_bitsOf_15 ?_
        refine r_ishr hK dX9_bitsOf_16 (by omega) (by omega) ?_
        rw [hs1]
        refine r_istore_2 hK dX9_bitsOf_17 ?_
        refine r_goto 4 hK dX9_bitsOf_18 ?_
        exact ih (k / 2) (by omega) (c + k % 2) (by omega) (by omega)
  refine r_iconstN (c := 0) hK dX9_bitsOf_0 ?_
  refine r_istore_1 hK dX9_bitsOf_1 ?_
  refine r_iload_0 hK dX9_bitsOf_2 ?_
  refine r_istore_2 hK dX9_bitsOf_3 ?_
  exact lp s 0 (Nat.le_refl _) (by omega)
set_option maxHeartbeats 4000000 in
theorem ct_gates {G : GT} {Rel : Nat → Hp → Hp → Prop} (hR : RelOK Rel) {n : Nat} {f0 : Hp} {F : Nat → Nat} {A : Nat → Nat → Nat} : Ct G Rel yX9_gates cX9_gates 1 (some .int) (1) (0) [.ref 358] n (tw f0 F A) (Pu (zI ((A 11 0 : Nat) : Int)) n (tw f0 F A)) := by
  refine ct_intro [some (.ref 358)] hR rfl (Nat.le_of_ble_eq_true rfl) ?_
  intro K hG hRel hK hRt hnm
  refine r_aload_0 hK dX9_gates_0 ?_
  refine r_get hK fl_X9_52 dX9_gates_1 tw_obj rfl ?_
  refine r_iconstN (c := 0) hK dX9_gates_4 ?_
  refine t_ild hK dX9_gates_5 (show _ < 49 by omega) ?_
  exact r_iret hK hRt dX9_gates_6 ⟨rfl, rfl, rfl⟩
set_option maxHeartbeats 4000000 in
theorem ct_isGate {G : GT} {Rel : Nat → Hp → Hp → Prop} (hR : RelOK Rel) {n : Nat} {f0 : Hp} {F : Nat → Nat} {A : Nat → Nat → Nat} {z : Int} (hz : inR z) (hA : A 11 0 ≤ 16) : Ct G Rel yX9_isGate cX9_isGate 2 (some .boolean) (2) (0) [.ref 358, zI z] n (tw f0 F A) (Pu (zB (0 ≤ z ∧ z < (A 11 0 : Int))) n (tw f0 F A)) := by
  refine ct_intro [some (.ref 358), some (zI z)] hR rfl (Nat.le_of_ble_eq_true rfl) ?_
  intro K hG hRel hK hRt hnm
  refine r_iload_1 hK dX9_isGate_0 ?_
  refine r_iconstN (c := 0) hK dX9_isGate_1 ?_
  refine r_aload_0 hK dX9_isGate_2 ?_
  refine r_pV0 hK (ct_gates hK.rel) lk_X9_244 (tw_rcv hK) dX9_isGate_3 ?_
  refine r_iconstN (c := 1) hK dX9_isGate_6 ?_
  refine r_isub hK dX9_isGate_7 ?_
  refine r_pS3 hK (ct_in hK.rel hz (by omega) (by omega)) lk_X9_237 dX9_isGate_8 ?_
  exact r_bret hK hRt dX9_isGate_11 ⟨congrArg some (zB_iff (by omega)), rfl, rfl⟩
set_option maxHeartbeats 4000000 in
theorem ct_isRow {G : GT} {Rel : Nat → Hp → Hp → Prop} (hR : RelOK Rel) {n : Nat} {f0 : Hp} {F : Nat → Nat} {A : Nat → Nat → Nat} {z : Int} (hz : inR z) (hw : F 17 ≤ 4) : Ct G Rel yX9_isRow cX9_isRow 2 (some .boolean) (2) (0) [.ref 358, zI z] n (tw f0 F A) (Pu (zB (0 ≤ z ∧ z < ((rN (F 17) : Nat) : Int))) n (tw f0 F A)) := by
  refine ct_intro [some (.ref 358), some (zI z)] hR rfl (Nat.le_of_ble_eq_true rfl) ?_
  intro K hG hRel hK hRt hnm
  have h4 := rN4 hw
  refine r_iload_1 hK dX9_isRow_0 ?_
  refine r_iconstN (c := 0) hK dX9_isRow_1 ?_
  refine r_aload_0 hK dX9_isRow_2 ?_
  refine r_pV0 hK (ct_rows hK.rel hw) lk_X9_248 (tw_rcv hK) dX9_isRow_3 ?_
  refine r_iconstN (c := 1) hK dX9_isRow_6 ?_
  refine r_isub hK dX9_isRow_7 ?_
  refine r_pS3 hK (ct_in hK.rel hz (by omega) (by omega)) lk_X9_237 dX9_isRow_8 ?_
  exact r_bret hK hRt dX9_isRow_11 ⟨congrArg some (zB_iff (by omega)), rfl, rfl⟩
set_option maxHeartbeats 4000000 in
theorem ct_sets {G : GT} {Rel : Nat → Hp → Hp → Prop} (hR : RelOK Rel) {n : Nat} {f0 : Hp} {F : Nat → Nat} {A : Nat → Nat → Nat} {j k a b c : Nat} (hj : j = 11 ∨ j = 18) (hk : k < 16) : Ct G Rel yX9_sets cX9_sets 5 none (1) (0) [.ref (j + 359), zI (k : Int), zI (a : Int), zI (b : Int), zI (c : Int)] n (tw f0 F A) (Pv n (tw f0 F (upG A j k (a, b, c)))) := by
  refine ct_intro [some (.ref (j + 359)), some (zI (k : Int)), some (zI (a : Int)), some (zI (b : Int)), some (zI (c : Int))] hR rfl (Nat.le_of_ble_eq_true rfl) ?_
  intro K hG hRel hK hRt hnm
  have hj1 : isIa j = true := by rcases hj with e | e <;> subst e <;> rfl
  have hj2 : twl j = 49 := by rcases hj with e | e <;> subst e <;> rfl
  refine r_aload_0 hK dX9_sets_0 ?_
  refine r_iconstN (c := 1) hK dX9_sets_1 ?_
  refine r_iload_1 hK dX9_sets_2 ?_
  first | refine r_iaddN hK dX9_sets_3 ?_ | refine r_iadd hK dX9_sets_3 ?_
  refine r_iload_2 hK dX9_sets_4 ?_
  refine t_ist hK dX9_sets_5 (by rw [hj2]; omega) ?_ hj1
  refine r_aload_0 hK dX9_sets_6 ?_
  refine r_bipushN (c := 17) hK dX9_sets_7 ?_
  refine r_iload_1 hK dX9_sets_9 ?_
  first | refine r_iaddN hK dX9_sets_10 ?_ | refine r_iadd hK dX9_sets_10 ?_
  refine r_iload_3 hK dX9_sets_11 ?_
  refine t_ist hK dX9_sets_12 (by rw [hj2]; omega) ?_ hj1
  refine r_aload_0 hK dX9_sets_13 ?_
  refine r_bipushN (c := 33) hK dX9_sets_14 ?_
  refine r_iload_1 hK dX9_sets_16 ?_
  first | refine r_iaddN hK dX9_sets_17 ?_ | refine r_iadd hK dX9_sets_17 ?_
  refine r_iload_4 hK dX9_sets_18 ?_
  refine t_ist hK dX9_sets_20 (by rw [hj2]; omega) ?_ hj1
  exact r_vret hK hRt dX9_sets_21 ⟨rfl, rfl, rfl⟩
set_option maxHeartbeats 4000000 in
theorem ct_copiesGate {G : GT} {Rel : Nat → Hp → Hp → Prop} (hR : RelOK Rel) {n : Nat} {f0 : Hp} {F : Nat → Nat} {A : Nat → Nat → Nat} {i j a k : Nat} (hi : i = 11 ∨ i = 12 ∨ i = 18) (hj : j = 11 ∨ j = 12 ∨ j = 18) (ha : a < 16) (hk : k < 16) (hg : gok 4 (ge (A i) a)) : Ct G Rel yX9_copiesGate cX9_copiesGate 4 none (1) (0) [.ref (i + 359), zI (a : Int), .ref (j + 359), zI (k : Int)] n (tw f0 F A) (Pv n (tw f0 F (upG A j k (ge (A i) a)))) := by
  refine ct_intro [some (.ref (i + 359)), some (zI (a : Int)), some (.ref (j + 359)), some (zI (k : Int))] hR rfl (Nat.le_of_ble_eq_true rfl) ?_
  intro K hG hRel hK hRt hnm
  have hi1 : isIa i = true ∨ (i = 12) := by rcases hi with e | e | e <;> subst e <;> first | exact Or.inl rfl | exact Or.inr rfl
  have hi2 : twl i = 49 := by rcases hi with e | e | e <;> subst e <;> rfl
  have hj1 : isIa j = true ∨ (j = 12) := by rcases hj with e | e | e <;> subst e <;> first | exact Or.inl rfl | exact Or.inr rfl
  have hj2 : twl j = 49 := by rcases hj with e | e | e <;> subst e <;> rfl
  have q1 : ∀ A' : Nat → Nat → Nat, ∀ m, A' i m < 65536 → isIa i = true ∨ (i = 12 ∧ A' 12 m < 999999999) := fun A' m hm => by
    rcases hi1 with h | h
    · exact Or.inl h
    · exact Or.inr ⟨h, by rw [h] at hm; omega⟩
  have q2 : ∀ x, x < 65536 → isIa j = true ∨ (j = 12 ∧ x < 999999999) := fun x hx => by
    rcases hj1 with h | h
    · exact Or.inl h
    · exact Or.inr ⟨h, by omega⟩
  obtain ⟨g1, g2, g3⟩ := gok_s hg
  simp only [ge] at g1 g2 g3
  have b2 : (upA A j (1 + k) (A i (1 + a))) i (17 + a) = A i (17 + a) := by unfold upA; rw [if_neg (show ¬ 17 + a = 1 + k by omega)]; split <;> rfl
  have b3 : (upA (upA A j (1 + k) (A i (1 + a))) j (17 + k) (A i (17 + a))) i (33 + a) = A i (33 + a) := by unfold upA; rw [if_neg (show ¬ 33 + a = 17 + k by omega), if_neg (show ¬ 33 + a = 1 + k by omega)]; split <;> (try split) <;> rfl
  refine r_aload_2 hK dX9_copiesGate_0 ?_
  refine r_iconstN (c := 1) hK dX9_copiesGate_1 ?_
  refine r_iload_3 hK dX9_copiesGate_2 ?_
  first | refine r_iaddN hK dX9_copiesGate_3 ?_ | refine r_iadd hK dX9_copiesGate_3 ?_
  refine r_aload_0 hK dX9_copiesGate_4 ?_
  refine r_iconstN (c := 1) hK dX9_copiesGate_5 ?_
  refine r_iload_1 hK dX9_copiesGate_6 ?_
  first | refine r_iaddN hK dX9_copiesGate_7 ?_ | refine r_iadd hK dX9_copiesGate_7 ?_
  refine t_ildb hK dX9_copiesGate_8 (by rw [hi2]; omega) (q1 _ _ (by omega)) ?_
  refine t_istb hK dX9_copiesGate_9 (by rw [hj2]; omega) (q2 _ (by omega)) ?_
  refine r_aload_2 hK dX9_copiesGate_10 ?_
  refine r_bipushN (c := 17) hK dX9_copiesGate_11 ?_
  refine r_iload_3 hK dX9_copiesGate_13 ?_
  first | refine r_iaddN hK dX9_copiesGate_14 ?_ | refine r_iadd hK dX9_copiesGate_14 ?_
  refine r_aload_0 hK dX9_copiesGate_15 ?_
  refine r_bipushN (c := 17) hK dX9_copiesGate_16 ?_
  refine r_iload_1 hK dX9_copiesGate_18 ?_
  first | refine r_iaddN hK dX9_copiesGate_19 ?_ | refine r_iadd hK dX9_copiesGate_19 ?_
  refine t_ildb hK dX9_copiesGate_20 (by rw [hi2]; omega) (q1 _ _ (by rw [b2]; omega)) ?_
  rw [b2]
  refine t_istb hK dX9_copiesGate_21 (by rw [hj2]; omega) (q2 _ (by omega)) ?_
  refine r_aload_2 hK dX9_copiesGate_22 ?_
  refine r_bipushN (c := 33) hK dX9_copiesGate_23 ?_
  refine r_iload_3 hK dX9_copiesGate_25 ?_
  first | refine r_iaddN hK dX9_copiesGate_26 ?_ | refine r_iadd hK dX9_copiesGate_26 ?_
  refine r_aload_0 hK dX9_copiesGate_27 ?_
  refine r_bipushN (c := 33) hK dX9_copiesGate_28 ?_
  refine r_iload_1 hK dX9_copiesGate_30 ?_
  first | refine r_iaddN hK dX9_copiesGate_31 ?_ | refine r_iadd hK dX9_copiesGate_31 ?_
  refine t_ildb hK dX9_copiesGate_32 (by rw [hi2]; omega) (q1 _ _ (by rw [b3]; omega)) ?_
  rw [b3]
  refine t_istb hK dX9_copiesGate_33 (by rw [hj2]; omega) (q2 _ (by omega)) ?_
  exact r_vret hK hRt dX9_copiesGate_34 ⟨rfl, rfl, rfl⟩
