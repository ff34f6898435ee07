set_option maxRecDepth 100000
/-! ===== the reference: small methods ===== -/
set_option maxHeartbeats 4000000 in
theorem ct_in {G : GT} {Rel : Nat → Hp → Hp → Prop} (hR : RelOK Rel) {n : Nat} {f : Hp} {v a b : Int} (hv : inR v) (ha : inR a) (hb : inR b) : Ct G Rel yX9_in cX9_in 3 (some .boolean) (1) (0) [zI v, zI a, zI b] n (f) (Pu (zB (a ≤ v ∧ v ≤ b)) n f) := by
  refine ct_intro [some (zI v), some (zI a), some (zI b)] hR rfl (Nat.le_of_ble_eq_true rfl) ?_
  intro K hG hRel hK hRt hnm
  refine r_iload_0 hK dX9_in_0 ?_
  refine r_iload_1 hK dX9_in_1 ?_
  refine r_icmp_lt 14 hK dX9_in_2 (by omega) (by omega) (fun h2 => ?_) (fun h2 => ?_)
  · refine r_iconstN (c := 0) hK dX9_in_14 ?_
    exact r_zret hK hRt dX9_in_15 rfl ⟨by rw [zB_f (by omega)]; rfl, rfl, rfl⟩
  · refine r_iload_0 hK dX9_in_5 ?_
    refine r_iload_2 hK dX9_in_6 ?_
    refine r_icmp_gt 14 hK dX9_in_7 (by omega) (by omega) (fun h7 => ?_) (fun h7 => ?_)
    · refine r_iconstN (c := 0) hK dX9_in_14 ?_
      exact r_zret hK hRt dX9_in_15 rfl ⟨by rw [zB_f (by omega)]; rfl, rfl, rfl⟩
    · refine r_iconstN (c := 1) hK dX9_in_10 ?_
      refine r_goto 15 hK dX9_in_11 ?_
      exact r_zret hK hRt dX9_in_15 rfl ⟨by rw [zB_t (by omega)]; rfl, rfl, rfl⟩
set_option maxHeartbeats 4000000 in
theorem ct_has {G : GT} {Rel : Nat → Hp → Hp → Prop} (hR : RelOK Rel) {n : Nat} {f : Hp} {s k : Nat} (hs : s < 2147483648) (hk : k < 32) : Ct G Rel yX9_has cX9_has 2 (some .boolean) (1) (0) [zI (s : Int), zI (k : Int)] n (f) (Pu (zB (s.testBit k = true)) n f) := by
  refine ct_intro [some (zI (s : Int)), some (zI (k : Int))] hR rfl (Nat.le_of_ble_eq_true rfl) ?_
  intro K hG hRel hK hRt hnm
  have h1 : s >>> k &&& 1 < 2 := Nat.lt_of_le_of_lt Nat.and_le_right (by decide)
  have h2 := testBit_mod s k
  refine r_iload_0 hK dX9_has_0 ?_
  refine r_iload_1 hK dX9_has_1 ?_
  refine r_ishr hK dX9_has_2 (by omega) (by omega) ?_
  refine r_iconstN (c := 1) hK dX9_has_3 ?_
  first | refine r_iand hK dX9_has_4 ?_ | refine r_andnot hK dX9_has_4 (by omega) ?_
  refine r_iconstN (c := 1) hK dX9_has_5 ?_
  refine r_icmp_ne 13 hK dX9_has_6 (by omega) (by omega) (fun h6 => ?_) (fun h6 => ?_)
  · refine r_iconstN (c := 0) hK dX9_has_13 ?_
    exact r_zret hK hRt dX9_has_14 rfl ⟨by rw [zB_f (by rw [← h2]; omega)]; rfl, rfl, rfl⟩
  · refine r_iconstN (c := 1) hK dX9_has_9 ?_
    refine r_goto 14 hK dX9_has_10 ?_
    exact r_zret hK hRt dX9_has_14 rfl ⟨by rw [zB_t (by rw [← h2]; omega)]; rfl, rfl, rfl⟩
set_option maxHeartbeats 4000000 in
theorem ct_rows {G : GT} {Rel : Nat → Hp → Hp → Prop} (hR : RelOK Rel) {n : Nat} {f0 : Hp} {F : Nat → Nat} {A : Nat → Nat → Nat} (hw : F 17 ≤ 4) : Ct G Rel yX9_rows cX9_rows 1 (some .int) (1) (0) [.ref 358] n (tw f0 F A) (Pu (zI ((rN (F 17) : Nat) : Int)) n (tw f0 F A)) := by
  refine ct_intro [some (.ref 358)] hR rfl (Nat.le_of_ble_eq_true rfl) ?_
  intro K hG hRel hK hRt hnm
  refine r_iconstN (c := 1) hK dX9_rows_0 ?_
  refine r_aload_0 hK dX9_rows_1 ?_
  refine r_get hK fl_X9_203 dX9_rows_2 tw_obj rfl ?_
  refine r_ishl hK dX9_rows_5 (by omega) (by first | exact sh1 (by omega) | omega) ?_
  exact r_iret hK hRt dX9_rows_6 ⟨rfl, rfl, rfl⟩
set_option maxHeartbeats 4000000 in
theorem ct_turned {G : GT} {Rel : Nat → Hp → Hp → Prop} (hR : RelOK Rel) {n : Nat} {f : Hp} {x t on off : Nat} (hx : x < 65536) (ht : t < 16) (h1 : on < 65536) (h2 : off < 65536) : Ct G Rel yX9_turned cX9_turned 4 (some .int) (1) (0) [zI (x : Int), zI (t : Int), zI (on : Int), zI (off : Int)] n (f) (Pu (zI ((mk (t, on, off) x : Nat) : Int)) n f) := by
  refine ct_intro [some (zI (x : Int)), some (zI (t : Int)), some (zI (on : Int)), some (zI (off : Int))] hR rfl (Nat.le_of_ble_eq_true rfl) ?_
  intro K hG hRel hK hRt hnm
  have a1 : x &&& on < 65536 := and_lt hx
  have a2 : x &&& off < 65536 := and_lt hx
  refine r_iload_0 hK dX9_turned_0 ?_
  refine r_iload_2 hK dX9_turned_1 ?_
  first | refine r_iand hK dX9_turned_2 ?_ | refine r_andnot hK dX9_turned_2 (by omega) ?_
  refine r_iload_2 hK dX9_turned_3 ?_
  refine r_icmp_ne 21 hK dX9_turned_4 (by omega) (by omega) (fun h4 => ?_) (fun h4 => ?_)
  · refine r_iload_0 hK dX9_turned_21 ?_
    exact r_iret hK hRt dX9_turned_22 ⟨by unfold mk; rw [if_neg (by simp only; omega)], rfl, rfl⟩
  · refine r_iload_0 hK dX9_turned_7 ?_
    refine r_iload_3 hK dX9_turned_8 ?_
    first | refine r_iand hK dX9_turned_9 ?_ | refine r_andnot hK dX9_turned_9 (by omega) ?_
    refine r_if_ne 21 hK dX9_turned_10 (by omega) (fun h10 => ?_) (fun h10 => ?_)
    · refine r_iload_0 hK dX9_turned_21 ?_
      exact r_iret hK hRt dX9_turned_22 ⟨by unfold mk; rw [if_neg (by simp only; omega)], rfl, rfl⟩
    · refine r_iload_0 hK dX9_turned_13 ?_
      refine r_iconstN (c := 1) hK dX9_turned_14 ?_
      refine r_iload_1 hK dX9_turned_15 ?_
      refine r_ishl hK dX9_turned_16 (by omega) (by first | exact sh1 (by omega) | omega) ?_
      first | refine r_ixor hK dX9_turned_17 ?_ | refine r_not hK dX9_turned_17 ?_
      refine r_goto 22 hK dX9_turned_18 ?_
      exact r_iret hK hRt dX9_turned_22 ⟨by unfold mk; rw [if_pos (by simp only; omega)], rfl, rfl⟩
set_option maxHeartbeats 4000000 in
theorem ct_by {G : GT} {Rel : Nat → Hp → Hp → Prop} (hR : RelOK Rel) {n : Nat} {f0 : Hp} {F : Nat → Nat} {A : Nat → Nat → Nat} {j k x : Nat} (hj : j = 11 ∨ j = 18) (hk : k < 16) (hx : x < 65536) (hg : gok 4 (ge (A j) k)) : Ct G Rel yX9_by cX9_by 3 (some .int) (2) (0) [.ref (j + 359), zI (k : Int), zI (x : Int)] n (tw f0 F A) (Pu (zI ((mk (ge (A j) k) x : Nat) : Int)) n (tw f0 F A)) := by
  refine ct_intro [some (.ref (j + 359)), some (zI (k : Int)), some (zI (x : Int))] hR rfl (Nat.le_of_ble_eq_true rfl) ?_
  intro K hG hRel hK hRt hnm
  have hj1 : isIa j = true := by rcases hj with e | e <;> subst e <;> rfl
  have hj2 : twl j = 49 := by rcases hj with e | e <;> subst e <;> rfl
  obtain ⟨g1, g2, g3⟩ := gok_s hg
  simp only [ge] at g1 g2 g3
  refine r_iload_2 hK dX9_by_0 ?_
  refine r_aload_0 hK dX9_by_1 ?_
  refine r_iconstN (c := 1) hK dX9_by_2 ?_
  refine r_iload_1 hK dX9_by_3 ?_
  first | refine r_iaddN hK dX9_by_4 ?_ | refine r_iadd hK dX9_by_4 ?_
  refine t_ild hK dX9_by_5 (by rw [hj2]; omega) ?_ hj1
  refine r_aload_0 hK dX9_by_6 ?_
  refine r_bipushN (c := 17) hK dX9_by_7 ?_
  refine r_iload_1 hK dX9_by_9 ?_
  first | refine r_iaddN hK dX9_by_10 ?_ | refine r_iadd hK dX9_by_10 ?_
  refine t_ild hK dX9_by_11 (by rw [hj2]; omega) ?_ hj1
  refine r_aload_0 hK dX9_by_12 ?_
  refine r_bipushN (c := 33) hK dX9_by_13 ?_
  refine r_iload_1 hK dX9_by_15 ?_
  first | refine r_iaddN hK dX9_by_16 ?_ | refine r_iadd hK dX9_by_16 ?_
  refine t_ild hK dX9_by_17 (by rw [hj2]; omega) ?_ hj1
  refine r_pS4 hK (ct_turned hK.rel (by omega) (by omega) (by omega) (by omega)) lk_X9_299 dX9_by_18 ?_
  exact r_iret hK hRt dX9_by_21 ⟨rfl, rfl, rfl⟩
set_option maxHeartbeats 4000000 in
theorem ct_madeBy {G : GT} {Rel : Nat → Hp → Hp → Prop} (hR : RelOK Rel) {n : Nat} {f0 : Hp} {F : Nat → Nat} {A : Nat → Nat → Nat} {gs : List Gt} {x a b : Nat} (hg : GA (A 11) gs) (ho : ∀ g ∈ gs, gok 4 g) (hx : x < 16) (hab : a ≤ b) (hb : b ≤ gs.length) : Ct G Rel yX9_madeBy cX9_madeBy 6 (some .int) (3) (0) [.ref 358, zI (x : Int), zI (a : Int), zI (b : Int)] n (tw f0 F A) (Pu (zI ((run ((gs.take b).drop a) x : Nat) : Int)) n (tw f0 F A)) := by
  refine ct_intro [some (.ref 358), some (zI (x : Int)), some (zI (a : Int)), some (zI (b : Int)), none, none] hR rfl (Nat.le_of_ble_eq_true rfl) ?_
  intro K hG hRel hK hRt hnm
  have hl := hg.2.1
  have lp : ∀ m i y, m = b - i → a ≤ i → i ≤ b → y = run ((gs.take i).drop a) x → Wx K 6 [some (.ref 358), some (zI (x : Int)), some (zI (a : Int)), some (zI (b : Int)), some (zI (y : Int)), some (zI (i : Int))] [] n (tw f0 F A) 0 := by
    intro m
    induction m using Nat.strongRecOn with
    | _ m ih =>
      intro i y hm ha hi hy
      have hy16 : y < 16 := by
        rw [hy]
        exact run_lt (w := 4) (fun g h => (ho g (List.mem_of_mem_take (List.mem_of_mem_drop h))).1) hx
      refine r_iload_5 hK dX9_madeBy_6 ?_
      refine r_iload_3 hK dX9_madeBy_8 ?_
      refine r_icmp_ge 31 hK dX9_madeBy_9 (by omega) (by omega) (fun h9 => ?_) (fun h9 => ?_)
      · have e : i = b := by omega
        subst e
        refine r_iload_4 hK dX9_madeBy_31 ?_
        exact r_iret hK hRt dX9_madeBy_33 ⟨by rw [hy], rfl, rfl⟩
      · have hig : i < gs.length := by omega
        refine r_aload_0 hK dX9_madeBy_12 ?_
        refine r_get hK fl_X9_52 dX9_madeBy_13 tw_obj rfl ?_
        refine r_iload_5 hK dX9_madeBy_16 ?_
        refine r_iload_4 hK dX9_madeBy_18 ?_
        refine r_pS3 hK (ct_by (j := 11) hK.rel (Or.inl rfl) (by omega) (by omega) (hg.ok ho hig)) lk_X9_303 dX9_madeBy_20 ?_
        refine r_istore_4 hK dX9_madeBy_23 ?_
        first | refine r_incN_5 hK dX9_madeBy_25 ?_ | refine r_iinc_5 hK dX9_madeBy_25 ?_
        refine r_goto 6 hK dX9_madeBy_28 ?_
        exact ih (b - (i + 1)) (by omega) (i + 1) _ rfl (by omega) (by omega) (by rw [hy, List.take_succ_eq_append_getElem hig, List.drop_append_of_le_length (by simp; omega), run_app, hg.at hig]; rfl)
  refine r_iload_1 hK dX9_madeBy_0 ?_
  refine r_istore_4 hK dX9_madeBy_1 ?_
  refine r_iload_2 hK dX9_madeBy_3 ?_
  refine r_istore_5 hK dX9_madeBy_4 ?_
  exact lp (b - a) a x rfl (Nat.le_refl _) hab (by simp [run])
