set_option maxRecDepth 100000
/-! ===== constructors: Table, Tests ===== -/
set_option maxHeartbeats 4000000 in
theorem ct_iTable {G : GT} {Rel : Nat → Hp → Hp → Prop} (hR : RelOK Rel) {n : Nat} {f : Hp} {k : Nat} {a b c : Value} (h : f k = some (.inl (5, [a, b, c]))) (hk : k ≠ n) : Ct G Rel yX5_init cX5_init 1 none (2) (1) [.ref k] n (f) (fun r n' f' => r = none ∧ n' = n + 1 ∧ f' = up (up f n (.inr (0, 8, fun _ => zI 0))) k (.inl (5, [a, b, .ref n]))) := by
  refine ct_intro [some (.ref k)] hR rfl (Nat.le_of_ble_eq_true rfl) ?_
  intro K hG hRel hK hRt hnm
  refine r_aload_0 hK dX5_init_0 ?_
  refine r_objInit hK oi_X5_3 dX5_init_1 ?_
  refine r_aload_0 hK dX5_init_4 ?_
  refine r_bipushN (c := 8) hK dX5_init_5 ?_
  refine r_newarr (N := 8) (ty := 0) (atype := .int) 1 hK q463 dX5_init_7 (by decide) ?_
  refine r_put hK fl_X5_9 dX5_init_9 ((up_n hk).trans h) (by simp) ?_ (hfin := ⟨_, rfl, Or.inr ⟨hnm, rfl⟩⟩)
  exact r_vret hK hRt dX5_init_12 ⟨rfl, rfl, rfl⟩
set_option maxHeartbeats 4000000 in
theorem ct_iTests {G : GT} {Rel : Nat → Hp → Hp → Prop} (hR : RelOK Rel) {n : Nat} {f : Hp} {k : Nat} {a b c d e : Value} (h : f k = some (.inl (8, [a, b, c, d, e]))) (hk : k < n) : Ct G Rel yX8_init cX8_init 1 none (2) (3) [.ref k] n (f) (fun r n' f' => r = none ∧ n' = n + 2 ∧ f' = up (up (up f n (.inr (0, 16, fun _ => zI 0))) (n + 1) (.inr (0, 8, fun _ => zI 0))) k (.inl (8, [.ref n, .ref (n + 1), c, d, e]))) := by
  refine ct_intro [some (.ref k)] hR rfl (Nat.le_of_ble_eq_true rfl) ?_
  intro K hG hRel hK hRt hnm
  refine r_aload_0 hK dX8_init_0 ?_
  refine r_objInit hK oi_X8_3 dX8_init_1 ?_
  refine r_aload_0 hK dX8_init_4 ?_
  refine r_bipushN (c := 16) hK dX8_init_5 ?_
  refine r_newarr (N := 16) (ty := 0) (atype := .int) 2 hK q463 dX8_init_7 (by decide) ?_
  refine r_put hK fl_X8_9 dX8_init_9 ((up_n (by omega)).trans h) (by simp) ?_ (hfin := ⟨_, rfl, Or.inr ⟨hnm, rfl⟩⟩)
  refine r_aload_0 hK dX8_init_12 ?_
  refine r_bipushN (c := 8) hK dX8_init_13 ?_
  refine r_newarr (N := 8) (ty := 0) (atype := .int) 1 hK q463 dX8_init_15 (by decide) ?_
  refine r_put hK fl_X8_15 dX8_init_17 ((up_n (by omega)).trans (up_s _ _ _)) (by simp) ?_ (hfin := ⟨_, rfl, Or.inr ⟨hnm, rfl⟩⟩)
  exact r_vret hK hRt dX8_init_20 ⟨rfl, rfl, by rw [up_comm (j := k) (k := n + 1) (by omega), up_up]; rfl⟩
set_option maxHeartbeats 4000000 in
theorem ct_iFinder {G : GT} {Rel : Nat → Hp → Hp → Prop} (hR : RelOK Rel) (hP : Rel = RelP) (hX : GX G) {n : Nat} {f : Hp} {k : Nat} (h : f k = some (.inl (6, [.null, .null, zI 0, zI 0, .null, .null]))) (hk : k < n) : Ct G Rel yX6_init cX6_init 1 none (6) (14) [.ref k] n (f) (fun r n' f' => r = none ∧ n' = n + 4 ∧ f' = up (up (up (up (up f n (.inr (0, 64, fun _ => zI 0))) (n + 1) (.inr (0, 64, fun _ => zI 0))) (n + 2) (cLL [])) (n + 3) (cLL [])) k (.inl (6, [.ref n, .ref (n + 1), zI 0, zI 0, .ref (n + 2), .ref (n + 3)]))) := by
  refine ct_intro [some (.ref k)] hR rfl (Nat.le_of_ble_eq_true rfl) ?_
  intro K hG hRel hK hRt hnm
  have hQ : kRel K = RelP := by rw [hRel]; exact hP
  have hXK : GX (kG K) := by rw [hG]; exact hX
  refine r_aload_0 hK dX6_init_0 ?_
  refine r_objInit hK oi_X6_3 dX6_init_1 ?_
  refine r_aload_0 hK dX6_init_4 ?_
  refine r_bipushN (c := 64) hK dX6_init_5 ?_
  refine r_newarr (N := 64) (ty := 0) (atype := .int) 6 hK q463 dX6_init_7 (by decide) ?_
  refine r_put hK fl_X6_9 dX6_init_9 ((up_n (by omega)).trans h) (by simp) ?_ (hfin := ⟨_, rfl, Or.inr ⟨hnm, rfl⟩⟩)
  refine r_aload_0 hK dX6_init_12 ?_
  refine r_bipushN (c := 64) hK dX6_init_13 ?_
  refine r_newarr (N := 64) (ty := 0) (atype := .int) 6 hK q463 dX6_init_15 (by decide) ?_
  refine r_put hK fl_X6_15 dX6_init_17 ((up_n (by omega)).trans (up_s _ _ _)) (by simp) ?_ (hfin := ⟨_, rfl, Or.inr ⟨hnm, rfl⟩⟩)
  rw [up_comm (j := k) (k := n + 1) (by omega), up_up]
  refine r_aload_0 hK dX6_init_20 ?_
  refine r_new (fs := [zI 0, zI 0, .null, .null]) 1 hK nw_X6_18 dX6_init_21 (by decide) ?_ (hw := new12)
  refine r_dup hK dX6_init_24 ?_
  refine r_callI0 hK (pl_init hQ (up_s _ _ _)) lk_X6_20 dX6_init_25 (fun r n1 f1 hp => ?_)
  obtain ⟨rfl, rfl, rfl⟩ := hp
  rw [up_up]
  refine r_put hK fl_X6_21 dX6_init_28 ((up_n (by omega)).trans (up_s _ _ _)) (by simp) ?_ (hfin := ⟨_, rfl, Or.inr ⟨hnm, rfl⟩⟩)
  rw [up_comm (j := k) (k := n + 1 + 1) (by omega), up_up]
  refine r_aload_0 hK dX6_init_31 ?_
  refine r_new (fs := [zI 0, zI 0, .null, .null]) 1 hK nw_X6_18 dX6_init_32 (by decide) ?_ (hw := new12)
  refine r_dup hK dX6_init_35 ?_
  refine r_callI0 hK (pl_init hQ (up_s _ _ _)) lk_X6_20 dX6_init_36 (fun r n1 f1 hp => ?_)
  obtain ⟨rfl, rfl, rfl⟩ := hp
  rw [up_up]
  refine r_put hK fl_X6_25 dX6_init_39 ((up_n (by omega)).trans (up_s _ _ _)) (by simp) ?_ (hfin := ⟨_, rfl, Or.inr ⟨hnm, rfl⟩⟩)
  rw [up_comm (j := k) (k := n + 1 + 1 + 1) (by omega), up_up]
  exact r_vret hK hRt dX6_init_42 ⟨rfl, rfl, rfl⟩
