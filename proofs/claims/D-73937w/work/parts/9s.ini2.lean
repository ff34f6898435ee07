set_option maxRecDepth 100000
/-! ===== constructors: Parser ===== -/
theorem new5 {G : GT} : ∃ r, cls[5]? = some r ∧ r.2.2 ≤ 12 * 1 ∧ 1 ≤ 1 ∧ ∀ j, j < r.2.2 → defaultValue (tyC 5 j) = cv G (vp_V [zI 0, zI 0, .null] j) := ⟨_, rfl, by decide, by decide, fun j hj => by
  have h3 : j = 0 ∨ j = 1 ∨ j = 2 := by have : j < 3 := hj; omega
  rcases h3 with e | e | e <;> subst e <;> rfl⟩
theorem nw15 {G : GT} : ∃ r, cls[15]? = some r ∧ r.2.2 ≤ 12 * 1 ∧ 1 ≤ 1 ∧ ∀ j, j < r.2.2 → defaultValue (tyC 15 j) = cv G (vp_V [zI 0, .null, zI 0] j) := ⟨_, rfl, by decide, by decide, fun j hj => by
  have h3 : j = 0 ∨ j = 1 ∨ j = 2 := by have : j < 3 := hj; omega
  rcases h3 with e | e | e <;> subst e <;> rfl⟩
set_option maxHeartbeats 4000000 in
theorem ct_iParser {G : GT} {Rel : Nat → Hp → Hp → Prop} (hR : RelOK Rel) (hP : Rel = RelP) (hX : GX G) {n : Nat} {f : Hp} {k : Nat} (h : f k = some (.inl (3, [.null, .null, .null, .null, .null, zI 0, .null, .null, zI 0, zI 0, zI 0, zI 0]))) (hk : k < n) : Ct G Rel yX3_init cX3_init 3 none (7) (7) [.ref k, .ref 302, .ref 301] n (f) (fun r n' f' => r = none ∧ n' = n + 7 ∧ f' = up (up (up (up (up (up (up (up f n (.inl (4, [.ref (n + 1)]))) (n + 1) (cLL [])) (n + 2) (.inl (5, [zI 0, zI 0, .ref (n + 3)]))) (n + 3) (.inr (0, 8, fun _ => zI 0))) (n + 4) (.inr (0, 4, fun _ => zI 0))) (n + 5) (.inr (0, 4, fun _ => zI 0))) (n + 6) (cAL 0 [])) k (.inl (3, [.ref 302, .ref 301, .ref n, .ref (n + 2), .ref (n + 4), zI 0, .ref (n + 5), .ref (n + 6), zI 0, zI 0, zI 0, zI 0]))) := by
  refine ct_intro [some (.ref k), some (.ref 302), some (.ref 301)] hR rfl (Nat.le_of_ble_eq_true rfl) ?_
  intro K hG hRel hK hRt hnm
  have hQ : kRel K = RelP := by rw [hRel]; exact hP
  have hXK : GX (kG K) := by rw [hG]; exact hX
  refine r_aload_0 hK dX3_init_0 ?_
  refine r_objInit hK oi_X3_3 dX3_init_1 ?_
  refine r_aload_0 hK dX3_init_4 ?_
  refine r_new (fs := [.null]) 1 hK nw_X3_9 dX3_init_5 (by decide) ?_ (hw := new4)
  refine r_dup hK dX3_init_8 ?_
  refine r_callIN0 hK (ct_cInit hK.rel hQ hXK (up_s _ _ _) (by omega)) lk_X3_11 dX3_init_9 (fun r n1 f1 hp => ?_)
  obtain ⟨rfl, rfl, rfl⟩ := hp
  rw [up_comm (j := n) (k := n + 1) (by omega), up_up, up_comm (j := n + 1) (k := n) (by omega)]
  refine r_put hK fl_X3_12 dX3_init_12 ((up_n (by omega)).trans ((up_n (by omega)).trans h)) (by simp) ?_ (hfin := ⟨_, rfl, Or.inr ⟨hnm, rfl⟩⟩)
  refine r_aload_0 hK dX3_init_15 ?_
  refine r_new (fs := [zI 0, zI 0, .null]) 1 hK nw_X3_18 dX3_init_16 (by decide) ?_ (hw := new5)
  refine r_dup hK dX3_init_19 ?_
  refine r_callIN0 hK (ct_iTable hK.rel (up_s _ _ _) (by omega)) lk_X3_20 dX3_init_20 (fun r n1 f1 hp => ?_)
  obtain ⟨rfl, rfl, rfl⟩ := hp
  rw [up_comm (j := n + 1 + 1) (k := n + 1 + 1 + 1) (by omega), up_up, up_comm (j := n + 1 + 1 + 1) (k := n + 1 + 1) (by omega), up_comm (j := k) (k := n + 1 + 1) (by omega), up_comm (j := k) (k := n + 1 + 1 + 1) (by omega)]
  refine r_put hK fl_X3_21 dX3_init_23 (up_s _ _ _) (by simp) ?_ (hfin := ⟨_, rfl, Or.inr ⟨hnm, rfl⟩⟩)
  rw [up_up]
  refine r_aload_0 hK dX3_init_26 ?_
  refine r_iconstN (c := 4) hK dX3_init_27 ?_
  refine r_newarr (N := 4) (ty := 0) (atype := .int) 1 hK q463 dX3_init_28 (by decide) ?_
  rw [up_comm (j := k) (k := n + 1 + 1 + 1 + 1) (by omega)]
  refine r_put hK fl_X3_25 dX3_init_30 (up_s _ _ _) (by simp) ?_ (hfin := ⟨_, rfl, Or.inr ⟨hnm, rfl⟩⟩)
  rw [up_up]
  refine r_aload_0 hK dX3_init_33 ?_
  refine r_iconstN (c := 4) hK dX3_init_34 ?_
  refine r_newarr (N := 4) (ty := 0) (atype := .int) 1 hK q463 dX3_init_35 (by decide) ?_
  rw [up_comm (j := k) (k := n + 1 + 1 + 1 + 1 + 1) (by omega)]
  refine r_put hK fl_X3_29 dX3_init_37 (up_s _ _ _) (by simp) ?_ (hfin := ⟨_, rfl, Or.inr ⟨hnm, rfl⟩⟩)
  rw [up_up]
  refine r_aload_0 hK dX3_init_40 ?_
  refine r_new (fs := [zI 0, .null, zI 0]) 1 hK nw_X3_32 dX3_init_41 (by decide) ?_ (hw := nw15)
  refine r_dup hK dX3_init_44 ?_
  refine r_callI0 hK (pa_init hQ hXK (up_s _ _ _)) lk_X3_34 dX3_init_45 (fun r n1 f1 hp => ?_)
  obtain ⟨rfl, rfl, rfl⟩ := hp
  rw [up_up, up_comm (j := k) (k := n + 1 + 1 + 1 + 1 + 1 + 1) (by omega)]
  refine r_put hK fl_X3_35 dX3_init_48 (up_s _ _ _) (by simp) ?_ (hfin := ⟨_, rfl, Or.inr ⟨hnm, rfl⟩⟩)
  rw [up_up]
  refine r_aload_0 hK dX3_init_51 ?_
  refine r_aload_1 hK dX3_init_52 ?_
  refine r_put hK fl_X3_39 dX3_init_53 (up_s _ _ _) (by simp) ?_ (hfin := ⟨_, rfl, Or.inr ⟨hnm, rfl⟩⟩)
  rw [up_up]
  refine r_aload_0 hK dX3_init_56 ?_
  refine r_aload_2 hK dX3_init_57 ?_
  refine r_put hK fl_X3_43 dX3_init_58 (up_s _ _ _) (by simp) ?_ (hfin := ⟨_, rfl, Or.inr ⟨hnm, rfl⟩⟩)
  rw [up_up]
  exact r_vret hK hRt dX3_init_61 ⟨rfl, rfl, rfl⟩
