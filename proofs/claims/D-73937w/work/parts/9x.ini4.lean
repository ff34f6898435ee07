set_option maxRecDepth 100000
/-! ===== constructors: Shortest, BackLogic ===== -/
theorem new7 {G : GT} : ∃ r, cls[7]? = some r ∧ r.2.2 ≤ 12 * 1 ∧ 1 ≤ 1 ∧ ∀ j, j < r.2.2 → defaultValue (tyC 7 j) = cv G (vp_V [.null, .null, .null, .null, .null, .null, zI 0, zI 0, .null] j) := ⟨_, rfl, by decide, by decide, fun j hj => by
  have h3 : j = 0 ∨ j = 1 ∨ j = 2 ∨ j = 3 ∨ j = 4 ∨ j = 5 ∨ j = 6 ∨ j = 7 ∨ j = 8 := by have : j < 9 := hj; omega
  rcases h3 with e | e | e | e | e | e | e | e | e <;> subst e <;> rfl⟩
theorem new1 {G : GT} : ∃ r, cls[1]? = some r ∧ r.2.2 ≤ 12 * 1 ∧ 1 ≤ 1 ∧ ∀ j, j < r.2.2 → defaultValue (tyC 1 j) = cv G (vp_V [.null, .null, .null, .null, .null, zI 0, zI 0, zI 0] j) := ⟨_, rfl, by decide, by decide, fun j hj => by
  have h3 : j = 0 ∨ j = 1 ∨ j = 2 ∨ j = 3 ∨ j = 4 ∨ j = 5 ∨ j = 6 ∨ j = 7 := by have : j < 8 := hj; omega
  rcases h3 with e | e | e | e | e | e | e | e <;> subst e <;> rfl⟩
theorem new2 {G : GT} : ∃ r, cls[2]? = some r ∧ r.2.2 ≤ 12 * 1 ∧ 1 ≤ 1 ∧ ∀ j, j < r.2.2 → defaultValue (tyC 2 j) = cv G (vp_V [.null, .null, zI 0, .null, .null, .null, .null, zI 0] j) := ⟨_, rfl, by decide, by decide, fun j hj => by
  have h3 : j = 0 ∨ j = 1 ∨ j = 2 ∨ j = 3 ∨ j = 4 ∨ j = 5 ∨ j = 6 ∨ j = 7 := by have : j < 8 := hj; omega
  rcases h3 with e | e | e | e | e | e | e | e <;> subst e <;> rfl⟩
theorem new3 {G : GT} : ∃ r, cls[3]? = some r ∧ r.2.2 ≤ 12 * 1 ∧ 1 ≤ 1 ∧ ∀ j, j < r.2.2 → defaultValue (tyC 3 j) = cv G (vp_V [.null, .null, .null, .null, .null, zI 0, .null, .null, zI 0, zI 0, zI 0, zI 0] j) := ⟨_, rfl, by decide, by decide, fun j hj => by
  have h3 : j = 0 ∨ j = 1 ∨ j = 2 ∨ j = 3 ∨ j = 4 ∨ j = 5 ∨ j = 6 ∨ j = 7 ∨ j = 8 ∨ j = 9 ∨ j = 10 ∨ j = 11 := by have : j < 12 := hj; omega
  rcases h3 with e | e | e | e | e | e | e | e | e | e | e | e <;> subst e <;> rfl⟩
theorem new6 {G : GT} : ∃ r, cls[6]? = some r ∧ r.2.2 ≤ 12 * 1 ∧ 1 ≤ 1 ∧ ∀ j, j < r.2.2 → defaultValue (tyC 6 j) = cv G (vp_V [.null, .null, zI 0, zI 0, .null, .null] j) := ⟨_, rfl, by decide, by decide, fun j hj => by
  have h3 : j = 0 ∨ j = 1 ∨ j = 2 ∨ j = 3 ∨ j = 4 ∨ j = 5 := by have : j < 6 := hj; omega
  rcases h3 with e | e | e | e | e | e <;> subst e <;> rfl⟩
theorem new8 {G : GT} : ∃ r, cls[8]? = some r ∧ r.2.2 ≤ 12 * 1 ∧ 1 ≤ 1 ∧ ∀ j, j < r.2.2 → defaultValue (tyC 8 j) = cv G (vp_V [.null, .null, zI 0, zI 0, zI 0] j) := ⟨_, rfl, by decide, by decide, fun j hj => by
  have h3 : j = 0 ∨ j = 1 ∨ j = 2 ∨ j = 3 ∨ j = 4 := by have : j < 5 := hj; omega
  rcases h3 with e | e | e | e | e <;> subst e <;> rfl⟩
theorem new17 {G : GT} : ∃ r, cls[17]? = some r ∧ r.2.2 ≤ 12 * 1 ∧ 1 ≤ 1 ∧ ∀ j, j < r.2.2 → defaultValue (tyC 17 j) = cv G (vp_V [.null, zI 0, zI 0] j) := ⟨_, rfl, by decide, by decide, fun j hj => by
  have h3 : j = 0 ∨ j = 1 ∨ j = 2 := by have : j < 3 := hj; omega
  rcases h3 with e | e | e <;> subst e <;> rfl⟩
set_option maxHeartbeats 4000000 in
theorem ct_iShort {G : GT} {Rel : Nat → Hp → Hp → Prop} (hR : RelOK Rel) (hP : Rel = RelP) (hX : GX G) {n : Nat} {f : Hp} {k : Nat} (h : f k = some (.inl (7, [.null, .null, .null, .null, .null, .null, zI 0, zI 0, .null]))) (hk : k < n) : Ct G Rel yX7_init cX7_init 1 none (6) (277) [.ref k] n (f) (fun r n' f' => r = none ∧ n' = n + 17 ∧ f' k = some (.inl (7, [.ref n, .ref (n + 11), .ref (n + 12), .ref (n + 13), .ref (n + 14), .ref (n + 15), zI 0, zI 0, .ref (n + 16)])) ∧ f' n = some (.inr (6, 5, fun j => .ref (n + 1 + 2 * j))) ∧ (∀ j, j < 5 → f' (n + 1 + 2 * j) = some (cBS 630 (fun _ => false))) ∧ f' (n + 11) = some (cAL 0 []) ∧ f' (n + 12) = some (cAL 0 []) ∧ f' (n + 13) = some (.inr (0, 8, fun _ => zI 0)) ∧ f' (n + 14) = some (.inr (0, 8, fun _ => zI 0)) ∧ f' (n + 15) = some (.inr (0, 8, fun _ => zI 0)) ∧ f' (n + 16) = some (cAL 0 []) ∧ ∀ id, id < n → id ≠ k → f' id = f id) := by
  refine ct_intro [some (.ref k)] hR rfl (Nat.le_of_ble_eq_true rfl) ?_
  intro K hG hRel hK hRt hnm
  have hQ : kRel K = RelP := by rw [hRel]; exact hP
  have hXK : GX (kG K) := by rw [hG]; exact hX
  refine r_aload_0 hK dX7_init_0 ?_
  refine r_objInit hK oi_X7_3 dX7_init_1 ?_
  refine r_aload_0 hK dX7_init_4 ?_
  refine r_callS0 hK (ct_iSome hK.rel hQ hXK) lk_X7_9 dX7_init_5 (fun r n1 f1 hp => ?_)
  obtain ⟨rfl, rfl, a1, a2, a3⟩ := hp
  refine r_put hK fl_X7_15 dX7_init_8 ((a3 k hk).trans h) (by simp) ?_ (hfin := ⟨_, rfl, Or.inr ⟨hnm, rfl⟩⟩)
  refine r_aload_0 hK dX7_init_11 ?_
  refine r_new (fs := [zI 0, .null, zI 0]) 1 hK nw_X7_19 dX7_init_12 (by decide) ?_ (hw := nw15)
  refine r_dup hK dX7_init_15 ?_
  refine r_callI0 hK (pa_init hQ hXK (up_s _ _ _)) lk_X7_21 dX7_init_16 (fun r n2 f2 hp => ?_)
  obtain ⟨rfl, rfl, rfl⟩ := hp
  rw [up_up, up_comm (j := k) (k := n + 11) (by omega)]
  refine r_put hK fl_X7_22 dX7_init_19 (up_s _ _ _) (by simp) ?_ (hfin := ⟨_, rfl, Or.inr ⟨hnm, rfl⟩⟩)
  rw [up_up]
  refine r_aload_0 hK dX7_init_22 ?_
  refine r_new (fs := [zI 0, .null, zI 0]) 1 hK nw_X7_19 dX7_init_23 (by decide) ?_ (hw := nw15)
  refine r_dup hK dX7_init_26 ?_
  refine r_callI0 hK (pa_init hQ hXK (up_s _ _ _)) lk_X7_21 dX7_init_27 (fun r n2 f2 hp => ?_)
  obtain ⟨rfl, rfl, rfl⟩ := hp
  rw [up_up, up_comm (j := k) (k := n + 11 + 1) (by omega)]
  refine r_put hK fl_X7_26 dX7_init_30 (up_s _ _ _) (by simp) ?_ (hfin := ⟨_, rfl, Or.inr ⟨hnm, rfl⟩⟩)
  rw [up_up]
  refine r_aload_0 hK dX7_init_33 ?_
  refine r_bipushN (c := 8) hK dX7_init_34 ?_
  refine r_newarr (N := 8) (ty := 0) (atype := .int) 1 hK q463 dX7_init_36 (by decide) ?_
  rw [up_comm (j := k) (k := n + 11 + 1 + 1) (by omega)]
  refine r_put hK fl_X7_29 dX7_init_38 (up_s _ _ _) (by simp) ?_ (hfin := ⟨_, rfl, Or.inr ⟨hnm, rfl⟩⟩)
  rw [up_up]
  refine r_aload_0 hK dX7_init_41 ?_
  refine r_bipushN (c := 8) hK dX7_init_42 ?_
  refine r_newarr (N := 8) (ty := 0) (atype := .int) 1 hK q463 dX7_init_44 (by decide) ?_
  rw [up_comm (j := k) (k := n + 11 + 1 + 1 + 1) (by omega)]
  refine r_put hK fl_X7_33 dX7_init_46 (up_s _ _ _) (by simp) ?_ (hfin := ⟨_, rfl, Or.inr ⟨hnm, rfl⟩⟩)
  rw [up_up]
  refine r_aload_0 hK dX7_init_49 ?_
  refine r_bipushN (c := 8) hK dX7_init_50 ?_
  refine r_newarr (N := 8) (ty := 0) (atype := .int) 1 hK q463 dX7_init_52 (by decide) ?_
  rw [up_comm (j := k) (k := n + 11 + 1 + 1 + 1 + 1) (by omega)]
  refine r_put hK fl_X7_36 dX7_init_54 (up_s _ _ _) (by simp) ?_ (hfin := ⟨_, rfl, Or.inr ⟨hnm, rfl⟩⟩)
  rw [up_up]
  refine r_aload_0 hK dX7_init_57 ?_
  refine r_new (fs := [zI 0, .null, zI 0]) 1 hK nw_X7_19 dX7_init_58 (by decide) ?_ (hw := nw15)
  refine r_dup hK dX7_init_61 ?_
  refine r_callI0 hK (pa_init hQ hXK (up_s _ _ _)) lk_X7_21 dX7_init_62 (fun r n2 f2 hp => ?_)
  obtain ⟨rfl, rfl, rfl⟩ := hp
  rw [up_up, up_comm (j := k) (k := n + 11 + 1 + 1 + 1 + 1 + 1) (by omega)]
  refine r_put hK fl_X7_39 dX7_init_65 (up_s _ _ _) (by simp) ?_ (hfin := ⟨_, rfl, Or.inr ⟨hnm, rfl⟩⟩)
  rw [up_up]
  refine r_ret hK hRt dX7_init_68 ⟨rfl, rfl, up_s _ _ _, ?_, fun j hj => ?_, ?_, ?_, ?_, ?_, ?_, ?_, fun id h1 h2 => ?_⟩ (by decide)
  · rw [up_n (by omega), up_n (by omega), up_n (by omega), up_n (by omega), up_n (by omega), up_n (by omega), up_n (by omega)]; exact a1
  · rw [up_n (by omega), up_n (by omega), up_n (by omega), up_n (by omega), up_n (by omega), up_n (by omega), up_n (by omega)]; exact a2 j hj
  · rw [up_n (by omega), up_n (by omega), up_n (by omega), up_n (by omega), up_n (by omega), up_n (by omega)]; exact up_s _ _ _
  · rw [up_n (by omega), up_n (by omega), up_n (by omega), up_n (by omega), up_n (by omega)]; exact up_s _ _ _
  · rw [up_n (by omega), up_n (by omega), up_n (by omega), up_n (by omega)]; exact up_s _ _ _
  · rw [up_n (by omega), up_n (by omega), up_n (by omega)]; exact up_s _ _ _
  · rw [up_n (by omega), up_n (by omega)]; exact up_s _ _ _
  · rw [up_n (by omega)]; exact up_s _ _ _
  · rw [up_n h2, up_n (by omega), up_n (by omega), up_n (by omega), up_n (by omega), up_n (by omega), up_n (by omega)]; exact a3 id h1
/-- the cells of a new BackLogic -/
def iC (id : Nat) : E_ :=
  if id = 301 then fC 0 0 else if id = 302 then .inl (2, [.ref 304, .ref 305, zI 0, .ref 306, .ref 307, .ref 308, .ref 309, zI 0])
  else if id = 303 then .inr (5, 4, fun j => .ref (6 + j)) else if id = 304 then .inl (18, [.ref 303, zI 0])
  else if id = 305 then .inr (1, 2000, fun _ => zI 0) else if id = 306 then .inr (1, 2001, fun _ => zI 0) else if id = 307 then .inr (2, 2001, fun _ => zI 0) else if id = 308 then .inr (2, 2001, fun _ => zI 0) else if id = 309 then .inr (2, 2001, fun _ => zI 0)
  else if id = 310 then .inl (3, [.ref 302, .ref 301, .ref 311, .ref 313, .ref 315, zI 0, .ref 316, .ref 317, zI 0, zI 0, zI 0, zI 0])
  else if id = 311 then .inl (4, [.ref 312]) else if id = 312 then cLL [] else if id = 313 then .inl (5, [zI 0, zI 0, .ref 314]) else if id = 314 then .inr (0, 8, fun _ => zI 0)
  else if id = 315 then .inr (0, 4, fun _ => zI 0) else if id = 316 then .inr (0, 4, fun _ => zI 0) else if id = 317 then cAL 0 []
  else if id = 318 then .inl (4, [.ref 319]) else if id = 319 then cLL [] else if id = 320 then .inl (4, [.ref 321]) else if id = 321 then cLL []
  else if id = 322 then .inl (5, [zI 0, zI 0, .ref 323]) else if id = 323 then .inr (0, 8, fun _ => zI 0)
  else if id = 324 then .inl (6, [.ref 325, .ref 326, zI 0, zI 0, .ref 327, .ref 328]) else if id = 325 then .inr (0, 64, fun _ => zI 0) else if id = 326 then .inr (0, 64, fun _ => zI 0) else if id = 327 then cLL [] else if id = 328 then cLL []
  else if id = 329 then .inl (7, [.ref 330, .ref 341, .ref 342, .ref 343, .ref 344, .ref 345, zI 0, zI 0, .ref 346]) else if id = 330 then .inr (6, 5, fun j => .ref (331 + 2 * j))
  else if id < 341 then cBS 630 (fun _ => false) else if id = 341 then cAL 0 [] else if id = 342 then cAL 0 [] else if id = 343 then .inr (0, 8, fun _ => zI 0) else if id = 344 then .inr (0, 8, fun _ => zI 0) else if id = 345 then .inr (0, 8, fun _ => zI 0) else if id = 346 then cAL 0 []
  else if id = 347 then .inl (8, [.ref 348, .ref 349, zI 0, zI 0, zI 0]) else if id = 348 then .inr (0, 16, fun _ => zI 0) else if id = 349 then .inr (0, 8, fun _ => zI 0)
  else if id = 350 then cAD [] else if id = 352 then .inr (7, 3, fun _ => .null) else if id = 353 then .inr (0, 4, updV (updV (updV (updV (fun _ => zI 0) 0 (zI 1)) 1 (zI 1)) 2 (zI 5)) 3 (zI 13))
  else if id = 354 then .inr (0, 64, fun _ => zI 0) else if id = 355 then .inr (0, 16, fun _ => zI 0) else if id = 356 then .inr (0, 16, fun _ => zI 0) else .inr (0, 4, fun _ => zI 0)
def Up_ (f : Hp) (n : Nat) : Prop := ∀ id, 301 ≤ id → id < n → fxB id = true → f id = some (iC id)
set_option maxHeartbeats 4000000 in
theorem ct_iBack {G : GT} {Rel : Nat → Hp → Hp → Prop} (hR : RelOK Rel) (hP : Rel = RelP) (hX : GX G) {f : Hp} (h : f 300 = some (.inl (0, [.null, .null, .null, .null, .null, .null, .null, .null, .null, .null, .null, .null, .null, .null, .null, zI 0, zI 0, .null]))) : Ct G Rel yX0_init cX0_init 1 none (8) (1166) [.ref 300] 301 (f) (fun r n' f' => r = none ∧ n' = 358 ∧ f' 300 = some (x0C (-1) 0) ∧ Up_ f' 358 ∧ ∀ id, id < 300 → f' id = f id) := by
  refine ct_intro [some (.ref 300)] hR rfl (Nat.le_of_ble_eq_true rfl) ?_
  intro K hG hRel hK hRt hnm
  have hQ : kRel K = RelP := by rw [hRel]; exact hP
  have hXK : GX (kG K) := by rw [hG]; exact hX
  refine r_aload_0 hK dX0_init_0 ?_
  refine r_objInit hK oi_X0_7 dX0_init_1 ?_
  refine r_aload_0 hK dX0_init_4 ?_
  refine r_new (fs := [.null, .null, .null, .null, .null, zI 0, zI 0, zI 0]) 1 hK nw_X0_13 dX0_init_5 (by decide) ?_ (hw := new1)
  refine r_dup hK dX0_init_8 ?_
  refine r_callI0 hK (ct_iFault hK.rel hQ hXK (up_s _ _ _)) lk_X0_15 dX0_init_9 (fun r n1 f1 hp1 => ?_)
  obtain ⟨rfl, m1, e1⟩ := hp1
  have m1 : n1 = 302 := m1
  subst m1
  have s1 : f1 300 = some (.inl (0, [.null, .null, .null, .null, .null, .null, .null, .null, .null, .null, .null, .null, .null, .null, .null, zI 0, zI 0, .null])) := by
    rw [e1]
    repeat rw [up_n (by decide)]
    exact h
  have v1 : ∀ id, id < 301 → id ≠ 300 → f1 id = f id := fun id h1 h2 => by
    rw [e1]
    repeat rw [up_n (by omega)]
  have u1 : Up_ f1 302 := fun id h1 h2 h3 => by
    have h5 : id = 301 := by omega
    subst h5
    all_goals rw [e1]
    all_goals repeat rw [up_n (by decide)]
    all_goals exact up_s _ _ _
  clear e1
  refine r_put hK fl_X0_16 dX0_init_12 s1 (by simp) ?_ (hfin := ⟨_, rfl, Or.inr ⟨hnm, rfl⟩⟩)
  refine r_aload_0 hK dX0_init_15 ?_
  refine r_new (fs := [.null, .null, zI 0, .null, .null, .null, .null, zI 0]) 1 hK nw_X0_22 dX0_init_16 (by decide) ?_ (hw := new2)
  refine r_dup hK dX0_init_19 ?_
  refine r_callIN0 hK (ct_iTok hK.rel hQ hXK (up_s _ _ _) (by decide)) lk_X0_24 dX0_init_20 (fun r n2 f2 hp2 => ?_)
  obtain ⟨rfl, m2, e2⟩ := hp2
  have m2 : n2 = 310 := m2
  subst m2
  have s2 : f2 300 = some (.inl (0, [.ref 301, .null, .null, .null, .null, .null, .null, .null, .null, .null, .null, .null, .null, .null, .null, zI 0, zI 0, .null])) := by
    rw [e2]
    repeat rw [up_n (by decide)]
    exact up_s _ _ _
  have v2 : ∀ id, id < 302 → id ≠ 300 → f2 id = f1 id := fun id h1 h2 => by
    rw [e2]
    repeat rw [up_n (by omega)]
  have u2 : Up_ f2 310 := fun id h1 h2 h3 => by
    by_cases c : id < 302
    · rw [v2 id c (by omega)]; exact u1 id h1 c h3
    · have h5 : id = 302 ∨ id = 303 ∨ id = 304 ∨ id = 305 ∨ id = 306 ∨ id = 307 ∨ id = 308 ∨ id = 309 := by omega
      rcases h5 with e | e | e | e | e | e | e | e <;> subst e
      all_goals rw [e2]
      all_goals repeat rw [up_n (by decide)]
      all_goals exact up_s _ _ _
  clear e2
  refine r_put hK fl_X0_25 dX0_init_23 s2 (by simp) ?_ (hfin := ⟨_, rfl, Or.inr ⟨hnm, rfl⟩⟩)
  refine r_aload_0 hK dX0_init_26 ?_
  refine r_new (fs := [.null, .null, .null, .null, .null, zI 0, .null, .null, zI 0, zI 0, zI 0, zI 0]) 1 hK nw_X0_29 dX0_init_27 (by decide) ?_ (hw := new3)
  refine r_dup hK dX0_init_30 ?_
  refine r_aload_0 hK dX0_init_31 ?_
  refine r_get hK fl_X0_25 dX0_init_32 ((up_n (by decide)).trans (up_s _ _ _)) rfl ?_
  refine r_aload_0 hK dX0_init_35 ?_
  refine r_get hK fl_X0_16 dX0_init_36 ((up_n (by decide)).trans (up_s _ _ _)) rfl ?_
  refine r_callI2 hK (ct_iParser hK.rel hQ hXK (up_s _ _ _) (by decide)) lk_X0_31 dX0_init_39 (fun r n3 f3 hp3 => ?_)
  obtain ⟨rfl, m3, e3⟩ := hp3
  have m3 : n3 = 318 := m3
  subst m3
  have s3 : f3 300 = some (.inl (0, [.ref 301, .ref 302, .null, .null, .null, .null, .null, .null, .null, .null, .null, .null, .null, .null, .null, zI 0, zI 0, .null])) := by
    rw [e3]
    repeat rw [up_n (by decide)]
    exact up_s _ _ _
  have v3 : ∀ id, id < 310 → id ≠ 300 → f3 id = f2 id := fun id h1 h2 => by
    rw [e3]
    repeat rw [up_n (by omega)]
  have u3 : Up_ f3 318 := fun id h1 h2 h3 => by
    by_cases c : id < 310
    · rw [v3 id c (by omega)]; exact u2 id h1 c h3
    · have h5 : id = 310 ∨ id = 311 ∨ id = 312 ∨ id = 313 ∨ id = 314 ∨ id = 315 ∨ id = 316 ∨ id = 317 := by omega
      rcases h5 with e | e | e | e | e | e | e | e <;> subst e
      all_goals rw [e3]
      all_goals repeat rw [up_n (by decide)]
      all_goals exact up_s _ _ _
  clear e3
  refine r_put hK fl_X0_34 dX0_init_42 s3 (by simp) ?_ (hfin := ⟨_, rfl, Or.inr ⟨hnm, rfl⟩⟩)
  refine r_aload_0 hK dX0_init_45 ?_
  refine r_new (fs := [.null]) 1 hK nw_X0_38 dX0_init_46 (by decide) ?_ (hw := new4)
  refine r_dup hK dX0_init_49 ?_
  refine r_callIN0 hK (ct_cInit hK.rel hQ hXK (up_s _ _ _) (by decide)) lk_X0_40 dX0_init_50 (fun r n4 f4 hp4 => ?_)
  obtain ⟨rfl, m4, e4⟩ := hp4
  have m4 : n4 = 320 := m4
  subst m4
  have s4 : f4 300 = some (.inl (0, [.ref 301, .ref 302, .ref 310, .null, .null, .null, .null, .null, .null, .null, .null, .null, .null, .null, .null, zI 0, zI 0, .null])) := by
    rw [e4]
    repeat rw [up_n (by decide)]
    exact up_s _ _ _
  have v4 : ∀ id, id < 318 → id ≠ 300 → f4 id = f3 id := fun id h1 h2 => by
    rw [e4]
    repeat rw [up_n (by omega)]
  have u4 : Up_ f4 320 := fun id h1 h2 h3 => by
    by_cases c : id < 318
    · rw [v4 id c (by omega)]; exact u3 id h1 c h3
    · have h5 : id = 318 ∨ id = 319 := by omega
      rcases h5 with e | e <;> subst e
      all_goals rw [e4]
      all_goals repeat rw [up_n (by decide)]
      all_goals exact up_s _ _ _
  clear e4
  refine r_put hK fl_X0_41 dX0_init_53 s4 (by simp) ?_ (hfin := ⟨_, rfl, Or.inr ⟨hnm, rfl⟩⟩)
  refine r_aload_0 hK dX0_init_56 ?_
  refine r_new (fs := [.null]) 1 hK nw_X0_38 dX0_init_57 (by decide) ?_ (hw := new4)
  refine r_dup hK dX0_init_60 ?_
  refine r_callIN0 hK (ct_cInit hK.rel hQ hXK (up_s _ _ _) (by decide)) lk_X0_40 dX0_init_61 (fun r n5 f5 hp5 => ?_)
  obtain ⟨rfl, m5, e5⟩ := hp5
  have m5 : n5 = 322 := m5
  subst m5
  have s5 : f5 300 = some (.inl (0, [.ref 301, .ref 302, .ref 310, .ref 318, .null, .null, .null, .null, .null, .null, .null, .null, .null, .null, .null, zI 0, zI 0, .null])) := by
    rw [e5]
    repeat rw [up_n (by decide)]
    exact up_s _ _ _
  have v5 : ∀ id, id < 320 → id ≠ 300 → f5 id = f4 id := fun id h1 h2 => by
    rw [e5]
    repeat rw [up_n (by omega)]
  have u5 : Up_ f5 322 := fun id h1 h2 h3 => by
    by_cases c : id < 320
    · rw [v5 id c (by omega)]; exact u4 id h1 c h3
    · have h5 : id = 320 ∨ id = 321 := by omega
      rcases h5 with e | e <;> subst e
      all_goals rw [e5]
      all_goals repeat rw [up_n (by decide)]
      all_goals exact up_s _ _ _
  clear e5
  refine r_put hK fl_X0_45 dX0_init_64 s5 (by simp) ?_ (hfin := ⟨_, rfl, Or.inr ⟨hnm, rfl⟩⟩)
  refine r_aload_0 hK dX0_init_67 ?_
  refine r_new (fs := [zI 0, zI 0, .null]) 1 hK nw_X0_48 dX0_init_68 (by decide) ?_ (hw := new5)
  refine r_dup hK dX0_init_71 ?_
  refine r_callIN0 hK (ct_iTable hK.rel (up_s _ _ _) (by decide)) lk_X0_50 dX0_init_72 (fun r n6 f6 hp6 => ?_)
  obtain ⟨rfl, m6, e6⟩ := hp6
  have m6 : n6 = 324 := m6
  subst m6
  have s6 : f6 300 = some (.inl (0, [.ref 301, .ref 302, .ref 310, .ref 318, .ref 320, .null, .null, .null, .null, .null, .null, .null, .null, .null, .null, zI 0, zI 0, .null])) := by
    rw [e6]
    repeat rw [up_n (by decide)]
    exact up_s _ _ _
  have v6 : ∀ id, id < 322 → id ≠ 300 → f6 id = f5 id := fun id h1 h2 => by
    rw [e6]
    repeat rw [up_n (by omega)]
  have u6 : Up_ f6 324 := fun id h1 h2 h3 => by
    by_cases c : id < 322
    · rw [v6 id c (by omega)]; exact u5 id h1 c h3
    · have h5 : id = 322 ∨ id = 323 := by omega
      rcases h5 with e | e <;> subst e
      all_goals rw [e6]
      all_goals repeat rw [up_n (by decide)]
      all_goals exact up_s _ _ _
  clear e6
  refine r_put hK fl_X0_51 dX0_init_75 s6 (by simp) ?_ (hfin := ⟨_, rfl, Or.inr ⟨hnm, rfl⟩⟩)
  refine r_aload_0 hK dX0_init_78 ?_
  refine r_new (fs := [.null, .null, zI 0, zI 0, .null, .null]) 1 hK nw_X0_55 dX0_init_79 (by decide) ?_ (hw := new6)
  refine r_dup hK dX0_init_82 ?_
  refine r_callIN0 hK (ct_iFinder hK.rel hQ hXK (up_s _ _ _) (by decide)) lk_X0_57 dX0_init_83 (fun r n7 f7 hp7 => ?_)
  obtain ⟨rfl, m7, e7⟩ := hp7
  have m7 : n7 = 329 := m7
  subst m7
  have s7 : f7 300 = some (.inl (0, [.ref 301, .ref 302, .ref 310, .ref 318, .ref 320, .ref 322, .null, .null, .null, .null, .null, .null, .null, .null, .null, zI 0, zI 0, .null])) := by
    rw [e7]
    repeat rw [up_n (by decide)]
    exact up_s _ _ _
  have v7 : ∀ id, id < 324 → id ≠ 300 → f7 id = f6 id := fun id h1 h2 => by
    rw [e7]
    repeat rw [up_n (by omega)]
  have u7 : Up_ f7 329 := fun id h1 h2 h3 => by
    by_cases c : id < 324
    · rw [v7 id c (by omega)]; exact u6 id h1 c h3
    · have h5 : id = 324 ∨ id = 325 ∨ id = 326 ∨ id = 327 ∨ id = 328 := by omega
      rcases h5 with e | e | e | e | e <;> subst e
      all_goals rw [e7]
      all_goals repeat rw [up_n (by decide)]
      all_goals exact up_s _ _ _
  clear e7
  refine r_put hK fl_X0_58 dX0_init_86 s7 (by simp) ?_ (hfin := ⟨_, rfl, Or.inr ⟨hnm, rfl⟩⟩)
  refine r_aload_0 hK dX0_init_89 ?_
  refine r_new (fs := [.null, .null, .null, .null, .null, .null, zI 0, zI 0, .null]) 1 hK nw_X0_62 dX0_init_90 (by decide) ?_ (hw := new7)
  refine r_dup hK dX0_init_93 ?_
  refine r_callIN0 hK (ct_iShort hK.rel hQ hXK (up_s _ _ _) (by decide)) lk_X0_64 dX0_init_94 (fun r n8 f8 hp8 => ?_)
  obtain ⟨rfl, m8, e8⟩ := hp8
  have m8 : n8 = 347 := m8
  subst m8
  obtain ⟨x1, x2, x3, x4, x5, x6, x7, x8, x9, x10⟩ := e8
  have s8 : f8 300 = some (.inl (0, [.ref 301, .ref 302, .ref 310, .ref 318, .ref 320, .ref 322, .ref 324, .null, .null, .null, .null, .null, .null, .null, .null, zI 0, zI 0, .null])) := (x10 300 (by decide) (by decide)).trans ((up_n (by decide)).trans (up_s _ _ _))
  have v8 : ∀ id, id < 329 → id ≠ 300 → f8 id = f7 id := fun id h1 h2 => (x10 id (by omega) (by omega)).trans ((up_n (by omega)).trans (up_n h2))
  have u8 : Up_ f8 347 := fun id h1 h2 h3 => by
    by_cases c : id < 329
    · rw [v8 id c (by omega)]; exact u7 id h1 c h3
    · by_cases c2 : 331 ≤ id ∧ id < 341
      · obtain ⟨j, hj, rfl⟩ : ∃ j, j < 5 ∧ id = 331 + 2 * j := by
          unfold fxB at h3
          simp only [Bool.and_eq_true, decide_eq_true_eq, Bool.not_eq_true', Bool.or_eq_false_iff, beq_eq_false_iff_ne] at h3
          exact ⟨(id - 331) / 2, by omega, by omega⟩
        refine (x3 j hj).trans ?_
        have h5 : j = 0 ∨ j = 1 ∨ j = 2 ∨ j = 3 ∨ j = 4 := by omega
        rcases h5 with e | e | e | e | e <;> subst e <;> rfl
      · have h5 : id = 329 ∨ id = 330 ∨ id = 341 ∨ id = 342 ∨ id = 343 ∨ id = 344 ∨ id = 345 ∨ id = 346 := by omega
        rcases h5 with e | e | e | e | e | e | e | e <;> subst e
        · exact x1
        · exact x2
        · exact x4
        · exact x5
        · exact x6
        · exact x7
        · exact x8
        · exact x9
  clear x1 x2 x3 x4 x5 x6 x7 x8 x9 x10
  refine r_put hK fl_X0_65 dX0_init_97 s8 (by simp) ?_ (hfin := ⟨_, rfl, Or.inr ⟨hnm, rfl⟩⟩)
  refine r_aload_0 hK dX0_init_100 ?_
  refine r_new (fs := [.null, .null, zI 0, zI 0, zI 0]) 1 hK nw_X0_69 dX0_init_101 (by decide) ?_ (hw := new8)
  refine r_dup hK dX0_init_104 ?_
  refine r_callIN0 hK (ct_iTests hK.rel (up_s _ _ _) (by decide)) lk_X0_71 dX0_init_105 (fun r n9 f9 hp9 => ?_)
  obtain ⟨rfl, m9, e9⟩ := hp9
  have m9 : n9 = 350 := m9
  subst m9
  have s9 : f9 300 = some (.inl (0, [.ref 301, .ref 302, .ref 310, .ref 318, .ref 320, .ref 322, .ref 324, .ref 329, .null, .null, .null, .null, .null, .null, .null, zI 0, zI 0, .null])) := by
    rw [e9]
    repeat rw [up_n (by decide)]
    exact up_s _ _ _
  have v9 : ∀ id, id < 347 → id ≠ 300 → f9 id = f8 id := fun id h1 h2 => by
    rw [e9]
    repeat rw [up_n (by omega)]
  have u9 : Up_ f9 350 := fun id h1 h2 h3 => by
    by_cases c : id < 347
    · rw [v9 id c (by omega)]; exact u8 id h1 c h3
    · have h5 : id = 347 ∨ id = 348 ∨ id = 349 := by omega
      rcases h5 with e | e | e <;> subst e
      all_goals rw [e9]
      all_goals repeat rw [up_n (by decide)]
      all_goals exact up_s _ _ _
  clear e9
  refine r_put hK fl_X0_72 dX0_init_108 s9 (by simp) ?_ (hfin := ⟨_, rfl, Or.inr ⟨hnm, rfl⟩⟩)
  refine r_aload_0 hK dX0_init_111 ?_
  refine r_new (fs := [.null, zI 0, zI 0]) 1 hK nw_X0_76 dX0_init_112 (by decide) ?_ (hw := new17)
  refine r_dup hK dX0_init_115 ?_
  refine r_callI0 hK (pd_init hQ (up_s _ _ _) (by decide)) lk_X0_78 dX0_init_116 (fun r n10 f10 hp10 => ?_)
  obtain ⟨rfl, m10, e10⟩ := hp10
  have m10 : n10 = 352 := m10
  subst m10
  have s10 : f10 300 = some (.inl (0, [.ref 301, .ref 302, .ref 310, .ref 318, .ref 320, .ref 322, .ref 324, .ref 329, .ref 347, .null, .null, .null, .null, .null, .null, zI 0, zI 0, .null])) := by
    rw [e10]
    repeat rw [up_n (by decide)]
    exact up_s _ _ _
  have v10 : ∀ id, id < 350 → id ≠ 300 → f10 id = f9 id := fun id h1 h2 => by
    rw [e10]
    repeat rw [up_n (by omega)]
  have u10 : Up_ f10 352 := fun id h1 h2 h3 => by
    by_cases c : id < 350
    · rw [v10 id c (by omega)]; exact u9 id h1 c h3
    · have h5 : id = 350 := by
        by_cases c3 : id = 351
        · subst c3; cases h3
        · omega
      subst h5
      all_goals rw [e10]
      all_goals repeat rw [up_n (by decide)]
      all_goals exact up_s _ _ _
  clear e10
  refine r_put hK fl_X0_79 dX0_init_119 s10 (by simp) ?_ (hfin := ⟨_, rfl, Or.inr ⟨hnm, rfl⟩⟩)
  refine r_aload_0 hK dX0_init_122 ?_
  refine r_iconstN (c := 3) hK dX0_init_123 ?_
  refine r_anew (N := 3) 1 7 hK ⟨rfl, by decide, by decide⟩ cl_X0_38 q658 dX0_init_124 (by decide) ?_
  rw [up_comm (j := 300) (k := 352) (by decide)]
  refine r_put hK fl_X0_83 dX0_init_127 (up_s _ _ _) (by simp) ?_ (hfin := ⟨_, rfl, Or.inr ⟨hnm, rfl⟩⟩)
  rw [up_up]
  refine r_aload_0 hK dX0_init_130 ?_
  refine r_iconstN (c := 4) hK dX0_init_131 ?_
  refine r_newarr (N := 4) (ty := 0) (atype := .int) 1 hK q463 dX0_init_132 (by decide) ?_
  refine r_dup hK dX0_init_134 ?_
  refine r_iconstN (c := 0) hK dX0_init_135 ?_
  refine r_iconstN (c := 1) hK dX0_init_136 ?_
  refine r_iast (i := 0) hK dX0_init_137 (up_s _ _ _) (by decide) ?_
  rw [up_up]
  refine r_dup hK dX0_init_138 ?_
  refine r_iconstN (c := 1) hK dX0_init_139 ?_
  refine r_iconstN (c := 1) hK dX0_init_140 ?_
  refine r_iast (i := 1) hK dX0_init_141 (up_s _ _ _) (by decide) ?_
  rw [up_up]
  refine r_dup hK dX0_init_142 ?_
  refine r_iconstN (c := 2) hK dX0_init_143 ?_
  refine r_iconstN (c := 5) hK dX0_init_144 ?_
  refine r_iast (i := 2) hK dX0_init_145 (up_s _ _ _) (by decide) ?_
  rw [up_up]
  refine r_dup hK dX0_init_146 ?_
  refine r_iconstN (c := 3) hK dX0_init_147 ?_
  refine r_bipushN (c := 13) hK dX0_init_148 ?_
  refine r_iast (i := 3) hK dX0_init_150 (up_s _ _ _) (by decide) ?_
  rw [up_up]
  rw [up_comm (j := 300) (k := 352 + 1) (by decide)]
  refine r_put hK fl_X0_87 dX0_init_151 (up_s _ _ _) (by simp) ?_ (hfin := ⟨_, rfl, Or.inr ⟨hnm, rfl⟩⟩)
  rw [up_up]
  refine r_aload_0 hK dX0_init_154 ?_
  refine r_bipushN (c := 64) hK dX0_init_155 ?_
  refine r_newarr (N := 64) (ty := 0) (atype := .int) 6 hK q463 dX0_init_157 (by decide) ?_
  rw [up_comm (j := 300) (k := 352 + 1 + 1) (by decide)]
  refine r_put hK fl_X0_91 dX0_init_159 (up_s _ _ _) (by simp) ?_ (hfin := ⟨_, rfl, Or.inr ⟨hnm, rfl⟩⟩)
  rw [up_up]
  refine r_aload_0 hK dX0_init_162 ?_
  refine r_bipushN (c := 16) hK dX0_init_163 ?_
  refine r_newarr (N := 16) (ty := 0) (atype := .int) 2 hK q463 dX0_init_165 (by decide) ?_
  rw [up_comm (j := 300) (k := 352 + 1 + 1 + 1) (by decide)]
  refine r_put hK fl_X0_94 dX0_init_167 (up_s _ _ _) (by simp) ?_ (hfin := ⟨_, rfl, Or.inr ⟨hnm, rfl⟩⟩)
  rw [up_up]
  refine r_aload_0 hK dX0_init_170 ?_
  refine r_bipushN (c := 16) hK dX0_init_171 ?_
  refine r_newarr (N := 16) (ty := 0) (atype := .int) 2 hK q463 dX0_init_173 (by decide) ?_
  rw [up_comm (j := 300) (k := 352 + 1 + 1 + 1 + 1) (by decide)]
  refine r_put hK fl_X0_97 dX0_init_175 (up_s _ _ _) (by simp) ?_ (hfin := ⟨_, rfl, Or.inr ⟨hnm, rfl⟩⟩)
  rw [up_up]
  refine r_aload_0 hK dX0_init_178 ?_
  refine r_iconst hK dX0_init_179 ?_
  refine r_put (v := zI (-1)) hK fl_X0_100 dX0_init_180 (up_s _ _ _) (by simp) ?_ (hfin := ⟨_, rfl, Or.inr ⟨hnm, rfl⟩⟩)
  rw [up_up]
  refine r_aload_0 hK dX0_init_183 ?_
  refine r_iconstN (c := 4) hK dX0_init_184 ?_
  refine r_newarr (N := 4) (ty := 0) (atype := .int) 1 hK q463 dX0_init_185 (by decide) ?_
  rw [up_comm (j := 300) (k := 352 + 1 + 1 + 1 + 1 + 1) (by decide)]
  refine r_put hK fl_X0_104 dX0_init_187 (up_s _ _ _) (by simp) ?_ (hfin := ⟨_, rfl, Or.inr ⟨hnm, rfl⟩⟩)
  rw [up_up]
  refine r_ret hK hRt dX0_init_190 ⟨rfl, rfl, up_s _ _ _, fun id h1 h2 h3 => ?_, fun id h1 => ?_⟩ (by decide)
  · by_cases c : id < 352
    · rw [← u10 id h1 c h3]
      repeat rw [up_n (by omega)]
    · have h5 : id = 352 ∨ id = 353 ∨ id = 354 ∨ id = 355 ∨ id = 356 ∨ id = 357 := by omega
      rcases h5 with e | e | e | e | e | e <;> subst e
      all_goals repeat rw [up_n (by decide)]
      all_goals exact up_s _ _ _
  · rw [← v1 id (by omega) (by omega), ← v2 id (by omega) (by omega), ← v3 id (by omega) (by omega), ← v4 id (by omega) (by omega), ← v5 id (by omega) (by omega), ← v6 id (by omega) (by omega), ← v7 id (by omega) (by omega), ← v8 id (by omega) (by omega), ← v9 id (by omega) (by omega), ← v10 id (by omega) (by omega)]
    repeat rw [up_n (by omega)]
