set_option maxRecDepth 100000
/-! ===== LinkedList over its nodes ===== -/
theorem new13 {G : GT} : ∃ r, cls[13]? = some r ∧ r.2.2 ≤ 12 * 1 ∧ 1 ≤ 1 ∧ ∀ j, j < r.2.2 → defaultValue (tyC 13 j) = cv G (vp_V [.null, .null, .null] j) := ⟨_, rfl, by decide, by decide, fun j hj => by
  have h3 : j = 0 ∨ j = 1 ∨ j = 2 := by have : j < 3 := hj; omega
  rcases h3 with e | e | e <;> subst e <;> rfl⟩
set_option maxHeartbeats 4000000 in
theorem ll_nodeNN {G : GT} {Rel : Nat → Hp → Hp → Prop} (hR : RelOK Rel) {n : Nat} {g : Hp} {k v : Nat} {x y z : Value} (h : g k = some (.inl (13, [x, y, z]))) : Ct G Rel yJ24_init cJ24_init 4 none (1) (0) [.ref k, .null, .ref v, .null] n (g) (Pv n (up g k (.inl (13, [.ref v, .null, .null])))) := by
  refine ct_intro [some (.ref k), some (.null), some (.ref v), some (.null)] hR rfl (Nat.le_of_ble_eq_true rfl) ?_
  intro K hG hRel hK hRt hnm
  refine r_aload_0 hK dJ24_init_0 ?_
  refine r_objInit hK oi_J24_1 dJ24_init_1 ?_
  refine r_aload_0 hK dJ24_init_4 ?_
  refine r_aload_2 hK dJ24_init_5 ?_
  refine r_put hK fl_J24_7 dJ24_init_6 (h) (by simp) ?_
  refine r_aload_0 hK dJ24_init_9 ?_
  refine r_aload_3 hK dJ24_init_10 ?_
  refine r_put hK fl_J24_13 dJ24_init_11 (up_s _ _ _) (by simp) ?_
  refine r_aload_0 hK dJ24_init_14 ?_
  refine r_aload_1 hK dJ24_init_15 ?_
  refine r_put hK fl_J24_17 dJ24_init_16 (up_s _ _ _) (by simp) ?_
  exact r_vret hK hRt dJ24_init_19 ⟨rfl, rfl, by rw [up_up, up_up]; rfl⟩
set_option maxHeartbeats 4000000 in
theorem ll_nodeNR {G : GT} {Rel : Nat → Hp → Hp → Prop} (hR : RelOK Rel) {n : Nat} {g : Hp} {k v b : Nat} {x y z : Value} (h : g k = some (.inl (13, [x, y, z]))) : Ct G Rel yJ24_init cJ24_init 4 none (1) (0) [.ref k, .null, .ref v, .ref b] n (g) (Pv n (up g k (.inl (13, [.ref v, .ref b, .null])))) := by
  refine ct_intro [some (.ref k), some (.null), some (.ref v), some (.ref b)] hR rfl (Nat.le_of_ble_eq_true rfl) ?_
  intro K hG hRel hK hRt hnm
  refine r_aload_0 hK dJ24_init_0 ?_
  refine r_objInit hK oi_J24_1 dJ24_init_1 ?_
  refine r_aload_0 hK dJ24_init_4 ?_
  refine r_aload_2 hK dJ24_init_5 ?_
  refine r_put hK fl_J24_7 dJ24_init_6 (h) (by simp) ?_
  refine r_aload_0 hK dJ24_init_9 ?_
  refine r_aload_3 hK dJ24_init_10 ?_
  refine r_put hK fl_J24_13 dJ24_init_11 (up_s _ _ _) (by simp) ?_
  refine r_aload_0 hK dJ24_init_14 ?_
  refine r_aload_1 hK dJ24_init_15 ?_
  refine r_put hK fl_J24_17 dJ24_init_16 (up_s _ _ _) (by simp) ?_
  exact r_vret hK hRt dJ24_init_19 ⟨rfl, rfl, by rw [up_up, up_up]; rfl⟩
set_option maxHeartbeats 4000000 in
theorem ll_nodeRN {G : GT} {Rel : Nat → Hp → Hp → Prop} (hR : RelOK Rel) {n : Nat} {g : Hp} {k v a : Nat} {x y z : Value} (h : g k = some (.inl (13, [x, y, z]))) : Ct G Rel yJ24_init cJ24_init 4 none (1) (0) [.ref k, .ref a, .ref v, .null] n (g) (Pv n (up g k (.inl (13, [.ref v, .null, .ref a])))) := by
  refine ct_intro [some (.ref k), some (.ref a), some (.ref v), some (.null)] hR rfl (Nat.le_of_ble_eq_true rfl) ?_
  intro K hG hRel hK hRt hnm
  refine r_aload_0 hK dJ24_init_0 ?_
  refine r_objInit hK oi_J24_1 dJ24_init_1 ?_
  refine r_aload_0 hK dJ24_init_4 ?_
  refine r_aload_2 hK dJ24_init_5 ?_
  refine r_put hK fl_J24_7 dJ24_init_6 (h) (by simp) ?_
  refine r_aload_0 hK dJ24_init_9 ?_
  refine r_aload_3 hK dJ24_init_10 ?_
  refine r_put hK fl_J24_13 dJ24_init_11 (up_s _ _ _) (by simp) ?_
  refine r_aload_0 hK dJ24_init_14 ?_
  refine r_aload_1 hK dJ24_init_15 ?_
  refine r_put hK fl_J24_17 dJ24_init_16 (up_s _ _ _) (by simp) ?_
  exact r_vret hK hRt dJ24_init_19 ⟨rfl, rfl, by rw [up_up, up_up]; rfl⟩
set_option maxHeartbeats 4000000 in
theorem ll_nodeRR {G : GT} {Rel : Nat → Hp → Hp → Prop} (hR : RelOK Rel) {n : Nat} {g : Hp} {k v a b : Nat} {x y z : Value} (h : g k = some (.inl (13, [x, y, z]))) : Ct G Rel yJ24_init cJ24_init 4 none (1) (0) [.ref k, .ref a, .ref v, .ref b] n (g) (Pv n (up g k (.inl (13, [.ref v, .ref b, .ref a])))) := by
  refine ct_intro [some (.ref k), some (.ref a), some (.ref v), some (.ref b)] hR rfl (Nat.le_of_ble_eq_true rfl) ?_
  intro K hG hRel hK hRt hnm
  refine r_aload_0 hK dJ24_init_0 ?_
  refine r_objInit hK oi_J24_1 dJ24_init_1 ?_
  refine r_aload_0 hK dJ24_init_4 ?_
  refine r_aload_2 hK dJ24_init_5 ?_
  refine r_put hK fl_J24_7 dJ24_init_6 (h) (by simp) ?_
  refine r_aload_0 hK dJ24_init_9 ?_
  refine r_aload_3 hK dJ24_init_10 ?_
  refine r_put hK fl_J24_13 dJ24_init_11 (up_s _ _ _) (by simp) ?_
  refine r_aload_0 hK dJ24_init_14 ?_
  refine r_aload_1 hK dJ24_init_15 ?_
  refine r_put hK fl_J24_17 dJ24_init_16 (up_s _ _ _) (by simp) ?_
  exact r_vret hK hRt dJ24_init_19 ⟨rfl, rfl, by rw [up_up, up_up]; rfl⟩
theorem nd_app {a b : List Nat} (h : (a ++ b).Nodup) {x y : Nat} (hx : x ∈ a) (hy : y ∈ b) : x ≠ y := by
  rw [List.nodup_append] at h
  exact h.2.2 x hx y hy
set_option maxHeartbeats 4000000 in
theorem ll_linkLast {G : GT} {Rel : Nat → Hp → Hp → Prop} (hR : RelOK Rel) {n : Nat} {g : Hp} {id v : Nat} {l ns : List Nat} (hL : LLs g id l ns) (hn : ∀ x ∈ ns, x < n) (hid : id < n) : Ct G Rel yJ13_linkLast cJ13_linkLast 4 none (2) (1) [.ref id, .ref v] n (g) (fun r n' g' => r = none ∧ LLP n g id ns (l ++ [v]) n' g') := by
  refine ct_intro [some (.ref id), some (.ref v), none, none] hR rfl (Nat.le_of_ble_eq_true rfl) ?_
  intro K hG hRel hK hRt hnm
  have hlen := hL.len
  obtain ⟨l1, l2, ⟨mc, l3⟩, l4⟩ := hL
  have nid : n ≠ id := by omega
  have idn : id ≠ n := by omega
  have nns : n ∉ ns := fun q => by have := hn n q; omega
  rcases List.eq_nil_or_concat ns with e | ⟨a, y, e⟩
  · subst e
    have e2 : l = [] := List.eq_nil_of_length_eq_zero (by simpa using hlen.symm)
    subst e2
    have l3 : g id = some (.inl (12, [zI mc, zI ((0 : Nat) : Int), .null, .null])) := l3
    refine r_aload_0 hK dJ13_linkLast_0 ?_
    refine r_get hK fl_J13_27 dJ13_linkLast_1 (l3) rfl ?_
    refine r_astore_2 hK dJ13_linkLast_4 ?_
    refine r_new (fs := [.null, .null, .null]) 1 hK nw_J13_22 dJ13_linkLast_5 (by decide) ?_ (hw := new13)
    refine r_dup hK dJ13_linkLast_8 ?_
    refine r_aload_2 hK dJ13_linkLast_9 ?_
    refine r_aload_1 hK dJ13_linkLast_10 ?_
    refine r_null hK dJ13_linkLast_11 ?_
    refine r_callI3 hK (ll_nodeNN hK.rel (up_s _ _ _)) lk_J13_24 dJ13_linkLast_12 (fun r n1 f1 hp => ?_)
    obtain ⟨rfl, rfl, rfl⟩ := hp
    rw [up_up]
    refine r_astore_3 hK dJ13_linkLast_15 ?_
    refine r_aload_0 hK dJ13_linkLast_16 ?_
    refine r_aload_3 hK dJ13_linkLast_17 ?_
    refine r_put hK fl_J13_27 dJ13_linkLast_18 ((up_n idn).trans l3) (by simp) ?_
    refine r_aload_2 hK dJ13_linkLast_21 ?_
    refine r_ifnonnullN hK dJ13_linkLast_22 ?_
    refine r_aload_0 hK dJ13_linkLast_25 ?_
    refine r_aload_3 hK dJ13_linkLast_26 ?_
    refine r_put hK fl_J13_18 dJ13_linkLast_27 (up_s _ _ _) (by simp) ?_
    rw [up_up]
    refine r_goto 38 hK dJ13_linkLast_30 ?_
    refine r_aload_0 hK dJ13_linkLast_38 ?_
    refine r_dup hK dJ13_linkLast_39 ?_
    refine r_get hK fl_J13_7 dJ13_linkLast_40 (up_s _ _ _) rfl ?_
    refine r_iconstN (c := 1) hK dJ13_linkLast_43 ?_
    first | refine r_iaddN hK dJ13_linkLast_44 ?_ | refine r_iadd hK dJ13_linkLast_44 ?_
    refine r_put hK fl_J13_7 dJ13_linkLast_45 (up_s _ _ _) (by simp) ?_
    rw [up_up]
    refine r_aload_0 hK dJ13_linkLast_48 ?_
    refine r_dup hK dJ13_linkLast_49 ?_
    refine r_get hK fl_J13_33 dJ13_linkLast_50 (up_s _ _ _) rfl ?_
    refine r_iconstN (c := 1) hK dJ13_linkLast_53 ?_
    first | refine r_iaddN hK dJ13_linkLast_54 ?_ | refine r_iadd hK dJ13_linkLast_54 ?_
    refine r_put hK fl_J13_33 dJ13_linkLast_55 (up_s _ _ _) (by simp) ?_
    rw [up_up]
    exact r_vret hK hRt dJ13_linkLast_58 ⟨rfl, by omega, [n], ⟨by simp, by simpa using idn, ⟨_, by rw [up_s]; rfl⟩, ⟨by rw [up_n nid, up_s]; rfl, trivial⟩⟩, fun x hx => Or.inr (by rw [List.mem_singleton.mp hx]; omega), fun x h1 h2 h3 => by rw [up_n h1, up_n (by omega)]⟩
  · have e' : ns = a ++ [y] := by rw [e]; simp
    subst e'
    obtain ⟨la, w, e2⟩ : ∃ la w, l = la ++ [w] := by
      rcases List.eq_nil_or_concat l with q | ⟨la, w, q⟩
      · subst q; simp at hlen
      · exact ⟨la, w, by rw [q]; simp⟩
    subst e2
    have hla : a.length = la.length := by simpa using hlen
    obtain ⟨d1, d2, -⟩ := (DL.app hla).mp l4
    have hy : g y = some (.inl (13, [.ref w, .null, ls_ .null a])) := d2
    have l3 : g id = some (.inl (12, [zI mc, zI (((la ++ [w]).length : Nat) : Int), hd (a ++ [y]) .null, .ref y])) := by rw [l3, ls_app]; rfl
    have yid : y ≠ id := fun q => l2 (by rw [← q]; simp)
    have yn : y ≠ n := fun q => nns (by rw [← q]; simp)
    have hay : ∀ x ∈ a, x ≠ y := fun x hx => nd_app l1 hx (by simp)
    have han : ∀ x ∈ a, x ≠ n := fun x hx q => nns (by rw [← q]; simp [hx])
    have hai : ∀ x ∈ a, x ≠ id := fun x hx q => l2 (by rw [← q]; simp [hx])
    refine r_aload_0 hK dJ13_linkLast_0 ?_
    refine r_get hK fl_J13_27 dJ13_linkLast_1 (l3) rfl ?_
    refine r_astore_2 hK dJ13_linkLast_4 ?_
    refine r_new (fs := [.null, .null, .null]) 1 hK nw_J13_22 dJ13_linkLast_5 (by decide) ?_ (hw := new13)
    refine r_dup hK dJ13_linkLast_8 ?_
    refine r_aload_2 hK dJ13_linkLast_9 ?_
    refine r_aload_1 hK dJ13_linkLast_10 ?_
    refine r_null hK dJ13_linkLast_11 ?_
    refine r_callI3 hK (ll_nodeRN hK.rel (up_s _ _ _)) lk_J13_24 dJ13_linkLast_12 (fun r n1 f1 hp => ?_)
    obtain ⟨rfl, rfl, rfl⟩ := hp
    rw [up_up]
    refine r_astore_3 hK dJ13_linkLast_15 ?_
    refine r_aload_0 hK dJ13_linkLast_16 ?_
    refine r_aload_3 hK dJ13_linkLast_17 ?_
    refine r_put hK fl_J13_27 dJ13_linkLast_18 ((up_n idn).trans l3) (by simp) ?_
    refine r_aload_2 hK dJ13_linkLast_21 ?_
    refine r_ifnonnull 33 hK dJ13_linkLast_22 ?_
    refine r_aload_2 hK dJ13_linkLast_33 ?_
    refine r_aload_3 hK dJ13_linkLast_34 ?_
    refine r_put hK fl_J13_36 dJ13_linkLast_35 ((up_n yid).trans ((up_n yn).trans hy)) (by simp) ?_
    refine r_aload_0 hK dJ13_linkLast_38 ?_
    refine r_dup hK dJ13_linkLast_39 ?_
    refine r_get hK fl_J13_7 dJ13_linkLast_40 ((up_n (Ne.symm yid)).trans (up_s _ _ _)) rfl ?_
    refine r_iconstN (c := 1) hK dJ13_linkLast_43 ?_
    first | refine r_iaddN hK dJ13_linkLast_44 ?_ | refine r_iadd hK dJ13_linkLast_44 ?_
    refine r_put hK fl_J13_7 dJ13_linkLast_45 ((up_n (Ne.symm yid)).trans (up_s _ _ _)) (by simp) ?_
    refine r_aload_0 hK dJ13_linkLast_48 ?_
    refine r_dup hK dJ13_linkLast_49 ?_
    refine r_get hK fl_J13_33 dJ13_linkLast_50 (up_s _ _ _) rfl ?_
    refine r_iconstN (c := 1) hK dJ13_linkLast_53 ?_
    first | refine r_iaddN hK dJ13_linkLast_54 ?_ | refine r_iadd hK dJ13_linkLast_54 ?_
    refine r_put hK fl_J13_33 dJ13_linkLast_55 (up_s _ _ _) (by simp) ?_
    rw [up_up]
    refine r_vret hK hRt dJ13_linkLast_58 ⟨rfl, by omega, (a ++ [y]) ++ [n], ⟨?_, ?_, ⟨mc + ((1 : Nat) : Int), ?_⟩, ?_⟩, fun x hx => ?_, fun x h1 h2 h3 => ?_⟩
    · rw [List.nodup_append]; exact ⟨l1, by simp, fun x hx z hz q => nns (by rw [List.mem_singleton] at hz; rw [← hz, ← q]; exact hx)⟩
    · intro q; rcases List.mem_append.mp q with q | q
      · exact l2 q
      · exact idn (List.mem_singleton.mp q)
    · rw [up_s]
      show some (Sum.inl (12, [zI (mc + ((1 : Nat) : Int)), zI (((la ++ [w]).length + 1 : Nat) : Int), hd (a ++ [y]) .null, .ref n])) = _
      rw [ls_app, hd_app (a ++ [y]) [n], show hd (a ++ [y]) (hd [n] .null) = hd (a ++ [y]) .null by cases a <;> rfl]
      rw [show (la ++ [w] ++ [v]).length = (la ++ [w]).length + 1 by rw [List.length_append]; rfl]
      rfl
    · refine (DL.app (by simpa using hlen)).mpr ⟨DL.setq (g := g) hla l4 (fun x hx => ?_) ?_, ⟨?_, trivial⟩⟩
      · rw [up_n (hai x hx), up_n (hay x hx), up_n (hai x hx), up_n (han x hx)]
      · rw [up_n yid, up_s]; rfl
      · rw [up_n nid, up_n (Ne.symm yn), up_n nid, up_s, ls_app]; rfl
    · rcases List.mem_append.mp hx with q | q
      · exact Or.inl q
      · exact Or.inr (by rw [List.mem_singleton.mp q]; omega)
    · rw [up_n h1, up_n (fun q => h2 (by rw [q]; simp)), up_n h1, up_n (by omega)]
set_option maxHeartbeats 4000000 in
theorem ll_linkFirst {G : GT} {Rel : Nat → Hp → Hp → Prop} (hR : RelOK Rel) {n : Nat} {g : Hp} {id v : Nat} {l ns : List Nat} (hL : LLs g id l ns) (hn : ∀ x ∈ ns, x < n) (hid : id < n) : Ct G Rel yJ13_linkFirst cJ13_linkFirst 4 none (2) (1) [.ref id, .ref v] n (g) (fun r n' g' => r = none ∧ LLP n g id ns (v :: l) n' g') := by
  refine ct_intro [some (.ref id), some (.ref v), none, none] hR rfl (Nat.le_of_ble_eq_true rfl) ?_
  intro K hG hRel hK hRt hnm
  have hlen := hL.len
  obtain ⟨l1, l2, ⟨mc, l3⟩, l4⟩ := hL
  have nid : n ≠ id := by omega
  have idn : id ≠ n := by omega
  have nns : n ∉ ns := fun q => by have := hn n q; omega
  cases ns with
  | nil =>
    have e2 : l = [] := List.eq_nil_of_length_eq_zero (by simpa using hlen.symm)
    subst e2
    have l3 : g id = some (.inl (12, [zI mc, zI ((0 : Nat) : Int), .null, .null])) := l3
    refine r_aload_0 hK dJ13_linkFirst_0 ?_
    refine r_get hK fl_J13_18 dJ13_linkFirst_1 (l3) rfl ?_
    refine r_astore_2 hK dJ13_linkFirst_4 ?_
    refine r_new (fs := [.null, .null, .null]) 1 hK nw_J13_22 dJ13_linkFirst_5 (by decide) ?_ (hw := new13)
    refine r_dup hK dJ13_linkFirst_8 ?_
    refine r_null hK dJ13_linkFirst_9 ?_
    refine r_aload_1 hK dJ13_linkFirst_10 ?_
    refine r_aload_2 hK dJ13_linkFirst_11 ?_
    refine r_callI3 hK (ll_nodeNN hK.rel (up_s _ _ _)) lk_J13_24 dJ13_linkFirst_12 (fun r n1 f1 hp => ?_)
    obtain ⟨rfl, rfl, rfl⟩ := hp
    rw [up_up]
    refine r_astore_3 hK dJ13_linkFirst_15 ?_
    refine r_aload_0 hK dJ13_linkFirst_16 ?_
    refine r_aload_3 hK dJ13_linkFirst_17 ?_
    refine r_put hK fl_J13_18 dJ13_linkFirst_18 ((up_n idn).trans l3) (by simp) ?_
    refine r_aload_2 hK dJ13_linkFirst_21 ?_
    refine r_ifnonnullN hK dJ13_linkFirst_22 ?_
    refine r_aload_0 hK dJ13_linkFirst_25 ?_
    refine r_aload_3 hK dJ13_linkFirst_26 ?_
    refine r_put hK fl_J13_27 dJ13_linkFirst_27 (up_s _ _ _) (by simp) ?_
    rw [up_up]
    refine r_goto 38 hK dJ13_linkFirst_30 ?_
    refine r_aload_0 hK dJ13_linkFirst_38 ?_
    refine r_dup hK dJ13_linkFirst_39 ?_
    refine r_get hK fl_J13_7 dJ13_linkFirst_40 (up_s _ _ _) rfl ?_
    refine r_iconstN (c := 1) hK dJ13_linkFirst_43 ?_
    first | refine r_iaddN hK dJ13_linkFirst_44 ?_ | refine r_iadd hK dJ13_linkFirst_44 ?_
    refine r_put hK fl_J13_7 dJ13_linkFirst_45 (up_s _ _ _) (by simp) ?_
    rw [up_up]
    refine r_aload_0 hK dJ13_linkFirst_48 ?_
    refine r_dup hK dJ13_linkFirst_49 ?_
    refine r_get hK fl_J13_33 dJ13_linkFirst_50 (up_s _ _ _) rfl ?_
    refine r_iconstN (c := 1) hK dJ13_linkFirst_53 ?_
    first | refine r_iaddN hK dJ13_linkFirst_54 ?_ | refine r_iadd hK dJ13_linkFirst_54 ?_
    refine r_put hK fl_J13_33 dJ13_linkFirst_55 (up_s _ _ _) (by simp) ?_
    rw [up_up]
    exact r_vret hK hRt dJ13_linkFirst_58 ⟨rfl, by omega, [n], ⟨by simp, by simpa using idn, ⟨_, by rw [up_s]; rfl⟩, ⟨by rw [up_n nid, up_s]; rfl, trivial⟩⟩, fun x hx => Or.inr (by rw [List.mem_singleton.mp hx]; omega), fun x h1 h2 h3 => by rw [up_n h1, up_n (by omega)]⟩
  | cons x b =>
    obtain ⟨w, lb, e2⟩ : ∃ w lb, l = w :: lb := by
      cases l with
      | nil => simp at hlen
      | cons w lb => exact ⟨w, lb, rfl⟩
    subst e2
    have hx : g x = some (.inl (13, [.ref w, hd b .null, .null])) := l4.1
    have l3 : g id = some (.inl (12, [zI mc, zI (((w :: lb).length : Nat) : Int), .ref x, ls_ (.ref x) b])) := l3
    have xid : x ≠ id := fun q => l2 (by rw [← q]; simp)
    have xn : x ≠ n := fun q => nns (by rw [← q]; simp)
    have hbx : ∀ z ∈ b, z ≠ x := fun z hz q => by rw [q] at hz; exact (List.nodup_cons.mp l1).1 hz
    have hbn : ∀ z ∈ b, z ≠ n := fun z hz q => nns (by rw [← q]; simp [hz])
    have hbi : ∀ z ∈ b, z ≠ id := fun z hz q => l2 (by rw [← q]; simp [hz])
    refine r_aload_0 hK dJ13_linkFirst_0 ?_
    refine r_get hK fl_J13_18 dJ13_linkFirst_1 (l3) rfl ?_
    refine r_astore_2 hK dJ13_linkFirst_4 ?_
    refine r_new (fs := [.null, .null, .null]) 1 hK nw_J13_22 dJ13_linkFirst_5 (by decide) ?_ (hw := new13)
    refine r_dup hK dJ13_linkFirst_8 ?_
    refine r_null hK dJ13_linkFirst_9 ?_
    refine r_aload_1 hK dJ13_linkFirst_10 ?_
    refine r_aload_2 hK dJ13_linkFirst_11 ?_
    refine r_callI3 hK (ll_nodeNR hK.rel (up_s _ _ _)) lk_J13_24 dJ13_linkFirst_12 (fun r n1 f1 hp => ?_)
    obtain ⟨rfl, rfl, rfl⟩ := hp
    rw [up_up]
    refine r_astore_3 hK dJ13_linkFirst_15 ?_
    refine r_aload_0 hK dJ13_linkFirst_16 ?_
    refine r_aload_3 hK dJ13_linkFirst_17 ?_
    refine r_put hK fl_J13_18 dJ13_linkFirst_18 ((up_n idn).trans l3) (by simp) ?_
    refine r_aload_2 hK dJ13_linkFirst_21 ?_
    refine r_ifnonnull 33 hK dJ13_linkFirst_22 ?_
    refine r_aload_2 hK dJ13_linkFirst_33 ?_
    refine r_aload_3 hK dJ13_linkFirst_34 ?_
    refine r_put hK fl_J13_30 dJ13_linkFirst_35 ((up_n xid).trans ((up_n xn).trans hx)) (by simp) ?_
    refine r_aload_0 hK dJ13_linkFirst_38 ?_
    refine r_dup hK dJ13_linkFirst_39 ?_
    refine r_get hK fl_J13_7 dJ13_linkFirst_40 ((up_n (Ne.symm xid)).trans (up_s _ _ _)) rfl ?_
    refine r_iconstN (c := 1) hK dJ13_linkFirst_43 ?_
    first | refine r_iaddN hK dJ13_linkFirst_44 ?_ | refine r_iadd hK dJ13_linkFirst_44 ?_
    refine r_put hK fl_J13_7 dJ13_linkFirst_45 ((up_n (Ne.symm xid)).trans (up_s _ _ _)) (by simp) ?_
    refine r_aload_0 hK dJ13_linkFirst_48 ?_
    refine r_dup hK dJ13_linkFirst_49 ?_
    refine r_get hK fl_J13_33 dJ13_linkFirst_50 (up_s _ _ _) rfl ?_
    refine r_iconstN (c := 1) hK dJ13_linkFirst_53 ?_
    first | refine r_iaddN hK dJ13_linkFirst_54 ?_ | refine r_iadd hK dJ13_linkFirst_54 ?_
    refine r_put hK fl_J13_33 dJ13_linkFirst_55 (up_s _ _ _) (by simp) ?_
    rw [up_up]
    refine r_vret hK hRt dJ13_linkFirst_58 ⟨rfl, by omega, n :: x :: b, ⟨?_, ?_, ⟨mc + ((1 : Nat) : Int), by rw [up_s]; rfl⟩, ⟨?_, DL.setp (g := g) l4 (fun z hz => ?_) ?_⟩⟩, fun z hz => ?_, fun z h1 h2 h3 => ?_⟩
    · exact List.nodup_cons.mpr ⟨nns, l1⟩
    · intro q; rcases List.mem_cons.mp q with q | q
      · exact idn q
      · exact l2 q
    · rw [up_n nid, up_n (Ne.symm xn), up_n nid, up_s]; rfl
    · rw [up_n (hbi z hz), up_n (hbx z hz), up_n (hbi z hz), up_n (hbn z hz)]
    · rw [up_n xid, up_s]; rfl
    · rcases List.mem_cons.mp hz with q | q
      · exact Or.inr (by rw [q]; omega)
      · exact Or.inl q
    · rw [up_n h1, up_n (fun q => h2 (by rw [q]; simp)), up_n h1, up_n (by omega)]
set_option maxHeartbeats 4000000 in
theorem ll_addLast {G : GT} {Rel : Nat → Hp → Hp → Prop} (hR : RelOK Rel) {n : Nat} {g : Hp} {id v : Nat} {l ns : List Nat} (hL : LLs g id l ns) (hn : ∀ x ∈ ns, x < n) (hid : id < n) : Ct G Rel yJ13_addLast cJ13_addLast 2 none (3) (1) [.ref id, .ref v] n (g) (fun r n' g' => r = none ∧ LLP n g id ns (l ++ [v]) n' g') := by
  refine ct_intro [some (.ref id), some (.ref v)] hR rfl (Nat.le_of_ble_eq_true rfl) ?_
  intro K hG hRel hK hRt hnm
  obtain ⟨mc, l3⟩ := hL.2.2.1
  refine r_aload_0 hK dJ13_addLast_0 ?_
  refine r_aload_1 hK dJ13_addLast_1 ?_
  refine r_callV1 hK (ll_linkLast hK.rel hL hn hid) lk_J13_57 (Rcv.raw hK.rel l3 rfl) dJ13_addLast_2 (fun r n1 f1 hp => ?_)
  obtain ⟨e1, e2⟩ := hp
  subst e1
  exact r_vret hK hRt dJ13_addLast_5 ⟨rfl, e2⟩
set_option maxHeartbeats 4000000 in
theorem ll_addFirst {G : GT} {Rel : Nat → Hp → Hp → Prop} (hR : RelOK Rel) {n : Nat} {g : Hp} {id v : Nat} {l ns : List Nat} (hL : LLs g id l ns) (hn : ∀ x ∈ ns, x < n) (hid : id < n) : Ct G Rel yJ13_addFirst cJ13_addFirst 2 none (3) (1) [.ref id, .ref v] n (g) (fun r n' g' => r = none ∧ LLP n g id ns (v :: l) n' g') := by
  refine ct_intro [some (.ref id), some (.ref v)] hR rfl (Nat.le_of_ble_eq_true rfl) ?_
  intro K hG hRel hK hRt hnm
  obtain ⟨mc, l3⟩ := hL.2.2.1
  refine r_aload_0 hK dJ13_addFirst_0 ?_
  refine r_aload_1 hK dJ13_addFirst_1 ?_
  refine r_callV1 hK (ll_linkFirst hK.rel hL hn hid) lk_J13_53 (Rcv.raw hK.rel l3 rfl) dJ13_addFirst_2 (fun r n1 f1 hp => ?_)
  obtain ⟨e1, e2⟩ := hp
  subst e1
  exact r_vret hK hRt dJ13_addFirst_5 ⟨rfl, e2⟩
set_option maxHeartbeats 4000000 in
theorem ll_size {G : GT} {Rel : Nat → Hp → Hp → Prop} (hR : RelOK Rel) {n : Nat} {g : Hp} {id : Nat} {l ns : List Nat} (hL : LLs g id l ns) : Ct G Rel yJ13_size cJ13_size 1 (some .int) (1) (0) [.ref id] n (g) (Pu (zI ((l.length : Nat) : Int)) n g) := by
  refine ct_intro [some (.ref id)] hR rfl (Nat.le_of_ble_eq_true rfl) ?_
  intro K hG hRel hK hRt hnm
  obtain ⟨mc, l3⟩ := hL.2.2.1
  refine r_aload_0 hK dJ13_size_0 ?_
  refine r_get hK fl_J13_7 dJ13_size_1 (l3) rfl ?_
  exact r_iret hK hRt dJ13_size_4 ⟨rfl, rfl, rfl⟩
set_option maxHeartbeats 4000000 in
theorem ll_isElem {G : GT} {Rel : Nat → Hp → Hp → Prop} (hR : RelOK Rel) {n : Nat} {g : Hp} {id i : Nat} {l ns : List Nat} (hL : LLs g id l ns) (hi : i < l.length) (hs : l.length < 1000000) : Ct G Rel yJ13_isElementIndex cJ13_isElementIndex 2 (some .boolean) (1) (0) [.ref id, zI (i : Int)] n (g) (Pu (zI ((1 : Nat) : Int)) n g) := by
  refine ct_intro [some (.ref id), some (zI (i : Int))] hR rfl (Nat.le_of_ble_eq_true rfl) ?_
  intro K hG hRel hK hRt hnm
  obtain ⟨mc, l3⟩ := hL.2.2.1
  refine r_iload_1 hK dJ13_isElementIndex_0 ?_
  refine r_if_lt 16 hK dJ13_isElementIndex_1 (by omega) (fun h1 => ?_) (fun h1 => ?_)
  · omega
  · refine r_iload_1 hK dJ13_isElementIndex_4 ?_
    refine r_aload_0 hK dJ13_isElementIndex_5 ?_
    refine r_get hK fl_J13_7 dJ13_isElementIndex_6 (l3) rfl ?_
    refine r_icmp_ge 16 hK dJ13_isElementIndex_9 (by omega) (by omega) (fun h9 => ?_) (fun h9 => ?_)
    · omega
    · refine r_iconstN (c := 1) hK dJ13_isElementIndex_12 ?_
      refine r_goto 17 hK dJ13_isElementIndex_13 ?_
      exact r_zret hK hRt dJ13_isElementIndex_17 rfl ⟨rfl, rfl, rfl⟩
set_option maxHeartbeats 4000000 in
theorem ll_chkElem {G : GT} {Rel : Nat → Hp → Hp → Prop} (hR : RelOK Rel) {n : Nat} {g : Hp} {id i : Nat} {l ns : List Nat} (hL : LLs g id l ns) (hi : i < l.length) (hs : l.length < 1000000) : Ct G Rel yJ13_checkElementIndex cJ13_checkElementIndex 2 none (2) (0) [.ref id, zI (i : Int)] n (g) (Pv n g) := by
  refine ct_intro [some (.ref id), some (zI (i : Int))] hR rfl (Nat.le_of_ble_eq_true rfl) ?_
  intro K hG hRel hK hRt hnm
  obtain ⟨mc, l3⟩ := hL.2.2.1
  refine r_aload_0 hK dJ13_checkElementIndex_0 ?_
  refine r_iload_1 hK dJ13_checkElementIndex_1 ?_
  refine r_pV1 hK (ll_isElem hK.rel hL hi hs) lk_J13_115 (Rcv.raw hK.rel l3 rfl) dJ13_checkElementIndex_2 ?_
  refine r_if_ne 21 hK dJ13_checkElementIndex_5 (by omega) (fun h5 => ?_) (fun h5 => ?_)
  · exact r_vret hK hRt dJ13_checkElementIndex_21 ⟨rfl, rfl, rfl⟩
  · exact absurd h5 (by omega)
set_option maxHeartbeats 4000000 in
theorem ll_isPos {G : GT} {Rel : Nat → Hp → Hp → Prop} (hR : RelOK Rel) {n : Nat} {g : Hp} {id i : Nat} {l ns : List Nat} (hL : LLs g id l ns) (hi : i ≤ l.length) (hs : l.length < 1000000) : Ct G Rel yJ13_isPositionIndex cJ13_isPositionIndex 2 (some .boolean) (1) (0) [.ref id, zI (i : Int)] n (g) (Pu (zI ((1 : Nat) : Int)) n g) := by
  refine ct_intro [some (.ref id), some (zI (i : Int))] hR rfl (Nat.le_of_ble_eq_true rfl) ?_
  intro K hG hRel hK hRt hnm
  obtain ⟨mc, l3⟩ := hL.2.2.1
  refine r_iload_1 hK dJ13_isPositionIndex_0 ?_
  refine r_if_lt 16 hK dJ13_isPositionIndex_1 (by omega) (fun h1 => ?_) (fun h1 => ?_)
  · omega
  · refine r_iload_1 hK dJ13_isPositionIndex_4 ?_
    refine r_aload_0 hK dJ13_isPositionIndex_5 ?_
    refine r_get hK fl_J13_7 dJ13_isPositionIndex_6 (l3) rfl ?_
    refine r_icmp_gt 16 hK dJ13_isPositionIndex_9 (by omega) (by omega) (fun h9 => ?_) (fun h9 => ?_)
    · omega
    · refine r_iconstN (c := 1) hK dJ13_isPositionIndex_12 ?_
      refine r_goto 17 hK dJ13_isPositionIndex_13 ?_
      exact r_zret hK hRt dJ13_isPositionIndex_17 rfl ⟨rfl, rfl, rfl⟩
set_option maxHeartbeats 4000000 in
theorem ll_chkPos {G : GT} {Rel : Nat → Hp → Hp → Prop} (hR : RelOK Rel) {n : Nat} {g : Hp} {id i : Nat} {l ns : List Nat} (hL : LLs g id l ns) (hi : i ≤ l.length) (hs : l.length < 1000000) : Ct G Rel yJ13_checkPositionIndex cJ13_checkPositionIndex 2 none (2) (0) [.ref id, zI (i : Int)] n (g) (Pv n g) := by
  refine ct_intro [some (.ref id), some (zI (i : Int))] hR rfl (Nat.le_of_ble_eq_true rfl) ?_
  intro K hG hRel hK hRt hnm
  obtain ⟨mc, l3⟩ := hL.2.2.1
  refine r_aload_0 hK dJ13_checkPositionIndex_0 ?_
  refine r_iload_1 hK dJ13_checkPositionIndex_1 ?_
  refine r_pV1 hK (ll_isPos hK.rel hL hi hs) lk_J13_128 (Rcv.raw hK.rel l3 rfl) dJ13_checkPositionIndex_2 ?_
  refine r_if_ne 21 hK dJ13_checkPositionIndex_5 (by omega) (fun h5 => ?_) (fun h5 => ?_)
  · exact r_vret hK hRt dJ13_checkPositionIndex_21 ⟨rfl, rfl, rfl⟩
  · exact absurd h5 (by omega)
set_option maxHeartbeats 4000000 in
theorem ll_nodeAt {G : GT} {Rel : Nat → Hp → Hp → Prop} (hR : RelOK Rel) {n : Nat} {g : Hp} {id i : Nat} {l ns : List Nat} (hL : LLs g id l ns) (hi : i < l.length) (hs : l.length < 1000000) : Ct G Rel yJ13_node cJ13_node 4 (some (.object "java/util/LinkedList$Node")) (1) (0) [.ref id, zI (i : Int)] n (g) (Pu (.ref (ns.getD i 0)) n g) := by
  refine ct_intro [some (.ref id), some (zI (i : Int)), none, none] hR rfl (Nat.le_of_ble_eq_true rfl) ?_
  intro K hG hRel hK hRt hnm
  have hlen := hL.len
  obtain ⟨l1, l2, ⟨mc, l3⟩, l4⟩ := hL
  obtain ⟨L, hLl⟩ : ∃ L, L = l.length := ⟨_, rfl⟩
  rw [← hLl] at l3 hi hs hlen
  have h0 : hd ns .null = .ref (ns.getD 0 0) := by have := hd_drop (q := .null) (ns := ns) (j := 0) (by omega); rwa [List.drop_zero] at this
  have hz : ls_ .null ns = .ref (ns.getD (L - 1) 0) := ls_all (by omega)
  rw [h0, hz] at l3
  have lpF : ∀ (m k : Nat), k + m = i → Wx K 17 [some (.ref id), some (zI (i : Int)), some (.ref (ns.getD k 0)), some (zI (k : Int))] [] n g 0 := by
    intro m
    induction m with
    | zero =>
      intro k hk
      have ek : k = i := hk
      subst ek
      refine r_iload_3 hK dJ13_node_17 ?_
      refine r_iload_1 hK dJ13_node_18 ?_
      refine r_icmp_ge 33 hK dJ13_node_19 (by omega) (by omega) (fun h19 => ?_) (fun h19 => ?_)
      · refine r_aload_2 hK dJ13_node_33 ?_
        exact r_aret hK hRt dJ13_node_34 ⟨rfl, rfl, rfl⟩
      · exact absurd h19 (by omega)
    | succ m ih =>
      intro k hk
      have hc := l4.cell (i := k) (by omega)
      rw [hd_drop (by omega)] at hc
      refine r_iload_3 hK dJ13_node_17 ?_
      refine r_iload_1 hK dJ13_node_18 ?_
      refine r_icmp_ge 33 hK dJ13_node_19 (by omega) (by omega) (fun h19 => ?_) (fun h19 => ?_)
      · exact absurd h19 (by omega)
      · refine r_aload_2 hK dJ13_node_22 ?_
        refine r_get hK fl_J13_36 dJ13_node_23 (hc) rfl ?_
        refine r_astore_2 hK dJ13_node_26 ?_
        first | refine r_incN_3 hK dJ13_node_27 ?_ | refine r_iinc_3 hK dJ13_node_27 ?_
        refine r_goto 17 hK dJ13_node_30 ?_
        exact ih (k + 1) (by omega)
  have lpB : ∀ (m k : Nat), k = i + m → k < L → Wx K 47 [some (.ref id), some (zI (i : Int)), some (.ref (ns.getD k 0)), some (zI (k : Int))] [] n g 0 := by
    intro m
    induction m with
    | zero =>
      intro k hk hkL
      have ek : k = i := hk
      subst ek
      refine r_iload_3 hK dJ13_node_47 ?_
      refine r_iload_1 hK dJ13_node_48 ?_
      refine r_icmp_le 63 hK dJ13_node_49 (by omega) (by omega) (fun h49 => ?_) (fun h49 => ?_)
      · refine r_aload_2 hK dJ13_node_63 ?_
        exact r_aret hK hRt dJ13_node_64 ⟨rfl, rfl, rfl⟩
      · exact absurd h49 (by omega)
    | succ m ih =>
      intro k hk hkL
      obtain ⟨j, hj⟩ : ∃ j, k = j + 1 := ⟨i + m, by omega⟩
      subst hj
      have hc := l4.cell (i := j + 1) (by omega)
      rw [ls_take (by omega)] at hc
      refine r_iload_3 hK dJ13_node_47 ?_
      refine r_iload_1 hK dJ13_node_48 ?_
      refine r_icmp_le 63 hK dJ13_node_49 (by omega) (by omega) (fun h49 => ?_) (fun h49 => ?_)
      · exact absurd h49 (by omega)
      · refine r_aload_2 hK dJ13_node_52 ?_
        refine r_get hK fl_J13_30 dJ13_node_53 (hc) rfl ?_
        refine r_astore_2 hK dJ13_node_56 ?_
        first | refine r_decN_3 hK dJ13_node_57 ?_ | refine r_iinc_3 hK dJ13_node_57 ?_
        refine r_goto 47 hK dJ13_node_60 ?_
        exact ih j (by omega) (by omega)
  have hsh : L >>> 1 < 1000000 := by rw [Nat.shiftRight_eq_div_pow]; omega
  refine r_iload_1 hK dJ13_node_0 ?_
  refine r_aload_0 hK dJ13_node_1 ?_
  refine r_get hK fl_J13_7 dJ13_node_2 (l3) rfl ?_
  refine r_iconstN (c := 1) hK dJ13_node_5 ?_
  refine r_ishr hK dJ13_node_6 (by omega) (by omega) ?_
  refine r_icmp_ge 35 hK dJ13_node_7 (by omega) (by omega) (fun h7 => ?_) (fun h7 => ?_)
  · refine r_aload_0 hK dJ13_node_35 ?_
    refine r_get hK fl_J13_27 dJ13_node_36 (l3) rfl ?_
    refine r_astore_2 hK dJ13_node_39 ?_
    refine r_aload_0 hK dJ13_node_40 ?_
    refine r_get hK fl_J13_7 dJ13_node_41 (l3) rfl ?_
    refine r_iconstN (c := 1) hK dJ13_node_44 ?_
    first | refine r_isubN hK dJ13_node_45 (by omega) ?_ | refine r_isub hK dJ13_node_45 ?_
    refine r_istore_3 hK dJ13_node_46 ?_
    exact lpB (L - 1 - i) (L - 1) (by omega) (by omega)
  · refine r_aload_0 hK dJ13_node_10 ?_
    refine r_get hK fl_J13_18 dJ13_node_11 (l3) rfl ?_
    refine r_astore_2 hK dJ13_node_14 ?_
    refine r_iconstN (c := 0) hK dJ13_node_15 ?_
    refine r_istore_3 hK dJ13_node_16 ?_
    exact lpF i 0 (by omega)
set_option maxHeartbeats 4000000 in
theorem ll_get {G : GT} {Rel : Nat → Hp → Hp → Prop} (hR : RelOK Rel) {n : Nat} {g : Hp} {id i : Nat} {l ns : List Nat} (hL : LLs g id l ns) (hi : i < l.length) (hs : l.length < 1000000) : Ct G Rel yJ13_get cJ13_get 2 (some (.object "java/lang/Object")) (3) (0) [.ref id, zI (i : Int)] n (g) (Pu (.ref (l.getD i 0)) n g) := by
  refine ct_intro [some (.ref id), some (zI (i : Int))] hR rfl (Nat.le_of_ble_eq_true rfl) ?_
  intro K hG hRel hK hRt hnm
  obtain ⟨mc, l3⟩ := hL.2.2.1
  have hlen := hL.len
  have hc := hL.2.2.2.cell (i := i) (by omega)
  refine r_aload_0 hK dJ13_get_0 ?_
  refine r_iload_1 hK dJ13_get_1 ?_
  refine r_vV1 hK (ll_chkElem hK.rel hL hi hs) lk_J13_90 (Rcv.raw hK.rel l3 rfl) dJ13_get_2 ?_
  refine r_aload_0 hK dJ13_get_5 ?_
  refine r_iload_1 hK dJ13_get_6 ?_
  refine r_pV1 hK (ll_nodeAt hK.rel hL hi hs) lk_J13_86 (Rcv.raw hK.rel l3 rfl) dJ13_get_7 ?_
  refine r_get hK fl_J13_39 dJ13_get_10 (hc) rfl ?_
  exact r_aret hK hRt dJ13_get_13 ⟨rfl, rfl, rfl⟩
-- the first one is taken off
set_option maxHeartbeats 4000000 in
theorem ll_unlinkFirst {G : GT} {Rel : Nat → Hp → Hp → Prop} (hR : RelOK Rel) {n : Nat} {g : Hp} {id x v : Nat} {lb b : List Nat} (hL : LLs g id (v :: lb) (x :: b)) : Ct G Rel yJ13_unlinkFirst cJ13_unlinkFirst 4 (some (.object "java/lang/Object")) (1) (0) [.ref id, .ref x] n (g) (fun r n' g' => r = some (.ref v) ∧ n' = n ∧ ∃ ns', LLs g' id lb ns' ∧ (∀ y ∈ ns', y ∈ x :: b) ∧ ∀ y, y ≠ id → y ∉ x :: b → g' y = g y) := by
  refine ct_intro [some (.ref id), some (.ref x), none, none] hR rfl (Nat.le_of_ble_eq_true rfl) ?_
  intro K hG hRel hK hRt hnm
  have hlen := hL.len
  obtain ⟨l1, l2, ⟨mc, l3⟩, l4⟩ := hL
  have hx : g x = some (.inl (13, [.ref v, hd b .null, .null])) := l4.1
  have xid : x ≠ id := fun q => l2 (by rw [← q]; simp)
  have idx' : id ≠ x := Ne.symm xid
  cases b with
  | nil =>
    have e2 : lb = [] := List.eq_nil_of_length_eq_zero (by simpa using hlen.symm)
    subst e2
    have l3 : g id = some (.inl (12, [zI mc, zI ((1 : Nat) : Int), .ref x, .ref x])) := l3
    have hx : g x = some (.inl (13, [.ref v, .null, .null])) := hx
    refine r_aload_1 hK dJ13_unlinkFirst_0 ?_
    refine r_get hK fl_J13_39 dJ13_unlinkFirst_1 (hx) rfl ?_
    refine r_astore_2 hK dJ13_unlinkFirst_4 ?_
    refine r_aload_1 hK dJ13_unlinkFirst_5 ?_
    refine r_get hK fl_J13_36 dJ13_unlinkFirst_6 (hx) rfl ?_
    refine r_astore_3 hK dJ13_unlinkFirst_9 ?_
    refine r_aload_1 hK dJ13_unlinkFirst_10 ?_
    refine r_null hK dJ13_unlinkFirst_11 ?_
    refine r_put hK fl_J13_39 dJ13_unlinkFirst_12 (hx) (by simp) ?_
    refine r_aload_1 hK dJ13_unlinkFirst_15 ?_
    refine r_null hK dJ13_unlinkFirst_16 ?_
    refine r_put hK fl_J13_36 dJ13_unlinkFirst_17 (up_s _ _ _) (by simp) ?_
    rw [up_up]
    refine r_aload_0 hK dJ13_unlinkFirst_20 ?_
    refine r_aload_3 hK dJ13_unlinkFirst_21 ?_
    refine r_put hK fl_J13_18 dJ13_unlinkFirst_22 ((up_n idx').trans l3) (by simp) ?_
    refine r_aload_3 hK dJ13_unlinkFirst_25 ?_
    refine r_ifnonnullN hK dJ13_unlinkFirst_26 ?_
    refine r_aload_0 hK dJ13_unlinkFirst_29 ?_
    refine r_null hK dJ13_unlinkFirst_30 ?_
    refine r_put hK fl_J13_27 dJ13_unlinkFirst_31 (up_s _ _ _) (by simp) ?_
    rw [up_up]
    refine r_goto 42 hK dJ13_unlinkFirst_34 ?_
    refine r_aload_0 hK dJ13_unlinkFirst_42 ?_
    refine r_dup hK dJ13_unlinkFirst_43 ?_
    refine r_get hK fl_J13_7 dJ13_unlinkFirst_44 (up_s _ _ _) rfl ?_
    refine r_iconstN (c := 1) hK dJ13_unlinkFirst_47 ?_
    first | refine r_isubN hK dJ13_unlinkFirst_48 (by omega) ?_ | refine r_isub hK dJ13_unlinkFirst_48 ?_
    refine r_put hK fl_J13_7 dJ13_unlinkFirst_49 (up_s _ _ _) (by simp) ?_
    rw [up_up]
    refine r_aload_0 hK dJ13_unlinkFirst_52 ?_
    refine r_dup hK dJ13_unlinkFirst_53 ?_
    refine r_get hK fl_J13_33 dJ13_unlinkFirst_54 (up_s _ _ _) rfl ?_
    refine r_iconstN (c := 1) hK dJ13_unlinkFirst_57 ?_
    first | refine r_iaddN hK dJ13_unlinkFirst_58 ?_ | refine r_iadd hK dJ13_unlinkFirst_58 ?_
    refine r_put hK fl_J13_33 dJ13_unlinkFirst_59 (up_s _ _ _) (by simp) ?_
    rw [up_up]
    refine r_aload_2 hK dJ13_unlinkFirst_62 ?_
    exact r_aret hK hRt dJ13_unlinkFirst_63 ⟨rfl, rfl, [], ⟨by simp, by simp, ⟨_, by rw [up_s]; rfl⟩, trivial⟩, fun y hy => absurd hy List.not_mem_nil, fun y h1 h2 => by rw [up_n h1, up_n (fun q => h2 (by rw [q]; simp))]⟩
  | cons z b =>
    obtain ⟨w, lc, e2⟩ : ∃ w lc, lb = w :: lc := by
      cases lb with
      | nil => simp at hlen
      | cons w lc => exact ⟨w, lc, rfl⟩
    subst e2
    have hz : g z = some (.inl (13, [.ref w, hd b .null, .ref x])) := l4.2.1
    have hx : g x = some (.inl (13, [.ref v, .ref z, .null])) := hx
    have l3 : g id = some (.inl (12, [zI mc, zI (((w :: lc).length + 1 : Nat) : Int), .ref x, ls_ (.ref z) b])) := l3
    have zid : z ≠ id := fun q => l2 (by rw [← q]; simp)
    have zx : z ≠ x := fun q => (List.nodup_cons.mp l1).1 (by rw [← q]; simp)
    have hbx : ∀ y ∈ b, y ≠ x := fun y hy q => (List.nodup_cons.mp l1).1 (by rw [← q]; simp [hy])
    have hbz : ∀ y ∈ b, y ≠ z := fun y hy q => (List.nodup_cons.mp (List.nodup_cons.mp l1).2).1 (by rw [← q]; exact hy)
    have hbi : ∀ y ∈ b, y ≠ id := fun y hy q => l2 (by rw [← q]; simp [hy])
    refine r_aload_1 hK dJ13_unlinkFirst_0 ?_
    refine r_get hK fl_J13_39 dJ13_unlinkFirst_1 (hx) rfl ?_
    refine r_astore_2 hK dJ13_unlinkFirst_4 ?_
    refine r_aload_1 hK dJ13_unlinkFirst_5 ?_
    refine r_get hK fl_J13_36 dJ13_unlinkFirst_6 (hx) rfl ?_
    refine r_astore_3 hK dJ13_unlinkFirst_9 ?_
    refine r_aload_1 hK dJ13_unlinkFirst_10 ?_
    refine r_null hK dJ13_unlinkFirst_11 ?_
    refine r_put hK fl_J13_39 dJ13_unlinkFirst_12 (hx) (by simp) ?_
    refine r_aload_1 hK dJ13_unlinkFirst_15 ?_
    refine r_null hK dJ13_unlinkFirst_16 ?_
    refine r_put hK fl_J13_36 dJ13_unlinkFirst_17 (up_s _ _ _) (by simp) ?_
    rw [up_up]
    refine r_aload_0 hK dJ13_unlinkFirst_20 ?_
    refine r_aload_3 hK dJ13_unlinkFirst_21 ?_
    refine r_put hK fl_J13_18 dJ13_unlinkFirst_22 ((up_n idx').trans l3) (by simp) ?_
    refine r_aload_3 hK dJ13_unlinkFirst_25 ?_
    refine r_ifnonnull 37 hK dJ13_unlinkFirst_26 ?_
    refine r_aload_3 hK dJ13_unlinkFirst_37 ?_
    refine r_null hK dJ13_unlinkFirst_38 ?_
    refine r_put hK fl_J13_30 dJ13_unlinkFirst_39 ((up_n zid).trans ((up_n zx).trans hz)) (by simp) ?_
    refine r_aload_0 hK dJ13_unlinkFirst_42 ?_
    refine r_dup hK dJ13_unlinkFirst_43 ?_
    refine r_get hK fl_J13_7 dJ13_unlinkFirst_44 ((up_n (Ne.symm zid)).trans (up_s _ _ _)) rfl ?_
    refine r_iconstN (c := 1) hK dJ13_unlinkFirst_47 ?_
    first | refine r_isubN hK dJ13_unlinkFirst_48 (by omega) ?_ | refine r_isub hK dJ13_unlinkFirst_48 ?_
    refine r_put hK fl_J13_7 dJ13_unlinkFirst_49 ((up_n (Ne.symm zid)).trans (up_s _ _ _)) (by simp) ?_
    refine r_aload_0 hK dJ13_unlinkFirst_52 ?_
    refine r_dup hK dJ13_unlinkFirst_53 ?_
    refine r_get hK fl_J13_33 dJ13_unlinkFirst_54 (up_s _ _ _) rfl ?_
    refine r_iconstN (c := 1) hK dJ13_unlinkFirst_57 ?_
    first | refine r_iaddN hK dJ13_unlinkFirst_58 ?_ | refine r_iadd hK dJ13_unlinkFirst_58 ?_
    refine r_put hK fl_J13_33 dJ13_unlinkFirst_59 (up_s _ _ _) (by simp) ?_
    rw [up_up]
    refine r_aload_2 hK dJ13_unlinkFirst_62 ?_
    refine r_aret hK hRt dJ13_unlinkFirst_63 ⟨rfl, rfl, z :: b, ⟨(List.nodup_cons.mp l1).2, fun q => l2 (List.mem_cons_of_mem _ q), ⟨mc + ((1 : Nat) : Int), ?_⟩, DL.setp (g := g) l4.2 (fun y hy => ?_) ?_⟩, fun y hy => List.mem_cons_of_mem _ hy, fun y h1 h2 => ?_⟩
    · rw [up_s]; rfl
    · rw [up_n (hbi y hy), up_n (hbz y hy), up_n (hbi y hy), up_n (hbx y hy)]
    · rw [up_n zid, up_s]; rfl
    · rw [up_n h1, up_n (fun q => h2 (by rw [q]; simp)), up_n h1, up_n (fun q => h2 (by rw [q]; simp))]
set_option maxHeartbeats 4000000 in
theorem ll_pollFirst {G : GT} {Rel : Nat → Hp → Hp → Prop} (hR : RelOK Rel) {n : Nat} {g : Hp} {id v : Nat} {lb ns : List Nat} (hL : LLs g id (v :: lb) ns) : Ct G Rel yJ13_pollFirst cJ13_pollFirst 2 (some (.object "java/lang/Object")) (2) (0) [.ref id] n (g) (fun r n' g' => r = some (.ref v) ∧ n' = n ∧ ∃ ns', LLs g' id lb ns' ∧ (∀ y ∈ ns', y ∈ ns) ∧ ∀ y, y ≠ id → y ∉ ns → g' y = g y) := by
  refine ct_intro [some (.ref id), none] hR rfl (Nat.le_of_ble_eq_true rfl) ?_
  intro K hG hRel hK hRt hnm
  have hlen := hL.len
  cases ns with
  | nil => simp at hlen
  | cons x b =>
    obtain ⟨mc, l3⟩ := hL.2.2.1
    have l3' : g id = some (.inl (12, [zI mc, zI (((v :: lb).length : Nat) : Int), .ref x, ls_ .null (x :: b)])) := l3
    refine r_aload_0 hK dJ13_pollFirst_0 ?_
    refine r_get hK fl_J13_18 dJ13_pollFirst_1 (l3') rfl ?_
    refine r_astore_1 hK dJ13_pollFirst_4 ?_
    refine r_aload_1 hK dJ13_pollFirst_5 ?_
    refine r_ifnonnull 13 hK dJ13_pollFirst_6 ?_
    refine r_aload_0 hK dJ13_pollFirst_13 ?_
    refine r_aload_1 hK dJ13_pollFirst_14 ?_
    refine r_callV1 hK (ll_unlinkFirst hK.rel hL) lk_J13_46 (Rcv.raw hK.rel l3 rfl) dJ13_pollFirst_15 (fun r n1 f1 hp => ?_)
    obtain ⟨rfl, rfl, e3⟩ := hp
    exact r_aret hK hRt dJ13_pollFirst_18 ⟨rfl, rfl, e3⟩
-- all are taken off
set_option maxHeartbeats 4000000 in
theorem ll_clear {G : GT} {Rel : Nat → Hp → Hp → Prop} (hR : RelOK Rel) {n : Nat} {g : Hp} {id : Nat} {l ns : List Nat} (hL : LLs g id l ns) : Ct G Rel yJ13_clear cJ13_clear 3 none (1) (0) [.ref id] n (g) (fun r n' g' => r = none ∧ n' = n ∧ LLs g' id [] [] ∧ ∀ y, y ≠ id → y ∉ ns → g' y = g y) := by
  refine ct_intro [some (.ref id), none, none] hR rfl (Nat.le_of_ble_eq_true rfl) ?_
  intro K hG hRel hK hRt hnm
  obtain ⟨l1, l2, ⟨mc, l3⟩, l4⟩ := hL
  have lp : ∀ (b lb : List Nat) (p : Value) (g1 : Hp) a2, nl a2 = true → DL g1 p b lb .null → b.Nodup → (∀ y ∈ b, y ∈ ns) → g1 id = g id → (∀ y, y ≠ id → y ∉ ns → g1 y = g y) → Wx K 5 [some (.ref id), some (hd b .null), a2] [] n g1 0 := by
    intro b
    induction b with
    | nil =>
      intro lb p g1 a2 n2 hD hnd hin h0 ho
      show Wx K 5 [some (.ref id), some .null, a2] [] n g1 0
      have h3 := h0.trans l3
      refine r_aload_1 hK dJ13_clear_5 ?_
      refine r_ifnullN 34 hK dJ13_clear_6 ?_
      refine r_aload_0 hK dJ13_clear_34 ?_
      refine r_aload_0 hK dJ13_clear_35 ?_
      refine r_null hK dJ13_clear_36 ?_
      refine r_dup_x1 hK dJ13_clear_37 ?_
      refine r_put hK fl_J13_27 dJ13_clear_38 (h3) (by simp) ?_
      refine r_put hK fl_J13_18 dJ13_clear_41 (up_s _ _ _) (by simp) ?_
      rw [up_up]
      refine r_aload_0 hK dJ13_clear_44 ?_
      refine r_iconstN (c := 0) hK dJ13_clear_45 ?_
      refine r_put hK fl_J13_7 dJ13_clear_46 (up_s _ _ _) (by simp) ?_
      rw [up_up]
      refine r_aload_0 hK dJ13_clear_49 ?_
      refine r_dup hK dJ13_clear_50 ?_
      refine r_get hK fl_J13_33 dJ13_clear_51 (up_s _ _ _) rfl ?_
      refine r_iconstN (c := 1) hK dJ13_clear_54 ?_
      first | refine r_iaddN hK dJ13_clear_55 ?_ | refine r_iadd hK dJ13_clear_55 ?_
      refine r_put hK fl_J13_33 dJ13_clear_56 (up_s _ _ _) (by simp) ?_
      rw [up_up]
      exact r_vret hK hRt dJ13_clear_59 ⟨rfl, rfl, ⟨by simp, by simp, ⟨_, by rw [up_s]; rfl⟩, trivial⟩, fun y h1 h2 => by rw [up_n h1]; exact ho y h1 h2⟩
    | cons x b ih =>
      intro lb p g1 a2 n2 hD hnd hin h0 ho
      cases lb with
      | nil => exact hD.elim
      | cons w lb =>
        show Wx K 5 [some (.ref id), some (.ref x), a2] [] n g1 0
        have hx := hD.1
        have xid : x ≠ id := fun q => l2 (by rw [← q]; exact hin x (by simp))
        have hr : isR (hd b .null) = true := by cases b <;> rfl
        refine r_aload_1 hK dJ13_clear_5 ?_
        refine r_ifnull hK dJ13_clear_6 ?_
        refine r_aload_1 hK dJ13_clear_9 ?_
        refine r_get hK fl_J13_36 dJ13_clear_10 (hx) rfl ?_
        refine r_astore_2 hK dJ13_clear_13 ?_ hr
        refine r_aload_1 hK dJ13_clear_14 ?_
        refine r_null hK dJ13_clear_15 ?_
        refine r_put hK fl_J13_39 dJ13_clear_16 (hx) (by simp) ?_
        refine r_aload_1 hK dJ13_clear_19 ?_
        refine r_null hK dJ13_clear_20 ?_
        refine r_put hK fl_J13_36 dJ13_clear_21 (up_s _ _ _) (by simp) ?_
        refine r_aload_1 hK dJ13_clear_24 ?_
        refine r_null hK dJ13_clear_25 ?_
        refine r_put hK fl_J13_30 dJ13_clear_26 (up_s _ _ _) (by simp) ?_
        refine r_aload_2 hK dJ13_clear_29 ?_ hr
        refine r_astore_1 hK dJ13_clear_30 ?_ hr
        rw [up_up, up_up]
        refine r_goto 5 hK dJ13_clear_31 ?_
        refine ih lb (.ref x) _ _ (by cases b <;> rfl) (hD.2.ext (fun y hy => up_n (fun q => ?_))) (List.nodup_cons.mp hnd).2 (fun y hy => hin y (List.mem_cons_of_mem _ hy)) (by rw [up_n (Ne.symm xid)]; exact h0) (fun y h1 h2 => by rw [up_n (fun q => h2 (by rw [q]; exact hin x (by simp)))]; exact ho y h1 h2)
        rw [q] at hy; exact (List.nodup_cons.mp hnd).1 hy
  have hr : isR (hd ns .null) = true := by cases ns <;> rfl
  refine r_aload_0 hK dJ13_clear_0 ?_
  refine r_get hK fl_J13_18 dJ13_clear_1 (l3) rfl ?_
  refine r_astore_1 hK dJ13_clear_4 ?_ hr
  exact lp ns l .null g none rfl l4 l1 (fun y hy => hy) rfl (fun y _ _ => rfl)
