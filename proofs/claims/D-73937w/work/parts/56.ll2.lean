set_option maxRecDepth 100000
/-! ===== LinkedList over its nodes: in the middle ===== -/
theorem ls_snoc (p : Value) (a : List Nat) (y : Nat) : ls_ p (a ++ [y]) = .ref y := by rw [ls_app]; rfl
theorem ls_mid (p : Value) (a b : List Nat) (x : Nat) : ls_ p (a ++ x :: b) = ls_ (.ref x) b := by rw [ls_app]; rfl
theorem sp_c {a : List Nat} (h : a ≠ []) : ∃ c y, a = c ++ [y] := by
  rcases List.eq_nil_or_concat a with e | ⟨c, y, e⟩
  · exact absurd e h
  · exact ⟨c, y, by rw [e]; simp⟩
/-- a part ahead, one, a part behind -/
theorem ll_split {g : Hp} {id : Nat} {l ns : List Nat} (hL : LLs g id l ns) {i : Nat} (hi : i < l.length) : ∃ a x b la v lb, ns = a ++ x :: b ∧ l = la ++ v :: lb ∧ a.length = la.length ∧ la.length = i ∧ ns.getD i 0 = x ∧ l.getD i 0 = v := by
  have hlen := hL.len
  refine ⟨ns.take i, ns.getD i 0, ns.drop (i + 1), l.take i, l.getD i 0, l.drop (i + 1), ?_, ?_, ?_, ?_, rfl, rfl⟩
  · have h := List.take_append_drop i ns
    rw [List.drop_eq_getElem_cons (by omega)] at h
    rw [List.getD_eq_getElem?_getD, List.getElem?_eq_getElem (by omega)]
    exact h.symm
  · have h := List.take_append_drop i l
    rw [List.drop_eq_getElem_cons (by omega)] at h
    rw [List.getD_eq_getElem?_getD, List.getElem?_eq_getElem (by omega)]
    exact h.symm
  · rw [List.length_take, List.length_take]; omega
  · rw [List.length_take]; omega
theorem nd_mid {a b : List Nat} {x : Nat} (h : (a ++ x :: b).Nodup) : a.Nodup ∧ b.Nodup ∧ x ∉ a ∧ x ∉ b ∧ ∀ y ∈ a, y ∉ b := by
  rw [List.nodup_append] at h
  obtain ⟨h1, h2, h3⟩ := h
  obtain ⟨h4, h5⟩ := List.nodup_cons.mp h2
  exact ⟨h1, h5, fun q => h3 x q x (by simp) rfl, h4, fun y hy hb => h3 y hy y (by simp [hb]) rfl⟩
set_option maxHeartbeats 4000000 in
theorem ll_linkBefore {G : GT} {Rel : Nat → Hp → Hp → Prop} (hR : RelOK Rel) {n : Nat} {g : Hp} {id v x w : Nat} {a b la lb : List Nat} (hL : LLs g id (la ++ w :: lb) (a ++ x :: b)) (hla : a.length = la.length) (hn : ∀ y ∈ a ++ x :: b, y < n) (hid : id < n) : Ct G Rel yJ13_linkBefore cJ13_linkBefore 5 none (2) (1) [.ref id, .ref v, .ref x] n (g) (fun r n' g' => r = none ∧ LLP n g id (a ++ x :: b) (la ++ v :: w :: lb) n' g') := by
  refine ct_intro [some (.ref id), some (.ref v), some (.ref x), none, none] hR rfl (Nat.le_of_ble_eq_true rfl) ?_
  intro K hG hRel hK hRt hnm
  have hlen := hL.len
  obtain ⟨l1, l2, ⟨mc, l3⟩, l4⟩ := hL
  obtain ⟨m1, m2, m3, m4, m5⟩ := nd_mid l1
  have nid : n ≠ id := by omega
  have idn : id ≠ n := by omega
  have nns : n ∉ a ++ x :: b := fun q => by have := hn n q; omega
  obtain ⟨d1, d2, d3⟩ := (DL.app hla).mp l4
  have xid : x ≠ id := fun q => l2 (by rw [← q]; simp)
  have xn : x ≠ n := fun q => nns (by rw [← q]; simp)
  have hbx : ∀ z ∈ b, z ≠ x := fun z hz q => m4 (by rw [← q]; exact hz)
  have hbn : ∀ z ∈ b, z ≠ n := fun z hz q => nns (by rw [← q]; simp [hz])
  have hbi : ∀ z ∈ b, z ≠ id := fun z hz q => l2 (by rw [← q]; simp [hz])
  have hax : ∀ z ∈ a, z ≠ x := fun z hz q => m3 (by rw [← q]; exact hz)
  have han : ∀ z ∈ a, z ≠ n := fun z hz q => nns (by rw [← q]; simp [hz])
  have hai : ∀ z ∈ a, z ≠ id := fun z hz q => l2 (by rw [← q]; simp [hz])
  have ndn : (a ++ n :: x :: b).Nodup := by
    rw [List.nodup_append]
    refine ⟨m1, List.nodup_cons.mpr ⟨fun q => nns (by simp at q ⊢; rcases q with q | q; exact Or.inr (Or.inl q); exact Or.inr (Or.inr q)), List.nodup_cons.mpr ⟨m4, m2⟩⟩, fun y hy z hz q => ?_⟩
    subst q
    rcases List.mem_cons.mp hz with e | hz
    · exact han y hy e
    · rcases List.mem_cons.mp hz with e | hz
      · exact hax y hy e
      · exact m5 y hy hz
  have idns : id ∉ a ++ n :: x :: b := fun q => by
    rcases List.mem_append.mp q with q | q
    · exact l2 (by simp [q])
    · rcases List.mem_cons.mp q with q | q
      · exact idn q
      · exact l2 (List.mem_append_right _ q)
  have own : ∀ y ∈ a ++ n :: x :: b, y ∈ a ++ x :: b ∨ n ≤ y ∧ y < n + 1 := fun y q => by
    rcases List.mem_append.mp q with q | q
    · exact Or.inl (by simp [q])
    · rcases List.mem_cons.mp q with q | q
      · exact Or.inr (by omega)
      · exact Or.inl (List.mem_append_right _ q)
  have ln1 : (la ++ v :: w :: lb).length = (la ++ w :: lb).length + 1 := by simp; omega
  by_cases ca : a = []
  · subst ca
    have e2 : la = [] := List.eq_nil_of_length_eq_zero (by simpa using hla.symm)
    subst e2
    have hx : g x = some (.inl (13, [.ref w, hd b .null, .null])) := d2
    have l3 : g id = some (.inl (12, [zI mc, zI ((([] ++ w :: lb : List Nat).length : Nat) : Int), .ref x, ls_ (.ref x) b])) := l3
    refine r_aload_2 hK dJ13_linkBefore_0 ?_
    refine r_get hK fl_J13_30 dJ13_linkBefore_1 (hx) rfl ?_
    refine r_astore_3 hK dJ13_linkBefore_4 ?_
    refine r_new (fs := [.null, .null, .null]) 1 hK nw_J13_22 dJ13_linkBefore_5 (by decide) ?_ (hw := new13)
    refine r_dup hK dJ13_linkBefore_8 ?_
    refine r_aload_3 hK dJ13_linkBefore_9 ?_
    refine r_aload_1 hK dJ13_linkBefore_10 ?_
    refine r_aload_2 hK dJ13_linkBefore_11 ?_
    refine r_callI3 hK (ll_nodeNR hK.rel (up_s _ _ _)) lk_J13_24 dJ13_linkBefore_12 (fun r n1 f1 hp => ?_)
    obtain ⟨rfl, rfl, rfl⟩ := hp
    rw [up_up]
    refine r_astore_4 hK dJ13_linkBefore_15 ?_
    refine r_aload_2 hK dJ13_linkBefore_17 ?_
    refine r_aload_4 hK dJ13_linkBefore_18 ?_
    refine r_put hK fl_J13_30 dJ13_linkBefore_20 ((up_n xn).trans hx) (by simp) ?_
    refine r_aload_3 hK dJ13_linkBefore_23 ?_
    refine r_ifnonnullN hK dJ13_linkBefore_24 ?_
    refine r_aload_0 hK dJ13_linkBefore_27 ?_
    refine r_aload_4 hK dJ13_linkBefore_28 ?_
    refine r_put hK fl_J13_18 dJ13_linkBefore_30 ((up_n (Ne.symm xid)).trans ((up_n idn).trans l3)) (by simp) ?_
    refine r_goto 42 hK dJ13_linkBefore_33 ?_
    refine r_aload_0 hK dJ13_linkBefore_42 ?_
    refine r_dup hK dJ13_linkBefore_43 ?_
    refine r_get hK fl_J13_7 dJ13_linkBefore_44 (up_s _ _ _) rfl ?_
    refine r_iconstN (c := 1) hK dJ13_linkBefore_47 ?_
    first | refine r_iaddN hK dJ13_linkBefore_48 ?_ | refine r_iadd hK dJ13_linkBefore_48 ?_
    refine r_put hK fl_J13_7 dJ13_linkBefore_49 (up_s _ _ _) (by simp) ?_
    rw [up_up]
    refine r_aload_0 hK dJ13_linkBefore_52 ?_
    refine r_dup hK dJ13_linkBefore_53 ?_
    refine r_get hK fl_J13_33 dJ13_linkBefore_54 (up_s _ _ _) rfl ?_
    refine r_iconstN (c := 1) hK dJ13_linkBefore_57 ?_
    first | refine r_iaddN hK dJ13_linkBefore_58 ?_ | refine r_iadd hK dJ13_linkBefore_58 ?_
    refine r_put hK fl_J13_33 dJ13_linkBefore_59 (up_s _ _ _) (by simp) ?_
    rw [up_up]
    refine r_vret hK hRt dJ13_linkBefore_62 ⟨rfl, by omega, n :: x :: b, ⟨ndn, idns, ⟨mc + ((1 : Nat) : Int), ?_⟩, ⟨?_, DL.setp (g := g) (show DL g .null (x :: b) (w :: lb) .null from l4) (fun z hz => ?_) ?_⟩⟩, own, fun z h1 h2 h3 => ?_⟩
    · rw [up_s, ln1]; rfl
    · rw [up_n nid, up_n (Ne.symm xn), up_s]; rfl
    · rw [up_n (hbi z hz), up_n (hbx z hz), up_n (hbn z hz)]
    · rw [up_n xid, up_s]; rfl
    · rw [up_n h1, up_n (fun q => h2 (by rw [q]; simp)), up_n (by omega)]
  · obtain ⟨c, y, ec⟩ := sp_c ca
    subst ec
    obtain ⟨lc, u, el⟩ : ∃ lc u, la = lc ++ [u] := sp_c (fun q => by rw [q] at hla; simp at hla)
    subst el
    have hlc : c.length = lc.length := by simpa using hla
    obtain ⟨k1, k2, -⟩ := (DL.app hlc).mp d1
    have hy : g y = some (.inl (13, [.ref u, .ref x, ls_ .null c])) := k2
    have hx : g x = some (.inl (13, [.ref w, hd b .null, .ref y])) := by rw [d2, ls_snoc]
    have yid := hai y (by simp)
    have yn := han y (by simp)
    have yx := hax y (by simp)
    have hcy : ∀ z ∈ c, z ≠ y := fun z hz => nd_app m1 hz (by simp)
    refine r_aload_2 hK dJ13_linkBefore_0 ?_
    refine r_get hK fl_J13_30 dJ13_linkBefore_1 (hx) rfl ?_
    refine r_astore_3 hK dJ13_linkBefore_4 ?_
    refine r_new (fs := [.null, .null, .null]) 1 hK nw_J13_22 dJ13_linkBefore_5 (by decide) ?_ (hw := new13)
    refine r_dup hK dJ13_linkBefore_8 ?_
    refine r_aload_3 hK dJ13_linkBefore_9 ?_
    refine r_aload_1 hK dJ13_linkBefore_10 ?_
    refine r_aload_2 hK dJ13_linkBefore_11 ?_
    refine r_callI3 hK (ll_nodeRR hK.rel (up_s _ _ _)) lk_J13_24 dJ13_linkBefore_12 (fun r n1 f1 hp => ?_)
    obtain ⟨rfl, rfl, rfl⟩ := hp
    rw [up_up]
    refine r_astore_4 hK dJ13_linkBefore_15 ?_
    refine r_aload_2 hK dJ13_linkBefore_17 ?_
    refine r_aload_4 hK dJ13_linkBefore_18 ?_
    refine r_put hK fl_J13_30 dJ13_linkBefore_20 ((up_n xn).trans hx) (by simp) ?_
    refine r_aload_3 hK dJ13_linkBefore_23 ?_
    refine r_ifnonnull 36 hK dJ13_linkBefore_24 ?_
    refine r_aload_3 hK dJ13_linkBefore_36 ?_
    refine r_aload_4 hK dJ13_linkBefore_37 ?_
    refine r_put hK fl_J13_36 dJ13_linkBefore_39 ((up_n yx).trans ((up_n yn).trans hy)) (by simp) ?_
    refine r_aload_0 hK dJ13_linkBefore_42 ?_
    refine r_dup hK dJ13_linkBefore_43 ?_
    refine r_get hK fl_J13_7 dJ13_linkBefore_44 ((up_n (Ne.symm yid)).trans ((up_n (Ne.symm xid)).trans ((up_n idn).trans l3))) rfl ?_
    refine r_iconstN (c := 1) hK dJ13_linkBefore_47 ?_
    first | refine r_iaddN hK dJ13_linkBefore_48 ?_ | refine r_iadd hK dJ13_linkBefore_48 ?_
    refine r_put hK fl_J13_7 dJ13_linkBefore_49 ((up_n (Ne.symm yid)).trans ((up_n (Ne.symm xid)).trans ((up_n idn).trans l3))) (by simp) ?_
    refine r_aload_0 hK dJ13_linkBefore_52 ?_
    refine r_dup hK dJ13_linkBefore_53 ?_
    refine r_get hK fl_J13_33 dJ13_linkBefore_54 (up_s _ _ _) rfl ?_
    refine r_iconstN (c := 1) hK dJ13_linkBefore_57 ?_
    first | refine r_iaddN hK dJ13_linkBefore_58 ?_ | refine r_iadd hK dJ13_linkBefore_58 ?_
    refine r_put hK fl_J13_33 dJ13_linkBefore_59 (up_s _ _ _) (by simp) ?_
    rw [up_up]
    refine r_vret hK hRt dJ13_linkBefore_62 ⟨rfl, by omega, (c ++ [y]) ++ n :: x :: b, ⟨ndn, idns, ⟨mc + ((1 : Nat) : Int), ?_⟩, ?_⟩, own, fun z h1 h2 h3 => ?_⟩
    · rw [up_s, ln1, ls_mid, ls_mid, show hd (c ++ [y] ++ n :: x :: b) .null = hd (c ++ [y] ++ x :: b) .null by cases c <;> rfl]
      rfl
    · refine (DL.app hla).mpr ⟨DL.setq (g := g) hlc d1 (fun z hz => ?_) ?_, ?_, DL.setp (g := g) ⟨d2, d3⟩ (fun z hz => ?_) ?_⟩
      · have hz' : z ∈ c ++ [y] := by simp [hz]
        rw [up_n (hai z hz'), up_n (hcy z hz), up_n (hax z hz'), up_n (han z hz')]
      · rw [up_n yid, up_s]; rfl
      · rw [up_n nid, up_n (Ne.symm yn), up_n (Ne.symm xn), up_s, ls_snoc]; rfl
      · rw [up_n (hbi z hz), up_n (fun q => m5 y (by simp) (by rw [← q]; exact hz)), up_n (hbx z hz), up_n (hbn z hz)]
      · rw [up_n xid, up_n (Ne.symm yx), up_s]; rfl
    · rw [up_n h1, up_n (fun q => h2 (by rw [q]; simp)), up_n (fun q => h2 (by rw [q]; simp)), up_n (by omega)]
set_option maxHeartbeats 4000000 in
theorem ll_add {G : GT} {Rel : Nat → Hp → Hp → Prop} (hR : RelOK Rel) {n : Nat} {g : Hp} {id v i : Nat} {l ns : List Nat} (hL : LLs g id l ns) (hn : ∀ x ∈ ns, x < n) (hid : id < n) (hi : i ≤ l.length) (hs : l.length < 1000000) : Ct G Rel yJ13_add cJ13_add 3 none (3) (1) [.ref id, zI (i : Int), .ref v] n (g) (fun r n' g' => r = none ∧ LLP n g id ns (l.take i ++ v :: l.drop i) n' g') := by
  refine ct_intro [some (.ref id), some (zI (i : Int)), some (.ref v)] hR rfl (Nat.le_of_ble_eq_true rfl) ?_
  intro K hG hRel hK hRt hnm
  obtain ⟨mc, l3⟩ := hL.2.2.1
  refine r_aload_0 hK dJ13_add_0 ?_
  refine r_iload_1 hK dJ13_add_1 ?_
  refine r_vV1 hK (ll_chkPos hK.rel hL hi hs) lk_J13_76 (Rcv.raw hK.rel l3 rfl) dJ13_add_2 ?_
  refine r_iload_1 hK dJ13_add_5 ?_
  refine r_aload_0 hK dJ13_add_6 ?_
  refine r_get hK fl_J13_7 dJ13_add_7 (l3) rfl ?_
  refine r_icmp_ne 21 hK dJ13_add_10 (by omega) (by omega) (fun h10 => ?_) (fun h10 => ?_)
  · obtain ⟨a, x, b, la, w, lb, e1, e2, e3, e4, e5, e6⟩ := ll_split hL (i := i) (by omega)
    refine r_aload_0 hK dJ13_add_21 ?_
    refine r_aload_2 hK dJ13_add_22 ?_
    refine r_aload_0 hK dJ13_add_23 ?_
    refine r_iload_1 hK dJ13_add_24 ?_
    refine r_pV1 hK (ll_nodeAt hK.rel hL (by omega) hs) lk_J13_86 (Rcv.raw hK.rel l3 rfl) dJ13_add_25 ?_
    rw [e5]
    refine r_callV2 hK (ll_linkBefore (w := w) (la := la) (lb := lb) (a := a) (b := b) hK.rel (by rw [← e1, ← e2]; exact hL) e3 (by rw [← e1]; exact hn) hid) lk_J13_93 (Rcv.raw hK.rel l3 rfl) dJ13_add_28 (fun r n1 f1 hp => ?_)
    obtain ⟨rfl, k2⟩ := hp
    refine r_vret hK hRt dJ13_add_31 ⟨rfl, ?_⟩
    rw [e1, e2, ← e4, List.take_left, List.drop_left]
    exact k2
  · refine r_aload_0 hK dJ13_add_13 ?_
    refine r_aload_2 hK dJ13_add_14 ?_
    refine r_callV1 hK (ll_linkLast hK.rel hL hn hid) lk_J13_57 (Rcv.raw hK.rel l3 rfl) dJ13_add_15 (fun r n1 f1 hp => ?_)
    obtain ⟨rfl, k2⟩ := hp
    refine r_goto 31 hK dJ13_add_18 ?_
    refine r_vret hK hRt dJ13_add_31 ⟨rfl, ?_⟩
    rw [show i = l.length by omega, List.take_length, List.drop_length]
    exact k2
set_option maxHeartbeats 4000000 in
theorem ll_unlink {G : GT} {Rel : Nat → Hp → Hp → Prop} (hR : RelOK Rel) {n : Nat} {g : Hp} {id x w : Nat} {a b la lb : List Nat} (hL : LLs g id (la ++ w :: lb) (a ++ x :: b)) (hla : a.length = la.length) : Ct G Rel yJ13_unlink cJ13_unlink 5 (some (.object "java/lang/Object")) (1) (0) [.ref id, .ref x] n (g) (fun r n' g' => r = some (.ref w) ∧ n' = n ∧ LLs g' id (la ++ lb) (a ++ b) ∧ ∀ y, y ≠ id → y ∉ a ++ x :: b → g' y = g y) := by
  refine ct_intro [some (.ref id), some (.ref x), none, none, none] hR rfl (Nat.le_of_ble_eq_true rfl) ?_
  intro K hG hRel hK hRt hnm
  have hlen := hL.len
  obtain ⟨l1, l2, ⟨mc, l3⟩, l4⟩ := hL
  obtain ⟨m1, m2, m3, m4, m5⟩ := nd_mid l1
  obtain ⟨d1, d2, d3⟩ := (DL.app hla).mp l4
  have hlb : b.length = lb.length := by simp at hlen; omega
  have xid : x ≠ id := fun q => l2 (by rw [← q]; simp)
  have idx' : id ≠ x := Ne.symm xid
  have hbx : ∀ z ∈ b, z ≠ x := fun z hz q => m4 (by rw [← q]; exact hz)
  have hbi : ∀ z ∈ b, z ≠ id := fun z hz q => l2 (by rw [← q]; simp [hz])
  have hax : ∀ z ∈ a, z ≠ x := fun z hz q => m3 (by rw [← q]; exact hz)
  have hai : ∀ z ∈ a, z ≠ id := fun z hz q => l2 (by rw [← q]; simp [hz])
  have ndn : (a ++ b).Nodup := by
    rw [List.nodup_append]
    exact ⟨m1, m2, fun y hy z hz q => m5 y hy (by rw [q]; exact hz)⟩
  have idns : id ∉ a ++ b := fun q => by
    rcases List.mem_append.mp q with q | q
    · exact l2 (by simp [q])
    · exact l2 (by simp [q])
  have ln1 : (la ++ w :: lb).length = (la ++ lb).length + 1 := by simp; omega
  rw [ln1] at l3
  -- the ends
  have fin : ∀ (g' : Hp) (mc' : Int), g' id = some (.inl (12, [zI mc', zI (((la ++ lb).length : Nat) : Int), hd (a ++ b) .null, ls_ .null (a ++ b)])) → DL g' .null (a ++ b) (la ++ lb) .null → LLs g' id (la ++ lb) (a ++ b) := fun g' mc' q1 q2 => ⟨ndn, idns, ⟨mc', q1⟩, q2⟩
  by_cases ca : a = []
  · subst ca
    have e2 : la = [] := List.eq_nil_of_length_eq_zero (by simpa using hla.symm)
    subst e2
    cases b with
    | nil =>
      have e3 : lb = [] := List.eq_nil_of_length_eq_zero (by simpa using hlb.symm)
      subst e3
      have hx : g x = some (.inl (13, [.ref w, .null, .null])) := d2
      have l3 : g id = some (.inl (12, [zI mc, zI ((0 + 1 : Nat) : Int), .ref x, .ref x])) := l3
      refine r_aload_1 hK dJ13_unlink_0 ?_
      refine r_get hK fl_J13_39 dJ13_unlink_1 (hx) rfl ?_
      refine r_astore_2 hK dJ13_unlink_4 ?_
      refine r_aload_1 hK dJ13_unlink_5 ?_
      refine r_get hK fl_J13_36 dJ13_unlink_6 (hx) rfl ?_
      refine r_astore_3 hK dJ13_unlink_9 ?_
      refine r_aload_1 hK dJ13_unlink_10 ?_
      refine r_get hK fl_J13_30 dJ13_unlink_11 (hx) rfl ?_
      refine r_astore_4 hK dJ13_unlink_14 ?_
      refine r_aload_4 hK dJ13_unlink_16 ?_
      refine r_ifnonnullN hK dJ13_unlink_18 ?_
      refine r_aload_0 hK dJ13_unlink_21 ?_
      refine r_aload_3 hK dJ13_unlink_22 ?_
      refine r_put hK fl_J13_18 dJ13_unlink_23 (l3) (by simp) ?_
      refine r_goto 40 hK dJ13_unlink_26 ?_
      refine r_aload_3 hK dJ13_unlink_40 ?_
      refine r_ifnonnullN hK dJ13_unlink_41 ?_
      refine r_aload_0 hK dJ13_unlink_44 ?_
      refine r_aload_4 hK dJ13_unlink_45 ?_
      refine r_put hK fl_J13_27 dJ13_unlink_47 (up_s _ _ _) (by simp) ?_
      rw [up_up]
      refine r_goto 64 hK dJ13_unlink_50 ?_
      refine r_aload_1 hK dJ13_unlink_64 ?_
      refine r_null hK dJ13_unlink_65 ?_
      refine r_put hK fl_J13_39 dJ13_unlink_66 ((up_n xid).trans hx) (by simp) ?_
      refine r_aload_0 hK dJ13_unlink_69 ?_
      refine r_dup hK dJ13_unlink_70 ?_
      refine r_get hK fl_J13_7 dJ13_unlink_71 ((up_n idx').trans (up_s _ _ _)) rfl ?_
      refine r_iconstN (c := 1) hK dJ13_unlink_74 ?_
      first | refine r_isubN hK dJ13_unlink_75 (by omega) ?_ | refine r_isub hK dJ13_unlink_75 ?_
      refine r_put hK fl_J13_7 dJ13_unlink_76 ((up_n idx').trans (up_s _ _ _)) (by simp) ?_
      refine r_aload_0 hK dJ13_unlink_79 ?_
      refine r_dup hK dJ13_unlink_80 ?_
      refine r_get hK fl_J13_33 dJ13_unlink_81 (up_s _ _ _) rfl ?_
      refine r_iconstN (c := 1) hK dJ13_unlink_84 ?_
      first | refine r_iaddN hK dJ13_unlink_85 ?_ | refine r_iadd hK dJ13_unlink_85 ?_
      refine r_put hK fl_J13_33 dJ13_unlink_86 (up_s _ _ _) (by simp) ?_
      rw [up_up]
      refine r_aload_2 hK dJ13_unlink_89 ?_
      exact r_aret hK hRt dJ13_unlink_90 ⟨rfl, rfl, fin _ _ (by rw [up_s]; rfl) trivial, fun y h1 h2 => by rw [up_n h1, up_n (fun q => h2 (by rw [q]; simp)), up_n h1]⟩
    | cons z b =>
      obtain ⟨u, lc, e3⟩ : ∃ u lc, lb = u :: lc := by
        cases lb with
        | nil => simp at hlb
        | cons u lc => exact ⟨u, lc, rfl⟩
      subst e3
      have hz : g z = some (.inl (13, [.ref u, hd b .null, .ref x])) := d3.1
      have hx : g x = some (.inl (13, [.ref w, .ref z, .null])) := d2
      have l3 : g id = some (.inl (12, [zI mc, zI (((u :: lc).length + 1 : Nat) : Int), .ref x, ls_ (.ref z) b])) := l3
      have zid := hbi z (by simp)
      have zx := hbx z (by simp)
      have hbz : ∀ y ∈ b, y ≠ z := fun y hy q => (List.nodup_cons.mp m2).1 (by rw [← q]; exact hy)
      refine r_aload_1 hK dJ13_unlink_0 ?_
      refine r_get hK fl_J13_39 dJ13_unlink_1 (hx) rfl ?_
      refine r_astore_2 hK dJ13_unlink_4 ?_
      refine r_aload_1 hK dJ13_unlink_5 ?_
      refine r_get hK fl_J13_36 dJ13_unlink_6 (hx) rfl ?_
      refine r_astore_3 hK dJ13_unlink_9 ?_
      refine r_aload_1 hK dJ13_unlink_10 ?_
      refine r_get hK fl_J13_30 dJ13_unlink_11 (hx) rfl ?_
      refine r_astore_4 hK dJ13_unlink_14 ?_
      refine r_aload_4 hK dJ13_unlink_16 ?_
      refine r_ifnonnullN hK dJ13_unlink_18 ?_
      refine r_aload_0 hK dJ13_unlink_21 ?_
      refine r_aload_3 hK dJ13_unlink_22 ?_
      refine r_put hK fl_J13_18 dJ13_unlink_23 (l3) (by simp) ?_
      refine r_goto 40 hK dJ13_unlink_26 ?_
      refine r_aload_3 hK dJ13_unlink_40 ?_
      refine r_ifnonnull 53 hK dJ13_unlink_41 ?_
      refine r_aload_3 hK dJ13_unlink_53 ?_
      refine r_aload_4 hK dJ13_unlink_54 ?_
      refine r_put hK fl_J13_30 dJ13_unlink_56 ((up_n zid).trans hz) (by simp) ?_
      refine r_aload_1 hK dJ13_unlink_59 ?_
      refine r_null hK dJ13_unlink_60 ?_
      refine r_put hK fl_J13_36 dJ13_unlink_61 ((up_n (Ne.symm zx)).trans ((up_n xid).trans hx)) (by simp) ?_
      refine r_aload_1 hK dJ13_unlink_64 ?_
      refine r_null hK dJ13_unlink_65 ?_
      refine r_put hK fl_J13_39 dJ13_unlink_66 (up_s _ _ _) (by simp) ?_
      rw [up_up]
      refine r_aload_0 hK dJ13_unlink_69 ?_
      refine r_dup hK dJ13_unlink_70 ?_
      refine r_get hK fl_J13_7 dJ13_unlink_71 ((up_n idx').trans ((up_n (Ne.symm zid)).trans (up_s _ _ _))) rfl ?_
      refine r_iconstN (c := 1) hK dJ13_unlink_74 ?_
      first | refine r_isubN hK dJ13_unlink_75 (by omega) ?_ | refine r_isub hK dJ13_unlink_75 ?_
      refine r_put hK fl_J13_7 dJ13_unlink_76 ((up_n idx').trans ((up_n (Ne.symm zid)).trans (up_s _ _ _))) (by simp) ?_
      refine r_aload_0 hK dJ13_unlink_79 ?_
      refine r_dup hK dJ13_unlink_80 ?_
      refine r_get hK fl_J13_33 dJ13_unlink_81 (up_s _ _ _) rfl ?_
      refine r_iconstN (c := 1) hK dJ13_unlink_84 ?_
      first | refine r_iaddN hK dJ13_unlink_85 ?_ | refine r_iadd hK dJ13_unlink_85 ?_
      refine r_put hK fl_J13_33 dJ13_unlink_86 (up_s _ _ _) (by simp) ?_
      rw [up_up]
      refine r_aload_2 hK dJ13_unlink_89 ?_
      refine r_aret hK hRt dJ13_unlink_90 ⟨rfl, rfl, fin _ (mc + ((1 : Nat) : Int)) ?_ ?_, fun y h1 h2 => ?_⟩
      · rw [up_s]; rfl
      · refine DL.setp (g := g) (p := .ref x) d3 (fun y hy => ?_) ?_
        · rw [up_n (hbi y (by simp [hy])), up_n (hbx y (by simp [hy])), up_n (hbz y hy), up_n (hbi y (by simp [hy]))]
        · rw [up_n zid, up_n zx, up_s]; rfl
      · rw [up_n h1, up_n (fun q => h2 (by rw [q]; simp)), up_n (fun q => h2 (by rw [q]; simp)), up_n h1]
  · obtain ⟨c, y, ec⟩ := sp_c ca
    subst ec
    obtain ⟨lc, u, el⟩ : ∃ lc u, la = lc ++ [u] := sp_c (fun q => by rw [q] at hla; simp at hla)
    subst el
    have hlc : c.length = lc.length := by simpa using hla
    obtain ⟨k1, k2, -⟩ := (DL.app hlc).mp d1
    have hy : g y = some (.inl (13, [.ref u, .ref x, ls_ .null c])) := k2
    have yid := hai y (by simp)
    have yx := hax y (by simp)
    have hcy : ∀ z ∈ c, z ≠ y := fun z hz => nd_app m1 hz (by simp)
    have hci : ∀ z ∈ c, z ≠ id := fun z hz => hai z (by simp [hz])
    have hcx : ∀ z ∈ c, z ≠ x := fun z hz => hax z (by simp [hz])
    cases b with
    | nil =>
      have e3 : lb = [] := List.eq_nil_of_length_eq_zero (by simpa using hlb.symm)
      subst e3
      have hx : g x = some (.inl (13, [.ref w, .null, .ref y])) := by rw [d2, ls_snoc]; rfl
      refine r_aload_1 hK dJ13_unlink_0 ?_
      refine r_get hK fl_J13_39 dJ13_unlink_1 (hx) rfl ?_
      refine r_astore_2 hK dJ13_unlink_4 ?_
      refine r_aload_1 hK dJ13_unlink_5 ?_
      refine r_get hK fl_J13_36 dJ13_unlink_6 (hx) rfl ?_
      refine r_astore_3 hK dJ13_unlink_9 ?_
      refine r_aload_1 hK dJ13_unlink_10 ?_
      refine r_get hK fl_J13_30 dJ13_unlink_11 (hx) rfl ?_
      refine r_astore_4 hK dJ13_unlink_14 ?_
      refine r_aload_4 hK dJ13_unlink_16 ?_
      refine r_ifnonnull 29 hK dJ13_unlink_18 ?_
      refine r_aload_4 hK dJ13_unlink_29 ?_
      refine r_aload_3 hK dJ13_unlink_31 ?_
      refine r_put hK fl_J13_36 dJ13_unlink_32 (hy) (by simp) ?_
      refine r_aload_1 hK dJ13_unlink_35 ?_
      refine r_null hK dJ13_unlink_36 ?_
      refine r_put hK fl_J13_30 dJ13_unlink_37 ((up_n (Ne.symm yx)).trans hx) (by simp) ?_
      refine r_aload_3 hK dJ13_unlink_40 ?_
      refine r_ifnonnullN hK dJ13_unlink_41 ?_
      refine r_aload_0 hK dJ13_unlink_44 ?_
      refine r_aload_4 hK dJ13_unlink_45 ?_
      refine r_put hK fl_J13_27 dJ13_unlink_47 ((up_n idx').trans ((up_n (Ne.symm yid)).trans l3)) (by simp) ?_
      refine r_goto 64 hK dJ13_unlink_50 ?_
      refine r_aload_1 hK dJ13_unlink_64 ?_
      refine r_null hK dJ13_unlink_65 ?_
      refine r_put hK fl_J13_39 dJ13_unlink_66 ((up_n xid).trans (up_s _ _ _)) (by simp) ?_
      refine r_aload_0 hK dJ13_unlink_69 ?_
      refine r_dup hK dJ13_unlink_70 ?_
      refine r_get hK fl_J13_7 dJ13_unlink_71 ((up_n idx').trans (up_s _ _ _)) rfl ?_
      refine r_iconstN (c := 1) hK dJ13_unlink_74 ?_
      first | refine r_isubN hK dJ13_unlink_75 (by omega) ?_ | refine r_isub hK dJ13_unlink_75 ?_
      refine r_put hK fl_J13_7 dJ13_unlink_76 ((up_n idx').trans (up_s _ _ _)) (by simp) ?_
      refine r_aload_0 hK dJ13_unlink_79 ?_
      refine r_dup hK dJ13_unlink_80 ?_
      refine r_get hK fl_J13_33 dJ13_unlink_81 (up_s _ _ _) rfl ?_
      refine r_iconstN (c := 1) hK dJ13_unlink_84 ?_
      first | refine r_iaddN hK dJ13_unlink_85 ?_ | refine r_iadd hK dJ13_unlink_85 ?_
      refine r_put hK fl_J13_33 dJ13_unlink_86 (up_s _ _ _) (by simp) ?_
      rw [up_up]
      refine r_aload_2 hK dJ13_unlink_89 ?_
      refine r_aret hK hRt dJ13_unlink_90 ⟨rfl, rfl, fin _ (mc + ((1 : Nat) : Int)) ?_ ?_, fun z h1 h2 => ?_⟩
      · rw [up_s]
        simp only [List.append_nil]
        rw [show hd (c ++ [y] ++ [x]) .null = hd (c ++ [y]) .null by cases c <;> rfl, show ls_ .null (c ++ [y]) = .ref y from ls_snoc _ _ _]
        rfl
      · rw [List.append_nil, List.append_nil]
        refine DL.setq (g := g) hlc d1 (fun z hz => ?_) ?_
        · rw [up_n (hci z hz), up_n (hcx z hz), up_n (hci z hz), up_n (hcx z hz), up_n (hcy z hz)]
        · rw [up_n yid, up_n yx, up_n yid, up_n yx, up_s]; rfl
      · rw [up_n h1, up_n (fun q => h2 (by rw [q]; simp)), up_n h1, up_n (fun q => h2 (by rw [q]; simp)), up_n (fun q => h2 (by rw [q]; simp))]
    | cons z b =>
      obtain ⟨t, ld, e3⟩ : ∃ t ld, lb = t :: ld := by
        cases lb with
        | nil => simp at hlb
        | cons t ld => exact ⟨t, ld, rfl⟩
      subst e3
      have hz : g z = some (.inl (13, [.ref t, hd b .null, .ref x])) := d3.1
      have hx : g x = some (.inl (13, [.ref w, .ref z, .ref y])) := by rw [d2, ls_snoc]; rfl
      have zid := hbi z (by simp)
      have zx := hbx z (by simp)
      have zy : z ≠ y := fun q => m5 y (by simp) (by rw [← q]; simp)
      have hbz : ∀ p ∈ b, p ≠ z := fun p hp q => (List.nodup_cons.mp m2).1 (by rw [← q]; exact hp)
      have hby : ∀ p ∈ b, p ≠ y := fun p hp q => m5 y (by simp) (by rw [← q]; simp [hp])
      have hcz : ∀ p ∈ c, p ≠ z := fun p hp q => m5 p (by simp [hp]) (by rw [q]; simp)
      refine r_aload_1 hK dJ13_unlink_0 ?_
      refine r_get hK fl_J13_39 dJ13_unlink_1 (hx) rfl ?_
      refine r_astore_2 hK dJ13_unlink_4 ?_
      refine r_aload_1 hK dJ13_unlink_5 ?_
      refine r_get hK fl_J13_36 dJ13_unlink_6 (hx) rfl ?_
      refine r_astore_3 hK dJ13_unlink_9 ?_
      refine r_aload_1 hK dJ13_unlink_10 ?_
      refine r_get hK fl_J13_30 dJ13_unlink_11 (hx) rfl ?_
      refine r_astore_4 hK dJ13_unlink_14 ?_
      refine r_aload_4 hK dJ13_unlink_16 ?_
      refine r_ifnonnull 29 hK dJ13_unlink_18 ?_
      refine r_aload_4 hK dJ13_unlink_29 ?_
      refine r_aload_3 hK dJ13_unlink_31 ?_
      refine r_put hK fl_J13_36 dJ13_unlink_32 (hy) (by simp) ?_
      refine r_aload_1 hK dJ13_unlink_35 ?_
      refine r_null hK dJ13_unlink_36 ?_
      refine r_put hK fl_J13_30 dJ13_unlink_37 ((up_n (Ne.symm yx)).trans hx) (by simp) ?_
      refine r_aload_3 hK dJ13_unlink_40 ?_
      refine r_ifnonnull 53 hK dJ13_unlink_41 ?_
      refine r_aload_3 hK dJ13_unlink_53 ?_
      refine r_aload_4 hK dJ13_unlink_54 ?_
      refine r_put hK fl_J13_30 dJ13_unlink_56 ((up_n zx).trans ((up_n zy).trans hz)) (by simp) ?_
      refine r_aload_1 hK dJ13_unlink_59 ?_
      refine r_null hK dJ13_unlink_60 ?_
      refine r_put hK fl_J13_36 dJ13_unlink_61 ((up_n (Ne.symm zx)).trans (up_s _ _ _)) (by simp) ?_
      refine r_aload_1 hK dJ13_unlink_64 ?_
      refine r_null hK dJ13_unlink_65 ?_
      refine r_put hK fl_J13_39 dJ13_unlink_66 (up_s _ _ _) (by simp) ?_
      rw [up_up]
      refine r_aload_0 hK dJ13_unlink_69 ?_
      refine r_dup hK dJ13_unlink_70 ?_
      refine r_get hK fl_J13_7 dJ13_unlink_71 ((up_n idx').trans ((up_n (Ne.symm zid)).trans ((up_n idx').trans ((up_n (Ne.symm yid)).trans l3)))) rfl ?_
      refine r_iconstN (c := 1) hK dJ13_unlink_74 ?_
      first | refine r_isubN hK dJ13_unlink_75 (by omega) ?_ | refine r_isub hK dJ13_unlink_75 ?_
      refine r_put hK fl_J13_7 dJ13_unlink_76 ((up_n idx').trans ((up_n (Ne.symm zid)).trans ((up_n idx').trans ((up_n (Ne.symm yid)).trans l3)))) (by simp) ?_
      refine r_aload_0 hK dJ13_unlink_79 ?_
      refine r_dup hK dJ13_unlink_80 ?_
      refine r_get hK fl_J13_33 dJ13_unlink_81 (up_s _ _ _) rfl ?_
      refine r_iconstN (c := 1) hK dJ13_unlink_84 ?_
      first | refine r_iaddN hK dJ13_unlink_85 ?_ | refine r_iadd hK dJ13_unlink_85 ?_
      refine r_put hK fl_J13_33 dJ13_unlink_86 (up_s _ _ _) (by simp) ?_
      rw [up_up]
      refine r_aload_2 hK dJ13_unlink_89 ?_
      refine r_aret hK hRt dJ13_unlink_90 ⟨rfl, rfl, fin _ (mc + ((1 : Nat) : Int)) ?_ ?_, fun p h1 h2 => ?_⟩
      · rw [up_s, ls_mid, ls_mid, show hd (c ++ [y] ++ x :: z :: b) .null = hd (c ++ [y] ++ z :: b) .null by cases c <;> rfl]; rfl
      · refine (DL.app hla).mpr ⟨DL.setq (g := g) hlc d1 (fun p hp => ?_) ?_, DL.setp (g := g) (p := .ref x) d3 (fun p hp => ?_) ?_⟩
        · rw [up_n (hci p hp), up_n (hcx p hp), up_n (hcz p hp), up_n (hcx p hp), up_n (hcy p hp)]
        · rw [up_n yid, up_n yx, up_n (Ne.symm zy), up_n yx, up_s]; rfl
        · rw [up_n (hbi p (by simp [hp])), up_n (hbx p (by simp [hp])), up_n (hbz p hp), up_n (hbx p (by simp [hp])), up_n (hby p hp)]
        · rw [up_n zid, up_n zx, up_s, ls_snoc]; rfl
      · rw [up_n h1, up_n (fun q => h2 (by rw [q]; simp)), up_n (fun q => h2 (by rw [q]; simp)), up_n (fun q => h2 (by rw [q]; simp)), up_n (fun q => h2 (by rw [q]; simp))]
set_option maxHeartbeats 4000000 in
theorem ll_remove {G : GT} {Rel : Nat → Hp → Hp → Prop} (hR : RelOK Rel) {n : Nat} {g : Hp} {id i : Nat} {l ns : List Nat} (hL : LLs g id l ns) (hi : i < l.length) (hs : l.length < 1000000) : Ct G Rel yJ13_remove cJ13_remove 2 (some (.object "java/lang/Object")) (3) (0) [.ref id, zI (i : Int)] n (g) (fun r n' g' => r = some (.ref (l.getD i 0)) ∧ n' = n ∧ ∃ ns', LLs g' id (l.eraseIdx i) ns' ∧ (∀ y ∈ ns', y ∈ ns) ∧ ∀ y, y ≠ id → y ∉ ns → g' y = g y) := by
  refine ct_intro [some (.ref id), some (zI (i : Int))] hR rfl (Nat.le_of_ble_eq_true rfl) ?_
  intro K hG hRel hK hRt hnm
  obtain ⟨mc, l3⟩ := hL.2.2.1
  obtain ⟨a, x, b, la, w, lb, e1, e2, e3, e4, e5, e6⟩ := ll_split hL hi
  refine r_aload_0 hK dJ13_remove_0 ?_
  refine r_iload_1 hK dJ13_remove_1 ?_
  refine r_vV1 hK (ll_chkElem hK.rel hL hi hs) lk_J13_90 (Rcv.raw hK.rel l3 rfl) dJ13_remove_2 ?_
  refine r_aload_0 hK dJ13_remove_5 ?_
  refine r_aload_0 hK dJ13_remove_6 ?_
  refine r_iload_1 hK dJ13_remove_7 ?_
  refine r_pV1 hK (ll_nodeAt hK.rel hL hi hs) lk_J13_86 (Rcv.raw hK.rel l3 rfl) dJ13_remove_8 ?_
  rw [e5]
  refine r_callV1 hK (ll_unlink (w := w) (la := la) (lb := lb) (a := a) (b := b) hK.rel (by rw [← e1, ← e2]; exact hL) e3) lk_J13_64 (Rcv.raw hK.rel l3 rfl) dJ13_remove_11 (fun r n1 f1 hp => ?_)
  obtain ⟨rfl, rfl, k3, k4⟩ := hp
  refine r_aret hK hRt dJ13_remove_14 ⟨by rw [e6], rfl, a ++ b, ?_, fun y hy => ?_, ?_⟩
  · rw [e2, ← e4, List.eraseIdx_append_of_length_le (Nat.le_refl _), Nat.sub_self]; exact k3
  · rw [e1]; rcases List.mem_append.mp hy with q | q
    · simp [q]
    · simp [q]
  · rw [e1]; exact k4
