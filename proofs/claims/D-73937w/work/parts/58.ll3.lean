set_option maxRecDepth 100000
/-! ===== LinkedList: its making, isEmpty, iterators ===== -/
theorem fitRv {v : Value} {C : String} {G : GT} (h : isR v = true) : narrow (.object C) (cv G v) = cv G v ∧ fits (.object C) (cv G v) = true := by
  cases v <;> first | exact ⟨rfl, rfl⟩ | cases h
theorem zI_n (z : Int) : ∃ z', zI z = zI z' ∧ inR z' := by
  refine ⟨(Int32.ofInt z).toInt, ?_, ?_⟩
  · unfold zI; rw [Int32.ofInt_toInt]
  · have h1 := Int32.le_toInt (Int32.ofInt z)
    have h2 := Int32.toInt_lt (Int32.ofInt z)
    exact ⟨h1, h2⟩
theorem r_icmp_eqS {K : KT} {own : String} {cc : ByteArray} {nL d U pc : Nat} {L : List (Option Value)} {st : List Value} {n : Nat} {f : Hp} {u : Nat} {off : Int} (tgt : Nat) {z : Int} (hK : Gd K own cc nL d U) (hd : decode cc pc = .ok (.if_icmp .eq off, 3)) (k : Wx K tgt L st n f u) (ht : (pc : Int) + off = (tgt : Int) := by decide) : Wx K pc L (zI z :: zI z :: st) n f u := by
  obtain ⟨z', e, hz⟩ := zI_n z
  rw [e]
  exact r_icmp_eq tgt hK hd hz hz (fun _ => k) (fun h => absurd rfl h) ht
set_option maxHeartbeats 4000000 in
theorem ct_acInit {G : GT} {Rel : Nat → Hp → Hp → Prop} (hR : RelOK Rel) {n : Nat} {g : Hp} {k : Nat} : Ct G Rel yJ6_init cJ6_init 1 none (1) (0) [.ref k] n (g) (Pv n g) := by
  refine ct_intro [some (.ref k)] hR rfl (Nat.le_of_ble_eq_true rfl) ?_
  intro K hG hRel hK hRt hnm
  refine r_aload_0 hK dJ6_init_0 ?_
  refine r_objInit hK oi_J6_1 dJ6_init_1 ?_
  exact r_vret hK hRt dJ6_init_4 ⟨rfl, rfl, rfl⟩
set_option maxHeartbeats 4000000 in
theorem ct_alInit12 {G : GT} {Rel : Nat → Hp → Hp → Prop} (hR : RelOK Rel) {n : Nat} {g : Hp} {k : Nat} {a b c e : Value} (h : g k = some (.inl (12, [a, b, c, e]))) : Ct G Rel yJ11_init cJ11_init 1 none (2) (0) [.ref k] n (g) (Pv n (up g k (.inl (12, [zI ((0 : Nat) : Int), b, c, e])))) := by
  refine ct_intro [some (.ref k)] hR rfl (Nat.le_of_ble_eq_true rfl) ?_
  intro K hG hRel hK hRt hnm
  refine r_aload_0 hK dJ11_init_0 ?_
  refine r_callI0 hK (ct_acInit hK.rel) lk_J11_1 dJ11_init_1 (fun r n1 f1 hp => ?_)
  obtain ⟨rfl, rfl, rfl⟩ := hp
  refine r_aload_0 hK dJ11_init_4 ?_
  refine r_iconstN (c := 0) hK dJ11_init_5 ?_
  refine r_put hK fl_J11_7_12 dJ11_init_6 h (by simp) ?_
  exact r_vret hK hRt dJ11_init_9 ⟨rfl, rfl, rfl⟩
set_option maxHeartbeats 4000000 in
theorem ct_alInit15 {G : GT} {Rel : Nat → Hp → Hp → Prop} (hR : RelOK Rel) {n : Nat} {g : Hp} {k : Nat} {a b c : Value} (h : g k = some (.inl (15, [a, b, c]))) : Ct G Rel yJ11_init cJ11_init 1 none (2) (0) [.ref k] n (g) (Pv n (up g k (.inl (15, [zI ((0 : Nat) : Int), b, c])))) := by
  refine ct_intro [some (.ref k)] hR rfl (Nat.le_of_ble_eq_true rfl) ?_
  intro K hG hRel hK hRt hnm
  refine r_aload_0 hK dJ11_init_0 ?_
  refine r_callI0 hK (ct_acInit hK.rel) lk_J11_1 dJ11_init_1 (fun r n1 f1 hp => ?_)
  obtain ⟨rfl, rfl, rfl⟩ := hp
  refine r_aload_0 hK dJ11_init_4 ?_
  refine r_iconstN (c := 0) hK dJ11_init_5 ?_
  refine r_put hK fl_J11_7_15 dJ11_init_6 h (by simp) ?_
  exact r_vret hK hRt dJ11_init_9 ⟨rfl, rfl, rfl⟩
set_option maxHeartbeats 4000000 in
theorem ct_aslInit {G : GT} {Rel : Nat → Hp → Hp → Prop} (hR : RelOK Rel) {n : Nat} {g : Hp} {k : Nat} {a b c e : Value} (h : g k = some (.inl (12, [a, b, c, e]))) : Ct G Rel yJ12_init cJ12_init 1 none (3) (0) [.ref k] n (g) (Pv n (up g k (.inl (12, [zI ((0 : Nat) : Int), b, c, e])))) := by
  refine ct_intro [some (.ref k)] hR rfl (Nat.le_of_ble_eq_true rfl) ?_
  intro K hG hRel hK hRt hnm
  refine r_aload_0 hK dJ12_init_0 ?_
  refine r_callI0 hK (ct_alInit12 hK.rel h) lk_J12_1 dJ12_init_1 (fun r n1 f1 hp => ?_)
  obtain ⟨rfl, rfl, rfl⟩ := hp
  exact r_vret hK hRt dJ12_init_4 ⟨rfl, rfl, rfl⟩
set_option maxHeartbeats 4000000 in
theorem ll_init {G : GT} {Rel : Nat → Hp → Hp → Prop} (hR : RelOK Rel) {n : Nat} {g : Hp} {k : Nat} {a b : Value} (h : g k = some (.inl (12, [a, b, .null, .null]))) : Ct G Rel yJ13_init cJ13_init 1 none (4) (0) [.ref k] n (g) (Pv n (up g k (.inl (12, [zI ((0 : Nat) : Int), zI ((0 : Nat) : Int), .null, .null])))) := by
  refine ct_intro [some (.ref k)] hR rfl (Nat.le_of_ble_eq_true rfl) ?_
  intro K hG hRel hK hRt hnm
  refine r_aload_0 hK dJ13_init_0 ?_
  refine r_callI0 hK (ct_aslInit hK.rel h) lk_J13_1 dJ13_init_1 (fun r n1 f1 hp => ?_)
  obtain ⟨rfl, rfl, rfl⟩ := hp
  refine r_aload_0 hK dJ13_init_4 ?_
  refine r_iconstN (c := 0) hK dJ13_init_5 ?_
  refine r_put hK fl_J13_7 dJ13_init_6 (up_s _ _ _) (by simp) ?_
  exact r_vret hK hRt dJ13_init_9 ⟨rfl, rfl, by rw [up_up]; rfl⟩
theorem LLs_new {g : Hp} {k : Nat} : LLs (up g k (.inl (12, [zI ((0 : Nat) : Int), zI ((0 : Nat) : Int), .null, .null]))) k [] [] := ⟨by simp, by simp, ⟨0, by rw [up_s]; rfl⟩, trivial⟩
set_option maxHeartbeats 4000000 in
theorem ll_isEmpty {G : GT} {Rel : Nat → Hp → Hp → Prop} (hR : RelOK Rel) {n : Nat} {g : Hp} {id : Nat} {l ns : List Nat} (hL : LLs g id l ns) (hs : l.length < 1000000) : Ct G Rel yJ6_isEmpty cJ6_isEmpty 1 (some .boolean) (2) (0) [.ref id] n (g) (Pu (zI ((if l = [] then 1 else 0 : Nat) : Int)) n g) := by
  refine ct_intro [some (.ref id)] hR rfl (Nat.le_of_ble_eq_true rfl) ?_
  intro K hG hRel hK hRt hnm
  obtain ⟨mc, l3⟩ := hL.2.2.1
  refine r_aload_0 hK dJ6_isEmpty_0 ?_
  refine r_callU0 hK (ll_size hK.rel hL) lu_J6_7_J13 (Rcv.raw hK.rel l3 rfl) dJ6_isEmpty_1 (fun r n1 f1 hp => ?_)
  obtain ⟨rfl, rfl, rfl⟩ := hp
  refine r_if_ne 11 hK dJ6_isEmpty_4 (by omega) (fun h4 => ?_) (fun h4 => ?_)
  · refine r_iconstN (c := 0) hK dJ6_isEmpty_11 ?_
    exact r_zret hK hRt dJ6_isEmpty_12 rfl ⟨by rw [if_neg (fun q => h4 (by rw [q]; rfl))], rfl, rfl⟩
  · refine r_iconstN (c := 1) hK dJ6_isEmpty_7 ?_
    refine r_goto 12 hK dJ6_isEmpty_8 ?_
    exact r_zret hK hRt dJ6_isEmpty_12 rfl ⟨by rw [if_pos (List.eq_nil_of_length_eq_zero (by omega))], rfl, rfl⟩
theorem new14 {G : GT} : ∃ r, cls[14]? = some r ∧ r.2.2 ≤ 12 * 1 ∧ 1 ≤ 1 ∧ ∀ j, j < r.2.2 → defaultValue (tyC 14 j) = cv G (vp_V [.null, .null, zI 0, zI 0, .null] j) := ⟨_, rfl, by decide, by decide, fun j hj => by
  have h3 : j = 0 ∨ j = 1 ∨ j = 2 ∨ j = 3 ∨ j = 4 := by have : j < 5 := hj; omega
  rcases h3 with e | e | e | e | e <;> subst e <;> rfl⟩
set_option maxHeartbeats 4000000 in
theorem ll_itInit {G : GT} {Rel : Nat → Hp → Hp → Prop} (hR : RelOK Rel) {n : Nat} {g : Hp} {k id : Nat} {l ns : List Nat} {mc : Int} (hL : LLs g id l ns) (hm : g id = some (.inl (12, [zI mc, zI ((l.length : Nat) : Int), hd ns .null, ls_ .null ns]))) (hk : g k = some (.inl (14, [.null, .null, zI 0, zI 0, .null]))) (hki : k ≠ id) (hkn : k ∉ ns) (hs : l.length < 1000000) : Ct G Rel yJ28_init cJ28_init 3 none (2) (0) [.ref k, .ref id, zI ((0 : Nat) : Int)] n (g) (Pv n (up g k (.inl (14, [.null, hd ns .null, zI ((0 : Nat) : Int), zI mc, .ref id])))) := by
  refine ct_intro [some (.ref k), some (.ref id), some (zI ((0 : Nat) : Int))] hR rfl (Nat.le_of_ble_eq_true rfl) ?_
  intro K hG hRel hK hRt hnm
  have ik : id ≠ k := Ne.symm hki
  have hlen := hL.len
  have j38 : ∀ v, isR v = true → v = hd ns .null → Wx K 38 [some (.ref k), some (.ref id), some (zI ((0 : Nat) : Int))] [v, .ref k] n (up g k (.inl (14, [.null, .null, zI 0, zI mc, .ref id]))) 0 := by
    intro v hv ev
    refine r_put hK fl_J28_29 dJ28_init_38 (up_s _ _ _) (by simp) ?_ (hfit := fitRv hv)
    refine r_aload_0 hK dJ28_init_41 ?_
    refine r_iload_2 hK dJ28_init_42 ?_
    refine r_put hK fl_J28_33 dJ28_init_43 (up_s _ _ _) (by simp) ?_
    exact r_vret hK hRt dJ28_init_46 ⟨rfl, rfl, by rw [up_up, up_up, ev]; rfl⟩
  refine r_aload_0 hK dJ28_init_0 ?_
  refine r_aload_1 hK dJ28_init_1 ?_
  refine r_put hK fl_J28_1 dJ28_init_2 hk (by simp) ?_ (hfin := ⟨_, rfl, Or.inr ⟨hnm, rfl⟩⟩)
  refine r_aload_0 hK dJ28_init_5 ?_
  refine r_objInit hK oi_J28_7 dJ28_init_6 ?_
  refine r_aload_0 hK dJ28_init_9 ?_
  refine r_aload_0 hK dJ28_init_10 ?_
  refine r_get hK fl_J28_1 dJ28_init_11 (up_s _ _ _) rfl ?_
  refine r_get hK fl_J28_13 dJ28_init_14 ((up_n ik).trans hm) rfl ?_
  refine r_put hK fl_J28_19 dJ28_init_17 (up_s _ _ _) (by simp) ?_
  rw [up_up]
  refine r_aload_0 hK dJ28_init_20 ?_
  refine r_iload_2 hK dJ28_init_21 ?_
  refine r_aload_1 hK dJ28_init_22 ?_
  refine r_get hK fl_J28_22 dJ28_init_23 ((up_n ik).trans hm) rfl ?_
  refine r_icmp_ne 33 hK dJ28_init_26 (by omega) (by omega) (fun h26 => ?_) (fun h26 => ?_)
  · have hL' : LLs (up g k (.inl (14, [.null, .null, zI 0, zI mc, .ref id]))) id l ns := hL.ext (up_n ik) (fun x hx => up_n (fun q => hkn (by rw [← q]; exact hx)))
    refine r_aload_1 hK dJ28_init_33 ?_
    refine r_iload_2 hK dJ28_init_34 ?_
    refine r_pV1 hK (ll_nodeAt hK.rel hL' (by omega) hs) lk_J28_25 (Rcv.raw hK.rel ((up_n ik).trans hm) rfl) dJ28_init_35 ?_
    exact j38 _ rfl (by have := hd_drop (q := .null) (ns := ns) (j := 0) (by omega); rw [List.drop_zero] at this; exact this.symm)
  · refine r_null hK dJ28_init_29 ?_
    refine r_goto 38 hK dJ28_init_30 ?_
    have e : ns = [] := List.eq_nil_of_length_eq_zero (by omega)
    exact j38 _ rfl (by rw [e]; rfl)
set_option maxHeartbeats 4000000 in
theorem ll_hasNext {G : GT} {Rel : Nat → Hp → Hp → Prop} (hR : RelOK Rel) {n : Nat} {g : Hp} {k id i L : Nat} {mc ec : Int} {a b c e : Value} (hk : g k = some (.inl (14, [a, b, zI (i : Int), zI ec, .ref id]))) (hm : g id = some (.inl (12, [zI mc, zI (L : Int), c, e]))) (hi : i < 1000000) (hL : L < 1000000) : Ct G Rel yJ28_hasNext cJ28_hasNext 1 (some .boolean) (1) (0) [.ref k] n (g) (Pu (zB (i < L)) n g) := by
  refine ct_intro [some (.ref k)] hR rfl (Nat.le_of_ble_eq_true rfl) ?_
  intro K hG hRel hK hRt hnm
  refine r_aload_0 hK dJ28_hasNext_0 ?_
  refine r_get hK fl_J28_33 dJ28_hasNext_1 (hk) rfl ?_
  refine r_aload_0 hK dJ28_hasNext_4 ?_
  refine r_get hK fl_J28_1 dJ28_hasNext_5 (hk) rfl ?_
  refine r_get hK fl_J28_22 dJ28_hasNext_8 (hm) rfl ?_
  refine r_icmp_ge 18 hK dJ28_hasNext_11 (by omega) (by omega) (fun h11 => ?_) (fun h11 => ?_)
  · refine r_iconstN (c := 0) hK dJ28_hasNext_18 ?_
    exact r_zret hK hRt dJ28_hasNext_19 rfl ⟨by rw [zB_f (by omega)]; rfl, rfl, rfl⟩
  · refine r_iconstN (c := 1) hK dJ28_hasNext_14 ?_
    refine r_goto 19 hK dJ28_hasNext_15 ?_
    exact r_zret hK hRt dJ28_hasNext_19 rfl ⟨by rw [zB_t (by omega)]; rfl, rfl, rfl⟩
set_option maxHeartbeats 4000000 in
theorem ll_chkMod {G : GT} {Rel : Nat → Hp → Hp → Prop} (hR : RelOK Rel) {n : Nat} {g : Hp} {k id : Nat} {mc : Int} {a b d c e s : Value} (hk : g k = some (.inl (14, [a, b, d, zI mc, .ref id]))) (hm : g id = some (.inl (12, [zI mc, s, c, e]))) : Ct G Rel yJ28_checkForComodification cJ28_checkForComodification 1 none (1) (0) [.ref k] n (g) (Pv n g) := by
  refine ct_intro [some (.ref k)] hR rfl (Nat.le_of_ble_eq_true rfl) ?_
  intro K hG hRel hK hRt hnm
  refine r_aload_0 hK dJ28_checkForComodification_0 ?_
  refine r_get hK fl_J28_1 dJ28_checkForComodification_1 (hk) rfl ?_
  refine r_get hK fl_J28_13 dJ28_checkForComodification_4 (hm) rfl ?_
  refine r_aload_0 hK dJ28_checkForComodification_7 ?_
  refine r_get hK fl_J28_19 dJ28_checkForComodification_8 (hk) rfl ?_
  refine r_icmp_eqS 22 hK dJ28_checkForComodification_11 ?_
  exact r_vret hK hRt dJ28_checkForComodification_22 ⟨rfl, rfl, rfl⟩
set_option maxHeartbeats 4000000 in
theorem ll_next {G : GT} {Rel : Nat → Hp → Hp → Prop} (hR : RelOK Rel) {n : Nat} {g : Hp} {k id i L x v : Nat} {mc : Int} {a c e nx pv : Value} (hk : g k = some (.inl (14, [a, .ref x, zI (i : Int), zI mc, .ref id]))) (hm : g id = some (.inl (12, [zI mc, zI (L : Int), c, e]))) (hx : g x = some (.inl (13, [.ref v, nx, pv]))) (hn : isR nx = true) (hxk : x ≠ k) (hi : i < L) (hL : L < 1000000) : Ct G Rel yJ28_next cJ28_next 1 (some (.object "java/lang/Object")) (2) (0) [.ref k] n (g) (fun r n' g' => r = some (.ref v) ∧ n' = n ∧ g' = up g k (.inl (14, [.ref x, nx, zI ((i + 1 : Nat) : Int), zI mc, .ref id]))) := by
  refine ct_intro [some (.ref k)] hR rfl (Nat.le_of_ble_eq_true rfl) ?_
  intro K hG hRel hK hRt hnm
  refine r_aload_0 hK dJ28_next_0 ?_
  refine r_vV0 hK (ll_chkMod hK.rel hk hm) lk_J28_36 (Rcv.raw hK.rel hk rfl) dJ28_next_1 ?_
  refine r_aload_0 hK dJ28_next_4 ?_
  refine r_pV0 hK (ll_hasNext hK.rel hk hm (by omega) hL) lk_J28_39 (Rcv.raw hK.rel hk rfl) dJ28_next_5 ?_
  refine r_ifB_ne 19 hK dJ28_next_8 (fun h8 => ?_) (fun h8 => ?_)
  · refine r_aload_0 hK dJ28_next_19 ?_
    refine r_aload_0 hK dJ28_next_20 ?_
    refine r_get hK fl_J28_29 dJ28_next_21 (hk) rfl ?_
    refine r_put hK fl_J28_46 dJ28_next_24 (hk) (by simp) ?_
    refine r_aload_0 hK dJ28_next_27 ?_
    refine r_aload_0 hK dJ28_next_28 ?_
    refine r_get hK fl_J28_29 dJ28_next_29 (up_s _ _ _) rfl ?_
    refine r_get hK fl_J28_49 dJ28_next_32 ((up_n hxk).trans hx) rfl ?_
    refine r_put hK fl_J28_29 dJ28_next_35 (up_s _ _ _) (by simp) ?_ (hfit := fitRv hn)
    rw [up_up]
    refine r_aload_0 hK dJ28_next_38 ?_
    refine r_dup hK dJ28_next_39 ?_
    refine r_get hK fl_J28_33 dJ28_next_40 (up_s _ _ _) rfl ?_
    refine r_iconstN (c := 1) hK dJ28_next_43 ?_
    first | refine r_iaddN hK dJ28_next_44 ?_ | refine r_iadd hK dJ28_next_44 ?_
    refine r_put hK fl_J28_33 dJ28_next_45 (up_s _ _ _) (by simp) ?_
    rw [up_up]
    refine r_aload_0 hK dJ28_next_48 ?_
    refine r_get hK fl_J28_46 dJ28_next_49 (up_s _ _ _) rfl ?_
    refine r_get hK fl_J28_52 dJ28_next_52 ((up_n hxk).trans hx) rfl ?_
    exact r_aret hK hRt dJ28_next_55 ⟨rfl, rfl, rfl⟩
  · exact absurd hi h8
set_option maxHeartbeats 4000000 in
theorem ll_listIt {G : GT} {Rel : Nat → Hp → Hp → Prop} (hR : RelOK Rel) {n : Nat} {g : Hp} {id : Nat} {l ns : List Nat} {mc : Int} (hL : LLs g id l ns) (hm : g id = some (.inl (12, [zI mc, zI ((l.length : Nat) : Int), hd ns .null, ls_ .null ns]))) (hn : ∀ x ∈ ns, x < n) (hid : id < n) (hs : l.length < 1000000) : Ct G Rel yJ13_listIterator cJ13_listIterator 2 (some (.object "java/util/ListIterator")) (3) (1) [.ref id, zI ((0 : Nat) : Int)] n (g) (fun r n' g' => r = some (.ref n) ∧ n' = n + 1 ∧ g' = up g n (.inl (14, [.null, hd ns .null, zI ((0 : Nat) : Int), zI mc, .ref id]))) := by
  refine ct_intro [some (.ref id), some (zI ((0 : Nat) : Int))] hR rfl (Nat.le_of_ble_eq_true rfl) ?_
  intro K hG hRel hK hRt hnm
  have idn : id ≠ n := by omega
  have nns : n ∉ ns := fun q => by have := hn n q; omega
  have hL' : LLs (up g n (.inl (14, [.null, .null, zI 0, zI 0, .null]))) id l ns := hL.ext (up_n idn) (fun x hx => up_n (fun q => nns (by rw [← q]; exact hx)))
  refine r_aload_0 hK dJ13_listIterator_0 ?_
  refine r_iload_1 hK dJ13_listIterator_1 ?_
  refine r_vV1 hK (ll_chkPos hK.rel hL (Nat.zero_le _) hs) lk_J13_76 (Rcv.raw hK.rel hm rfl) dJ13_listIterator_2 ?_
  refine r_new (fs := [.null, .null, zI 0, zI 0, .null]) 1 hK nw_J13_150 dJ13_listIterator_5 (by decide) ?_ (hw := new14)
  refine r_dup hK dJ13_listIterator_8 ?_
  refine r_aload_0 hK dJ13_listIterator_9 ?_
  refine r_iload_1 hK dJ13_listIterator_10 ?_
  refine r_callI2 hK (ll_itInit hK.rel hL' ((up_n idn).trans hm) (up_s _ _ _) (Ne.symm idn) nns hs) lk_J13_152 dJ13_listIterator_11 (fun r n1 f1 hp => ?_)
  obtain ⟨rfl, rfl, rfl⟩ := hp
  exact r_aret hK hRt dJ13_listIterator_14 ⟨rfl, rfl, by rw [up_up]⟩
set_option maxHeartbeats 4000000 in
theorem ll_listIt0 {G : GT} {Rel : Nat → Hp → Hp → Prop} (hR : RelOK Rel) {n : Nat} {g : Hp} {id : Nat} {l ns : List Nat} {mc : Int} (hL : LLs g id l ns) (hm : g id = some (.inl (12, [zI mc, zI ((l.length : Nat) : Int), hd ns .null, ls_ .null ns]))) (hn : ∀ x ∈ ns, x < n) (hid : id < n) (hs : l.length < 1000000) : Ct G Rel yJ11_listIterator cJ11_listIterator 1 (some (.object "java/util/ListIterator")) (4) (1) [.ref id] n (g) (fun r n' g' => r = some (.ref n) ∧ n' = n + 1 ∧ g' = up g n (.inl (14, [.null, hd ns .null, zI ((0 : Nat) : Int), zI mc, .ref id]))) := by
  refine ct_intro [some (.ref id)] hR rfl (Nat.le_of_ble_eq_true rfl) ?_
  intro K hG hRel hK hRt hnm
  refine r_aload_0 hK dJ11_listIterator_0 ?_
  refine r_iconstN (c := 0) hK dJ11_listIterator_1 ?_
  refine r_callU1 hK (ll_listIt hK.rel hL hm hn hid hs) lu_J11_47_J13 (Rcv.raw hK.rel hm rfl) dJ11_listIterator_2 (fun r n1 f1 hp => ?_)
  obtain ⟨rfl, rfl, rfl⟩ := hp
  exact r_aret hK hRt dJ11_listIterator_5 ⟨rfl, rfl, rfl⟩
set_option maxHeartbeats 4000000 in
theorem ll_iterator {G : GT} {Rel : Nat → Hp → Hp → Prop} (hR : RelOK Rel) {n : Nat} {g : Hp} {id : Nat} {l ns : List Nat} {mc : Int} (hL : LLs g id l ns) (hm : g id = some (.inl (12, [zI mc, zI ((l.length : Nat) : Int), hd ns .null, ls_ .null ns]))) (hn : ∀ x ∈ ns, x < n) (hid : id < n) (hs : l.length < 1000000) : Ct G Rel yJ12_iterator cJ12_iterator 1 (some (.object "java/util/Iterator")) (5) (1) [.ref id] n (g) (fun r n' g' => r = some (.ref n) ∧ n' = n + 1 ∧ g' = up g n (.inl (14, [.null, hd ns .null, zI ((0 : Nat) : Int), zI mc, .ref id]))) := by
  refine ct_intro [some (.ref id)] hR rfl (Nat.le_of_ble_eq_true rfl) ?_
  intro K hG hRel hK hRt hnm
  refine r_aload_0 hK dJ12_iterator_0 ?_
  refine r_callU0 hK (ll_listIt0 hK.rel hL hm hn hid hs) lu_J12_65_J13 (Rcv.raw hK.rel hm rfl) dJ12_iterator_1 (fun r n1 f1 hp => ?_)
  obtain ⟨rfl, rfl, rfl⟩ := hp
  exact r_aret hK hRt dJ12_iterator_4 ⟨rfl, rfl, rfl⟩
