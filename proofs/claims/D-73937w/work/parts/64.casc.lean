set_option maxRecDepth 100000
/-! ===== cascades over nodes: by iterators ===== -/
/-- the elements are these gates -/
def GL (g : Hp) (l : List Nat) (gs : List Gt) : Prop := l.length = gs.length ∧ ∀ i, i < l.length → g (l.getD i 0) = some (cG (gt gs i))
theorem GL.ext {g g' : Hp} {l : List Nat} {gs : List Gt} (h : GL g l gs) (he : ∀ x e, g x = some e → g' x = some e) : GL g' l gs := ⟨h.1, fun i hi => he _ _ (h.2 i hi)⟩
set_option maxHeartbeats 4000000 in
theorem rw_made {G : GT} {Rel : Nat → Hp → Hp → Prop} (hR : RelOK Rel) (hX : GX G) {n : Nat} {g : Hp} {c ll x m : Nat} {l ns : List Nat} {gs : List Gt} (hz : ∀ id, n ≤ id → g id = none) (hc : g c = some (.inl (4, [.ref ll]))) (hL : LLs g ll l ns) (hs : l.length < 1000000) (hgs : GL g l gs) (hb : ∀ q ∈ gs, gB q) (hx : x < 64) (hm : m ≤ l.length) : Ct G Rel yX4_made_2 cX4_made_2 6 (some .int) (6) (1) [.ref c, zI (x : Int), zI (m : Int)] n (g) (fun r n' g' => r = some (zI ((run (gs.take m) x : Nat) : Int)) ∧ n' = n + 1 ∧ ∀ id, id < n → g' id = g id) := by
  refine ct_intro [some (.ref c), some (zI (x : Int)), some (zI (m : Int)), none, none, none] hR rfl (Nat.le_of_ble_eq_true rfl) ?_
  intro K hG hRel hK hRt hnm
  have hXK : GX (kG K) := by rw [hG]; exact hX
  have hlen := hL.len
  have hlt : ∀ id e, g id = some e → id < n := fun id e h => by
    by_cases q : id < n
    · exact q
    · rw [hz id (by omega)] at h; cases h
  obtain ⟨mc, l3⟩ := hL.2.2.1
  have hll := hlt _ _ l3
  have hn : ∀ y ∈ ns, y < n := fun y hy => by
    obtain ⟨i, hi, e⟩ := List.getElem_of_mem hy
    have := hL.2.2.2.cell (i := i) hi
    rw [List.getD_eq_getElem?_getD, List.getElem?_eq_getElem hi] at this
    exact hlt y _ (by rw [← e]; exact this)
  have hr : ∀ k, run (gs.take k) x < 64 := fun k => run_lt (w := 6) (fun q hq => (hb q (List.mem_of_mem_take hq)).1) hx
  have lp : ∀ (d k : Nat) (lr : Value), k + d = m → Wx K 14 [some (.ref c), some (zI (x : Int)), some (zI (m : Int)), some (zI ((run (gs.take k) x : Nat) : Int)), some (zI (k : Int)), some (.ref n)] [] (n + 1) (up g n (.inl (14, [lr, hd (ns.drop k) .null, zI (k : Int), zI mc, .ref ll]))) 1 := by
    intro d
    induction d with
    | zero =>
      intro k lr hk
      have ek : k = m := hk
      subst ek
      refine r_iload_4 hK dX4_made_2_14 ?_
      refine r_iload_2 hK dX4_made_2_16 ?_
      refine r_icmp_ge 41 hK dX4_made_2_17 (by omega) (by omega) (fun h17 => ?_) (fun h17 => ?_)
      · refine r_iload_3 hK dX4_made_2_41 ?_
        exact r_iret hK hRt dX4_made_2_42 ⟨rfl, rfl, fun id hid => up_n (by omega)⟩
      · exact absurd h17 (by omega)
    | succ d ih =>
      intro k lr hk
      have hkl : k < l.length := by omega
      have hcell := hL.2.2.2.cell (i := k) (by omega)
      have hyn : ns.getD k 0 ≠ n := by have := hlt _ _ hcell; omega
      have hgk := hgs.2 k hkl
      have hgn : l.getD k 0 ≠ n := by have := hlt _ _ hgk; omega
      have hgl : k < gs.length := by rw [← hgs.1]; exact hkl
      have hrk := hr k
      rw [hd_drop (by omega)]
      have hit : up g n (.inl (14, [lr, .ref (ns.getD k 0), zI (k : Int), zI mc, .ref ll])) n = some (.inl (14, [lr, .ref (ns.getD k 0), zI (k : Int), zI mc, .ref ll])) := up_s _ _ _
      have cE : ∀ v, (up g n v) (l.getD k 0) = some (cG (gt gs k)) := fun v => (up_n hgn).trans hgk
      refine r_iload_4 hK dX4_made_2_14 ?_
      refine r_iload_2 hK dX4_made_2_16 ?_
      refine r_icmp_ge 41 hK dX4_made_2_17 (by omega) (by omega) (fun h17 => ?_) (fun h17 => ?_)
      · exact absurd h17 (by omega)
      · refine r_aload_5 hK dX4_made_2_20 ?_
        refine r_callF0 hK (ll_next hK.rel hit ((up_n (show ll ≠ n by omega)).trans l3) ((up_n hyn).trans hcell) (by cases (ns.drop (k + 1)) <;> rfl) hyn (by omega) (by omega)) lf_X4_34_J28 (hK.px hXK).1.2.1 (ci := 14) ⟨rfl, rfl⟩ (Rcv.raw hK.rel hit rfl) dX4_made_2_22 (fun r n1 f1 hp => ?_)
        obtain ⟨rfl, rfl, rfl⟩ := hp
        rw [up_up]
        refine r_cast hK cl_X4_38 (Rcv.raw hK.rel (cE _) rfl) dX4_made_2_27 ?_
        refine r_iload_3 hK dX4_made_2_30 ?_
        refine r_pV1 hK (ct_gMade hK.rel (cE _) (hb _ (gt_mem hgl)) hrk) lk_X4_58 (Rcv.raw hK.rel (cE _) rfl) dX4_made_2_31 ?_
        refine r_istore_3 hK dX4_made_2_34 ?_
        first | refine r_incN_4 hK dX4_made_2_35 ?_ | refine r_iinc_4 hK dX4_made_2_35 ?_
        refine r_goto 14 hK dX4_made_2_38 ?_
        have := ih (k + 1) (.ref (ns.getD k 0)) (by omega)
        rw [run_take_succ hgl] at this
        rw [gt_at hgl]
        exact this
  refine r_iload_1 hK dX4_made_2_0 ?_
  refine r_istore_3 hK dX4_made_2_1 ?_
  refine r_iconstN (c := 0) hK dX4_made_2_2 ?_
  refine r_istore_4 hK dX4_made_2_3 ?_
  refine r_aload_0 hK dX4_made_2_5 ?_
  refine r_get hK fl_X4_10 dX4_made_2_6 (hc) rfl ?_
  refine r_callU0 hK (ll_iterator hK.rel hL l3 hn hll hs) lu_X4_24_J13 (Rcv.raw hK.rel l3 rfl) dX4_made_2_9 (fun r n1 f1 hp => ?_)
  obtain ⟨rfl, rfl, rfl⟩ := hp
  refine r_astore_5 hK dX4_made_2_12 ?_
  have := lp m 0 .null (by omega)
  rw [List.drop_zero] at this
  exact this
set_option maxHeartbeats 4000000 in
theorem rw_becomes {G : GT} {Rel : Nat → Hp → Hp → Prop} (hR : RelOK Rel) (hX : GX G) {n : Nat} {g : Hp} {c c2 ll l2i : Nat} {l ns l2 ns2 : List Nat} {gs : List Gt} (hz : ∀ id, n ≤ id → g id = none) (hc : g c = some (.inl (4, [.ref ll]))) (hc2 : g c2 = some (.inl (4, [.ref l2i]))) (hL : LLs g ll l ns) (hL2 : LLs g l2i l2 ns2) (hd1 : ll ≠ l2i) (hd2 : ll ∉ ns2) (hd3 : l2i ∉ ns) (hd4 : ∀ y ∈ ns, y ∉ ns2) (hd5 : c ∉ ns ∧ c2 ∉ ns) (hs : l2.length ≤ 16) (hgs : GL g l2 gs) (hd6 : ∀ y ∈ l2, y ∉ ns) : Ct G Rel yX4_becomes cX4_becomes 3 none (6) (17) [.ref c, .ref c2] n (g) (fun r n' g' => r = none ∧ n ≤ n' ∧ ∃ ns', LLs g' ll l2 ns' ∧ (∀ y ∈ ns', n ≤ y ∧ y < n') ∧ ∀ id, id ≠ ll → id ∉ ns → id < n → g' id = g id) := by
  refine ct_intro [some (.ref c), some (.ref c2), none] hR rfl (Nat.le_of_ble_eq_true rfl) ?_
  intro K hG hRel hK hRt hnm
  have hXK : GX (kG K) := by rw [hG]; exact hX
  have hlen2 := hL2.len
  have hlt : ∀ id e, g id = some e → id < n := fun id e h => by
    by_cases q : id < n
    · exact q
    · rw [hz id (by omega)] at h; cases h
  obtain ⟨mc, l3⟩ := hL.2.2.1
  obtain ⟨mc2, l32⟩ := hL2.2.2.1
  have hll := hlt _ _ l3
  have hll2 := hlt _ _ l32
  have hcn := hlt _ _ hc
  have hn2 : ∀ y ∈ ns2, y < n := fun y hy => by
    obtain ⟨i, hi, e⟩ := List.getElem_of_mem hy
    have := hL2.2.2.2.cell (i := i) hi
    rw [List.getD_eq_getElem?_getD, List.getElem?_eq_getElem hi] at this
    exact hlt y _ (by rw [← e]; exact this)
  have cne : c ≠ ll := fun q => by rw [q, l3] at hc; cases hc
  have c2ne : c2 ≠ ll := fun q => by rw [q, l3] at hc2; cases hc2
  -- one behind another
  have lp : ∀ (d k n1 u : Nat) (g1 : Hp) (nk : List Nat) (lr : Value), k + d = l2.length → u ≤ 1 + k → n + 1 ≤ n1 → LLs g1 ll (l2.take k) nk → (∀ y ∈ nk, n + 1 ≤ y ∧ y < n1) → g1 n = some (.inl (14, [lr, hd (ns2.drop k) .null, zI (k : Int), zI mc2, .ref l2i])) → (∀ id, id ≠ ll → id ∉ ns → id < n → g1 id = g id) → Wx K 15 [some (.ref c), some (.ref c2), some (.ref n)] [] n1 g1 u := by
    intro d
    induction d with
    | zero =>
      intro k n1 u g1 nk lr hk hu hn1 hL1 hnk hit ho
      have hl2' : g1 l2i = some (.inl (12, [zI mc2, zI ((l2.length : Nat) : Int), hd ns2 .null, ls_ .null ns2])) := (ho l2i (Ne.symm hd1) hd3 hll2).trans l32
      refine r_aload_2 hK dX4_becomes_15 ?_
      refine r_callF0 hK (ll_hasNext hK.rel hit hl2' (by omega) (by omega)) lf_X4_28_J28 (hK.px hXK).1.1 (ci := 14) ⟨rfl, rfl⟩ (Rcv.raw hK.rel hit rfl) dX4_becomes_16 (fun r n1 f1 hp => ?_) (hu := by omega)
      obtain ⟨rfl, rfl, rfl⟩ := hp
      refine r_ifB_eq 43 hK dX4_becomes_21 (fun h21 => ?_) (fun h21 => absurd h21 (by omega))
      refine r_vret hK hRt dX4_becomes_43 ⟨rfl, by omega, nk, ?_, fun y hy => by have := hnk y hy; omega, ho⟩ (by omega)
      rw [show k = l2.length by omega, List.take_length] at hL1
      exact hL1
    | succ d ih =>
      intro k n1 u g1 nk lr hk hu hn1 hL1 hnk hit ho
      have hkl : k < l2.length := by omega
      have hl2' : g1 l2i = some (.inl (12, [zI mc2, zI ((l2.length : Nat) : Int), hd ns2 .null, ls_ .null ns2])) := (ho l2i (Ne.symm hd1) hd3 hll2).trans l32
      have hcell := hL2.2.2.2.cell (i := k) (by omega)
      have hyin : ns2.getD k 0 ∈ ns2 := by rw [List.getD_eq_getElem?_getD, List.getElem?_eq_getElem (by omega)]; exact List.getElem_mem _
      have hyn := hn2 _ hyin
      have hcell1 : g1 (ns2.getD k 0) = _ := (ho _ (fun q => hd2 (by rw [← q]; exact hyin)) (fun q => hd4 _ q hyin) hyn).trans hcell
      have hgk := hgs.2 k hkl
      have hgin : l2.getD k 0 ∈ l2 := by rw [List.getD_eq_getElem?_getD, List.getElem?_eq_getElem hkl]; exact List.getElem_mem _
      have hgn := hlt _ _ hgk
      have hgk1 : g1 (l2.getD k 0) = some (cG (gt gs k)) := (ho _ (fun q => by rw [q, l3] at hgk; cases hgk) (hd6 _ hgin) hgn).trans hgk
      have hc1 : g1 c = _ := (ho c cne hd5.1 hcn).trans hc
      rw [hd_drop (by omega)] at hit
      refine r_aload_2 hK dX4_becomes_15 ?_
      refine r_callF0 hK (ll_hasNext hK.rel hit hl2' (by omega) (by omega)) lf_X4_28_J28 (hK.px hXK).1.1 (ci := 14) ⟨rfl, rfl⟩ (Rcv.raw hK.rel hit rfl) dX4_becomes_16 (fun r n1 f1 hp => ?_) (hu := by omega)
      obtain ⟨rfl, rfl, rfl⟩ := hp
      refine r_ifB_eq 43 hK dX4_becomes_21 (fun h21 => absurd hkl h21) (fun h21 => ?_)
      refine r_aload_0 hK dX4_becomes_24 ?_
      refine r_get hK fl_X4_10 dX4_becomes_25 (hc1) rfl ?_
      refine r_aload_2 hK dX4_becomes_28 ?_
      refine r_callF0 hK (ll_next hK.rel hit hl2' hcell1 (by cases (ns2.drop (k + 1)) <;> rfl) (by omega) hkl (by omega)) lf_X4_34_J28 (hK.px hXK).1.2.1 (ci := 14) ⟨rfl, rfl⟩ (Rcv.raw hK.rel hit rfl) dX4_becomes_29 (fun r n1 f1 hp => ?_) (hu := by omega)
      obtain ⟨rfl, rfl, rfl⟩ := hp
      refine r_cast hK cl_X4_38 (Rcv.raw hK.rel ((up_n (by omega)).trans hgk1) rfl) dX4_becomes_34 ?_
      refine r_callV1 hK (ll_addLast hK.rel (hL1.ext (up_n (by omega)) (fun y hy => up_n (by have := hnk y hy; omega))) (fun y hy => (hnk y hy).2) (by omega)) lk_X4_40 (Rcv.raw hK.rel ((up_n (by omega)).trans (hL1.2.2.1.choose_spec)) rfl) dX4_becomes_37 (fun r n2 f2 hp => ?_) (hu := by omega)
      obtain ⟨rfl, hle, nk', hL', hown, hfr⟩ := hp
      refine r_goto 15 hK dX4_becomes_40 ?_
      refine ih (k + 1) n2 _ f2 nk' (.ref (ns2.getD k 0)) (by omega) (by omega) (by omega) ?_ (fun y hy => ?_) ?_ (fun id h1 h2 h3 => ?_)
      · rw [List.take_succ_eq_append_getElem hkl]
        rw [List.getD_eq_getElem?_getD, List.getElem?_eq_getElem hkl] at hL'
        exact hL'
      · rcases hown y hy with q | q
        · have := hnk y q; omega
        · omega
      · rw [hfr n (by omega) (fun q => by have := hnk n q; omega) (by omega), up_s]
      · rw [hfr id h1 (fun q => by have := hnk id q; omega) (by omega), up_n (by omega)]; exact ho id h1 h2 h3
  refine r_aload_0 hK dX4_becomes_0 ?_
  refine r_get hK fl_X4_10 dX4_becomes_1 (hc) rfl ?_
  refine r_callV0 hK (ll_clear hK.rel hL) lk_X4_21 (Rcv.raw hK.rel l3 rfl) dX4_becomes_4 (fun r n1 f1 hp => ?_)
  obtain ⟨rfl, rfl, hL1, hfr⟩ := hp
  have hc2' : f1 c2 = _ := (hfr c2 c2ne hd5.2).trans hc2
  have hL2' : LLs f1 l2i l2 ns2 := hL2.ext (hfr l2i (Ne.symm hd1) hd3) (fun y hy => hfr y (fun q => hd2 (by rw [← q]; exact hy)) (fun q => hd4 y q hy))
  have l32' := (hfr l2i (Ne.symm hd1) hd3).trans l32
  refine r_aload_1 hK dX4_becomes_7 ?_
  refine r_get hK fl_X4_10 dX4_becomes_8 (hc2') rfl ?_
  refine r_callU0 hK (ll_iterator hK.rel hL2' l32' hn2 hll2 (by omega)) lu_X4_24_J13 (Rcv.raw hK.rel l32' rfl) dX4_becomes_11 (fun r n2 f2 hp => ?_)
  obtain ⟨rfl, rfl, rfl⟩ := hp
  refine r_astore_2 hK dX4_becomes_14 ?_
  refine lp l2.length 0 _ _ _ [] .null (by omega) (by omega) (Nat.le_refl _) (hL1.ext (up_n (by omega)) (fun y hy => absurd hy List.not_mem_nil)) (fun y hy => absurd hy List.not_mem_nil) (by rw [up_s]; rfl) (fun id h1 h2 h3 => by rw [up_n (by omega)]; exact hfr id h1 h2)
