set_option maxRecDepth 100000
/-! ===== cascades in the picture: shrinking ===== -/
theorem CC.keep {n : Nat} {f f1 : Hp} {c ll : Nat} {l : List Nat} {gs : List Gt} (h : CC f c ll l gs) (hn : ∀ j e, f j = some e → j < n) (hk : ∀ j, j < n → f1 j = f j) : CC f1 c ll l gs := by
  obtain ⟨c1, c2, c3, c4⟩ := h
  exact ⟨by rw [hk _ (hn _ _ c1)]; exact c1, by rw [hk _ (hn _ _ c2)]; exact c2, ⟨c3.1, fun i hi => by rw [hk _ (hn _ _ (c3.2 i hi))]; exact c3.2 i hi⟩, c4⟩
/-- what a try to shrink leaves -/
def ShP (n : Nat) (f : Hp) (c ll : Nat) (l : List Nat) (o : Option (List Gt)) : Pt_ := fun r n' f' => n ≤ n' ∧ Kp n f ll f' ∧ match o with
  | none => r = some (zI ((0 : Nat) : Int)) ∧ f' ll = some (cLL l)
  | some gs' => r = some (zI ((1 : Nat) : Int)) ∧ ∃ l', CC f' c ll l' gs'
def dnS (w r : Nat) (gs : List Gt) (i k : Nat) : Option (List Gt) := if good w r gs i k = true then some (resR r gs i k) else none
def uR (r : Nat) : Nat := if r = 1 then 0 else if r = 2 then 2 else 3
set_option maxHeartbeats 4000000 in
theorem ct_cIsDone {G : GT} {Rel : Nat → Hp → Hp → Prop} (hR : RelOK Rel) (hP : Rel = RelP) (hX : GX G) {n : Nat} {f : Hp} {c ll i k r w : Nat} {l : List Nat} {gs : List Gt} (hr : r = 1 ∨ r = 2 ∨ r = 3) (h : CC f c ll l gs) (hik : i < k) (hk : k < gs.length) (hl16 : gs.length ≤ 16) (hw : w ≤ 4) (ho : ∀ g ∈ gs, gok w g) : Ct G Rel yX4_isDone cX4_isDone 8 (some .boolean) (6) (uR r) [.ref c, zI (r : Int), zI (i : Int), zI (k : Int), zI ((rN w : Nat) : Int)] n (f) (ShP n f c ll l (dnS w r gs i k)) := by
  refine ct_intro [some (.ref c), some (zI (r : Int)), some (zI (i : Int)), some (zI (k : Int)), some (zI ((rN w : Nat) : Int)), none, none, none] hR rfl (Nat.le_of_ble_eq_true rfl) ?_
  intro K hG hRel hK hRt hnm
  have hQ : kRel K = RelP := by rw [hRel]; exact hP
  have hXK : GX (kG K) := by rw [hG]; exact hX
  refine r_fact hK (fun _ hno => ?_)
  have hlt : ∀ j e, f j = some e → j < n := fun j e q => by
    by_cases z : j < n
    · exact z
    · rw [hno j (by omega)] at q; cases q
  have hg : ∀ i, i < gs.length → f (l.getD i 0) = some (cG (gt gs i)) := fun i hi => h.2.2.1.2 i (by rw [h.2.2.1.1]; exact hi)
  have o4 : ∀ i, i < gs.length → gok 4 (gt gs i) := fun i hi => gok4 hw (ho _ (gt_mem hi))
  have gBi := (o4 i (by omega)).gB (by omega)
  have gBk := (o4 k hk).gB (by omega)
  have hll := h.2.2.1.1
  have iL : i < l.length := by omega
  have kL : k < l.length := by omega
  have lS := h.2.2.2
  have hil := hlt _ _ (hg i (by omega))
  have hkl := hlt _ _ (hg k hk)
  have lln := hlt _ _ h.2.1
  -- at the end: o is the gate that stands for both
  have j92 : ∀ (n1 u : Nat) (f1 : Hp) (o : Option (Nat × Gt)), n ≤ n1 → u + 1 ≤ uR r ∨ r = 1 ∧ u = 0 → (∀ id, id < n → f1 id = f id) → (∀ m g, o = some (m, g) → f1 m = some (cG g) ∧ m ≠ ll) → (r = 1 ∧ o = none ∨ r ≠ 1 ∧ ∃ m, o = some (m, newR r (gt gs i) (gt gs k))) → good w r gs i k = cm w gs i k → Wx K 92 [some (.ref c), some (zI (r : Int)), some (zI (i : Int)), some (zI (k : Int)), some (zI ((rN w : Nat) : Int)), some (.ref (l.getD i 0)), some (.ref (l.getD k 0)), some (match o with | none => .null | some q => .ref q.1)] [] n1 f1 u := by
    intro n1 u f1 o hn1 hu hk1 hom hro hgd
    have hCC := h.keep hlt hk1
    have cll : c ≠ ll := fun q => by have := h.1; rw [q, h.2.1] at this; cases this
    have no : ¬ cm w gs i k = true → ShP n f c ll l (dnS w r gs i k) (some (zI ((0 : Nat) : Int))) n1 f1 := fun z => by
      unfold dnS
      rw [hgd, if_neg z]
      exact ⟨hn1, fun id a _ => hk1 id a, rfl, hCC.2.1⟩
    have er1 : (l.eraseIdx k).length = l.length - 1 := List.length_eraseIdx_of_lt kL
    cases o with
    | none =>
      have hr1 : r = 1 := by
        rcases hro with q | ⟨_, m, q⟩
        · exact q.1
        · cases q
      show Wx K 92 [some (.ref c), some (zI (r : Int)), some (zI (i : Int)), some (zI (k : Int)), some (zI ((rN w : Nat) : Int)), some (.ref (l.getD i 0)), some (.ref (l.getD k 0)), some .null] [] n1 f1 u
      refine r_aload_0 hK dX4_isDone_92 ?_
      refine r_iload_2 hK dX4_isDone_93 ?_
      refine r_iload_3 hK dX4_isDone_94 ?_
      refine r_iload_4 hK dX4_isDone_95 ?_
      refine r_callV3 hK (ct_cCanCome hK.rel hQ hXK hCC hik hk hl16 hw ho) lk_X4_117 (Rcv.raw hK.rel hCC.1 rfl) dX4_isDone_97 (fun r1 n2 f2 hp => ?_) (hu := by rcases hu with q | q <;> omega)
      obtain ⟨rfl, rfl, rfl⟩ := hp
      refine r_ifB_ne 105 hK dX4_isDone_100 (fun h100 => ?_) (fun h100 => ?_)
      · refine r_aload_0 hK dX4_isDone_105 ?_
        refine r_get hK fl_X4_10 dX4_isDone_106 (hCC.1) rfl ?_
        refine r_iload_3 hK dX4_isDone_109 ?_
        refine r_callV1 hK (pl_remove hQ hCC.2.1 kL lS) lk_X4_75 (rcv_ll hQ hCC.2.1) dX4_isDone_110 (fun r1 n2 f2 hp => ?_) (hu := by rcases hu with q | q <;> omega)
        obtain ⟨rfl, rfl, rfl⟩ := hp
        refine r_pop hK dX4_isDone_113 ?_
        refine r_aload_7 hK dX4_isDone_114 ?_
        refine r_ifnullN 129 hK dX4_isDone_116 ?_
        refine r_aload_0 hK dX4_isDone_129 ?_
        refine r_get hK fl_X4_10 dX4_isDone_130 ((up_n cll).trans hCC.1) rfl ?_
        refine r_iload_2 hK dX4_isDone_133 ?_
        refine r_callV1 hK (pl_remove hQ (up_s _ _ _) (by omega) (by omega)) lk_X4_75 (rcv_ll hQ (up_s _ _ _)) dX4_isDone_134 (fun r1 n2 f2 hp => ?_) (hu := by rcases hu with q | q <;> omega)
        obtain ⟨rfl, rfl, rfl⟩ := hp
        rw [up_up]
        refine r_pop hK dX4_isDone_137 ?_
        refine r_iconstN (c := 1) hK dX4_isDone_138 ?_
        refine r_zret hK hRt dX4_isDone_139 rfl ?_ (by rcases hu with q | q <;> omega)
        unfold dnS
        rw [hgd, if_pos h100]
        refine ⟨hn1, fun id a b => by rw [up_n b]; exact hk1 id a, rfl, (l.eraseIdx k).eraseIdx i, by rw [up_n cll]; exact hCC.1, up_s _ _ _, ?_, ?_⟩
        · unfold resR
          rw [if_pos hr1]
          have g1 := (hCC.2.2.1.er hk).er (k := i) (by rw [List.length_eraseIdx_of_lt hk]; omega)
          refine ⟨g1.1, fun j hj => ?_⟩
          have := g1.2 j hj
          rw [up_n (fun q => by rw [q, hCC.2.1] at this; cases this)]
          exact this
        · rw [List.length_eraseIdx_of_lt (by omega)]; omega
      · refine r_iconstN (c := 0) hK dX4_isDone_103 ?_
        exact r_zret hK hRt dX4_isDone_104 rfl (no h100) (by rcases hu with q | q <;> omega)
    | some q =>
      obtain ⟨m, g⟩ := q
      obtain ⟨hm, hml⟩ := hom m g rfl
      have hr1 : r ≠ 1 ∧ g = newR r (gt gs i) (gt gs k) := by
        rcases hro with q | ⟨q1, m', q⟩
        · cases q.2
        · cases q; exact ⟨q1, rfl⟩
      have hu' : u + 1 ≤ uR r := by
        rcases hu with q | q
        · exact q
        · exact absurd q.1 hr1.1
      show Wx K 92 [some (.ref c), some (zI (r : Int)), some (zI (i : Int)), some (zI (k : Int)), some (zI ((rN w : Nat) : Int)), some (.ref (l.getD i 0)), some (.ref (l.getD k 0)), some (.ref m)] [] n1 f1 u
      refine r_aload_0 hK dX4_isDone_92 ?_
      refine r_iload_2 hK dX4_isDone_93 ?_
      refine r_iload_3 hK dX4_isDone_94 ?_
      refine r_iload_4 hK dX4_isDone_95 ?_
      refine r_callV3 hK (ct_cCanCome hK.rel hQ hXK hCC hik hk hl16 hw ho) lk_X4_117 (Rcv.raw hK.rel hCC.1 rfl) dX4_isDone_97 (fun r1 n2 f2 hp => ?_) (hu := by omega)
      obtain ⟨rfl, rfl, rfl⟩ := hp
      refine r_ifB_ne 105 hK dX4_isDone_100 (fun h100 => ?_) (fun h100 => ?_)
      · refine r_aload_0 hK dX4_isDone_105 ?_
        refine r_get hK fl_X4_10 dX4_isDone_106 (hCC.1) rfl ?_
        refine r_iload_3 hK dX4_isDone_109 ?_
        refine r_callV1 hK (pl_remove hQ hCC.2.1 kL lS) lk_X4_75 (rcv_ll hQ hCC.2.1) dX4_isDone_110 (fun r1 n2 f2 hp => ?_) (hu := by omega)
        obtain ⟨rfl, rfl, rfl⟩ := hp
        refine r_pop hK dX4_isDone_113 ?_
        refine r_aload_7 hK dX4_isDone_114 ?_
        refine r_ifnull hK dX4_isDone_116 ?_
        refine r_aload_0 hK dX4_isDone_119 ?_
        refine r_get hK fl_X4_10 dX4_isDone_120 ((up_n cll).trans hCC.1) rfl ?_
        refine r_iload_3 hK dX4_isDone_123 ?_
        refine r_aload_7 hK dX4_isDone_124 ?_
        refine r_callV2 hK (pl_add hQ (up_s _ _ _) (show k ≤ (l.eraseIdx k).length by omega) (by omega)) lk_X4_78 (rcv_ll hQ (up_s _ _ _)) dX4_isDone_126 (fun r1 n2 f2 hp => ?_) (hu := by omega)
        obtain ⟨rfl, hle, rfl⟩ := hp
        rw [up_up, ins_set kL]
        refine r_aload_0 hK dX4_isDone_129 ?_
        refine r_get hK fl_X4_10 dX4_isDone_130 ((up_n cll).trans hCC.1) rfl ?_
        refine r_iload_2 hK dX4_isDone_133 ?_
        refine r_callV1 hK (pl_remove hQ (up_s _ _ _) (by rw [List.length_set]; omega) (by rw [List.length_set]; omega)) lk_X4_75 (rcv_ll hQ (up_s _ _ _)) dX4_isDone_134 (fun r1 n2 f2 hp => ?_) (hu := by omega)
        obtain ⟨rfl, rfl, rfl⟩ := hp
        rw [up_up]
        refine r_pop hK dX4_isDone_137 ?_
        refine r_iconstN (c := 1) hK dX4_isDone_138 ?_
        refine r_zret hK hRt dX4_isDone_139 rfl ?_ (by omega)
        unfold dnS
        rw [hgd, if_pos h100]
        refine ⟨by omega, fun id a b => by rw [up_n b]; exact hk1 id a, rfl, (l.set k m).eraseIdx i, by rw [up_n cll]; exact hCC.1, up_s _ _ _, ?_, ?_⟩
        · unfold resR
          rw [if_neg hr1.1, ← hr1.2]
          have g1 := (hCC.2.2.1.set hm hk).er (k := i) (by rw [List.length_set]; omega)
          refine ⟨g1.1, fun j hj => ?_⟩
          have := g1.2 j hj
          rw [up_n (fun q => by rw [q, hCC.2.1] at this; cases this)]
          exact this
        · rw [List.length_eraseIdx_of_lt (by rw [List.length_set]; omega), List.length_set]; omega
      · refine r_iconstN (c := 0) hK dX4_isDone_103 ?_
        exact r_zret hK hRt dX4_isDone_104 rfl (no h100) (by omega)
  have no : ∀ (n1 u : Nat) (f1 : Hp) v7, n ≤ n1 → u ≤ uR r → (∀ id, id < n → f1 id = f id) → good w r gs i k = false → Wx K 103 [some (.ref c), some (zI (r : Int)), some (zI (i : Int)), some (zI (k : Int)), some (zI ((rN w : Nat) : Int)), some (.ref (l.getD i 0)), some (.ref (l.getD k 0)), v7] [] n1 f1 u := by
    intro n1 u f1 v7 hn1 hu hk1 hgd
    refine r_iconstN (c := 0) hK dX4_isDone_103 ?_
    refine r_zret hK hRt dX4_isDone_104 rfl ?_ hu
    unfold dnS
    rw [hgd, if_neg (by decide)]
    exact ⟨hn1, fun id a _ => hk1 id a, rfl, (h.keep hlt hk1).2.1⟩
  rcases hr with e | e | e
  · subst e
    have al := al_ok (a := gt gs i) (b := gt gs k)
    have hgd : good w 1 gs i k = (decide (gt gs i = gt gs k) && cm w gs i k) := by
      unfold good
      rw [← Bool.and_assoc]
      congr 1
      by_cases q : gt gs i = gt gs k
      · rw [decide_eq_true q, decide_eq_true (al.mp q).1, (al.mp q).2]; rfl
      · rw [decide_eq_false q]
        by_cases q2 : (gt gs i).1 = (gt gs k).1
        · rw [decide_eq_true q2, Bool.true_and]
          exact Bool.eq_false_iff.mpr (fun z => q (al.mpr ⟨q2, z⟩))
        · rw [decide_eq_false q2, Bool.false_and]
    refine r_aload_0 hK dX4_isDone_0 ?_
    refine r_iload_2 hK dX4_isDone_1 ?_
    refine r_pV1 hK (ct_cAt hK.rel hQ hXK h (show i < gs.length by omega)) lk_X4_82 (Rcv.raw hK.rel h.1 rfl) dX4_isDone_2 ?_
    refine r_astore_5 hK dX4_isDone_5 ?_
    refine r_aload_0 hK dX4_isDone_7 ?_
    refine r_iload_3 hK dX4_isDone_8 ?_
    refine r_pV1 hK (ct_cAt hK.rel hQ hXK h hk) lk_X4_82 (Rcv.raw hK.rel h.1 rfl) dX4_isDone_9 ?_
    refine r_astore_6 hK dX4_isDone_12 ?_
    refine r_null hK dX4_isDone_14 ?_
    refine r_astore_7 hK dX4_isDone_15 ?_
    refine r_iload_1 hK dX4_isDone_17 ?_
    refine r_iconstN (c := 1) hK dX4_isDone_18 ?_
    refine r_icmp_ne 34 hK dX4_isDone_19 (by omega) (by omega) (fun h19 => ?_) (fun h19 => ?_)
    · exact absurd h19 (by omega)
    · refine r_aload_5 hK dX4_isDone_22 ?_
      refine r_aload_6 hK dX4_isDone_24 ?_
      refine r_pV1 hK (ct_gAlike hK.rel (hg i (by omega)) (hg k hk) gBi gBk) lk_X4_98 (Rcv.raw hK.rel (hg i (by omega)) rfl) dX4_isDone_26 ?_
      refine r_ifB_ne 34 hK dX4_isDone_29 (fun h29 => ?_) (fun h29 => ?_)
      · refine r_iload_1 hK dX4_isDone_34 ?_
        refine r_iconstN (c := 2) hK dX4_isDone_35 ?_
        refine r_icmp_ne 48 hK dX4_isDone_36 (by omega) (by omega) (fun h36 => ?_) (fun h36 => ?_)
        · refine r_iload_1 hK dX4_isDone_48 ?_
          refine r_iconstN (c := 3) hK dX4_isDone_49 ?_
          refine r_icmp_ne 82 hK dX4_isDone_50 (by omega) (by omega) (fun h50 => ?_) (fun h50 => ?_)
          · refine r_iload_1 hK dX4_isDone_82 ?_
            refine r_iconstN (c := 1) hK dX4_isDone_83 ?_
            refine r_icmp_le 92 hK dX4_isDone_84 (by omega) (by omega) (fun h84 => ?_) (fun h84 => ?_)
            · exact j92 n _ f none (Nat.le_refl _) (Or.inr ⟨rfl, rfl⟩) (fun _ _ => rfl) (fun m g q => by cases q) (Or.inl ⟨rfl, rfl⟩) (by rw [hgd, decide_eq_true h29, Bool.true_and])
            · exact absurd h84 (by omega)
          · exact absurd h50 (by omega)
        · exact absurd h36 (by omega)
      · refine r_iconstN (c := 0) hK dX4_isDone_32 ?_
        refine r_zret hK hRt dX4_isDone_33 rfl ?_ (Nat.zero_le _)
        unfold dnS
        rw [hgd, decide_eq_false h29, Bool.false_and, if_neg (by decide)]
        exact ⟨Nat.le_refl _, fun _ _ _ => rfl, rfl, h.2.1⟩
  · subst e
    have wk := wo_ok (o4 i (by omega)) (o4 k hk)
    have t2y : good w 2 gs i k = cm w gs i k → Wx K 46 [some (.ref c), some (zI ((2 : Nat) : Int)), some (zI (i : Int)), some (zI (k : Int)), some (zI ((rN w : Nat) : Int)), some (.ref (l.getD i 0)), some (.ref (l.getD k 0)), some .null] [.ref n] (n + 1) (up f n (cG (newR 2 (gt gs i) (gt gs k)))) 1 := by
      intro hgd
      refine r_astore_7 hK dX4_isDone_46 ?_
      refine r_iload_1 hK dX4_isDone_48 ?_
      refine r_iconstN (c := 3) hK dX4_isDone_49 ?_
      refine r_icmp_ne 82 hK dX4_isDone_50 (by omega) (by omega) (fun h50 => ?_) (fun h50 => ?_)
      · refine r_iload_1 hK dX4_isDone_82 ?_
        refine r_iconstN (c := 1) hK dX4_isDone_83 ?_
        refine r_icmp_le 92 hK dX4_isDone_84 (by omega) (by omega) (fun h84 => ?_) (fun h84 => ?_)
        · exact absurd h84 (by omega)
        · refine r_aload_7 hK dX4_isDone_87 ?_
          refine r_ifnull hK dX4_isDone_89 ?_
          exact j92 (n + 1) 1 _ (some (n, newR 2 (gt gs i) (gt gs k))) (by omega) (Or.inl (by decide)) (fun id hid => up_n (by omega)) (fun m g q => by cases q; exact ⟨up_s _ _ _, by omega⟩) (Or.inr ⟨by decide, n, rfl⟩) hgd
      · exact absurd h50 (by omega)
    have t2n : good w 2 gs i k = false → Wx K 46 [some (.ref c), some (zI ((2 : Nat) : Int)), some (zI (i : Int)), some (zI (k : Int)), some (zI ((rN w : Nat) : Int)), some (.ref (l.getD i 0)), some (.ref (l.getD k 0)), some .null] [.null] n f 1 := by
      intro hgd
      refine r_astore_7 hK dX4_isDone_46 ?_
      refine r_iload_1 hK dX4_isDone_48 ?_
      refine r_iconstN (c := 3) hK dX4_isDone_49 ?_
      refine r_icmp_ne 82 hK dX4_isDone_50 (by omega) (by omega) (fun h50 => ?_) (fun h50 => ?_)
      · refine r_iload_1 hK dX4_isDone_82 ?_
        refine r_iconstN (c := 1) hK dX4_isDone_83 ?_
        refine r_icmp_le 92 hK dX4_isDone_84 (by omega) (by omega) (fun h84 => ?_) (fun h84 => ?_)
        · exact absurd h84 (by omega)
        · refine r_aload_7 hK dX4_isDone_87 ?_
          refine r_ifnullN 103 hK dX4_isDone_89 ?_
          exact no n 1 f _ (Nat.le_refl _) (by decide) (fun _ _ => rfl) hgd
      · exact absurd h50 (by omega)
    refine r_aload_0 hK dX4_isDone_0 ?_
    refine r_iload_2 hK dX4_isDone_1 ?_
    refine r_pV1 hK (ct_cAt hK.rel hQ hXK h (show i < gs.length by omega)) lk_X4_82 (Rcv.raw hK.rel h.1 rfl) dX4_isDone_2 ?_
    refine r_astore_5 hK dX4_isDone_5 ?_
    refine r_aload_0 hK dX4_isDone_7 ?_
    refine r_iload_3 hK dX4_isDone_8 ?_
    refine r_pV1 hK (ct_cAt hK.rel hQ hXK h hk) lk_X4_82 (Rcv.raw hK.rel h.1 rfl) dX4_isDone_9 ?_
    refine r_astore_6 hK dX4_isDone_12 ?_
    refine r_null hK dX4_isDone_14 ?_
    refine r_astore_7 hK dX4_isDone_15 ?_
    refine r_iload_1 hK dX4_isDone_17 ?_
    refine r_iconstN (c := 1) hK dX4_isDone_18 ?_
    refine r_icmp_ne 34 hK dX4_isDone_19 (by omega) (by omega) (fun h19 => ?_) (fun h19 => ?_)
    · refine r_iload_1 hK dX4_isDone_34 ?_
      refine r_iconstN (c := 2) hK dX4_isDone_35 ?_
      refine r_icmp_ne 48 hK dX4_isDone_36 (by omega) (by omega) (fun h36 => ?_) (fun h36 => ?_)
      · exact absurd h36 (by omega)
      · refine r_aload_5 hK dX4_isDone_39 ?_
        refine r_aload_6 hK dX4_isDone_41 ?_
        refine r_callV1 hK (ct_gWithout hK.rel (hg i (by omega)) (hg k hk) gBi gBk (by omega)) lk_X4_110 (Rcv.raw hK.rel (hg i (by omega)) rfl) dX4_isDone_43 (fun r1 n2 f2 hp => ?_) (hu := by decide)
        by_cases cf : (gt gs i).1 = (gt gs k).1 ∧ fitR 2 (gt gs i) (gt gs k) = true
        · rw [if_pos cf] at wk
          rw [wk] at hp
          obtain ⟨rfl, rfl, rfl⟩ := hp
          have hgd : good w 2 gs i k = cm w gs i k := by unfold good; rw [decide_eq_true cf.1, cf.2]; rfl
          exact t2y hgd
        · rw [if_neg cf] at wk
          rw [wk] at hp
          obtain ⟨rfl, rfl, rfl⟩ := hp
          have hgd : good w 2 gs i k = false := Bool.eq_false_iff.mpr (fun z => cf (good_fit z))
          exact t2n hgd
    · exact absurd h19 (by omega)
  · subst e
    have tk := tu_ok (o4 i (by omega)) (o4 k hk)
    have t3n : good w 3 gs i k = false → Wx K 80 [some (.ref c), some (zI ((3 : Nat) : Int)), some (zI (i : Int)), some (zI (k : Int)), some (zI ((rN w : Nat) : Int)), some (.ref (l.getD i 0)), some (.ref (l.getD k 0)), some .null] [.null] n f 2 := by
      intro hgd
      refine r_astore_7 hK dX4_isDone_80 ?_
      refine r_iload_1 hK dX4_isDone_82 ?_
      refine r_iconstN (c := 1) hK dX4_isDone_83 ?_
      refine r_icmp_le 92 hK dX4_isDone_84 (by omega) (by omega) (fun h84 => ?_) (fun h84 => ?_)
      · exact absurd h84 (by omega)
      · refine r_aload_7 hK dX4_isDone_87 ?_
        refine r_ifnullN 103 hK dX4_isDone_89 ?_
        exact no n 2 f _ (Nat.le_refl _) (by decide) (fun _ _ => rfl) hgd
    have t80 : ∀ (n1 u : Nat) (f1 : Hp) (m : Nat) (g : Gt), n ≤ n1 → u ≤ 2 → (∀ id, id < n → f1 id = f id) → f1 m = some (cG g) → m ≠ ll → g = newR 3 (gt gs i) (gt gs k) → good w 3 gs i k = cm w gs i k → Wx K 80 [some (.ref c), some (zI ((3 : Nat) : Int)), some (zI (i : Int)), some (zI (k : Int)), some (zI ((rN w : Nat) : Int)), some (.ref (l.getD i 0)), some (.ref (l.getD k 0)), some .null] [.ref m] n1 f1 u := by
      intro n1 u f1 m g hn1 hu hk1 hm hml hgg hgd
      subst hgg
      refine r_astore_7 hK dX4_isDone_80 ?_
      refine r_iload_1 hK dX4_isDone_82 ?_
      refine r_iconstN (c := 1) hK dX4_isDone_83 ?_
      refine r_icmp_le 92 hK dX4_isDone_84 (by omega) (by omega) (fun h84 => ?_) (fun h84 => ?_)
      · exact absurd h84 (by omega)
      · refine r_aload_7 hK dX4_isDone_87 ?_
        refine r_ifnull hK dX4_isDone_89 ?_
        exact j92 n1 u f1 (some (m, newR 3 (gt gs i) (gt gs k))) hn1 (Or.inl (by show u + 1 ≤ 3; omega)) hk1 (fun m' g' q => by cases q; exact ⟨hm, hml⟩) (Or.inr ⟨by decide, m, rfl⟩) hgd
    have fit : (tu (gt gs i) (gt gs k)).or (tu (gt gs k) (gt gs i)) ≠ none → ∀ g, (tu (gt gs i) (gt gs k)).or (tu (gt gs k) (gt gs i)) = some g → g = newR 3 (gt gs i) (gt gs k) ∧ good w 3 gs i k = cm w gs i k := by
      intro hne g hgg
      by_cases cf : (gt gs i).1 = (gt gs k).1 ∧ fitR 3 (gt gs i) (gt gs k) = true
      · rw [if_pos cf, hgg] at tk
        exact ⟨Option.some.inj tk, by unfold good; rw [decide_eq_true cf.1, cf.2]; rfl⟩
      · rw [if_neg cf] at tk
        exact absurd tk hne
    have t3a : ∀ g, tu (gt gs i) (gt gs k) = some g → Wx K 60 [some (.ref c), some (zI ((3 : Nat) : Int)), some (zI (i : Int)), some (zI (k : Int)), some (zI ((rN w : Nat) : Int)), some (.ref (l.getD i 0)), some (.ref (l.getD k 0)), some .null] [.ref n] (n + 1) (up f n (cG g)) 1 := by
      intro g hg1
      obtain ⟨e1, e2⟩ := fit (by rw [hg1]; simp) g (by rw [hg1]; rfl)
      have hk1 : ∀ id, id < n → up f n (cG g) id = f id := fun id hid => up_n (by omega)
      refine r_ifnull hK dX4_isDone_60 ?_
      refine r_aload_5 hK dX4_isDone_63 ?_
      refine r_aload_6 hK dX4_isDone_65 ?_
      refine r_callV1 hK (ct_gTurned hK.rel ((hk1 _ hil).trans (hg i (by omega))) ((hk1 _ hkl).trans (hg k hk)) gBi gBk (by omega)) lk_X4_114 (Rcv.raw hK.rel ((hk1 _ hil).trans (hg i (by omega))) rfl) dX4_isDone_67 (fun r1 n2 f2 hp => ?_) (hu := by decide)
      rw [hg1] at hp
      obtain ⟨rfl, rfl, rfl⟩ := hp
      refine r_goto 80 hK dX4_isDone_70 ?_
      exact t80 (n + 1 + 1) 2 _ (n + 1) g (by omega) (by decide) (fun id hid => by rw [up_n (by omega)]; exact hk1 id hid) (up_s _ _ _) (by omega) e1 e2
    have t3b : tu (gt gs i) (gt gs k) = none → Wx K 60 [some (.ref c), some (zI ((3 : Nat) : Int)), some (zI (i : Int)), some (zI (k : Int)), some (zI ((rN w : Nat) : Int)), some (.ref (l.getD i 0)), some (.ref (l.getD k 0)), some .null] [.null] n f 1 := by
      intro hn1
      refine r_ifnullN 73 hK dX4_isDone_60 ?_
      refine r_aload_6 hK dX4_isDone_73 ?_
      refine r_aload_5 hK dX4_isDone_75 ?_
      refine r_callV1 hK (ct_gTurned hK.rel (hg k hk) (hg i (by omega)) gBk gBi (by omega)) lk_X4_114 (Rcv.raw hK.rel (hg k hk) rfl) dX4_isDone_77 (fun r1 n2 f2 hp => ?_) (hu := by decide)
      cases ht : tu (gt gs k) (gt gs i) with
      | some g =>
        rw [ht] at hp
        obtain ⟨rfl, rfl, rfl⟩ := hp
        obtain ⟨e1, e2⟩ := fit (by rw [hn1, ht]; simp) g (by rw [hn1, ht]; rfl)
        exact t80 (n + 1) 2 _ n g (by omega) (by decide) (fun id hid => up_n (by omega)) (up_s _ _ _) (by omega) e1 e2
      | none =>
        rw [ht] at hp
        obtain ⟨rfl, rfl, rfl⟩ := hp
        have hgd : good w 3 gs i k = false := Bool.eq_false_iff.mpr (fun z => by
          rw [hn1, ht, if_pos (good_fit z)] at tk
          cases tk)
        exact t3n hgd
    refine r_aload_0 hK dX4_isDone_0 ?_
    refine r_iload_2 hK dX4_isDone_1 ?_
    refine r_pV1 hK (ct_cAt hK.rel hQ hXK h (show i < gs.length by omega)) lk_X4_82 (Rcv.raw hK.rel h.1 rfl) dX4_isDone_2 ?_
    refine r_astore_5 hK dX4_isDone_5 ?_
    refine r_aload_0 hK dX4_isDone_7 ?_
    refine r_iload_3 hK dX4_isDone_8 ?_
    refine r_pV1 hK (ct_cAt hK.rel hQ hXK h hk) lk_X4_82 (Rcv.raw hK.rel h.1 rfl) dX4_isDone_9 ?_
    refine r_astore_6 hK dX4_isDone_12 ?_
    refine r_null hK dX4_isDone_14 ?_
    refine r_astore_7 hK dX4_isDone_15 ?_
    refine r_iload_1 hK dX4_isDone_17 ?_
    refine r_iconstN (c := 1) hK dX4_isDone_18 ?_
    refine r_icmp_ne 34 hK dX4_isDone_19 (by omega) (by omega) (fun h19 => ?_) (fun h19 => ?_)
    · refine r_iload_1 hK dX4_isDone_34 ?_
      refine r_iconstN (c := 2) hK dX4_isDone_35 ?_
      refine r_icmp_ne 48 hK dX4_isDone_36 (by omega) (by omega) (fun h36 => ?_) (fun h36 => ?_)
      · refine r_iload_1 hK dX4_isDone_48 ?_
        refine r_iconstN (c := 3) hK dX4_isDone_49 ?_
        refine r_icmp_ne 82 hK dX4_isDone_50 (by omega) (by omega) (fun h50 => ?_) (fun h50 => ?_)
        · exact absurd h50 (by omega)
        · refine r_aload_5 hK dX4_isDone_53 ?_
          refine r_aload_6 hK dX4_isDone_55 ?_
          refine r_callV1 hK (ct_gTurned hK.rel (hg i (by omega)) (hg k hk) gBi gBk (by omega)) lk_X4_114 (Rcv.raw hK.rel (hg i (by omega)) rfl) dX4_isDone_57 (fun r1 n2 f2 hp => ?_) (hu := by decide)
          cases ht : tu (gt gs i) (gt gs k) with
          | some g =>
            rw [ht] at hp
            obtain ⟨rfl, rfl, rfl⟩ := hp
            exact t3a g ht
          | none =>
            rw [ht] at hp
            obtain ⟨rfl, rfl, rfl⟩ := hp
            exact t3b ht
      · exact absurd h36 (by omega)
    · exact absurd h19 (by omega)
