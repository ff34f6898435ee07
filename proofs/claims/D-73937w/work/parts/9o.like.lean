set_option maxRecDepth 100000
/-! ===== BackLogic: wires renamed ===== -/
theorem shr1 (row v : Nat) : row >>> v &&& 1 = if row.testBit v = true then 1 else 0 := by
  rw [Nat.and_one_is_mod, Nat.testBit, Nat.one_and_eq_mod_two]
  have h : (row >>> v) % 2 < 2 := Nat.mod_lt _ (by decide)
  by_cases c : (row >>> v) % 2 = 0
  · rw [c]; rfl
  · rw [show (row >>> v) % 2 = 1 by omega]; rfl
theorem rnm_ext {f g : Nat → Nat} {row : Nat} : ∀ w, (∀ v, v < w → f v = g v) → rnm f row w = rnm g row w
  | 0, _ => rfl
  | w + 1, h => by
    unfold rnm
    rw [rnm_ext w (fun v hv => h v (by omega)), h w (by omega)]
set_option maxHeartbeats 4000000 in
theorem ct_xRenamed {G : GT} {Rel : Nat → Hp → Hp → Prop} (hR : RelOK Rel) {n : Nat} {f : Hp} {pl : Int} {w row : Nat} {h : Nat → Value} {g : Nat → Nat} (h0 : f 300 = some (x0C pl w)) (hw : w ≤ 4) (hA : f 357 = some (.inr (0, 4, h))) (hg : ∀ v, v < w → h v = zI ((g v : Nat) : Int) ∧ g v < 4) (hr : row < 16) : Ct G Rel yX0_renamed cX0_renamed 4 (some .int) (1) (0) [.ref 300, zI (row : Int)] n (f) (Pu (zI ((rnm g row w : Nat) : Int)) n f) := by
  refine ct_intro [some (.ref 300), some (zI (row : Int)), none, none] hR rfl (Nat.le_of_ble_eq_true rfl) ?_
  intro K hG hRel hK hRt hnm
  have lp : ∀ (d k : Nat), k + d = w → Wx K 4 [some (.ref 300), some (zI (row : Int)), some (zI ((rnm g row k : Nat) : Int)), some (zI (k : Int))] [] n f 0 := by
    intro d
    induction d with
    | zero =>
      intro k hk
      have ek : k = w := hk
      refine r_iload_3 hK dX0_renamed_4 ?_
      refine r_aload_0 hK dX0_renamed_5 ?_
      refine r_get hK fl_X0_131 dX0_renamed_6 (h0) rfl ?_
      refine r_icmp_ge 33 hK dX0_renamed_9 (by omega) (by omega) (fun h9 => ?_) (fun h9 => ?_)
      · refine r_iload_2 hK dX0_renamed_33 ?_
        exact r_iret hK hRt dX0_renamed_34 ⟨by rw [ek], rfl, rfl⟩
      · omega --!
    | succ d ih =>
      intro k hk
      obtain ⟨hk1, hk2⟩ := hg k (by omega)
      have hb : (row >>> k &&& 1) <<< g k < 16 := by
        rw [shr1]
        split
        · exact bit_lt (w := 4) hk2
        · rw [Nat.zero_shiftLeft]; decide
      have e : rnm g row k ||| ((row >>> k &&& 1) <<< g k) = rnm g row (k + 1) := by
        show _ = if row.testBit k = true then rnm g row k ||| (1 <<< g k) else rnm g row k
        rw [shr1]
        by_cases c : row.testBit k = true
        · rw [if_pos c, if_pos c]
        · rw [if_neg c, if_neg c, Nat.zero_shiftLeft, Nat.or_zero]
      refine r_iload_3 hK dX0_renamed_4 ?_
      refine r_aload_0 hK dX0_renamed_5 ?_
      refine r_get hK fl_X0_131 dX0_renamed_6 (h0) rfl ?_
      refine r_icmp_ge 33 hK dX0_renamed_9 (by omega) (by omega) (fun h9 => ?_) (fun h9 => ?_)
      · omega --!
      · refine r_iload_2 hK dX0_renamed_12 ?_
        refine r_iload_1 hK dX0_renamed_13 ?_
        refine r_iload_3 hK dX0_renamed_14 ?_
        refine r_ishr hK dX0_renamed_15 (by omega) (by omega) ?_
        refine r_iconstN (c := 1) hK dX0_renamed_16 ?_
        first | refine r_iand hK dX0_renamed_17 ?_ | refine r_andnot hK dX0_renamed_17 (by omega) ?_
        refine r_aload_0 hK dX0_renamed_18 ?_
        refine r_get hK fl_X0_104 dX0_renamed_19 (h0) rfl ?_
        refine r_iload_3 hK dX0_renamed_22 ?_
        refine r_iald hK dX0_renamed_23 hA (by omega) ?_
        rw [hk1]
        refine r_ishl hK dX0_renamed_24 (by omega) (by omega) ?_
        refine r_ior hK dX0_renamed_25 ?_
        rw [e]
        refine r_istore_2 hK dX0_renamed_26 ?_
        first | refine r_incN_3 hK dX0_renamed_27 ?_ | refine r_iinc_3 hK dX0_renamed_27 ?_
        refine r_goto 4 hK dX0_renamed_30 ?_
        exact ih (k + 1) (by omega)
  refine r_iconstN (c := 0) hK dX0_renamed_0 ?_
  refine r_istore_2 hK dX0_renamed_1 ?_
  refine r_iconstN (c := 0) hK dX0_renamed_2 ?_
  refine r_istore_3 hK dX0_renamed_3 ?_
  exact lp w 0 (by omega)
/-- ways to go on: m wires left -/
def rnC (w : Nat) (P : (Nat → Nat) → Bool) : Nat → Nat → Nat → (Nat → Nat) → Nat
  | 0, _, _, g => if P g = true then 1 else 0
  | m + 1, wire, had, g => ((List.range w).map (fun k => if had.testBit k = true then 0 else rnC w P m (wire + 1) (had ||| (1 <<< k)) (upN g wire k))).sum
def rnU : Nat → Nat
  | 0 => 32
  | m + 1 => 4 * rnU m
def rnI (w : Nat) (P : (Nat → Nat) → Bool) (m wire had : Nat) (g : Nat → Nat) (c : Nat) : Nat := ((List.range c).map (fun k => if had.testBit k = true then 0 else rnC w P m (wire + 1) (had ||| (1 <<< k)) (upN g wire k))).sum
theorem rnI_s {w : Nat} {P : (Nat → Nat) → Bool} {m wire had : Nat} {g : Nat → Nat} {c : Nat} : rnI w P m wire had g (c + 1) = rnI w P m wire had g c + if had.testBit c = true then 0 else rnC w P m (wire + 1) (had ||| (1 <<< c)) (upN g wire c) := by
  unfold rnI
  rw [List.range_succ, List.map_append, List.sum_append]
  simp
set_option maxHeartbeats 4000000 in
theorem ct_xRenames {G : GT} {Rel : Nat → Hp → Hp → Prop} (hR : RelOK Rel) (hP : Rel = RelP) (hX : GX G) {w s c0 : Nat} {gs hg : List Gt} {pl : Int} {hv : Nat → Value} (hw : w ≤ 4) (ho : ∀ q ∈ gs, gok w q) (hog : ∀ q ∈ hg, gok w q) (hs : s < 3) (hvs : hv s = .ref c0) : ∀ (m wire had n : Nat) (f : Hp) (g : Nat → Nat) (h : Nat → Value) (l l2 : List Nat) (ll : Nat), wire + m = w → had < 16 → f 300 = some (x0C pl w) → CC f 318 319 l gs → CC f c0 ll l2 hg → f 352 = some (.inr (7, 3, hv)) → f 357 = some (.inr (0, 4, h)) → (392 ≤ c0 ∧ 392 ≤ ll) → (∀ q, f 357 ≠ some (cG q)) → (∀ v, v < wire → h v = zI ((g v : Nat) : Int) ∧ g v < 4) → Ct G Rel yX0_renames cX0_renames 6 (some .int) (9 + m) (rnU m) [.ref 300, zI (s : Int), zI (wire : Int), zI (had : Int)] n f (fun r n' f' => r = some (zI ((rnC w (rnmOK w (run gs) (run hg)) m wire had g : Nat) : Int)) ∧ n ≤ n' ∧ ∃ h' : Nat → Value, f' = up f 357 (.inr (0, 4, h')) ∧ ∀ v, v < wire → h' v = h v) := by
  have h4 := rN4 hw
  have ho4 : ∀ g ∈ gs, gok 4 g := fun g hq => gok4 hw (ho g hq)
  have hog4 : ∀ g ∈ hg, gok 4 g := fun g hq => gok4 hw (hog g hq)
  have hb : ∀ q ∈ gs, gB q := fun q hq => (ho4 q hq).gB (by omega)
  have hbg : ∀ q ∈ hg, gB q := fun q hq => (hog4 q hq).gB (by omega)
  intro m
  induction m with
  | zero =>
    intro wire had n f g h l l2 ll hwm hhad h0 hc hcc h352 h357 hc392 hng hgv
    have ew : wire = w := hwm
    subst ew
    refine ct_intro [some (.ref 300), some (zI (s : Int)), some (zI (wire : Int)), some (zI (had : Int)), none, none] hR rfl (Nat.le_of_ble_eq_true rfl) ?_
    intro K hG hRel hK hRt hnm
    have hQ : kRel K = RelP := by rw [hRel]; exact hP
    have hXK : GX (kG K) := by rw [hG]; exact hX
    have hU0 : rnU 0 = 32 := rfl
    have lp : ∀ (d x n1 u : Nat), x + d = rN wire → n ≤ n1 → u ≤ 2 * x → (∀ y, y < x → run hg (rnm g y wire) = rnm g (run gs y) wire) → Wx K 11 [some (.ref 300), some (zI (s : Int)), some (zI (wire : Int)), some (zI (had : Int)), some (zI (x : Int)), none] [] n1 f u := by
      intro d
      induction d with
      | zero =>
        intro x n1 u hx hn1 hu hall
        have e : rnmOK wire (run gs) (run hg) g = true := rnmOK_iff.mpr (fun r hr => hall r (by omega))
        refine r_iload_4 hK dX0_renames_11 ?_
        refine r_aload_0 hK dX0_renames_13 ?_
        refine r_pV0 hK (ct_xRows hK.rel h0 hw) lk_X0_151 (Rcv.raw hK.rel h0 rfl) dX0_renames_14 ?_
        refine r_icmp_ge 59 hK dX0_renames_17 (by omega) (by omega) (fun h17 => ?_) (fun h17 => ?_)
        · refine r_iconstN (c := 1) hK dX0_renames_59 ?_
          exact r_iret hK hRt dX0_renames_60 ⟨by unfold rnC; rw [if_pos e], hn1, ⟨h, (up_self h357).symm, fun _ _ => rfl⟩⟩ (by omega)
        · omega --!
      | succ d ih =>
        intro x n1 u hx hn1 hu hall
        have hxr : x < rN wire := by omega
        have hru : run gs x < 16 := run_lt (w := 4) (fun g hq => (ho4 g hq).1) (show x < 16 by omega)
        have hrn1 : rnm g x wire < 16 := rnm_lt (k := 4) wire (fun v hv => (hgv v hv).2)
        have hrn2 : rnm g (run gs x) wire < 16 := rnm_lt (k := 4) wire (fun v hv => (hgv v hv).2)
        have hrh : run hg (rnm g x wire) < 16 := run_lt (w := 4) (fun g hq => (hog4 g hq).1) hrn1
        refine r_iload_4 hK dX0_renames_11 ?_
        refine r_aload_0 hK dX0_renames_13 ?_
        refine r_pV0 hK (ct_xRows hK.rel h0 hw) lk_X0_151 (Rcv.raw hK.rel h0 rfl) dX0_renames_14 ?_
        refine r_icmp_ge 59 hK dX0_renames_17 (by omega) (by omega) (fun h17 => ?_) (fun h17 => ?_)
        · omega --!
        · refine r_aload_0 hK dX0_renames_20 ?_
          refine r_get hK fl_X0_83 dX0_renames_21 (h0) rfl ?_
          refine r_iload_1 hK dX0_renames_24 ?_
          refine r_aald hK dX0_renames_25 h352 hs ?_
          rw [hvs]
          refine r_aload_0 hK dX0_renames_26 ?_
          refine r_iload_4 hK dX0_renames_27 ?_
          refine r_pV1 hK (ct_xRenamed hK.rel h0 hw h357 hgv (by omega)) lk_X0_366 (Rcv.raw hK.rel h0 rfl) dX0_renames_29 ?_
          refine r_callV1 hK (ct_cMade hK.rel hQ hXK hcc hbg (x := rnm g x wire) (by omega)) lk_X0_271 (Rcv.raw hK.rel hcc.1 rfl) dX0_renames_32 (fun r n2 f2 hp => ?_) (hu := by omega)
          obtain ⟨rfl, hn2, rfl⟩ := hp
          refine r_aload_0 hK dX0_renames_35 ?_
          refine r_aload_0 hK dX0_renames_36 ?_
          refine r_get hK fl_X0_41 dX0_renames_37 (h0) rfl ?_
          refine r_iload_4 hK dX0_renames_40 ?_
          refine r_callV1 hK (ct_cMade hK.rel hQ hXK hc hb (x := x) (by omega)) lk_X0_271 (Rcv.raw hK.rel hc.1 rfl) dX0_renames_42 (fun r n3 f3 hp => ?_) (hu := by omega)
          obtain ⟨rfl, hn3, rfl⟩ := hp
          refine r_pV1 hK (ct_xRenamed hK.rel h0 hw h357 hgv hru) lk_X0_366 (Rcv.raw hK.rel h0 rfl) dX0_renames_45 ?_
          refine r_icmp_eq 53 hK dX0_renames_48 (by omega) (by omega) (fun h48 => ?_) (fun h48 => ?_)
          · have e5 : run hg (rnm g x wire) = rnm g (run gs x) wire := by omega
            first | refine r_incN_4 hK dX0_renames_53 ?_ | refine r_iinc_4 hK dX0_renames_53 ?_
            refine r_goto 11 hK dX0_renames_56 ?_
            exact ih (x + 1) n3 (u + 1 + 1) (by omega) (by omega) (by omega) (fun y hy => by
              by_cases z : y = x
              · rw [z]; exact e5
              · exact hall y (by omega))
          · have e5 : ¬ rnmOK wire (run gs) (run hg) g = true := fun q => by have := rnmOK_iff.mp q x hxr; omega
            refine r_iconstN (c := 0) hK dX0_renames_51 ?_
            exact r_iret hK hRt dX0_renames_52 ⟨by unfold rnC; rw [if_neg e5], by omega, ⟨h, (up_self h357).symm, fun _ _ => rfl⟩⟩ (by omega)
    refine r_iload_2 hK dX0_renames_0 ?_
    refine r_aload_0 hK dX0_renames_1 ?_
    refine r_get hK fl_X0_131 dX0_renames_2 (h0) rfl ?_
    refine r_icmp_ne 61 hK dX0_renames_5 (by omega) (by omega) (fun h5 => ?_) (fun h5 => ?_)
    · exact absurd rfl h5 --!
    · refine r_iconstN (c := 0) hK dX0_renames_8 ?_
      refine r_istore_4 hK dX0_renames_9 ?_
      exact lp (rN wire) 0 n 0 (by omega) (Nat.le_refl _) (by omega) (fun y hy => absurd hy (Nat.not_lt_zero _))
  | succ m ih =>
    intro wire had n f g h l l2 ll hwm hhad h0 hc hcc h352 h357 hc392 hng hgv
    refine ct_intro [some (.ref 300), some (zI (s : Int)), some (zI (wire : Int)), some (zI (had : Int)), none, none] hR rfl (Nat.le_of_ble_eq_true rfl) ?_
    intro K hG hRel hK hRt hnm
    have lp : ∀ (d k n1 u : Nat) (h1 : Nat → Value), k + d = w → n ≤ n1 → u ≤ rnU m * k → (∀ v, v < wire → h1 v = h v) → Wx K 67 [some (.ref 300), some (zI (s : Int)), some (zI (wire : Int)), some (zI (had : Int)), some (zI ((rnI w (rnmOK w (run gs) (run hg)) m wire had g k : Nat) : Int)), some (zI (k : Int))] [] n1 (up f 357 (.inr (0, 4, h1))) u := by
      intro d
      induction d with
      | zero =>
        intro k n1 u h1 hk hn1 hu hh1
        have ek : k = w := hk
        have h01 : up f 357 (.inr (0, 4, h1)) 300 = some (x0C pl w) := (up_n (by decide)).trans h0
        have hU : u ≤ rnU (m + 1) := Nat.le_trans hu (by show rnU m * k ≤ 4 * rnU m; rw [Nat.mul_comm]; exact Nat.mul_le_mul_right _ (by omega))
        refine r_iload_5 hK dX0_renames_67 ?_
        refine r_aload_0 hK dX0_renames_69 ?_
        refine r_get hK fl_X0_131 dX0_renames_70 (h01) rfl ?_
        refine r_icmp_ge 121 hK dX0_renames_73 (by omega) (by omega) (fun h73 => ?_) (fun h73 => ?_)
        · refine r_iload_4 hK dX0_renames_121 ?_
          exact r_iret hK hRt dX0_renames_123 ⟨by rw [ek]; rfl, hn1, h1, rfl, hh1⟩ hU
        · omega --!
      | succ d ihd =>
        intro k n1 u h1 hk hn1 hu hh1
        have h01 : up f 357 (.inr (0, 4, h1)) 300 = some (x0C pl w) := (up_n (by decide)).trans h0
        have es := rnI_s (w := w) (P := rnmOK w (run gs) (run hg)) (m := m) (wire := wire) (had := had) (g := g) (c := k)
        have hU : rnU m * k + rnU m = rnU m * (k + 1) := (Nat.mul_succ _ _).symm
        have hU2 : rnU m * (k + 1) ≤ rnU (m + 1) := by show _ ≤ 4 * rnU m; rw [Nat.mul_comm]; exact Nat.mul_le_mul_right _ (by omega)
        have ho16 : had ||| (1 <<< k) < 16 := or_lt (w := 4) hhad (bit_lt (w := 4) (by omega))
        refine r_iload_5 hK dX0_renames_67 ?_
        refine r_aload_0 hK dX0_renames_69 ?_
        refine r_get hK fl_X0_131 dX0_renames_70 (h01) rfl ?_
        refine r_icmp_ge 121 hK dX0_renames_73 (by omega) (by omega) (fun h73 => ?_) (fun h73 => ?_)
        · omega --!
        · refine r_iload_3 hK dX0_renames_76 ?_
          refine r_iload_5 hK dX0_renames_77 ?_
          refine r_pS2 hK (ct_has0 hK.rel (s := had) (k := k) (by omega) (by omega)) lk_X0_182 dX0_renames_79 ?_ (hu := by omega) (hdp := by omega)
          refine r_ifB_eq 88 hK dX0_renames_82 (fun h82 => ?_) (fun h82 => ?_)
          · rw [if_neg h82] at es
            refine r_aload_0 hK dX0_renames_88 ?_
            refine r_get hK fl_X0_104 dX0_renames_89 (h01) rfl ?_
            refine r_iload_2 hK dX0_renames_92 ?_
            refine r_iload_5 hK dX0_renames_93 ?_
            refine r_iast hK dX0_renames_95 (up_s _ _ _) (by omega) ?_
            rw [up_up]
            have hK1 : KE [357] f (up f 357 (.inr (0, 4, updV h1 wire (zI ((k : Nat) : Int))))) := KE.up1 (by decide) hng
            have hcall := ih (wire + 1) (had ||| (1 <<< k)) n1 (up f 357 (.inr (0, 4, updV h1 wire (zI ((k : Nat) : Int))))) (upN g wire k) (updV h1 wire (zI ((k : Nat) : Int))) l l2 ll (by omega) ho16 ((up_n (by decide)).trans h0) (hc.ke hK1 (fun _ => by decide) (fun _ => by decide)) (hcc.ke hK1 (fun q => by omega) (fun q => by omega)) ((up_n (by decide)).trans h352) (up_s _ _ _) hc392 (fun q => by rw [up_s]; exact ngA q) (fun y hy => by
              unfold updV upN
              by_cases z : y = wire
              · rw [if_pos z, if_pos z]; exact ⟨rfl, by omega⟩
              · rw [if_neg z, if_neg z, hh1 y (by omega)]; exact hgv y (by omega))
            rw [← hG, ← hRel] at hcall
            have h02 : up f 357 (.inr (0, 4, updV h1 wire (zI ((k : Nat) : Int)))) 300 = some (x0C pl w) := (up_n (by decide)).trans h0
            refine r_iload_4 hK dX0_renames_96 ?_
            refine r_aload_0 hK dX0_renames_98 ?_
            refine r_iload_1 hK dX0_renames_99 ?_
            refine r_iload_2 hK dX0_renames_100 ?_
            refine r_iconstN (c := 1) hK dX0_renames_101 ?_
            first | refine r_iaddN hK dX0_renames_102 ?_ | refine r_iadd hK dX0_renames_102 ?_
            refine r_iload_3 hK dX0_renames_103 ?_
            refine r_iconstN (c := 1) hK dX0_renames_104 ?_
            refine r_iload_5 hK dX0_renames_105 ?_
            refine r_ishl hK dX0_renames_107 (by omega) (sh1 (by omega)) ?_
            refine r_ior hK dX0_renames_108 ?_
            refine r_callV3 hK hcall lk_X0_369 (Rcv.raw hK.rel h02 rfl) dX0_renames_109 (fun r n2 f2 hp => ?_) (hu := by omega) (hdp := by omega)
            obtain ⟨rfl, hn2, h', rfl, hh'⟩ := hp
            rw [up_up]
            refine r_iaddN hK dX0_renames_112 ?_
            refine r_istore_4 hK dX0_renames_113 ?_
            first | refine r_incN_5 hK dX0_renames_115 ?_ | refine r_iinc_5 hK dX0_renames_115 ?_
            refine r_goto 67 hK dX0_renames_118 ?_
            have := ihd (k + 1) n2 (u + rnU m) h' (by omega) (by omega) (by omega) (fun y hy => by
              rw [hh' y (by omega)]
              unfold updV
              rw [if_neg (by omega)]; exact hh1 y hy)
            rw [es] at this
            exact this
          · rw [if_pos h82] at es
            refine r_goto 115 hK dX0_renames_85 ?_
            first | refine r_incN_5 hK dX0_renames_115 ?_ | refine r_iinc_5 hK dX0_renames_115 ?_
            refine r_goto 67 hK dX0_renames_118 ?_
            have := ihd (k + 1) n1 u h1 (by omega) hn1 (by omega) hh1
            rw [es] at this
            exact this
    refine r_iload_2 hK dX0_renames_0 ?_
    refine r_aload_0 hK dX0_renames_1 ?_
    refine r_get hK fl_X0_131 dX0_renames_2 (h0) rfl ?_
    refine r_icmp_ne 61 hK dX0_renames_5 (by omega) (by omega) (fun h5 => ?_) (fun h5 => ?_)
    · refine r_iconstN (c := 0) hK dX0_renames_61 ?_
      refine r_istore_4 hK dX0_renames_62 ?_
      refine r_iconstN (c := 0) hK dX0_renames_64 ?_
      refine r_istore_5 hK dX0_renames_65 ?_
      have := lp w 0 n 0 h (by omega) (Nat.le_refl _) (by omega) (fun _ _ => rfl)
      rw [up_self h357] at this
      exact this
    · omega --!
