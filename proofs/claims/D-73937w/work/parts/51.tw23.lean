set_option maxRecDepth 100000
/-! ===== the reference: least, off, become ===== -/
/-- what every question leaves -/
def kW (F : Nat → Nat) (A : Nat → Nat → Nat) (F' : Nat → Nat) (A' : Nat → Nat → Nat) : Prop := (∀ k, k ≠ 38 → k ≠ 41 → k ≠ 42 → k ≠ 48 → F' k = F k) ∧ (∀ a, (a ≤ 11 ∨ 13 ≤ a ∧ a ≤ 15) → A' a = A a) ∧ CaR F' A'
set_option maxHeartbeats 4000000 in
theorem ct_least {G : GT} {Rel : Nat → Hp → Hp → Prop} (hR : RelOK Rel) {n : Nat} {f0 : Hp} {F : Nat → Nat} {A : Nat → Nat → Nat} {gs : List Gt} {y z : Int} (hy : inR y) (hz : inR z) (hw : F 17 ≤ 4) (hD8 : ∀ w, w ≤ 3 → D8 w) (hC : CaR F A) (hg : GA (A 11) gs) (ho : ∀ g ∈ gs, gok (F 17) g) : Ct G Rel yX9_least cX9_least 3 (some .int) (5) (0) [.ref 358, zI y, zI z] n (tw f0 F A) (Ti n f0 (fun r F' A' => kW F A F' A' ∧ ((F 17 = 4 ∧ r = -1) ∨ (F 17 ≤ 3 ∧ ∃ T, TabR (F 17) T ∧ r = askF (fstL T (F 17) (T (plc (run gs) (rN (F 17)))) (run gs)) y z)))) := by
  refine ct_intro [some (.ref 358), some (zI y), some (zI z)] hR rfl (Nat.le_of_ble_eq_true rfl) ?_
  intro K hG hRel hK hRt hnm
  refine r_aload_0 hK dX9_least_0 ?_
  refine r_get hK fl_X9_203 dX9_least_1 tw_obj rfl ?_
  refine r_iconstN (c := 4) hK dX9_least_4 ?_
  refine r_icmp_ne 10 hK dX9_least_5 (by omega) (by omega) (fun h5 => ?_) (fun h5 => ?_)
  · refine r_aload_0 hK dX9_least_10 ?_
    refine r_tvV0 hK (ct_laysFirst hK.rel (show F 17 ≤ 3 by omega) (hD8 _ (by omega)) hC hg ho) lk_X9_293 (tw_rcv hK) dX9_least_11 (fun F1 A1 h1 => ?_)
    obtain ⟨T, l, t1, t2, t3, t4, t5, t6, t7, t8⟩ := h1
    refine r_aload_0 hK dX9_least_14 ?_
    refine r_iload_1 hK dX9_least_15 ?_
    refine r_iload_2 hK dX9_least_16 ?_
    refine r_pV2 hK (ct_foundOf (l := l) hK.rel hy hz t3 (by omega) t5) lk_X9_360 (tw_rcv hK) dX9_least_17 ?_
    exact r_iret hK hRt dX9_least_20 ⟨_, rfl, rfl, _, _, rfl, ⟨fun k k1 k2 k3 k4 => t6 k k1 k4, fun a ha => t7 a (by omega) (by omega) (by omega) (by omega) (by omega) (by omega) (by omega) (by omega), t8⟩, Or.inr ⟨by omega, T, t1, by rw [t2]⟩⟩
  · refine r_iconst hK dX9_least_8 ?_
    exact r_iret hK hRt dX9_least_9 ⟨-1, rfl, rfl, _, _, rfl, ⟨fun _ _ _ _ _ => rfl, fun _ _ => rfl, hC⟩, Or.inl ⟨by omega, rfl⟩⟩
theorem run_q {w : Nat} {gs : List Gt} (ho : ∀ g ∈ gs, gok w g) (gs' : List Gt) (x : Nat) : run (gs.reverse ++ gs') (run gs x) = run gs' x := by rw [run_app, run_rev' gs x ho]
set_option maxHeartbeats 4000000 in
theorem ct_off {G : GT} {Rel : Nat → Hp → Hp → Prop} (hR : RelOK Rel) {n : Nat} {f0 : Hp} {F : Nat → Nat} {A : Nat → Nat → Nat} {gs : List Gt} {sl : Nat → Option (List Gt)} {z : Int} (hz : inR z) (hw : F 17 ≤ 4) (hD8 : ∀ w, w ≤ 3 → D8 w) (hC : CaR F A) (hg : GA (A 11) gs) (ho : ∀ g ∈ gs, gok (F 17) g) (hh : HeldR A sl) (hso : ∀ s hs, s < 3 → sl s = some hs → ∀ g ∈ hs, gok (F 17) g) : Ct G Rel yX9_off cX9_off 3 (some .int) (5) (0) [.ref 358, zI z] n (tw f0 F A) (Ti n f0 (fun r F' A' => kW F A F' A' ∧ ((∃ s hs, z = ((s : Nat) : Int) ∧ s < 3 ∧ sl s = some hs ∧ F 17 ≤ 3 ∧ ∃ d, d ≤ 8 ∧ r = ((d : Nat) : Int) ∧ IsD (F 17) (run (gs.reverse ++ hs)) d) ∨ ((¬ ∃ s hs, z = ((s : Nat) : Int) ∧ s < 3 ∧ sl s = some hs ∧ F 17 ≤ 3) ∧ r = -1)))) := by
  refine ct_intro [some (.ref 358), some (zI z), none] hR rfl (Nat.le_of_ble_eq_true rfl) ?_
  intro K hG hRel hK hRt hnm
  have no : (¬ ∃ s hs, z = ((s : Nat) : Int) ∧ s < 3 ∧ sl s = some hs ∧ F 17 ≤ 3) → Wx K 26 [some (.ref 358), some (zI z), none] [] n (tw f0 F A) 0 := by
    intro h
    refine r_iconst hK dX9_off_26 ?_
    exact r_iret hK hRt dX9_off_27 ⟨-1, rfl, rfl, _, _, rfl, ⟨fun _ _ _ _ _ => rfl, fun _ _ => rfl, hC⟩, Or.inr ⟨h, rfl⟩⟩
  have f17 : upF F 48 (F 17) 17 = F 17 := by rw [upF_n (by decide)]
  have lp : ∀ (s : Nat) (hs : List Gt) (A1 A2 : Nat → Nat → Nat), z = (s : Int) → s < 3 → sl s = some hs → F 17 ≤ 3 → (∀ g ∈ hs, gok (F 17) g) → (∀ a, a ≠ 26 → a ≠ 27 → a ≠ 28 → a ≠ 29 → A1 a = A a) → TabR (F 17) (A1 26) → (∀ a, a ≠ 16 → a ≠ 18 → A2 a = A1 a) → (∀ r, r < rN (F 17) → A2 16 r = run hs r) → ∀ (d r : Nat) (A3 : Nat → Nat → Nat), r + d = rN (F 17) → (∀ a, a ≠ 29 → A3 a = A2 a) → (∀ i, i < r → A3 29 (run gs i) = run hs i) → Wx K 39 [some (.ref 358), some (zI (s : Int)), some (zI (r : Int))] [] n (tw f0 (upF F 48 (F 17)) A3) 0 := by
    intro s hs A1 A2 hzs hs3 hsl hw3 hoS t2 t3 o2 o3
    have hR8 : rN (F 17) ≤ 8 := rN_le (k := 3) hw3
    have hoQ : ∀ g ∈ gs.reverse ++ hs, gok (F 17) g := fun g hg => by
      rcases List.mem_append.mp hg with q | q
      · exact ho g (List.mem_reverse.mp q)
      · exact hoS g q
    have a11 : A2 11 = A 11 := by rw [o2 11 (by decide) (by decide), t2 11 (by decide) (by decide) (by decide) (by decide)]
    have a26 : A2 26 = A1 26 := o2 26 (by decide) (by decide)
    have hg2 : GA (A2 11) gs := by rw [a11]; exact hg
    have rl : ∀ r, r < rN (F 17) → run gs r < rN (F 17) := fun r hr => run_lt (fun g hg => (ho g hg).1) hr
    intro d
    induction d with
    | zero =>
      intro r A3 hr hA3 h29
      have hq : ∀ i, i < rN (F 17) → A3 29 i = run (gs.reverse ++ hs) i := fun i hi => by
        have hi2 : run gs.reverse i < rN (F 17) := run_lt (fun g hg => (ho g (List.mem_reverse.mp hg)).1) hi
        have := h29 (run gs.reverse i) (by omega)
        rw [run_rev gs i ho] at this
        rw [this, run_app]
      have ep : plc (A3 29) (rN (F 17)) = plc (run (gs.reverse ++ hs)) (rN (F 17)) := plc_ext hq
      have eb := plc_b hR8 (run (gs.reverse ++ hs))
      have hTq := t3 _ (Pm_run hoQ)
      refine r_iload_2 hK dX9_off_39 ?_
      refine r_aload_0 hK dX9_off_40 ?_
      refine r_pV0 hK (ct_rows hK.rel (by rw [f17]; exact hw)) lk_X9_248 (tw_rcv hK) dX9_off_41 ?_
      rw [f17]
      refine r_icmp_ge 74 hK dX9_off_44 (by omega) (by omega) (fun h44 => ?_) (fun h44 => ?_)
      · refine r_aload_0 hK dX9_off_74 ?_
        refine r_get hK fl_X9_102 dX9_off_75 tw_obj rfl ?_
        refine r_aload_0 hK dX9_off_78 ?_
        refine r_aload_0 hK dX9_off_79 ?_
        refine r_pV0 hK (ct_rows hK.rel (by rw [f17]; exact hw)) lk_X9_248 (tw_rcv hK) dX9_off_80 ?_
        rw [f17]
        refine r_pV1 hK (ct_placeOf hK.rel hR8 (fun i hi => by rw [hq i hi]; have := (Pm_run hoQ).1 i hi; omega)) lk_X9_363 (tw_rcv hK) dX9_off_83 ?_
        rw [ep]
        refine t_ild hK dX9_off_86 (show _ < 40320 by omega) ?_
        rw [hA3 26 (by decide), a26]
        exact r_iret hK hRt dX9_off_87 ⟨_, rfl, rfl, _, _, rfl, ⟨fun k _ _ _ k4 => by rw [upF_n k4], fun a ha => by rw [hA3 a (by omega), o2 a (by omega) (by omega), t2 a (by omega) (by omega) (by omega) (by omega)], Or.inr (by rw [upF_s]; exact hw3), fun _ => by rw [upF_s, hA3 26 (by decide), a26]; exact t3⟩, Or.inl ⟨s, hs, hzs, hs3, hsl, hw3, _, hTq.1, rfl, hTq.2⟩⟩
      · exact absurd h44 (by omega)
    | succ d ih =>
      intro r A3 hr hA3 h29
      have hl16 := hg.2.1
      have r1 := rl r (by omega)
      refine r_iload_2 hK dX9_off_39 ?_
      refine r_aload_0 hK dX9_off_40 ?_
      refine r_pV0 hK (ct_rows hK.rel (by rw [f17]; exact hw)) lk_X9_248 (tw_rcv hK) dX9_off_41 ?_
      rw [f17]
      refine r_icmp_ge 74 hK dX9_off_44 (by omega) (by omega) (fun h44 => ?_) (fun h44 => ?_)
      · exact absurd h44 (by omega)
      · refine r_aload_0 hK dX9_off_47 ?_
        refine r_get hK fl_X9_111 dX9_off_48 tw_obj rfl ?_
        refine r_aload_0 hK dX9_off_51 ?_
        refine r_iload_2 hK dX9_off_52 ?_
        refine r_iconstN (c := 0) hK dX9_off_53 ?_
        refine r_aload_0 hK dX9_off_54 ?_
        refine r_pV0 hK (ct_gates hK.rel) lk_X9_244 (tw_rcv hK) dX9_off_55 ?_
        rw [hA3 11 (by decide), hg2.1]
        refine r_pV3 hK (ct_madeBy (gs := gs) hK.rel (by rw [hA3 11 (by decide)]; exact hg2) (fun g hg => gok4 hw (ho g hg)) (by omega) (by omega) (Nat.le_refl _)) lk_X9_307 (tw_rcv hK) dX9_off_58 ?_
        rw [List.take_length, List.drop_zero]
        refine r_aload_0 hK dX9_off_61 ?_
        refine r_get hK fl_X9_68 dX9_off_62 tw_obj rfl ?_
        refine r_iload_2 hK dX9_off_65 ?_
        refine t_ild hK dX9_off_66 (show _ < 64 by omega) ?_
        rw [hA3 16 (by decide), o3 r (by omega)]
        refine t_ist hK dX9_off_67 (show _ < 8 by omega) ?_
        first | refine r_incN_2 hK dX9_off_68 ?_ | refine r_iinc_2 hK dX9_off_68 ?_
        refine r_goto 39 hK dX9_off_71 ?_
        refine ih (r + 1) _ (by omega) (fun a ha => by rw [upA_j ha]; exact hA3 a ha) (fun i hi => ?_)
        by_cases ci : i = r
        · rw [ci, upA_s]
        · rw [upA_n (fun q => ci ((Pm_run ho).inj (by omega) (by omega) q))]; exact h29 i (by omega)
  refine r_iload_1 hK dX9_off_0 ?_
  refine r_iconstN (c := 0) hK dX9_off_1 ?_
  refine r_iconstN (c := 2) hK dX9_off_2 ?_
  refine r_pS3 hK (ct_in hK.rel hz (by omega) (by omega)) lk_X9_237 dX9_off_3 ?_
  refine r_ifB_eq 26 hK dX9_off_6 (fun h6 => ?_) (fun h6 => ?_)
  · exact no (fun ⟨s, hs, q1, q2, _⟩ => h6 (by omega))
  · obtain ⟨s, rfl⟩ : ∃ s : Nat, z = (s : Int) := ⟨z.toNat, by omega⟩
    have hs3 : s < 3 := by omega
    have hb15 : A 15 s < 2 := by
      rcases hh s hs3 with q | ⟨_, _, q, _⟩ <;> omega
    refine r_aload_0 hK dX9_off_9 ?_
    refine r_get hK fl_X9_64 dX9_off_10 tw_obj rfl ?_
    refine r_iload_1 hK dX9_off_13 ?_
    refine t_zld hK dX9_off_14 (show _ < 3 by omega) ?_
    refine r_if_eq 26 hK dX9_off_15 (by omega) (fun h15 => ?_) (fun h15 => ?_)
    · refine no (fun ⟨s', hs, q1, q2, q3, _⟩ => ?_)
      have : s' = s := by omega
      subst this
      rcases hh s' hs3 with ⟨q, _⟩ | ⟨_, _, q, _⟩
      · rw [q] at q3; cases q3
      · omega
    · refine r_aload_0 hK dX9_off_18 ?_
      refine r_get hK fl_X9_203 dX9_off_19 tw_obj rfl ?_
      refine r_iconstN (c := 4) hK dX9_off_22 ?_
      refine r_icmp_ne 28 hK dX9_off_23 (by omega) (by omega) (fun h23 => ?_) (fun h23 => ?_)
      · obtain ⟨hs, hsl, h15, hGs⟩ : ∃ hs, sl s = some hs ∧ A 15 s = 1 ∧ GA (fun k => A 14 (49 * s + k)) hs := by
          rcases hh s hs3 with ⟨_, q⟩ | q
          · omega
          · exact q
        have hw3 : F 17 ≤ 3 := by omega
        have hoS := hso s hs hs3 hsl
        refine r_aload_0 hK dX9_off_28 ?_
        refine r_tvV0 hK (ct_laysTable hK.rel hw3 (hD8 _ hw3) hC.1 (fun q => by rw [← q]; exact hC.2 (by omega))) lk_X9_369 (tw_rcv hK) dX9_off_29 (fun F1 A1 h1 => ?_)
        obtain ⟨t1, t2, t3⟩ := h1
        subst t1
        refine r_aload_0 hK dX9_off_32 ?_
        refine r_iload_1 hK dX9_off_33 ?_
        refine r_tvV1 hK (ct_laysSlot (gs := hs) hK.rel hs3 (by rw [f17]; exact hw) (by rw [t2 14 (by decide) (by decide) (by decide) (by decide)]; exact hGs) (fun g hg => gok4 hw (hoS g hg))) lk_X9_375 (tw_rcv hK) dX9_off_34 (fun F2 A2 h2 => ?_)
        obtain ⟨o1, o2, o3⟩ := h2
        subst o1
        rw [f17] at o3
        refine r_iconstN (c := 0) hK dX9_off_37 ?_
        refine r_istore_2 hK dX9_off_38 ?_
        exact lp s hs A1 A2 rfl hs3 hsl hw3 hoS t2 t3 o2 o3 (rN (F 17)) 0 A2 (by omega) (fun _ _ => rfl) (fun i hi => absurd hi (Nat.not_lt_zero _))
      · refine no (fun ⟨s', hs, _, _, _, q4⟩ => by omega)
/-- what the gates become -/
def BecR (w : Nat) (gs : List Gt) (z : Int) (l : List Gt) : Prop := (z = 0 ∧ l = shrAll w 17 gs) ∨ (z = 1 ∧ l = (fdL (fdAll w false (run gs))).map (fun g => (g.1, g.2, 0))) ∨ (z = 2 ∧ l = (fdL (fdAll w true (run gs))).map (fun g => (g.1, g.2, 0))) ∨ (z = 3 ∧ l = gs.reverse) ∨ (z = 4 ∧ ∃ T, TabR w T ∧ l = (fstL T w (T (plc (run gs) (rN w))) (run gs)).map (fun g => (g.1, g.2, 0)))
set_option maxHeartbeats 4000000 in
theorem ct_laysBecome {G : GT} {Rel : Nat → Hp → Hp → Prop} (hR : RelOK Rel) {n : Nat} {f0 : Hp} {F : Nat → Nat} {A : Nat → Nat → Nat} {gs : List Gt} {z : Int} (hz : 0 ≤ z ∧ z ≤ 4) (hz4 : z = 4 → F 17 ≤ 3) (hw : F 17 ≤ 4) (hD8 : ∀ w, w ≤ 3 → D8 w) (hC : CaR F A) (hg : GA (A 11) gs) (ho : ∀ g ∈ gs, gok (F 17) g) : Ct G Rel yX9_laysBecome cX9_laysBecome 3 none (7) (0) [.ref 358, zI z] n (tw f0 F A) (Tv n f0 (fun F' A' => kW F A F' A' ∧ ∃ l, BecR (F 17) gs z l ∧ A' 18 0 = l.length ∧ l.length ≤ 800 ∧ (l.length ≤ 16 → GA (A' 18) l))) := by
  refine ct_intro [some (.ref 358), some (zI z), none] hR rfl (Nat.le_of_ble_eq_true rfl) ?_
  intro K hG hRel hK hRt hnm
  have hl16 := hg.2.1
  have hg0 := hg.1
  -- the gates found are laid
  have l126 : ∀ (F1 : Nat → Nat) (l : List (Nat × Nat)) (d c : Nat) (A1 : Nat → Nat → Nat), c + d = l.length → BecR (F 17) gs z (l.map (fun g => (g.1, g.2, 0))) → l.length ≤ 800 → F1 38 = l.length → (∀ i, i < l.length → l[i]? = some (A1 19 i, A1 20 i)) → kW F A F1 A1 → A1 18 0 = l.length → (∀ i, i < c → i < 16 → l[i]? = some ((ge (A1 18) i).1, (ge (A1 18) i).2.1) ∧ (ge (A1 18) i).2.2 = 0) → Wx K 126 [some (.ref 358), some (zI z), some (zI (c : Int))] [] n (tw f0 F1 A1) 0 := by
    intro F1 l d
    have fin : ∀ (c : Nat) (A1 : Nat → Nat → Nat), (c = l.length ∨ 16 ≤ c) → c ≤ l.length → BecR (F 17) gs z (l.map (fun g => (g.1, g.2, 0))) → l.length ≤ 800 → kW F A F1 A1 → A1 18 0 = l.length → (∀ i, i < c → i < 16 → l[i]? = some ((ge (A1 18) i).1, (ge (A1 18) i).2.1) ∧ (ge (A1 18) i).2.2 = 0) → Wx K 167 [some (.ref 358), some (zI z), some (zI (c : Int))] [] n (tw f0 F1 A1) 0 := by
      intro c A1 hc hcl hB hl hk h0 hi
      refine r_vret hK hRt dX9_laysBecome_167 ⟨rfl, rfl, _, _, rfl, hk, _, hB, by rw [List.length_map]; exact h0, by rw [List.length_map]; exact hl, fun hl2 => ⟨by rw [List.length_map]; exact h0, hl2, fun g hg2 => ?_⟩⟩
      rw [List.length_map] at hg2 hl2
      obtain ⟨q1, q2⟩ := hi g (by omega) (by omega)
      rw [List.getElem?_map, q1]
      show some ((ge (A1 18) g).1, (ge (A1 18) g).2.1, 0) = some (ge (A1 18) g)
      rw [← q2]
    induction d with
    | zero =>
      intro c A1 hc hB hl h38 hf hk h0 hi
      refine r_iload_2 hK dX9_laysBecome_126 ?_
      refine r_aload_0 hK dX9_laysBecome_127 ?_
      refine r_get hK fl_X9_296 dX9_laysBecome_128 tw_obj rfl ?_
      refine r_icmp_ge 167 hK dX9_laysBecome_131 (by omega) (by omega) (fun h131 => ?_) (fun h131 => ?_)
      · exact fin c A1 (Or.inl (by omega)) (by omega) hB hl hk h0 hi
      · exact absurd h131 (by omega)
    | succ d ih =>
      intro c A1 hc hB hl h38 hf hk h0 hi
      refine r_iload_2 hK dX9_laysBecome_126 ?_
      refine r_aload_0 hK dX9_laysBecome_127 ?_
      refine r_get hK fl_X9_296 dX9_laysBecome_128 tw_obj rfl ?_
      refine r_icmp_ge 167 hK dX9_laysBecome_131 (by omega) (by omega) (fun h131 => ?_) (fun h131 => ?_)
      · exact absurd h131 (by omega)
      · refine r_iload_2 hK dX9_laysBecome_134 ?_
        refine r_bipushN (c := 16) hK dX9_laysBecome_135 ?_
        refine r_icmp_ge 167 hK dX9_laysBecome_137 (by omega) (by omega) (fun h137 => ?_) (fun h137 => ?_)
        · exact fin c A1 (Or.inr (by omega)) (by omega) hB hl hk h0 hi
        · refine r_aload_0 hK dX9_laysBecome_140 ?_
          refine r_get hK fl_X9_74 dX9_laysBecome_141 tw_obj rfl ?_
          refine r_iload_2 hK dX9_laysBecome_144 ?_
          refine r_aload_0 hK dX9_laysBecome_145 ?_
          refine r_get hK fl_X9_77 dX9_laysBecome_146 tw_obj rfl ?_
          refine r_iload_2 hK dX9_laysBecome_149 ?_
          refine t_ild hK dX9_laysBecome_150 (show _ < 800 by omega) ?_
          refine r_aload_0 hK dX9_laysBecome_151 ?_
          refine r_get hK fl_X9_80 dX9_laysBecome_152 tw_obj rfl ?_
          refine r_iload_2 hK dX9_laysBecome_155 ?_
          refine t_ild hK dX9_laysBecome_156 (show _ < 800 by omega) ?_
          refine r_iconstN (c := 0) hK dX9_laysBecome_157 ?_
          refine r_vS5 hK (ct_sets (j := 18) hK.rel (Or.inr rfl) (by omega)) lk_X9_268 dX9_laysBecome_158 ?_
          first | refine r_incN_2 hK dX9_laysBecome_161 ?_ | refine r_iinc_2 hK dX9_laysBecome_161 ?_
          refine r_goto 126 hK dX9_laysBecome_164 ?_
          refine ih (c + 1) _ (by omega) hB hl h38 (fun i q => by rw [upG_j (by decide), upG_j (by decide)]; exact hf i q) ⟨hk.1, fun a ha => by rw [upG_j (by omega)]; exact hk.2.1 a ha, by have := hk.2.2; unfold CaR at this ⊢; rw [upG_j (by decide)]; exact this⟩ (by rw [upG_0]; exact h0) (fun i i1 i2 => ?_)
          by_cases ci : i = c
          · subst ci
            rw [ge_upG_s (by omega)]
            exact ⟨hf i (by omega), rfl⟩
          · rw [ge_upG_n (by omega) i2 ci]; exact hi i (by omega) i2
  have j104 : ∀ (F1 : Nat → Nat) (l : List (Nat × Nat)) (A1 : Nat → Nat → Nat) a2, nl a2 = true → z ≠ 0 → z ≠ 3 → BecR (F 17) gs z (l.map (fun g => (g.1, g.2, 0))) → l.length ≤ 800 → F1 38 = l.length → (∀ i, i < l.length → l[i]? = some (A1 19 i, A1 20 i)) → kW F A F1 A1 → Wx K 104 [some (.ref 358), some (zI z), a2] [] n (tw f0 F1 A1) 0 := by
    intro F1 l A1 a2 n2 z0 z3 hB hl h38 hf hk
    refine r_iload_1 hK dX9_laysBecome_104 ?_
    refine r_if_eq 113 hK dX9_laysBecome_105 (by omega) (fun h105 => ?_) (fun h105 => ?_)
    · exact absurd h105 (by omega)
    · refine r_iload_1 hK dX9_laysBecome_108 ?_
      refine r_iconstN (c := 3) hK dX9_laysBecome_109 ?_
      refine r_icmp_ne 114 hK dX9_laysBecome_110 (by omega) (by omega) (fun h110 => ?_) (fun h110 => ?_)
      · refine r_aload_0 hK dX9_laysBecome_114 ?_
        refine r_get hK fl_X9_74 dX9_laysBecome_115 tw_obj rfl ?_
        refine r_iconstN (c := 0) hK dX9_laysBecome_118 ?_
        refine r_aload_0 hK dX9_laysBecome_119 ?_
        refine r_get hK fl_X9_296 dX9_laysBecome_120 tw_obj rfl ?_
        rw [h38]
        refine t_ist hK dX9_laysBecome_123 (show _ < 49 by omega) ?_
        refine r_iconstN (c := 0) hK dX9_laysBecome_124 ?_
        refine r_istore_2 hK dX9_laysBecome_125 ?_
        exact l126 F1 l l.length 0 _ (by omega) hB hl h38 (by rw [upA_j (by decide), upA_j (by decide)]; exact hf) ⟨hk.1, fun a ha => by rw [upA_j (by omega)]; exact hk.2.1 a ha, by have := hk.2.2; unfold CaR at this ⊢; rw [upA_j (by decide)]; exact this⟩ (by rw [upA_s]) (fun i hi => absurd hi (Nat.not_lt_zero _))
      · exact absurd h110 (by omega)
  have jr : ∀ (F1 : Nat → Nat) (l : List Gt) (A1 : Nat → Nat → Nat) a2, nl a2 = true → z = 0 ∨ z = 3 → BecR (F 17) gs z l → GA (A1 18) l → kW F A F1 A1 → Wx K 59 [some (.ref 358), some (zI z), a2] [] n (tw f0 F1 A1) 0 := by
    intro F1 l A1 a2 n2 hz03 hB hG hk
    refine r_iload_1 hK dX9_laysBecome_59 ?_
    refine r_iconstN (c := 1) hK dX9_laysBecome_60 ?_
    refine r_icmp_eq 69 hK dX9_laysBecome_61 (by omega) (by omega) (fun h61 => ?_) (fun h61 => ?_)
    · exact absurd h61 (by omega)
    · refine r_iload_1 hK dX9_laysBecome_64 ?_
      refine r_iconstN (c := 2) hK dX9_laysBecome_65 ?_
      refine r_icmp_ne 95 hK dX9_laysBecome_66 (by omega) (by omega) (fun h66 => ?_) (fun h66 => ?_)
      · refine r_iload_1 hK dX9_laysBecome_95 ?_
        refine r_iconstN (c := 4) hK dX9_laysBecome_96 ?_
        refine r_icmp_ne 104 hK dX9_laysBecome_97 (by omega) (by omega) (fun h97 => ?_) (fun h97 => ?_)
        · refine r_iload_1 hK dX9_laysBecome_104 ?_
          refine r_if_eq 113 hK dX9_laysBecome_105 (by omega) (fun h105 => ?_) (fun h105 => ?_)
          · exact r_vret hK hRt dX9_laysBecome_113 ⟨rfl, rfl, _, _, rfl, hk, l, hB, hG.1, by have := hG.2.1; omega, fun _ => hG⟩
          · refine r_iload_1 hK dX9_laysBecome_108 ?_
            refine r_iconstN (c := 3) hK dX9_laysBecome_109 ?_
            refine r_icmp_ne 114 hK dX9_laysBecome_110 (by omega) (by omega) (fun h110 => ?_) (fun h110 => ?_)
            · exact absurd h110 (by omega)
            · exact r_vret hK hRt dX9_laysBecome_113 ⟨rfl, rfl, _, _, rfl, hk, l, hB, hG.1, by have := hG.2.1; omega, fun _ => hG⟩
        · exact absurd h97 (by omega)
      · exact absurd h66 (by omega)
  have kW0 : kW F A F A := ⟨fun _ _ _ _ _ => rfl, fun _ _ => rfl, hC⟩
  have ho4 : ∀ g ∈ gs, gok 4 g := fun g hg => gok4 hw (ho g hg)
  have l25 : z = 3 → ∀ (d c : Nat) (A1 : Nat → Nat → Nat), c + d = gs.length → (∀ a, a ≠ 18 → A1 a = A a) → A1 18 0 = gs.length → (∀ i, i < c → gs[i]? = some (ge (A1 18) (gs.length - 1 - i))) → Wx K 25 [some (.ref 358), some (zI z), some (zI (c : Int))] [] n (tw f0 F A1) 0 := by
    intro z3 d
    induction d with
    | zero =>
      intro c A1 hc hA h0 hi
      refine r_iload_2 hK dX9_laysBecome_25 ?_
      refine r_aload_0 hK dX9_laysBecome_26 ?_
      refine r_pV0 hK (ct_gates hK.rel) lk_X9_244 (tw_rcv hK) dX9_laysBecome_27 ?_
      rw [hA 11 (by decide), hg0]
      refine r_icmp_ge 59 hK dX9_laysBecome_30 (by omega) (by omega) (fun h30 => ?_) (fun h30 => ?_)
      · refine jr F gs.reverse A1 _ rfl (Or.inr z3) (Or.inr (Or.inr (Or.inr (Or.inl ⟨z3, rfl⟩)))) ⟨by rw [List.length_reverse]; exact h0, by rw [List.length_reverse]; exact hl16, fun g hg2 => ?_⟩ ⟨fun _ _ _ _ _ => rfl, fun a ha => hA a (by omega), by have := hC; unfold CaR at this ⊢; rw [hA 26 (by decide)]; exact this⟩
        rw [List.length_reverse] at hg2
        rw [List.getElem?_reverse hg2]
        have := hi (gs.length - 1 - g) (by omega)
        rw [show gs.length - 1 - (gs.length - 1 - g) = g by omega] at this
        exact this
      · exact absurd h30 (by omega)
    | succ d ih =>
      intro c A1 hc hA h0 hi
      refine r_iload_2 hK dX9_laysBecome_25 ?_
      refine r_aload_0 hK dX9_laysBecome_26 ?_
      refine r_pV0 hK (ct_gates hK.rel) lk_X9_244 (tw_rcv hK) dX9_laysBecome_27 ?_
      rw [hA 11 (by decide), hg0]
      refine r_icmp_ge 59 hK dX9_laysBecome_30 (by omega) (by omega) (fun h30 => ?_) (fun h30 => ?_)
      · exact absurd h30 (by omega)
      · refine r_aload_0 hK dX9_laysBecome_33 ?_
        refine r_get hK fl_X9_52 dX9_laysBecome_34 tw_obj rfl ?_
        refine r_iload_2 hK dX9_laysBecome_37 ?_
        refine r_aload_0 hK dX9_laysBecome_38 ?_
        refine r_get hK fl_X9_74 dX9_laysBecome_39 tw_obj rfl ?_
        refine r_aload_0 hK dX9_laysBecome_42 ?_
        refine r_pV0 hK (ct_gates hK.rel) lk_X9_244 (tw_rcv hK) dX9_laysBecome_43 ?_
        rw [hA 11 (by decide), hg0]
        refine r_iconstN (c := 1) hK dX9_laysBecome_46 ?_
        first | refine r_isubN hK dX9_laysBecome_47 (by omega) ?_ | refine r_isub hK dX9_laysBecome_47 ?_
        refine r_iload_2 hK dX9_laysBecome_48 ?_
        first | refine r_isubN hK dX9_laysBecome_49 (by omega) ?_ | refine r_isub hK dX9_laysBecome_49 ?_
        refine r_vS4 hK (ct_copiesGate (i := 11) (j := 18) (a := c) (k := gs.length - 1 - c) hK.rel (by omega) (by omega) (by omega) (by omega) (by rw [hA 11 (by decide)]; exact hg.ok ho4 (by omega))) lk_X9_254 dX9_laysBecome_50 ?_
        first | refine r_incN_2 hK dX9_laysBecome_53 ?_ | refine r_iinc_2 hK dX9_laysBecome_53 ?_
        refine r_goto 25 hK dX9_laysBecome_56 ?_
        refine ih (c + 1) _ (by omega) (fun a ha => by rw [upG_j ha]; exact hA a ha) (by rw [upG_0]; exact h0) (fun i hi2 => ?_)
        by_cases ci : i = c
        · subst ci
          rw [ge_upG_s (by omega), hA 11 (by decide)]
          exact hg.2.2 i (by omega)
        · rw [ge_upG_n (by omega) (by omega) (by omega)]; exact hi i (by omega)
  have zc : z = 0 ∨ z = 3 ∨ (z = 1 ∨ z = 2) ∨ z = 4 := by omega
  rcases zc with z0 | z3 | z12 | z4
  · refine r_iload_1 hK dX9_laysBecome_0 ?_
    refine r_if_ne 8 hK dX9_laysBecome_1 (by omega) (fun h1 => ?_) (fun h1 => ?_)
    · exact absurd z0 h1
    · refine r_aload_0 hK dX9_laysBecome_4 ?_
      refine r_tvV0 hK (ct_laysShrunk hK.rel hw hg ho) lk_X9_282 (tw_rcv hK) dX9_laysBecome_5 (fun F1 A1 h1' => ?_)
      obtain ⟨s1, s2, s3⟩ := h1'
      subst s1
      refine r_iload_1 hK dX9_laysBecome_8 ?_
      refine r_iconstN (c := 3) hK dX9_laysBecome_9 ?_
      refine r_icmp_ne 59 hK dX9_laysBecome_10 (by omega) (by omega) (fun h10 => ?_) (fun h10 => ?_)
      · exact jr F1 _ A1 _ rfl (Or.inl z0) (Or.inl ⟨z0, rfl⟩) s3 ⟨fun _ _ _ _ _ => rfl, fun a ha => s2 a (by omega), by have := hC; unfold CaR at this ⊢; rw [s2 26 (by decide)]; exact this⟩
      · exact absurd h10 (by omega)
  · refine r_iload_1 hK dX9_laysBecome_0 ?_
    refine r_if_ne 8 hK dX9_laysBecome_1 (by omega) (fun h1 => ?_) (fun h1 => ?_)
    · refine r_iload_1 hK dX9_laysBecome_8 ?_
      refine r_iconstN (c := 3) hK dX9_laysBecome_9 ?_
      refine r_icmp_ne 59 hK dX9_laysBecome_10 (by omega) (by omega) (fun h10 => ?_) (fun h10 => ?_)
      · exact absurd h10 (by omega)
      · refine r_aload_0 hK dX9_laysBecome_13 ?_
        refine r_get hK fl_X9_74 dX9_laysBecome_14 tw_obj rfl ?_
        refine r_iconstN (c := 0) hK dX9_laysBecome_17 ?_
        refine r_aload_0 hK dX9_laysBecome_18 ?_
        refine r_pV0 hK (ct_gates hK.rel) lk_X9_244 (tw_rcv hK) dX9_laysBecome_19 ?_
        rw [hg0]
        refine t_ist hK dX9_laysBecome_22 (show _ < 49 by omega) ?_
        refine r_iconstN (c := 0) hK dX9_laysBecome_23 ?_
        refine r_istore_2 hK dX9_laysBecome_24 ?_
        exact l25 z3 gs.length 0 _ (by omega) (fun a ha => by rw [upA_j ha]) (by rw [upA_s]) (fun i hi => absurd hi (Nat.not_lt_zero _))
    · exact absurd h1 (by omega)
  · have lf : ∀ (both : Bool) (F1 : Nat → Nat) (A1 : Nat → Nat → Nat) a2, nl a2 = true → z = (if both then 2 else 1) → F1 = F → (∀ a, a ≠ 16 → A1 a = A a) → (∀ r, r < rN (F 17) → A1 16 r = run gs r) → Wx K 92 [some (.ref 358), some (zI z), a2] [zI (if both then 1 else 0), zI (F1 17 : Int), .ref 358] n (tw f0 F1 A1) 0 := by
      intro both F1 A1 a2 n2 hzb hF hA h16
      subst hF
      refine r_tvV2 hK (ct_laysFound (both := both) hK.rel (by omega) (onto_run ho) h16) lk_X9_289 (tw_rcv hK) dX9_laysBecome_92 (fun F2 A2 h2 => ?_)
      obtain ⟨f1, f2, f3, f4, f5⟩ := h2
      have hz12 : z = 1 ∨ z = 2 := z12
      refine r_iload_1 hK dX9_laysBecome_95 ?_
      refine r_iconstN (c := 4) hK dX9_laysBecome_96 ?_
      refine r_icmp_ne 104 hK dX9_laysBecome_97 (by omega) (by omega) (fun h97 => ?_) (fun h97 => ?_)
      · refine j104 F2 _ A2 _ n2 (by omega) (by omega) ?_ (by omega) f1 f3 ⟨fun k k1 k2 k3 k4 => f4 k k1 k2 k3, fun a ha => by rw [f5 a (by omega) (by omega) (by omega) (by omega) (by omega) (by omega) (by omega) (by omega)]; exact hA a (by omega), ?_⟩
        · cases both with
          | true => exact Or.inr (Or.inr (Or.inl ⟨hzb, rfl⟩))
          | false => exact Or.inr (Or.inl ⟨hzb, rfl⟩)
        · have := hC
          unfold CaR at this ⊢
          rw [f4 48 (by decide) (by decide) (by decide), f5 26 (by decide) (by decide) (by decide) (by decide) (by decide) (by decide) (by decide) (by decide), hA 26 (by decide)]
          exact this
      · exact absurd h97 (by omega)
    have l69 : ∀ a2, nl a2 = true → Wx K 69 [some (.ref 358), some (zI z), a2] [] n (tw f0 F A) 0 := by
      intro a2 n2
      refine r_aload_0 hK dX9_laysBecome_69 ?_
      refine r_aload_0 hK dX9_laysBecome_70 ?_
      refine r_get hK fl_X9_52 dX9_laysBecome_71 tw_obj rfl ?_
      refine r_tvV1 hK (ct_laysOrder (j := 11) (gs := gs) hK.rel (Or.inl rfl) hw hg ho4) lk_X9_285 (tw_rcv hK) dX9_laysBecome_74 (fun F1 A1 h1 => ?_)
      obtain ⟨o1, o2, o3⟩ := h1
      refine r_aload_0 hK dX9_laysBecome_77 ?_
      refine r_aload_0 hK dX9_laysBecome_78 ?_
      refine r_get hK fl_X9_203 dX9_laysBecome_79 tw_obj rfl ?_
      refine r_iload_1 hK dX9_laysBecome_82 ?_
      refine r_iconstN (c := 2) hK dX9_laysBecome_83 ?_
      refine r_icmp_ne 91 hK dX9_laysBecome_84 (by omega) (by omega) (fun h84 => ?_) (fun h84 => ?_)
      · refine r_iconstN (c := 0) hK dX9_laysBecome_91 ?_
        exact lf false F1 A1 _ n2 (by show z = 1; omega) o1 o2 o3
      · refine r_iconstN (c := 1) hK dX9_laysBecome_87 ?_
        refine r_goto 92 hK dX9_laysBecome_88 ?_
        exact lf true F1 A1 _ n2 (by show z = 2; omega) o1 o2 o3
    refine r_iload_1 hK dX9_laysBecome_0 ?_
    refine r_if_ne 8 hK dX9_laysBecome_1 (by omega) (fun h1 => ?_) (fun h1 => ?_)
    · refine r_iload_1 hK dX9_laysBecome_8 ?_
      refine r_iconstN (c := 3) hK dX9_laysBecome_9 ?_
      refine r_icmp_ne 59 hK dX9_laysBecome_10 (by omega) (by omega) (fun h10 => ?_) (fun h10 => ?_)
      · refine r_iload_1 hK dX9_laysBecome_59 ?_
        refine r_iconstN (c := 1) hK dX9_laysBecome_60 ?_
        refine r_icmp_eq 69 hK dX9_laysBecome_61 (by omega) (by omega) (fun h61 => ?_) (fun h61 => ?_)
        · exact l69 _ rfl
        · refine r_iload_1 hK dX9_laysBecome_64 ?_
          refine r_iconstN (c := 2) hK dX9_laysBecome_65 ?_
          refine r_icmp_ne 95 hK dX9_laysBecome_66 (by omega) (by omega) (fun h66 => ?_) (fun h66 => ?_)
          · exact absurd h66 (by omega)
          · exact l69 _ rfl
      · exact absurd h10 (by omega)
    · exact absurd h1 (by omega)
  · refine r_iload_1 hK dX9_laysBecome_0 ?_
    refine r_if_ne 8 hK dX9_laysBecome_1 (by omega) (fun h1 => ?_) (fun h1 => ?_)
    · refine r_iload_1 hK dX9_laysBecome_8 ?_
      refine r_iconstN (c := 3) hK dX9_laysBecome_9 ?_
      refine r_icmp_ne 59 hK dX9_laysBecome_10 (by omega) (by omega) (fun h10 => ?_) (fun h10 => ?_)
      · refine r_iload_1 hK dX9_laysBecome_59 ?_
        refine r_iconstN (c := 1) hK dX9_laysBecome_60 ?_
        refine r_icmp_eq 69 hK dX9_laysBecome_61 (by omega) (by omega) (fun h61 => ?_) (fun h61 => ?_)
        · exact absurd z4 (by omega)
        · refine r_iload_1 hK dX9_laysBecome_64 ?_
          refine r_iconstN (c := 2) hK dX9_laysBecome_65 ?_
          refine r_icmp_ne 95 hK dX9_laysBecome_66 (by omega) (by omega) (fun h66 => ?_) (fun h66 => ?_)
          · refine r_iload_1 hK dX9_laysBecome_95 ?_
            refine r_iconstN (c := 4) hK dX9_laysBecome_96 ?_
            refine r_icmp_ne 104 hK dX9_laysBecome_97 (by omega) (by omega) (fun h97 => ?_) (fun h97 => ?_)
            · exact absurd h97 (by omega)
            · refine r_aload_0 hK dX9_laysBecome_100 ?_
              refine r_tvV0 hK (ct_laysFirst hK.rel (hz4 z4) (hD8 _ (hz4 z4)) hC hg ho) lk_X9_293 (tw_rcv hK) dX9_laysBecome_101 (fun F1 A1 h1' => ?_)
              obtain ⟨T, l, t1, t2, t3, t4, t5, t6, t7, t8⟩ := h1'
              refine j104 F1 l A1 _ rfl (by omega) (by omega) (Or.inr (Or.inr (Or.inr (Or.inr ⟨z4, T, t1, by rw [t2]⟩)))) (by omega) t3 t5 ⟨fun k k1 k2 k3 k4 => t6 k k1 k4, fun a ha => t7 a (by omega) (by omega) (by omega) (by omega) (by omega) (by omega) (by omega) (by omega), t8⟩
          · exact absurd z4 (by omega)
      · exact absurd h10 (by omega)
    · exact absurd h1 (by omega)
set_option maxHeartbeats 4000000 in
theorem ct_become {G : GT} {Rel : Nat → Hp → Hp → Prop} (hR : RelOK Rel) {n : Nat} {f0 : Hp} {F : Nat → Nat} {A : Nat → Nat → Nat} {gs : List Gt} {past : List (List Gt)} {z : Int} (hz : inR z) (hw : F 17 ≤ 4) (hD8 : ∀ w, w ≤ 3 → D8 w) (hC : CaR F A) (hg : GA (A 11) gs) (ho : ∀ g ∈ gs, gok (F 17) g) (hp : PastR F A past) : Ct G Rel yX9_become cX9_become 3 (some .int) (8) (0) [.ref 358, zI z] n (tw f0 F A) (Ti n f0 (fun r F' A' => (∀ k, k ≠ 31 → k ≠ 32 → k ≠ 38 → k ≠ 41 → k ≠ 42 → k ≠ 48 → F' k = F k) ∧ (∀ a, (a ≤ 10 ∨ a = 14 ∨ a = 15) → A' a = A a) ∧ CaR F' A' ∧ ((∃ l, (0 ≤ z ∧ z ≤ 4 ∧ (z = 4 → F 17 ≤ 3)) ∧ BecR (F 17) gs z l ∧ l.length ≤ 16 ∧ r = (l.length : Int) ∧ GA (A' 11) l ∧ PastR F' A' (pushP past gs)) ∨ ((¬ (0 ≤ z ∧ z ≤ 4 ∧ (z = 4 → F 17 ≤ 3)) ∨ ∃ l, (0 ≤ z ∧ z ≤ 4 ∧ (z = 4 → F 17 ≤ 3)) ∧ BecR (F 17) gs z l ∧ 16 < l.length) ∧ r = -1 ∧ GA (A' 11) gs ∧ PastR F' A' past)))) := by
  refine ct_intro [some (.ref 358), some (zI z), none] hR rfl (Nat.le_of_ble_eq_true rfl) ?_
  intro K hG hRel hK hRt hnm
  have no : (¬ (0 ≤ z ∧ z ≤ 4 ∧ (z = 4 → F 17 ≤ 3))) → Wx K 22 [some (.ref 358), some (zI z), none] [] n (tw f0 F A) 0 := by
    intro h
    refine r_iconst hK dX9_become_22 ?_
    exact r_iret hK hRt dX9_become_23 ⟨-1, rfl, rfl, _, _, rfl, fun _ _ _ _ _ _ _ => rfl, fun _ _ => rfl, hC, Or.inr ⟨Or.inl h, rfl, hg, hp⟩⟩
  have lp : ∀ (F1 F2 : Nat → Nat) (A1 A2 : Nat → Nat → Nat) (l : List Gt), (0 ≤ z ∧ z ≤ 4 ∧ (z = 4 → F 17 ≤ 3)) → BecR (F 17) gs z l → kW F A F1 A1 → GA (A1 18) l → PastR F2 A2 (pushP past gs) → (∀ a, a ≠ 13 → A2 a = A1 a) → (∀ k, k ≠ 31 → k ≠ 32 → F2 k = F1 k) → ∀ (d c : Nat) (A3 : Nat → Nat → Nat), c + d = 49 → (∀ a, a ≠ 11 → A3 a = A2 a) → (∀ i, i < c → A3 11 i = A1 18 i) → Wx K 48 [some (.ref 358), some (zI z), some (zI (c : Int))] [] n (tw f0 F2 A3) 0 := by
    intro F1 F2 A1 A2 l h b1 k1 hGl m1 m2 m3 d
    induction d with
    | zero =>
      intro c A3 hc hA3 hi
      have hG3 : GA (A3 11) l := hGl.copy (fun k hk => hi k (by omega))
      refine r_iload_2 hK dX9_become_48 ?_
      refine r_bipushN (c := 49) hK dX9_become_49 ?_
      refine r_icmp_ge 72 hK dX9_become_51 (by omega) (by omega) (fun h51 => ?_) (fun h51 => ?_)
      · refine r_aload_0 hK dX9_become_72 ?_
        refine r_pV0 hK (ct_gates hK.rel) lk_X9_244 (tw_rcv hK) dX9_become_73 ?_
        rw [hG3.1]
        refine r_iret hK hRt dX9_become_76 ⟨_, rfl, rfl, _, _, rfl, fun k q1 q2 q3 q4 q5 q6 => by rw [m3 k q1 q2]; exact k1.1 k q3 q4 q5 q6, fun a ha => by rw [hA3 a (by omega), m2 a (by omega)]; exact k1.2.1 a (by omega), ?_, Or.inl ⟨l, h, b1, hG3.2.1, rfl, hG3, ?_⟩⟩
        · have := k1.2.2
          unfold CaR at this ⊢
          rw [m3 48 (by decide) (by decide), hA3 26 (by decide), m2 26 (by decide)]
          exact this
        · unfold PastR at m1 ⊢
          rw [hA3 13 (by decide)]
          exact m1
      · exact absurd h51 (by omega)
    | succ d ih =>
      intro c A3 hc hA3 hi
      refine r_iload_2 hK dX9_become_48 ?_
      refine r_bipushN (c := 49) hK dX9_become_49 ?_
      refine r_icmp_ge 72 hK dX9_become_51 (by omega) (by omega) (fun h51 => ?_) (fun h51 => ?_)
      · exact absurd h51 (by omega)
      · refine r_aload_0 hK dX9_become_54 ?_
        refine r_get hK fl_X9_52 dX9_become_55 tw_obj rfl ?_
        refine r_iload_2 hK dX9_become_58 ?_
        refine r_aload_0 hK dX9_become_59 ?_
        refine r_get hK fl_X9_74 dX9_become_60 tw_obj rfl ?_
        refine r_iload_2 hK dX9_become_63 ?_
        refine t_ild hK dX9_become_64 (show _ < 49 by omega) ?_
        rw [hA3 18 (by decide), m2 18 (by decide)]
        refine t_ist hK dX9_become_65 (show _ < 49 by omega) ?_
        first | refine r_incN_2 hK dX9_become_66 ?_ | refine r_iinc_2 hK dX9_become_66 ?_
        refine r_goto 48 hK dX9_become_69 ?_
        refine ih (c + 1) _ (by omega) (fun a ha => by rw [upA_j ha]; exact hA3 a ha) (fun i hi2 => ?_)
        by_cases ci : i = c
        · rw [ci, upA_s]
        · rw [upA_n ci]; exact hi i (by omega)
  have yes : (0 ≤ z ∧ z ≤ 4 ∧ (z = 4 → F 17 ≤ 3)) → Wx K 24 [some (.ref 358), some (zI z), none] [] n (tw f0 F A) 0 := by
    intro h
    have hpk : ∀ {F1 : Nat → Nat} {A1 : Nat → Nat → Nat}, kW F A F1 A1 → PastR F1 A1 past := fun hk => by
      unfold PastR at hp ⊢
      rw [hk.1 32 (by decide) (by decide) (by decide) (by decide), hk.1 31 (by decide) (by decide) (by decide) (by decide), hk.2.1 13 (by omega)]
      exact hp
    refine r_aload_0 hK dX9_become_24 ?_
    refine r_iload_1 hK dX9_become_25 ?_
    refine r_tvV1 hK (ct_laysBecome hK.rel ⟨h.1, h.2.1⟩ h.2.2 hw hD8 hC hg ho) lk_X9_279 (tw_rcv hK) dX9_become_26 (fun F1 A1 h1 => ?_)
    obtain ⟨k1, l, b1, b2, b3, b4⟩ := h1
    have g11 : GA (A1 11) gs := by rw [k1.2.1 11 (by omega)]; exact hg
    refine r_aload_0 hK dX9_become_29 ?_
    refine r_get hK fl_X9_74 dX9_become_30 tw_obj rfl ?_
    refine r_iconstN (c := 0) hK dX9_become_33 ?_
    refine t_ild hK dX9_become_34 (show _ < 49 by omega) ?_
    rw [b2]
    refine r_bipushN (c := 16) hK dX9_become_35 ?_
    refine r_icmp_le 42 hK dX9_become_37 (by omega) (by omega) (fun h37 => ?_) (fun h37 => ?_)
    · refine r_aload_0 hK dX9_become_42 ?_
      refine r_tvV0 hK (ct_marks hK.rel g11 (hpk k1)) lk_X9_265 (tw_rcv hK) dX9_become_43 (fun F2 A2 h2 => ?_)
      obtain ⟨m1, m2, m3⟩ := h2
      have hGl := b4 (by omega)
      refine r_iconstN (c := 0) hK dX9_become_46 ?_
      refine r_istore_2 hK dX9_become_47 ?_
      exact lp F1 F2 A1 A2 l h b1 k1 hGl m1 m2 m3 49 0 A2 rfl (fun _ _ => rfl) (fun i hi => absurd hi (Nat.not_lt_zero _))
    · refine r_iconst hK dX9_become_40 ?_
      exact r_iret hK hRt dX9_become_41 ⟨-1, rfl, rfl, _, _, rfl, fun k _ _ q3 q4 q5 q6 => k1.1 k q3 q4 q5 q6, fun a ha => k1.2.1 a (by omega), k1.2.2, Or.inr ⟨Or.inr ⟨l, h, b1, by omega⟩, rfl, g11, hpk k1⟩⟩
  refine r_iload_1 hK dX9_become_0 ?_
  refine r_iconstN (c := 0) hK dX9_become_1 ?_
  refine r_iconstN (c := 4) hK dX9_become_2 ?_
  refine r_pS3 hK (ct_in hK.rel hz (by omega) (by omega)) lk_X9_237 dX9_become_3 ?_
  refine r_ifB_eq 22 hK dX9_become_6 (fun h6 => ?_) (fun h6 => ?_)
  · exact no (by omega)
  · refine r_iload_1 hK dX9_become_9 ?_
    refine r_iconstN (c := 4) hK dX9_become_10 ?_
    refine r_icmp_ne 24 hK dX9_become_11 (by omega) (by omega) (fun h11 => ?_) (fun h11 => ?_)
    · exact yes ⟨by omega, by omega, fun q => by omega⟩
    · refine r_aload_0 hK dX9_become_14 ?_
      refine r_get hK fl_X9_203 dX9_become_15 tw_obj rfl ?_
      refine r_iconstN (c := 4) hK dX9_become_18 ?_
      refine r_icmp_ne 24 hK dX9_become_19 (by omega) (by omega) (fun h19 => ?_) (fun h19 => ?_)
      · exact yes ⟨by omega, by omega, fun q => by omega⟩
      · exact no (fun q => by have := q.2.2 (by omega); omega)
