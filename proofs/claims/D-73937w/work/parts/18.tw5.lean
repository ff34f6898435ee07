set_option maxRecDepth 100000
/-! ===== the reference: put, swap ===== -/
/-- what a gate may be put: its numbers as they are asked -/
def putOK (w len : Nat) (a t on off : Int) : Prop := len ≠ 16 ∧ (0 ≤ a ∧ a ≤ len) ∧ (0 ≤ t ∧ t < w) ∧ (0 ≤ on ∧ on < rN w) ∧ (0 ≤ off ∧ off < rN w) ∧ on.toNat &&& off.toNat = 0 ∧ (on.toNat ||| off.toNat).testBit t.toNat = false
set_option maxHeartbeats 4000000 in
theorem ct_put {G : GT} {Rel : Nat → Hp → Hp → Prop} (hR : RelOK Rel) {n : Nat} {f0 : Hp} {F : Nat → Nat} {A : Nat → Nat → Nat} {gs : List Gt} {past : List (List Gt)} {za zt zo zf : Int} (ha : inR za) (ht : inR zt) (hzo : inR zo) (hzf : inR zf) (hw : F 17 ≤ 4) (hg : GA (A 11) gs) (ho : ∀ g ∈ gs, gok 4 g) (hp : PastR F A past) : Ct G Rel yX9_put cX9_put 6 (some .boolean) (3) (0) [.ref 358, zI za, zI zt, zI zo, zI zf] n (tw f0 F A) (Ti n f0 (fun r F' A' => (∀ a, a ≠ 11 → a ≠ 13 → A' a = A a) ∧ (∀ k, k ≠ 31 → k ≠ 32 → F' k = F k) ∧ ((putOK (F 17) gs.length za zt zo zf ∧ r = 1 ∧ GA (A' 11) (gs.take za.toNat ++ (zt.toNat, zo.toNat, zf.toNat) :: gs.drop za.toNat) ∧ PastR F' A' (pushP past gs)) ∨ (¬ putOK (F 17) gs.length za zt zo zf ∧ r = 0 ∧ F' = F ∧ A' = A)))) := by
  refine ct_intro [some (.ref 358), some (zI za), some (zI zt), some (zI zo), some (zI zf), none] hR rfl (Nat.le_of_ble_eq_true rfl) ?_
  intro K hG hRel hK hRt hnm
  have h0 := hg.1
  have hl := hg.2.1
  have hr4 := rN4 hw
  have lp : ∀ (m k a t on off : Nat) (F1 : Nat → Nat) (A1 A' : Nat → Nat → Nat), za = (a : Int) → zt = (t : Int) → zo = (on : Int) → zf = (off : Int) → putOK (F 17) gs.length za zt zo zf → a ≤ gs.length → gs.length < 16 → t < 4 → on < 16 → off < 16 →
      PastR F1 A1 (pushP past gs) → (∀ a, a ≠ 13 → A1 a = A a) → (∀ k, k ≠ 31 → k ≠ 32 → F1 k = F k) →
      m = k → a ≤ k → k ≤ gs.length → A' 11 0 = gs.length → (∀ j, j ≠ 11 → A' j = A1 j) → (∀ g, g ≤ k → g < gs.length → gs[g]? = some (ge (A' 11) g)) → (∀ g, k < g → g ≤ gs.length → gs[g - 1]? = some (ge (A' 11) g)) →
      Wx K 86 [some (.ref 358), some (zI (a : Int)), some (zI (t : Int)), some (zI (on : Int)), some (zI (off : Int)), some (zI (k : Int))] [] n (tw f0 F1 A') 0 := by
    intro m
    induction m using Nat.strongRecOn with
    | _ m ih =>
      intro k a t on off F1 A1 A' e1 e2 e3 e4 hpk hal h16 ht4 hon hoff q1 q2 q3 hm hak hkl r0 r1 r2 r3
      refine r_iload_5 hK dX9_put_86 ?_
      refine r_iload_1 hK dX9_put_88 ?_
      refine r_icmp_le 115 hK dX9_put_89 (by omega) (by omega) (fun h89 => ?_) (fun h89 => ?_)
      · have hk : k = a := by omega
        subst hk
        refine r_aload_0 hK dX9_put_115 ?_
        refine r_get hK fl_X9_52 dX9_put_116 tw_obj rfl ?_
        refine r_iload_1 hK dX9_put_119 ?_
        refine r_iload_2 hK dX9_put_120 ?_
        refine r_iload_3 hK dX9_put_121 ?_
        refine r_iload_4 hK dX9_put_122 ?_
        refine r_vS5 hK (ct_sets (j := 11) hK.rel (Or.inl rfl) (by omega)) lk_X9_268 dX9_put_124 ?_
        refine r_aload_0 hK dX9_put_127 ?_
        refine r_get hK fl_X9_52 dX9_put_128 tw_obj rfl ?_
        refine r_iconstN (c := 0) hK dX9_put_131 ?_
        refine r_dup2 hK dX9_put_132 ?_
        refine t_ild hK dX9_put_133 (show _ < 49 by omega) ?_
        rw [upG_0, r0]
        refine r_iconstN (c := 1) hK dX9_put_134 ?_
        first | refine r_iaddN hK dX9_put_135 ?_ | refine r_iadd hK dX9_put_135 ?_
        refine t_ist hK dX9_put_136 (show _ < 49 by omega) ?_
        refine r_iconstN (c := 1) hK dX9_put_137 ?_
        refine r_zret hK hRt dX9_put_138 rfl ⟨1, rfl, rfl, _, _, rfl, fun j h1 h2 => ?_, fun j h1 h2 => q3 j h1 h2, Or.inl ⟨hpk, rfl, ?_, ?_⟩⟩
        · rw [upA_j h1, upG_j h1, r1 j h1, q2 j h2]
        · have hlen : (gs.take za.toNat ++ (zt.toNat, zo.toNat, zf.toNat) :: gs.drop za.toNat).length = gs.length + 1 := by rw [List.length_append, List.length_cons, List.length_take, List.length_drop]; omega
          refine ⟨by rw [upA_s, hlen], by rw [hlen]; omega, fun g hgl => ?_⟩
          rw [hlen] at hgl
          have hge : ge (upA (upG A' 11 k (t, on, off)) 11 0 (gs.length + 1) 11) g = ge (upG A' 11 k (t, on, off) 11) g := by
            unfold ge; rw [upA_n (by omega), upA_n (by omega), upA_n (by omega)]
          rw [hge]
          have ez : za.toNat = k := by omega
          rw [ez]
          by_cases c1 : g < k
          · rw [List.getElem?_append_left (by rw [List.length_take]; omega), List.getElem?_take, if_pos c1, ge_upG_n (by omega) (by omega) (by omega)]
            exact r2 g (by omega) (by omega)
          · by_cases c2 : g = k
            · subst c2
              rw [List.getElem?_append_right (by rw [List.length_take]; omega), List.length_take, show g - min g gs.length = 0 by omega, ge_upG_s (by omega), List.getElem?_cons_zero, e2, e3, e4]
              rfl
            · rw [List.getElem?_append_right (by rw [List.length_take]; omega), List.length_take, show g - min k gs.length = (g - k - 1) + 1 by omega, List.getElem?_cons_succ, List.getElem?_drop, show k + (g - k - 1) = g - 1 by omega, ge_upG_n (by omega) (by omega) c2]
              exact r3 g (by omega) (by omega)
        · obtain ⟨p1, p2, p3, p4⟩ := q1
          exact ⟨p1, p2, p3, fun i hi => by rw [upA_j (by decide), upG_j (by decide), r1 13 (by decide)]; exact p4 i hi⟩
      · refine r_aload_0 hK dX9_put_92 ?_
        refine r_get hK fl_X9_52 dX9_put_93 tw_obj rfl ?_
        refine r_iload_5 hK dX9_put_96 ?_
        refine r_iconstN (c := 1) hK dX9_put_98 ?_
        first | refine r_isubN hK dX9_put_99 (by omega) ?_ | refine r_isub hK dX9_put_99 ?_
        refine r_aload_0 hK dX9_put_100 ?_
        refine r_get hK fl_X9_52 dX9_put_101 tw_obj rfl ?_
        refine r_iload_5 hK dX9_put_104 ?_
        refine r_vS4 hK (ct_copiesGate (i := 11) (j := 11) (a := k - 1) (k := k) hK.rel (by omega) (by omega) (by omega) (by omega) (by have := r2 (k - 1) (by omega) (by omega); rw [List.getElem?_eq_getElem (by omega)] at this; rw [← Option.some.inj this]; exact ho _ (List.getElem_mem _))) lk_X9_254 dX9_put_106 ?_
        obtain ⟨k', rfl⟩ : ∃ k', k = k' + 1 := ⟨k - 1, by omega⟩
        first | refine r_decN_5 hK dX9_put_109 ?_ | refine r_iinc_5 hK dX9_put_109 ?_
        refine r_goto 86 hK dX9_put_112 ?_
        refine ih k' (by omega) k' a t on off F1 A1 _ e1 e2 e3 e4 hpk hal h16 ht4 hon hoff q1 q2 q3 rfl (by omega) (by omega) (by rw [upG_0]; exact r0) (fun j hj => by rw [upG_j hj]; exact r1 j hj) (fun g g1 g2 => by rw [ge_upG_n (by omega) (by omega) (by omega)]; exact r2 g (by omega) g2) (fun g g1 g2 => ?_)
        by_cases e : g = k' + 1
        · subst e
          rw [ge_upG_s (by omega)]
          exact r2 (k' + 1 - 1) (by omega) (by omega)
        · rw [ge_upG_n (by omega) (by omega) e]
          exact r3 g (by omega) g2
  have bad : ∀ {pc : Nat} {L : List (Option Value)}, decode cX9_put pc = .ok (.ireturn, 1) → ¬ putOK (F 17) gs.length za zt zo zf → Wx K pc L [zI ((0 : Nat) : Int)] n (tw f0 F A) 0 := fun hd hn => r_zret hK hRt hd rfl ⟨0, rfl, rfl, _, _, rfl, fun a h1 h2 => rfl, fun k h1 h2 => rfl, Or.inr ⟨hn, rfl, rfl, rfl⟩⟩
  refine r_aload_0 hK dX9_put_0 ?_
  refine r_pV0 hK (ct_gates hK.rel) lk_X9_244 (tw_rcv hK) dX9_put_1 ?_
  refine r_bipushN (c := 16) hK dX9_put_4 ?_
  refine r_icmp_eq 52 hK dX9_put_6 (by omega) (by omega) (fun h6 => ?_) (fun h6 => ?_)
  · refine r_iconstN (c := 0) hK dX9_put_52 ?_
    refine bad dX9_put_53 (fun h => ?_)
    obtain ⟨c1, c2, c3, c4, c5, c6, c7⟩ := h
    omega
  · refine r_iload_1 hK dX9_put_9 ?_
    refine r_iconstN (c := 0) hK dX9_put_10 ?_
    refine r_aload_0 hK dX9_put_11 ?_
    refine r_pV0 hK (ct_gates hK.rel) lk_X9_244 (tw_rcv hK) dX9_put_12 ?_
    refine r_pS3 hK (ct_in hK.rel ha (by omega) (by omega)) lk_X9_237 dX9_put_15 ?_
    refine r_ifB_eq 52 hK dX9_put_18 (fun h18 => ?_) (fun h18 => ?_)
    · refine r_iconstN (c := 0) hK dX9_put_52 ?_
      refine bad dX9_put_53 (fun h => ?_)
      obtain ⟨c1, c2, c3, c4, c5, c6, c7⟩ := h
      omega
    · refine r_iload_2 hK dX9_put_21 ?_
      refine r_iconstN (c := 0) hK dX9_put_22 ?_
      refine r_aload_0 hK dX9_put_23 ?_
      refine r_get hK fl_X9_203 dX9_put_24 tw_obj rfl ?_
      refine r_iconstN (c := 1) hK dX9_put_27 ?_
      refine r_isub hK dX9_put_28 ?_
      refine r_pS3 hK (ct_in hK.rel ht (by omega) (by omega)) lk_X9_237 dX9_put_29 ?_
      refine r_ifB_eq 52 hK dX9_put_32 (fun h32 => ?_) (fun h32 => ?_)
      · refine r_iconstN (c := 0) hK dX9_put_52 ?_
        refine bad dX9_put_53 (fun h => ?_)
        obtain ⟨c1, c2, c3, c4, c5, c6, c7⟩ := h
        omega
      · refine r_aload_0 hK dX9_put_35 ?_
        refine r_iload_3 hK dX9_put_36 ?_
        refine r_pV1 hK (ct_isRow hK.rel hzo hw) lk_X9_258 (tw_rcv hK) dX9_put_37 ?_
        refine r_ifB_eq 52 hK dX9_put_40 (fun h40 => ?_) (fun h40 => ?_)
        · refine r_iconstN (c := 0) hK dX9_put_52 ?_
          refine bad dX9_put_53 (fun h => ?_)
          obtain ⟨c1, c2, c3, c4, c5, c6, c7⟩ := h
          omega
        · refine r_aload_0 hK dX9_put_43 ?_
          refine r_iload_4 hK dX9_put_44 ?_
          refine r_pV1 hK (ct_isRow hK.rel hzf hw) lk_X9_258 (tw_rcv hK) dX9_put_46 ?_
          refine r_ifB_ne 54 hK dX9_put_49 (fun h49 => ?_) (fun h49 => ?_)
          · obtain ⟨a, rfl⟩ : ∃ s : Nat, za = (s : Int) := ⟨za.toNat, by omega⟩
            obtain ⟨t, rfl⟩ : ∃ s : Nat, zt = (s : Int) := ⟨zt.toNat, by omega⟩
            obtain ⟨on, rfl⟩ : ∃ s : Nat, zo = (s : Int) := ⟨zo.toNat, by omega⟩
            obtain ⟨off, rfl⟩ : ∃ s : Nat, zf = (s : Int) := ⟨zf.toNat, by omega⟩
            have ha1 : on &&& off < 16 := and_lt (by omega)
            have hor : on ||| off < 16 := or_lt (w := 4) (show on < rN 4 by show on < 16; omega) (show off < rN 4 by show off < 16; omega)
            refine r_iload_3 hK dX9_put_54 ?_
            refine r_iload_4 hK dX9_put_55 ?_
            first | refine r_iand hK dX9_put_57 ?_ | refine r_andnot hK dX9_put_57 (by omega) ?_
            refine r_if_ne 72 hK dX9_put_58 (by omega) (fun h58 => ?_) (fun h58 => ?_)
            · refine r_iconstN (c := 0) hK dX9_put_72 ?_
              refine bad dX9_put_73 (fun h => ?_)
              obtain ⟨c1, c2, c3, c4, c5, c6, c7⟩ := h
              simp only [Int.toNat_natCast] at c6
              omega
            · refine r_iload_3 hK dX9_put_61 ?_
              refine r_iload_4 hK dX9_put_62 ?_
              refine r_ior hK dX9_put_64 ?_
              refine r_iload_2 hK dX9_put_65 ?_
              refine r_pS2 hK (ct_has hK.rel (by omega) (by omega)) lk_X9_261 dX9_put_66 ?_
              refine r_ifB_eq 74 hK dX9_put_69 (fun h69 => ?_) (fun h69 => ?_)
              · refine r_aload_0 hK dX9_put_74 ?_
                refine r_tvV0 hK (ct_marks hK.rel hg hp) lk_X9_265 (tw_rcv hK) dX9_put_75 (fun F1 A1 h1 => ?_)
                refine r_aload_0 hK dX9_put_78 ?_
                refine r_get hK fl_X9_52 dX9_put_79 tw_obj rfl ?_
                refine r_iconstN (c := 0) hK dX9_put_82 ?_
                obtain ⟨m1, m2, m3⟩ := h1
                refine t_ild hK dX9_put_83 (show _ < 49 by omega) ?_
                rw [m2 11 (by decide), h0]
                refine r_istore_5 hK dX9_put_84 ?_
                refine lp gs.length gs.length a t on off F1 A1 A1 rfl rfl rfl rfl ⟨by omega, by omega, by omega, by omega, by omega, ?_, ?_⟩ (by omega) (by omega) (by omega) (by omega) (by omega) m1 m2 m3 rfl (by omega) (by omega) (by rw [m2 11 (by decide), h0]) (fun _ _ => rfl) (fun g g1 g2 => by rw [m2 11 (by decide)]; exact hg.2.2 g g2) (fun g g1 g2 => by omega)
                · simp only [Int.toNat_natCast]; omega
                · simp only [Int.toNat_natCast]
                  exact Bool.eq_false_iff.mpr h69
              · refine r_iconstN (c := 0) hK dX9_put_72 ?_
                refine bad dX9_put_73 (fun h => ?_)
                obtain ⟨c1, c2, c3, c4, c5, c6, c7⟩ := h
                simp only [Int.toNat_natCast] at c7
                rw [h69] at c7
                exact absurd c7 (by decide)
          · refine r_iconstN (c := 0) hK dX9_put_52 ?_
            refine bad dX9_put_53 (fun h => ?_)
            obtain ⟨c1, c2, c3, c4, c5, c6, c7⟩ := h
            omega
set_option maxHeartbeats 4000000 in
theorem ct_swap {G : GT} {Rel : Nat → Hp → Hp → Prop} (hR : RelOK Rel) {n : Nat} {f0 : Hp} {F : Nat → Nat} {A : Nat → Nat → Nat} {gs : List Gt} {past : List (List Gt)} {z : Int} (hz : inR z) (hg : GA (A 11) gs) (ho : ∀ g ∈ gs, gok 4 g) (hp : PastR F A past) : Ct G Rel yX9_swap cX9_swap 2 (some .boolean) (3) (0) [.ref 358, zI z] n (tw f0 F A) (Ti n f0 (fun r F' A' => (∀ a, a ≠ 11 → a ≠ 12 → a ≠ 13 → A' a = A a) ∧ (∀ k, k ≠ 31 → k ≠ 32 → F' k = F k) ∧ ((∃ (k : Nat) (a b : Gt), z = (k : Int) ∧ gs[k]? = some a ∧ gs[k + 1]? = some b ∧ r = 1 ∧ GA (A' 11) ((gs.set k b).set (k + 1) a) ∧ PastR F' A' (pushP past gs)) ∨ (¬ (0 ≤ z ∧ z + 1 < gs.length) ∧ r = 0 ∧ F' = F ∧ A' = A)))) := by
  refine ct_intro [some (.ref 358), some (zI z)] hR rfl (Nat.le_of_ble_eq_true rfl) ?_
  intro K hG hRel hK hRt hnm
  have h0 := hg.1
  have hl := hg.2.1
  have bad : ∀ {pc : Nat} {L : List (Option Value)}, decode cX9_swap pc = .ok (.ireturn, 1) → ¬ (0 ≤ z ∧ z + 1 < gs.length) → Wx K pc L [zI ((0 : Nat) : Int)] n (tw f0 F A) 0 := fun hd hn => r_zret hK hRt hd rfl ⟨0, rfl, rfl, _, _, rfl, fun a h1 h2 h3 => rfl, fun k h1 h2 => rfl, Or.inr ⟨hn, rfl, rfl, rfl⟩⟩
  refine r_aload_0 hK dX9_swap_0 ?_
  refine r_iload_1 hK dX9_swap_1 ?_
  refine r_pV1 hK (ct_isGate hK.rel hz (by omega)) lk_X9_272 (tw_rcv hK) dX9_swap_2 ?_
  refine r_ifB_eq 18 hK dX9_swap_5 (fun h5 => ?_) (fun h5 => ?_)
  · refine r_iconstN (c := 0) hK dX9_swap_18 ?_
    exact bad dX9_swap_19 (by omega)
  · obtain ⟨k, rfl⟩ : ∃ s : Nat, z = (s : Int) := ⟨z.toNat, by omega⟩
    refine r_aload_0 hK dX9_swap_8 ?_
    refine r_iload_1 hK dX9_swap_9 ?_
    refine r_iconstN (c := 1) hK dX9_swap_10 ?_
    first | refine r_iaddN hK dX9_swap_11 ?_ | refine r_iadd hK dX9_swap_11 ?_
    refine r_pV1 hK (ct_isGate hK.rel (by omega) (by omega)) lk_X9_272 (tw_rcv hK) dX9_swap_12 ?_
    refine r_ifB_ne 20 hK dX9_swap_15 (fun h15 => ?_) (fun h15 => ?_)
    · have k1 : k + 1 < gs.length := by omega
      refine r_aload_0 hK dX9_swap_20 ?_
      refine r_tvV0 hK (ct_marks hK.rel hg hp) lk_X9_265 (tw_rcv hK) dX9_swap_21 (fun F1 A1 h1 => ?_)
      obtain ⟨m1, m2, m3⟩ := h1
      have m11 := m2 11 (by decide)
      refine r_aload_0 hK dX9_swap_24 ?_
      refine r_get hK fl_X9_52 dX9_swap_25 tw_obj rfl ?_
      refine r_iload_1 hK dX9_swap_28 ?_
      refine r_aload_0 hK dX9_swap_29 ?_
      refine r_get hK fl_X9_55 dX9_swap_30 tw_obj rfl ?_
      refine r_iconstN (c := 0) hK dX9_swap_33 ?_
      refine r_vS4 hK (ct_copiesGate (i := 11) (j := 12) (a := k) (k := 0) hK.rel (by omega) (by omega) (by omega) (by omega) (by rw [m11]; exact hg.ok ho (by omega))) lk_X9_254 dX9_swap_34 ?_
      refine r_aload_0 hK dX9_swap_37 ?_
      refine r_get hK fl_X9_52 dX9_swap_38 tw_obj rfl ?_
      refine r_iload_1 hK dX9_swap_41 ?_
      refine r_iconstN (c := 1) hK dX9_swap_42 ?_
      first | refine r_iaddN hK dX9_swap_43 ?_ | refine r_iadd hK dX9_swap_43 ?_
      refine r_aload_0 hK dX9_swap_44 ?_
      refine r_get hK fl_X9_52 dX9_swap_45 tw_obj rfl ?_
      refine r_iload_1 hK dX9_swap_48 ?_
      refine r_vS4 hK (ct_copiesGate (i := 11) (j := 11) (a := k + 1) (k := k) hK.rel (by omega) (by omega) (by omega) (by omega) (by rw [upG_j (by decide), m11]; exact hg.ok ho (by omega))) lk_X9_254 dX9_swap_49 ?_
      rw [show upG A1 12 0 (ge (A1 11) k) 11 = A 11 by rw [upG_j (by decide), m11], m11]
      refine r_aload_0 hK dX9_swap_52 ?_
      refine r_get hK fl_X9_55 dX9_swap_53 tw_obj rfl ?_
      refine r_iconstN (c := 0) hK dX9_swap_56 ?_
      refine r_aload_0 hK dX9_swap_57 ?_
      refine r_get hK fl_X9_52 dX9_swap_58 tw_obj rfl ?_
      refine r_iload_1 hK dX9_swap_61 ?_
      refine r_iconstN (c := 1) hK dX9_swap_62 ?_
      first | refine r_iaddN hK dX9_swap_63 ?_ | refine r_iadd hK dX9_swap_63 ?_
      refine r_vS4 hK (ct_copiesGate (i := 12) (j := 11) (a := 0) (k := k + 1) hK.rel (by omega) (by omega) (by omega) (by omega) (by rw [upG_j (by decide), ge_upG_s (by omega)]; exact hg.ok ho (by omega))) lk_X9_254 dX9_swap_64 ?_
      rw [show ge (upG (upG A1 12 0 (ge (A 11) k)) 11 k (ge (A 11) (k + 1)) 12) 0 = ge (A 11) k by rw [upG_j (by decide), ge_upG_s (by omega)]]
      refine r_iconstN (c := 1) hK dX9_swap_67 ?_
      refine r_zret hK hRt dX9_swap_68 rfl ⟨1, rfl, rfl, _, _, rfl, fun j h1 h2 h3 => by rw [upG_j h1, upG_j h1, upG_j h2, m2 j h3], m3, Or.inl ⟨k, ge (A 11) k, ge (A 11) (k + 1), rfl, hg.2.2 k (by omega), hg.2.2 (k + 1) k1, rfl, ⟨?_, ?_, fun g hgl => ?_⟩, ?_⟩⟩
      · rw [upG_0, upG_0, upG_j (by decide), m11, h0]; simp
      · simp; omega
      · have hgl' : g < gs.length := by simpa using hgl
        by_cases c1 : g = k + 1
        · subst c1
          rw [List.getElem?_set_self (by simp; omega), ge_upG_s (by omega)]
        · rw [List.getElem?_set_ne (Ne.symm c1), ge_upG_n (by omega) (by omega) c1]
          by_cases c2 : g = k
          · subst c2
            rw [List.getElem?_set_self (by omega), ge_upG_s (by omega)]
          · rw [List.getElem?_set_ne (Ne.symm c2), ge_upG_n (by omega) (by omega) c2, upG_j (by decide), m11]
            exact hg.2.2 g hgl'
      · obtain ⟨p1, p2, p3, p4⟩ := m1
        exact ⟨p1, p2, p3, fun i hi => by rw [upG_j (by decide), upG_j (by decide), upG_j (by decide)]; exact p4 i hi⟩
    · refine r_iconstN (c := 0) hK dX9_swap_18 ?_
      exact bad dX9_swap_19 (by omega)
