set_option maxRecDepth 100000
/-! ===== the reference: tables ===== -/
set_option maxHeartbeats 4000000 in
theorem ct_copies {G : GT} {Rel : Nat → Hp → Hp → Prop} (hR : RelOK Rel) {n : Nat} {f0 : Hp} {F : Nat → Nat} {A : Nat → Nat → Nat} (hi : F 19 ≤ 3) (hv : ∀ x, x < rN (F 19) → A 8 x < 10000) : Ct G Rel yX9_copies cX9_copies 5 (some .int) (1) (0) [.ref 358] n (tw f0 F A) (Pu (zI ((cpM (A 8) (rN (F 19)) 8 : Nat) : Int)) n (tw f0 F A)) := by
  refine ct_intro [some (.ref 358), none, none, none, none] hR rfl (Nat.le_of_ble_eq_true rfl) ?_
  intro K hG hRel hK hRt hnm
  have hr : rN (F 19) ≤ 8 := rN_le (k := 3) hi
  have lp : ∀ m y a3 a4, m = 8 - y → y ≤ 8 → Wx K 4 [some (.ref 358), some (zI ((cpM (A 8) (rN (F 19)) y : Nat) : Int)), some (zI (y : Int)), a3, a4] [] n (tw f0 F A) 0 := by
    intro m
    induction m using Nat.strongRecOn with
    | _ m ih =>
      intro y a3 a4 hm hy
      have hcp := cpM_le (A 8) (rN (F 19)) y
      have hcn := cnt_le (A 8) y (rN (F 19))
      have nx : ∀ v, y < 8 → v = cpM (A 8) (rN (F 19)) (y + 1) → ∀ a3 a4, Wx K 53 [some (.ref 358), some (zI (v : Int)), some (zI (y : Int)), a3, a4] [] n (tw f0 F A) 0 := by
        intro v hy8 hv a3 a4
        subst hv
        first | refine r_incN_2 hK dX9_copies_53 ?_ | refine r_iinc_2 hK dX9_copies_53 ?_
        refine r_goto 4 hK dX9_copies_56 ?_
        exact ih (8 - (y + 1)) (by omega) (y + 1) _ _ rfl (by omega)
      have ip : ∀ dd x, dd = rN (F 19) - x → x ≤ rN (F 19) → y < 8 → Wx K 15 [some (.ref 358), some (zI ((cpM (A 8) (rN (F 19)) y : Nat) : Int)), some (zI (y : Int)), some (zI ((cnt (A 8) y x : Nat) : Int)), some (zI (x : Int))] [] n (tw f0 F A) 0 := by
        intro dd
        induction dd using Nat.strongRecOn with
        | _ dd ih2 =>
          intro x hdd hx hy8
          have e : cnt (A 8) y (x + 1) = if A 8 x = y then cnt (A 8) y x + 1 else cnt (A 8) y x := rfl
          have eM : cpM (A 8) (rN (F 19)) (y + 1) = max (cpM (A 8) (rN (F 19)) y) (cnt (A 8) y (rN (F 19))) := rfl
          refine r_iload_4 hK dX9_copies_15 ?_
          refine r_iconstN (c := 1) hK dX9_copies_17 ?_
          refine r_aload_0 hK dX9_copies_18 ?_
          refine r_get hK fl_X9_209 dX9_copies_19 tw_obj rfl ?_
          refine r_ishl hK dX9_copies_22 (by omega) (sh1 (by omega)) ?_
          show Wx K _ _ (zI ((rN (F 19) : Nat) : Int) :: _) _ _ _
          refine r_icmp_ge 46 hK dX9_copies_23 (by omega) (by omega) (fun h23 => ?_) (fun h23 => ?_)
          · have ex : x = rN (F 19) := by omega
            subst ex
            refine r_iload_3 hK dX9_copies_46 ?_
            refine r_iload_1 hK dX9_copies_47 ?_
            refine r_icmp_le 53 hK dX9_copies_48 (by omega) (by omega) (fun h48 => ?_) (fun h48 => ?_)
            · exact nx _ hy8 (by rw [eM]; omega) _ _ --!
            · refine r_iload_3 hK dX9_copies_51 ?_
              refine r_istore_1 hK dX9_copies_52 ?_
              exact nx _ hy8 (by rw [eM]; omega) _ _
          · refine r_aload_0 hK dX9_copies_26 ?_
            refine r_get hK fl_X9_43 dX9_copies_27 tw_obj rfl ?_
            refine r_iload_4 hK dX9_copies_30 ?_
            have hvx := hv x (by omega)
            refine t_ild hK dX9_copies_32 (show _ < 8 by omega) ?_
            refine r_iload_2 hK dX9_copies_33 ?_
            refine r_icmp_ne 40 hK dX9_copies_34 (by omega) (by omega) (fun h34 => ?_) (fun h34 => ?_)
            · first | refine r_incN_4 hK dX9_copies_40 ?_ | refine r_iinc_4 hK dX9_copies_40 ?_
              refine r_goto 15 hK dX9_copies_43 ?_
              have := ih2 (rN (F 19) - (x + 1)) (by omega) (x + 1) rfl (by omega) hy8
              rw [e, if_neg (by omega)] at this
              exact this
            · first | refine r_incN_3 hK dX9_copies_37 ?_ | refine r_iinc_3 hK dX9_copies_37 ?_
              first | refine r_incN_4 hK dX9_copies_40 ?_ | refine r_iinc_4 hK dX9_copies_40 ?_
              refine r_goto 15 hK dX9_copies_43 ?_
              have := ih2 (rN (F 19) - (x + 1)) (by omega) (x + 1) rfl (by omega) hy8
              rw [e, if_pos (by omega)] at this
              exact this
      refine r_iload_2 hK dX9_copies_4 ?_
      refine r_bipushN (c := 8) hK dX9_copies_5 ?_
      refine r_icmp_ge 59 hK dX9_copies_7 (by omega) (by omega) (fun h7 => ?_) (fun h7 => ?_)
      · have e2 : y = 8 := by omega
        refine r_iload_1 hK dX9_copies_59 ?_
        exact r_iret hK hRt dX9_copies_60 ⟨by rw [e2], rfl, rfl⟩
      · refine r_iconstN (c := 0) hK dX9_copies_10 ?_
        refine r_istore_3 hK dX9_copies_11 ?_
        refine r_iconstN (c := 0) hK dX9_copies_12 ?_
        refine r_istore_4 hK dX9_copies_13 ?_
        exact ip (rN (F 19)) 0 rfl (by omega) (by omega)
  refine r_iconstN (c := 0) hK dX9_copies_0 ?_
  refine r_istore_1 hK dX9_copies_1 ?_
  refine r_iconstN (c := 0) hK dX9_copies_2 ?_
  refine r_istore_2 hK dX9_copies_3 ?_
  exact lp 8 0 _ _ rfl (by omega)
set_option maxHeartbeats 4000000 in
theorem ct_garbage {G : GT} {Rel : Nat → Hp → Hp → Prop} (hR : RelOK Rel) {n : Nat} {f0 : Hp} {F : Nat → Nat} {A : Nat → Nat → Nat} (hi : F 19 ≤ 3) (hv : ∀ x, x < rN (F 19) → A 8 x < 10000) : Ct G Rel yX9_garbage cX9_garbage 2 (some .int) (2) (0) [.ref 358] n (tw f0 F A) (Pu (zI ((gbg (cpM (A 8) (rN (F 19)) 8) : Nat) : Int)) n (tw f0 F A)) := by
  refine ct_intro [some (.ref 358), none] hR rfl (Nat.le_of_ble_eq_true rfl) ?_
  intro K hG hRel hK hRt hnm
  have hr : rN (F 19) ≤ 8 := rN_le (k := 3) hi
  have hc := cpM_le (A 8) (rN (F 19)) 8
  have lp : ∀ m g, g + m = 4 → gbg (cpM (A 8) (rN (F 19)) 8) = gbF (cpM (A 8) (rN (F 19)) 8) m g → (g = 4 → 16 < cpM (A 8) (rN (F 19)) 8) → Wx K 2 [some (.ref 358), some (zI (g : Int))] [] n (tw f0 F A) 0 := by
    intro m
    induction m with
    | zero => intro g hg _ h4; have := h4 (by omega); omega
    | succ m ih =>
      intro g hg he _
      have e : gbF (cpM (A 8) (rN (F 19)) 8) (m + 1) g = if rN g < cpM (A 8) (rN (F 19)) 8 then gbF (cpM (A 8) (rN (F 19)) 8) m (g + 1) else g := rfl
      rw [e] at he
      have hg3 : rN g ≤ 8 := rN_le (k := 3) (by omega)
      refine r_iconstN (c := 1) hK dX9_garbage_2 ?_
      refine r_iload_1 hK dX9_garbage_3 ?_
      refine r_ishl hK dX9_garbage_4 (by omega) (sh1 (by omega)) ?_
      show Wx K _ _ (zI ((rN g : Nat) : Int) :: _) _ _ _
      refine r_aload_0 hK dX9_garbage_5 ?_
      refine r_pV0 hK (ct_copies hK.rel hi hv) lk_X9_403 (tw_rcv hK) dX9_garbage_6 ?_
      refine r_icmp_ge 18 hK dX9_garbage_9 (by omega) (by omega) (fun h9 => ?_) (fun h9 => ?_)
      · refine r_iload_1 hK dX9_garbage_18 ?_
        exact r_iret hK hRt dX9_garbage_19 ⟨by rw [he, if_neg (by omega)], rfl, rfl⟩
      · first | refine r_incN_1 hK dX9_garbage_12 ?_ | refine r_iinc_1 hK dX9_garbage_12 ?_
        refine r_goto 2 hK dX9_garbage_15 ?_
        refine ih (g + 1) (by omega) (by rw [he, if_pos (by omega)]) (fun h => ?_)
        have h3 : g = 3 := by omega
        subst h3
        have : rN 3 = 8 := rfl
        omega
  refine r_iconstN (c := 0) hK dX9_garbage_0 ?_
  refine r_istore_1 hK dX9_garbage_1 ?_
  exact lp 4 0 rfl rfl (by omega)
set_option maxHeartbeats 4000000 in
theorem ct_lines {G : GT} {Rel : Nat → Hp → Hp → Prop} (hR : RelOK Rel) {n : Nat} {f0 : Hp} {F : Nat → Nat} {A : Nat → Nat → Nat} (hi : F 19 ≤ 3) (ho : F 20 ≤ 3) (hv : ∀ x, x < rN (F 19) → A 8 x < 10000) : Ct G Rel yX9_lines cX9_lines 2 (some .int) (3) (0) [.ref 358] n (tw f0 F A) (Pu (zI ((lnN (F 19) (F 20) (A 8) : Nat) : Int)) n (tw f0 F A)) := by
  refine ct_intro [some (.ref 358), none] hR rfl (Nat.le_of_ble_eq_true rfl) ?_
  intro K hG hRel hK hRt hnm
  have hr : rN (F 19) ≤ 8 := rN_le (k := 3) hi
  have hc := cpM_le (A 8) (rN (F 19)) 8
  have hg := gbg_ok (cpM (A 8) (rN (F 19)) 8) (by omega)
  refine r_aload_0 hK dX9_lines_0 ?_
  refine r_get hK fl_X9_215 dX9_lines_1 tw_obj rfl ?_
  refine r_aload_0 hK dX9_lines_4 ?_
  refine r_pV0 hK (ct_garbage hK.rel hi hv) lk_X9_406 (tw_rcv hK) dX9_lines_5 ?_
  first | refine r_iaddN hK dX9_lines_8 ?_ | refine r_iadd hK dX9_lines_8 ?_
  refine r_istore_1 hK dX9_lines_9 ?_
  refine r_aload_0 hK dX9_lines_10 ?_
  refine r_get hK fl_X9_209 dX9_lines_11 tw_obj rfl ?_
  refine r_iload_1 hK dX9_lines_14 ?_
  refine r_icmp_le 25 hK dX9_lines_15 (by omega) (by omega) (fun h15 => ?_) (fun h15 => ?_)
  · refine r_iload_1 hK dX9_lines_25 ?_
    exact r_iret hK hRt dX9_lines_26 ⟨by unfold lnN; rw [if_neg (by omega)], rfl, rfl⟩
  · refine r_aload_0 hK dX9_lines_18 ?_
    refine r_get hK fl_X9_209 dX9_lines_19 tw_obj rfl ?_
    refine r_goto 26 hK dX9_lines_22 ?_
    exact r_iret hK hRt dX9_lines_26 ⟨by unfold lnN; rw [if_pos (by omega)], rfl, rfl⟩
