set_option maxRecDepth 100000
/-! ===== the reference: a table laid out ===== -/
theorem isM_s {m : Nat} {v : Nat → Nat} {y k : Nat} : (if isM m v y (k + 1) = true then 1 else 0 : Nat) = if t1 m v k = y then 1 else if isM m v y k = true then 1 else 0 := by
  have e3 : isM m v y (k + 1) = (isM m v y k || decide (t1 m v k = y)) := rfl
  rw [e3]
  by_cases c : t1 m v k = y
  · rw [decide_eq_true c, Bool.or_true, if_pos rfl, if_pos c]
  · rw [decide_eq_false c, Bool.or_false, if_neg c]
set_option maxHeartbeats 4000000 in
theorem ct_laysTold {G : GT} {Rel : Nat → Hp → Hp → Prop} (hR : RelOK Rel) {n : Nat} {f0 : Hp} {F : Nat → Nat} {A : Nat → Nat → Nat} (hi : F 19 ≤ 3) (ho : F 20 ≤ 3) (hv : ∀ x, x < rN (F 19) → A 8 x < 10000) (hL : lnN (F 19) (F 20) (A 8) ≤ 6) (hnL : F 19 ≤ lnN (F 19) (F 20) (A 8)) (ht : ∀ x, x < rN (F 19) → t1 (F 20) (A 8) x < rN (lnN (F 19) (F 20) (A 8))) : Ct G Rel yX9_laysTold cX9_laysTold 5 none (4) (0) [.ref 358] n (tw f0 F A) (Tv n f0 (fun F' A' => F' = F ∧ (∀ a, a ≠ 16 → a ≠ 32 → A' a = A a) ∧ ∀ r, r < rN (lnN (F 19) (F 20) (A 8)) → A' 16 r = told (F 19) (F 20) (A 8) r)) := by
  refine ct_intro [some (.ref 358), none, none, none, none] hR rfl (Nat.le_of_ble_eq_true rfl) ?_
  intro K hG hRel hK hRt hnm
  obtain ⟨LL, hLL⟩ : ∃ LL, LL = lnN (F 19) (F 20) (A 8) := ⟨_, rfl⟩
  obtain ⟨v, hvd⟩ : ∃ v, v = A 8 := ⟨_, rfl⟩
  have hr : rN (F 19) ≤ 8 := rN_le (k := 3) hi
  have hr1 := rN_pos (F 19)
  have hr64 : rN LL ≤ 64 := by rw [hLL]; exact rN_le (k := 6) hL
  have hrr : rN (F 19) ≤ rN LL := by rw [rN_pow, rN_pow, hLL]; exact Nat.pow_le_pow_right (by decide) hnL
  rw [← hLL, ← hvd] at ht
  rw [← hvd] at hv
  have L3 : ∀ (m r y y0 k : Nat) (A' : Nat → Nat → Nat) a4, m = rN LL - r → r = rN (F 19) + k → r ≤ rN LL → y0 = (if k = 0 then 0 else fil (F 20) v (rN (F 19)) (k - 1) + 1) → y = y0 → y = k + cM (F 20) v (rN (F 19)) y → (∀ a, a ≠ 16 → a ≠ 32 → A' a = A a) → (∀ q, q < r → A' 16 q = told (F 19) (F 20) v q) → (∀ q, q < rN LL → A' 32 q = if isM (F 20) v q (rN (F 19)) = true then 1 else 0) → Wx K 121 [some (.ref 358), some (zI ((rN LL : Nat) : Int)), some (zI (y : Int)), some (zI (r : Int)), a4] [] n (tw f0 F A') 0 := by
    intro m
    induction m using Nat.strongRecOn with
    | _ m ih =>
      intro r y y0 k A' a4 hm hrk hrl hy0 hy hcm h1 h2 h3
      have hfil : fil (F 20) v (rN (F 19)) k = nxU (F 20) v (rN (F 19)) 64 y0 := by
        rw [hy0]
        cases k with
        | zero => rfl
        | succ k => rfl
      have ip : ∀ (dd z : Nat), dd = rN LL - z → r < rN LL → y0 ≤ z → z = k + cM (F 20) v (rN (F 19)) z → nxU (F 20) v (rN (F 19)) 64 y0 = nxU (F 20) v (rN (F 19)) (64 - (z - y0)) z → Wx K 126 [some (.ref 358), some (zI ((rN LL : Nat) : Int)), some (zI (z : Int)), some (zI (r : Int)), a4] [] n (tw f0 F A') 0 := by
        intro dd
        induction dd using Nat.strongRecOn with
        | _ dd ih2 =>
          intro z hdd hrl2 hyz hz hnx
          have hc := cM_R (F 20) v (rN (F 19)) z
          have hzl : z < rN LL := by omega
          have e : cM (F 20) v (rN (F 19)) (z + 1) = if isM (F 20) v z (rN (F 19)) then cM (F 20) v (rN (F 19)) z + 1 else cM (F 20) v (rN (F 19)) z := rfl
          have h3z := h3 z hzl
          rw [show 64 - (z - y0) = (63 - (z - y0)) + 1 by omega] at hnx
          refine r_aload_0 hK dX9_laysTold_126 ?_
          refine r_get hK fl_X9_120 dX9_laysTold_127 tw_obj rfl ?_
          refine r_iload_2 hK dX9_laysTold_130 ?_
          refine t_zld hK dX9_laysTold_131 (show _ < 64 by omega) ?_
          rw [h3z]
          refine r_if_eq 141 hK dX9_laysTold_132 (by split <;> decide) (fun h132 => ?_) (fun h132 => ?_)
          · have hnm : isM (F 20) v z (rN (F 19)) = false := by
              cases hq : isM (F 20) v z (rN (F 19))
              · rfl
              · rw [hq] at h132; exact absurd h132 (by decide)
            rw [nxU_at hnm] at hnx
            rw [hnm, if_neg (by decide)] at e
            refine r_aload_0 hK dX9_laysTold_141 ?_
            refine r_get hK fl_X9_68 dX9_laysTold_142 tw_obj rfl ?_
            refine r_iload_3 hK dX9_laysTold_145 ?_
            refine r_iload_2 hK dX9_laysTold_146 ?_
            refine t_ist hK dX9_laysTold_147 (show _ < 64 by omega) ?_
            first | refine r_incN_2 hK dX9_laysTold_148 ?_ | refine r_iinc_2 hK dX9_laysTold_148 ?_
            first | refine r_incN_3 hK dX9_laysTold_151 ?_ | refine r_iinc_3 hK dX9_laysTold_151 ?_
            refine r_goto 121 hK dX9_laysTold_154 ?_
            refine ih (rN LL - (r + 1)) (by omega) (r + 1) (z + 1) (z + 1) (k + 1) _ _ rfl (by omega) (by omega) (by rw [if_neg (by omega), Nat.add_sub_cancel, hfil, hnx]) rfl (by omega) (fun a a1 a2 => by rw [upA_j a1]; exact h1 a a1 a2) (fun q hq => ?_) (fun q hq => by rw [upA_j (by decide)]; exact h3 q hq)
            by_cases eq : q = r
            · subst eq
              rw [upA_s]
              unfold told
              rw [if_neg (by omega), show q - rN (F 19) = k by omega, hfil, hnx]
            · rw [upA_n eq]; exact h2 q (by omega)
          · have hnm : isM (F 20) v z (rN (F 19)) = true := by
              cases hq : isM (F 20) v z (rN (F 19))
              · rw [hq] at h132; exact absurd rfl h132
              · rfl
            rw [nxU_step hnm] at hnx
            rw [hnm, if_pos rfl] at e
            first | refine r_incN_2 hK dX9_laysTold_135 ?_ | refine r_iinc_2 hK dX9_laysTold_135 ?_
            refine r_goto 126 hK dX9_laysTold_138 ?_
            exact ih2 (rN LL - (z + 1)) (by omega) (z + 1) rfl hrl2 (by omega) (by omega) (by rw [show 64 - (z + 1 - y0) = 63 - (z - y0) by omega]; exact hnx)
      refine r_iload_3 hK dX9_laysTold_121 ?_
      refine r_iload_1 hK dX9_laysTold_122 ?_
      refine r_icmp_ge 157 hK dX9_laysTold_123 (by omega) (by omega) (fun h123 => ?_) (fun h123 => ?_)
      · exact r_vret hK hRt dX9_laysTold_157 ⟨rfl, rfl, _, _, rfl, rfl, h1, fun q hq => by rw [← hLL] at hq; rw [← hvd]; exact h2 q (by omega)⟩
      · exact ip (rN LL - y) y rfl (by omega) (by omega) hcm (by rw [hy]; simp)
  have L2 : ∀ (m x : Nat) (A' : Nat → Nat → Nat) a3 a4, m = rN (F 19) - x → x ≤ rN (F 19) → (∀ a, a ≠ 16 → a ≠ 32 → A' a = A a) → (∀ q, q < x → A' 16 q = t1 (F 20) v q) → (∀ q, q < rN LL → A' 32 q = if isM (F 20) v q x = true then 1 else 0) → Wx K 29 [some (.ref 358), some (zI ((rN LL : Nat) : Int)), some (zI (x : Int)), a3, a4] [] n (tw f0 F A') 0 := by
    intro m
    induction m using Nat.strongRecOn with
    | _ m ih =>
      intro x A' a3 a4 hm hx h1 h2 h3
      have h8 : A' 8 = v := by rw [h1 8 (by decide) (by decide), hvd]
      have ip : ∀ (dd o : Nat), dd = x - o → o ≤ x → x < rN (F 19) → Wx K 44 [some (.ref 358), some (zI ((rN LL : Nat) : Int)), some (zI (x : Int)), some (zI ((cnt v (v x) o : Nat) : Int)), some (zI (o : Int))] [] n (tw f0 F A') 0 := by
        intro dd
        induction dd using Nat.strongRecOn with
        | _ dd ih2 =>
          intro o hdd hox hxl
          have e : cnt v (v x) (o + 1) = if v o = v x then cnt v (v x) o + 1 else cnt v (v x) o := rfl
          have hvx := hv x (by omega)
          have hvo := hv o (by omega)
          have htx := ht x hxl
          have hcx := cnt_le v (v x) x
          have hsh : cnt v (v x) x <<< F 20 < 4294967296 := by
            unfold t1 at htx
            omega
          refine r_iload_4 hK dX9_laysTold_44 ?_
          refine r_iload_2 hK dX9_laysTold_46 ?_
          refine r_icmp_ge 75 hK dX9_laysTold_47 (by omega) (by omega) (fun h47 => ?_) (fun h47 => ?_)
          · have eo : o = x := by omega
            subst eo
            refine r_aload_0 hK dX9_laysTold_75 ?_
            refine r_get hK fl_X9_68 dX9_laysTold_76 tw_obj rfl ?_
            refine r_iload_2 hK dX9_laysTold_79 ?_
            refine r_aload_0 hK dX9_laysTold_80 ?_
            refine r_get hK fl_X9_43 dX9_laysTold_81 tw_obj rfl ?_
            refine r_iload_2 hK dX9_laysTold_84 ?_
            refine t_ild hK dX9_laysTold_85 (show _ < 8 by omega) ?_
            rw [h8]
            refine r_iload_3 hK dX9_laysTold_86 ?_
            refine r_aload_0 hK dX9_laysTold_87 ?_
            refine r_get hK fl_X9_215 dX9_laysTold_88 tw_obj rfl ?_
            refine r_ishl hK dX9_laysTold_91 (by omega) hsh ?_
            first | refine r_iaddN hK dX9_laysTold_92 ?_ | refine r_iadd hK dX9_laysTold_92 ?_
            refine t_ist hK dX9_laysTold_93 (show _ < 64 by omega) ?_
            refine r_aload_0 hK dX9_laysTold_94 ?_
            refine r_get hK fl_X9_120 dX9_laysTold_95 tw_obj rfl ?_
            refine r_aload_0 hK dX9_laysTold_98 ?_
            refine r_get hK fl_X9_68 dX9_laysTold_99 tw_obj rfl ?_
            refine r_iload_2 hK dX9_laysTold_102 ?_
            refine t_ild hK dX9_laysTold_103 (show _ < 64 by omega) ?_
            rw [upA_s]
            show Wx K _ _ (zI ((t1 (F 20) v o : Nat) : Int) :: _) _ (tw f0 F (upA A' 16 o (t1 (F 20) v o))) _
            refine r_iconstN (c := 1) hK dX9_laysTold_104 ?_
            refine t_zst hK dX9_laysTold_105 (show _ < 64 by omega) (by decide) ?_
            first | refine r_incN_2 hK dX9_laysTold_106 ?_ | refine r_iinc_2 hK dX9_laysTold_106 ?_
            refine r_goto 29 hK dX9_laysTold_109 ?_
            refine ih (rN (F 19) - (o + 1)) (by omega) (o + 1) _ _ _ rfl (by omega) (fun a a1 a2 => by rw [upA_j a2, upA_j a1]; exact h1 a a1 a2) (fun q hq => ?_) (fun q hq => ?_)
            · rw [upA_j (by decide)]
              by_cases eq : q = o
              · subst eq; rw [upA_s]
              · rw [upA_n eq]; exact h2 q (by omega)
            · rw [isM_s]
              by_cases eq : t1 (F 20) v o = q
              · rw [if_pos eq, ← eq, upA_s]
              · rw [if_neg eq, upA_n (fun q' => eq q'.symm), upA_j (by decide)]; exact h3 q hq
          · refine r_aload_0 hK dX9_laysTold_50 ?_
            refine r_get hK fl_X9_43 dX9_laysTold_51 tw_obj rfl ?_
            refine r_iload_4 hK dX9_laysTold_54 ?_
            refine t_ild hK dX9_laysTold_56 (show _ < 8 by omega) ?_
            rw [h8]
            refine r_aload_0 hK dX9_laysTold_57 ?_
            refine r_get hK fl_X9_43 dX9_laysTold_58 tw_obj rfl ?_
            refine r_iload_2 hK dX9_laysTold_61 ?_
            refine t_ild hK dX9_laysTold_62 (show _ < 8 by omega) ?_
            rw [h8]
            refine r_icmp_ne 69 hK dX9_laysTold_63 (by omega) (by omega) (fun h63 => ?_) (fun h63 => ?_)
            · first | refine r_incN_4 hK dX9_laysTold_69 ?_ | refine r_iinc_4 hK dX9_laysTold_69 ?_
              refine r_goto 44 hK dX9_laysTold_72 ?_
              have := ih2 (x - (o + 1)) (by omega) (o + 1) rfl (by omega) hxl
              rw [e, if_neg (by omega)] at this
              exact this
            · first | refine r_incN_3 hK dX9_laysTold_66 ?_ | refine r_iinc_3 hK dX9_laysTold_66 ?_
              first | refine r_incN_4 hK dX9_laysTold_69 ?_ | refine r_iinc_4 hK dX9_laysTold_69 ?_
              refine r_goto 44 hK dX9_laysTold_72 ?_
              have := ih2 (x - (o + 1)) (by omega) (o + 1) rfl (by omega) hxl
              rw [e, if_pos (by omega)] at this
              exact this
      refine r_iload_2 hK dX9_laysTold_29 ?_
      refine r_iconstN (c := 1) hK dX9_laysTold_30 ?_
      refine r_aload_0 hK dX9_laysTold_31 ?_
      refine r_get hK fl_X9_209 dX9_laysTold_32 tw_obj rfl ?_
      refine r_ishl hK dX9_laysTold_35 (by omega) (sh1 (by omega)) ?_
      show Wx K _ _ (zI ((rN (F 19) : Nat) : Int) :: _) _ _ _
      refine r_icmp_ge 112 hK dX9_laysTold_36 (by omega) (by omega) (fun h36 => ?_) (fun h36 => ?_)
      · refine r_iconstN (c := 0) hK dX9_laysTold_112 ?_
        refine r_istore_2 hK dX9_laysTold_113 ?_
        refine r_iconstN (c := 1) hK dX9_laysTold_114 ?_
        refine r_aload_0 hK dX9_laysTold_115 ?_
        refine r_get hK fl_X9_209 dX9_laysTold_116 tw_obj rfl ?_
        refine r_ishl hK dX9_laysTold_119 (by omega) (sh1 (by omega)) ?_
        show Wx K _ _ (zI ((rN (F 19) : Nat) : Int) :: _) _ _ _
        refine r_istore_3 hK dX9_laysTold_120 ?_
        have ex : x = rN (F 19) := by omega
        subst ex
        exact L3 (rN LL - rN (F 19)) (rN (F 19)) 0 0 0 A' _ rfl rfl hrr rfl rfl rfl h1 (fun q hq => by rw [h2 q hq]; unfold told; rw [if_pos hq]) h3
      · refine r_iconstN (c := 0) hK dX9_laysTold_39 ?_
        refine r_istore_3 hK dX9_laysTold_40 ?_
        refine r_iconstN (c := 0) hK dX9_laysTold_41 ?_
        refine r_istore_4 hK dX9_laysTold_42 ?_
        exact ip x 0 rfl (by omega) (by omega)
  have L1 : ∀ (m r : Nat) (A' : Nat → Nat → Nat), m = rN LL - r → r ≤ rN LL → (∀ a, a ≠ 32 → A' a = A a) → (∀ q, q < r → A' 32 q = 0) → Wx K 9 [some (.ref 358), some (zI ((rN LL : Nat) : Int)), some (zI (r : Int)), none, none] [] n (tw f0 F A') 0 := by
    intro m
    induction m using Nat.strongRecOn with
    | _ m ih =>
      intro r A' hm hr h1 h2
      refine r_iload_2 hK dX9_laysTold_9 ?_
      refine r_iload_1 hK dX9_laysTold_10 ?_
      refine r_icmp_ge 27 hK dX9_laysTold_11 (by omega) (by omega) (fun h11 => ?_) (fun h11 => ?_)
      · refine r_iconstN (c := 0) hK dX9_laysTold_27 ?_
        refine r_istore_2 hK dX9_laysTold_28 ?_
        exact L2 (rN (F 19)) 0 A' _ _ rfl (by omega) (fun a a1 a2 => h1 a a2) (fun q hq => by omega) (fun q hq => by rw [h2 q (by omega)]; rfl)
      · refine r_aload_0 hK dX9_laysTold_14 ?_
        refine r_get hK fl_X9_120 dX9_laysTold_15 tw_obj rfl ?_
        refine r_iload_2 hK dX9_laysTold_18 ?_
        refine r_iconstN (c := 0) hK dX9_laysTold_19 ?_
        refine t_zst hK dX9_laysTold_20 (show _ < 64 by omega) (by decide) ?_
        first | refine r_incN_2 hK dX9_laysTold_21 ?_ | refine r_iinc_2 hK dX9_laysTold_21 ?_
        refine r_goto 9 hK dX9_laysTold_24 ?_
        refine ih (rN LL - (r + 1)) (by omega) (r + 1) _ rfl (by omega) (fun a a1 => by rw [upA_j a1]; exact h1 a a1) (fun q hq => ?_)
        by_cases eq : q = r
        · subst eq; rw [upA_s]
        · rw [upA_n eq]; exact h2 q (by omega)
  refine r_iconstN (c := 1) hK dX9_laysTold_0 ?_
  refine r_aload_0 hK dX9_laysTold_1 ?_
  refine r_pV0 hK (ct_lines hK.rel hi ho (by rw [← hvd]; exact hv)) lk_X9_409 (tw_rcv hK) dX9_laysTold_2 ?_
  refine r_ishl hK dX9_laysTold_5 (by omega) (sh1 (by omega)) ?_
  show Wx K _ _ (zI ((rN (lnN (F 19) (F 20) (A 8)) : Nat) : Int) :: _) _ _ _
  rw [← hLL]
  refine r_istore_1 hK dX9_laysTold_6 ?_
  refine r_iconstN (c := 0) hK dX9_laysTold_7 ?_
  refine r_istore_2 hK dX9_laysTold_8 ?_
  exact L1 (rN LL) 0 A rfl (by omega) (fun _ _ => rfl) (fun q hq => by omega)
