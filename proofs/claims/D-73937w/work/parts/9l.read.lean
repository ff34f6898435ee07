set_option maxRecDepth 100000
/-! ===== BackLogic: begins, read ===== -/
theorem WO.w {f : Hp} {w w' : Nat} {gs : List Gt} {pa : List (List Gt)} {sl : Nat → Option (List Gt)} {ni no : Nat} {v p : Nat → Nat} {tp : Nat} {T : Nat → Nat} {pl pl' : Int} (h : WO f w gs pa sl ni no v p tp T pl) : KE [300] f (up f 300 (x0C pl' w')) ∧ WO (up f 300 (x0C pl' w')) w' gs pa sl ni no v p tp T pl' := by
  have hk : KE [300] f (up f 300 (x0C pl' w')) := KE.up1 (by decide) (fun q => h.ng (by decide) q)
  refine ⟨hk, ?_⟩
  obtain ⟨h0, h1, h2, h3, h4, h5, h6, h7, h8, h9, h10, h11⟩ := h
  have g : ∀ x, x ≠ 300 → x ∉ [300] := fun x q z => q (List.mem_singleton.mp z)
  exact ⟨up_s _ _ _, h1.ke hk (fun x a b => g x (by omega)), h2.ke hk ⟨g _ (by decide), g _ (by decide)⟩, h3.ke hk ⟨g _ (by decide), g _ (by decide)⟩, h4.ke hk (g _ (by decide)), h5.ke hk (g _ (by decide)), h6.ke hk (g _ (by decide)), h7.ke hk ⟨g _ (by decide), g _ (by decide)⟩, h8.ke hk (fun x a b => g x (by omega)), h9.ke hk (fun x a b => g x (by omega)), h10.ke hk (fun x a b => g x (by omega)), h11.ke hk (fun x a b => g x (by omega))⟩
theorem WO.pri {f : Hp} {w : Nat} {gs : List Gt} {pa : List (List Gt)} {sl : Nat → Option (List Gt)} {ni no : Nat} {v p p' : Nat → Nat} {tp : Nat} {T : Nat → Nat} {pl : Int} {hp : Nat → Value} (h : WO f w gs pa sl ni no v p tp T pl) (hv : ∀ i, i < 4 → hp i = zI ((p' i : Nat) : Int)) : KE [353] f (up f 353 (.inr (0, 4, hp))) ∧ WO (up f 353 (.inr (0, 4, hp))) w gs pa sl ni no v p' tp T pl := by
  have hk : KE [353] f (up f 353 (.inr (0, 4, hp))) := KE.up1 (by decide) (fun q => h.ng (by decide) q)
  refine ⟨hk, ?_⟩
  obtain ⟨h0, h1, h2, h3, h4, h5, h6, h7, h8, h9, h10, h11⟩ := h
  have g : ∀ x, x ≠ 353 → x ∉ [353] := fun x q z => q (List.mem_singleton.mp z)
  exact ⟨(up_n (by decide)).trans h0, h1.ke hk (fun x a b => g x (by omega)), h2.ke hk ⟨g _ (by decide), g _ (by decide)⟩, h3.ke hk ⟨g _ (by decide), g _ (by decide)⟩, h4.ke hk (g _ (by decide)), h5.ke hk (g _ (by decide)), ⟨hp, up_s _ _ _, hv⟩, h7.ke hk ⟨g _ (by decide), g _ (by decide)⟩, h8.ke hk (fun x a b => g x (by omega)), h9.ke hk (fun x a b => g x (by omega)), h10.ke hk (fun x a b => g x (by omega)), h11.ke hk (fun x a b => g x (by omega))⟩
theorem WO.tbl {f : Hp} {w : Nat} {gs : List Gt} {pa : List (List Gt)} {sl : Nat → Option (List Gt)} {ni no ni' no' : Nat} {v v' p : Nat → Nat} {tp : Nat} {T : Nat → Nat} {pl : Int} (h : WO f w gs pa sl ni no v p tp T pl) : KE [322, 323] f (up (up f 322 (.inl (5, [zI (ni' : Int), zI (no' : Int), .ref 323]))) 323 (.inr (0, 8, fun j => zI ((v' j : Nat) : Int)))) ∧ WO (up (up f 322 (.inl (5, [zI (ni' : Int), zI (no' : Int), .ref 323]))) 323 (.inr (0, 8, fun j => zI ((v' j : Nat) : Int)))) w gs pa sl ni' no' v' p tp T pl := by
  have hk1 : KE [322] f (up f 322 (.inl (5, [zI (ni' : Int), zI (no' : Int), .ref 323]))) := KE.up1 (by decide) (fun q => h.ng (by decide) q)
  have hk2 : KE [323] (up f 322 (.inl (5, [zI (ni' : Int), zI (no' : Int), .ref 323]))) (up (up f 322 (.inl (5, [zI (ni' : Int), zI (no' : Int), .ref 323]))) 323 (.inr (0, 8, fun j => zI ((v' j : Nat) : Int)))) := KE.up1 (by decide) (fun q => by rw [up_n (by decide)]; exact h.ng (by decide) q)
  have hk := (hk1.mono (S' := [322, 323]) (fun x hx => by rw [List.mem_singleton.mp hx]; decide)).tr (hk2.mono (fun x hx => by rw [List.mem_singleton.mp hx]; decide))
  refine ⟨hk, ?_⟩
  obtain ⟨h0, h1, h2, h3, h4, h5, h6, h7, h8, h9, h10, h11⟩ := h
  have g : ∀ x, x ≠ 322 → x ≠ 323 → x ∉ [322, 323] := fun x q q2 z => by simp at z; omega
  exact ⟨(hk.2.2 300 (by decide) (by decide)).trans h0, h1.ke hk (fun x a b => g x (by omega) (by omega)), h2.ke hk ⟨by decide, by decide⟩, ⟨(up_n (by decide)).trans (up_s _ _ _), up_s _ _ _⟩, h4.ke hk (by decide), h5.ke hk (by decide), h6.ke hk (by decide), h7.ke hk ⟨by decide, by decide⟩, h8.ke hk (fun x a b => g x (by omega) (by omega)), h9.ke hk (fun x a b => g x (by omega) (by omega)), h10.ke hk (fun x a b => g x (by omega) (by omega)), h11.ke hk (fun x a b => g x (by omega) (by omega))⟩
def SR : List Nat := [300, 319, 322, 323, 350, 352, 353]
theorem sR {k : Nat} (h : k ∈ SR) : ∀ x ∈ [k], x ∈ SR := fun x hx => by rw [List.mem_singleton.mp hx]; exact h
set_option maxHeartbeats 4000000 in
theorem ct_xBegins {G : GT} {Rel : Nat → Hp → Hp → Prop} (hR : RelOK Rel) (hP : Rel = RelP) (hX : GX G) {n : Nat} {f : Hp} {w wN : Nat} {gs gN : List Gt} {pa : List (List Gt)} {sl : Nat → Option (List Gt)} {ni no niN noN t ng wt : Nat} {v vN p pN : Nat → Nat} {tp : Nat} {T : Nat → Nat} {pl : Int} {lg : List Nat} {hp : Nat → Value} (h : WO f w gs pa sl ni no v p tp T pl) (hP3 : f 310 = some (pC wN t ng 0 wt)) (hC3 : CC f 311 312 lg gN) (hg16 : gN.length ≤ 16) (hT3 : CT f 313 314 niN noN vN) (hpr : f 315 = some (.inr (0, 4, hp))) (hpv : ∀ i, i < 4 → hp i = zI ((pN i : Nat) : Int)) : Ct G Rel yX0_begins cX0_begins 2 none (7) (17) [.ref 300] n (f) (fun r n' f' => r = none ∧ n ≤ n' ∧ KE SR f f' ∧ WO f' wN gN [] (fun _ => none) niN noN (fun j => if j < 8 then vN j else v j) pN tp T pl) := by
  refine ct_intro [some (.ref 300), none] hR rfl (Nat.le_of_ble_eq_true rfl) ?_
  intro K hG hRel hK hRt hnm
  have hQ : kRel K = RelP := by rw [hRel]; exact hP
  have hXK : GX (kG K) := by rw [hG]; exact hX
  obtain ⟨h0, -, ⟨l, hc⟩, hCT, -⟩ := id h
  obtain ⟨f1, hf1⟩ : ∃ f1, f1 = up f 300 (x0C pl wN) := ⟨_, rfl⟩
  have w1 := h.w (w' := wN) (pl' := pl)
  rw [← hf1] at w1
  have hC31 : CC f1 311 312 lg gN := hC3.ke w1.1 (fun _ => by decide) (fun _ => by decide)
  have w2 := w1.2.cas hC31.2.2.1 hC31.2.2.2
  obtain ⟨f2, hf2⟩ : ∃ f2, f2 = up f1 319 (cLL lg) := ⟨_, rfl⟩
  rw [← hf2] at w2
  have k2 := (w1.1.mono (sR (by decide))).tr (w2.1.mono (sR (by decide)))
  have hP1 : f1 310 = some (pC wN t ng 0 wt) := (w1.1.2.2 310 (by decide) (by decide)).trans hP3
  have hP2 : f2 310 = some (pC wN t ng 0 wt) := (k2.2.2 310 (by decide) (by decide)).trans hP3
  have hT2 : CT f2 313 314 niN noN vN := ⟨(k2.2.2 313 (by decide) (by decide)).trans hT3.1, (k2.2.2 314 (by decide) (by decide)).trans hT3.2⟩
  have w3 := w2.2.tbl (ni' := niN) (no' := noN) (v' := fun j => if j < 8 then vN j else v j)
  obtain ⟨f3, hf3⟩ : ∃ f3, f3 = up (up f2 322 (.inl (5, [zI (niN : Int), zI (noN : Int), .ref 323]))) 323 (.inr (0, 8, fun j => zI (((if j < 8 then vN j else v j) : Nat) : Int))) := ⟨_, rfl⟩
  rw [← hf3] at w3
  have k3 := k2.tr (w3.1.mono (fun x hx => by unfold SR; simp at hx ⊢; omega))
  have hP4 : f3 310 = some (pC wN t ng 0 wt) := (k3.2.2 310 (by decide) (by decide)).trans hP3
  have hpr3 : f3 315 = some (.inr (0, 4, hp)) := (k3.2.2 315 (by decide) (by decide)).trans hpr
  obtain ⟨e0, -, -, -, -, -, ⟨hpo, hpo1, hpo2⟩, -⟩ := id w3.2
  have hcp : ∀ i, i < 4 → va_cpy hp hpo 0 0 4 i = zI ((pN i : Nat) : Int) := fun i hi => by
    unfold va_cpy
    rw [if_pos (by omega)]
    show hp (0 + (i - 0)) = _
    rw [Nat.zero_add, Nat.sub_zero]; exact hpv i hi
  have w4 := w3.2.pri (hp := va_cpy hp hpo 0 0 4) hcp
  obtain ⟨f4, hf4⟩ : ∃ f4, f4 = up f3 353 (.inr (0, 4, va_cpy hp hpo 0 0 4)) := ⟨_, rfl⟩
  rw [← hf4] at w4
  obtain ⟨g0, -, -, -, ⟨lp4, hlp4, -⟩, -⟩ := id w4.2
  have w5 := w4.2.past (lp := []) (pa' := []) rfl (fun i hi => absurd hi (Nat.not_lt_zero _))
  obtain ⟨f5, hf5⟩ : ∃ f5, f5 = up f4 350 (cAD []) := ⟨_, rfl⟩
  rw [← hf5] at w5
  have k5 := (k3.tr (w4.1.mono (sR (by decide)))).tr (w5.1.mono (sR (by decide)))
  obtain ⟨i0, -, -, -, -, ⟨hs5, hs51, hs52⟩, -⟩ := id w5.2
  have lp : ∀ (d k n1 : Nat) (hv : Nat → Value), k + d = 3 → n ≤ n1 → (∀ j, j < k → hv j = .null) → Wx K 65 [some (.ref 300), some (zI (k : Int))] [] n1 (up f5 352 (.inr (7, 3, hv))) 17 := by
    intro d
    induction d with
    | zero =>
      intro k n1 hv hk hn1 hnul
      have w6 := w5.2.slot (sl' := fun _ => none) (hs := hv) (fun j hj => Or.inl ⟨rfl, hnul j (by omega)⟩)
      refine r_iload_1 hK dX0_begins_65 ?_
      refine r_iconstN (c := 3) hK dX0_begins_66 ?_
      refine r_icmp_ge 83 hK dX0_begins_67 (by omega) (by omega) (fun h67 => ?_) (fun h67 => ?_)
      · exact r_vret hK hRt dX0_begins_83 ⟨rfl, hn1, k5.tr (w6.1.mono (sR (by decide))), w6.2⟩
      · omega --!
    | succ d ih =>
      intro k n1 hv hk hn1 hnul
      have i1 : up f5 352 (.inr (7, 3, hv)) 300 = some (x0C pl wN) := (up_n (by decide)).trans i0
      refine r_iload_1 hK dX0_begins_65 ?_
      refine r_iconstN (c := 3) hK dX0_begins_66 ?_
      refine r_icmp_ge 83 hK dX0_begins_67 (by omega) (by omega) (fun h67 => ?_) (fun h67 => ?_)
      · omega --!
      · refine r_aload_0 hK dX0_begins_70 ?_
        refine r_get hK fl_X0_83 dX0_begins_71 (i1) rfl ?_
        refine r_iload_1 hK dX0_begins_74 ?_
        refine r_null hK dX0_begins_75 ?_
        refine r_aastN hK dX0_begins_76 (up_s _ _ _) (by omega) ?_
        rw [up_up]
        first | refine r_incN_1 hK dX0_begins_77 ?_ | refine r_iinc_1 hK dX0_begins_77 ?_
        refine r_goto 65 hK dX0_begins_80 ?_
        refine ih (k + 1) n1 _ (by omega) hn1 (fun j hj => ?_)
        unfold updV
        by_cases e : j = k
        · rw [if_pos e]
        · rw [if_neg e]; exact hnul j (by omega)
  refine r_aload_0 hK dX0_begins_0 ?_
  refine r_aload_0 hK dX0_begins_1 ?_
  refine r_get hK fl_X0_34 dX0_begins_2 (h0) rfl ?_
  refine r_get hK fl_X0_128 dX0_begins_5 (hP3) rfl ?_
  refine r_put hK fl_X0_131 dX0_begins_8 h0 (by simp) ?_
  show Wx K _ _ _ _ (up f 300 (x0C pl wN)) _
  rw [← hf1]
  refine r_aload_0 hK dX0_begins_11 ?_
  refine r_get hK fl_X0_41 dX0_begins_12 (w1.2.1) rfl ?_
  refine r_aload_0 hK dX0_begins_15 ?_
  refine r_get hK fl_X0_34 dX0_begins_16 (w1.2.1) rfl ?_
  refine r_get hK fl_X0_132 dX0_begins_19 (hP1) rfl ?_
  obtain ⟨-, -, ⟨l1, hc1⟩, -⟩ := id w1.2
  refine r_callV1 hK (pc_becomes hQ hXK hc1.1 hc1.2.1 hC31 (by decide) (by rw [hC31.2.2.1.1]; exact hg16)) lk_X0_133 (Rcv.raw hK.rel hc1.1 rfl) dX0_begins_22 (fun r n2 g2 hp => ?_)
  obtain ⟨rfl, hn2, rfl⟩ := hp
  rw [← hf2]
  refine r_aload_0 hK dX0_begins_25 ?_
  refine r_get hK fl_X0_51 dX0_begins_26 (w2.2.1) rfl ?_
  refine r_aload_0 hK dX0_begins_29 ?_
  refine r_get hK fl_X0_34 dX0_begins_30 (w2.2.1) rfl ?_
  refine r_get hK fl_X0_137 dX0_begins_33 (hP2) rfl ?_
  refine r_callV1 hK (tb_becomes hK.rel w2.2.2.2.2.1 hT2 (by decide)) lk_X0_138 (Rcv.raw hK.rel w2.2.2.2.2.1.1 rfl) dX0_begins_36 (fun r n3 g3 hp => ?_)
  obtain ⟨rfl, rfl, rfl⟩ := hp
  show Wx K _ _ _ _ (up (up f2 322 (.inl (5, [zI (niN : Int), zI (noN : Int), .ref 323]))) 323 (.inr (0, 8, fun j => zI (((if j < 8 then vN j else v j) : Nat) : Int)))) _
  rw [← hf3]
  refine r_aload_0 hK dX0_begins_39 ?_
  refine r_get hK fl_X0_34 dX0_begins_40 (e0) rfl ?_
  refine r_get hK fl_X0_141 dX0_begins_43 (hP4) rfl ?_
  refine r_iconstN (c := 0) hK dX0_begins_46 ?_
  refine r_aload_0 hK dX0_begins_47 ?_
  refine r_get hK fl_X0_87 dX0_begins_48 (e0) rfl ?_
  refine r_iconstN (c := 0) hK dX0_begins_51 ?_
  refine r_iconstN (c := 4) hK dX0_begins_52 ?_
  refine r_acpyI hK q1446 dX0_begins_53 hpr3 hpo1 (by decide) (by decide) (fun i hi => ⟨_, by rw [Nat.zero_add]; exact hpv i hi⟩) ?_
  rw [← hf4]
  refine r_aload_0 hK dX0_begins_56 ?_
  refine r_get hK fl_X0_79 dX0_begins_57 (g0) rfl ?_
  refine r_callV0 hK (pd_clear hQ hlp4) lk_X0_148 (rcv_ad hQ hlp4) dX0_begins_60 (fun r n4 g4 hp => ?_)
  obtain ⟨rfl, rfl, rfl⟩ := hp
  rw [← hf5]
  refine r_iconstN (c := 0) hK dX0_begins_63 ?_
  refine r_istore_1 hK dX0_begins_64 ?_
  have := lp 3 0 n4 hs5 rfl (by omega) (fun j hj => absurd hj (Nat.not_lt_zero _))
  rw [up_self hs51] at this
  exact this
