set_option maxRecDepth 100000
/-! ===== BackLogic: found, least ===== -/
def SF : List Nat := [324, 325, 326, 327, 328]
def SS : List Nat := [329, 331, 333, 335, 337, 339, 341, 342, 343, 344, 345, 346]
theorem WO.fin {f f' : Hp} {w : Nat} {gs : List Gt} {pa : List (List Gt)} {sl : Nat → Option (List Gt)} {ni no : Nat} {v p : Nat → Nat} {tp : Nat} {T : Nat → Nat} {pl : Int} (h : WO f w gs pa sl ni no v p tp T pl) (hk : KE SF f f') (hf : Wf f') : WO f' w gs pa sl ni no v p tp T pl := by
  have g : ∀ x, x ∈ SF → 324 ≤ x ∧ x ≤ 328 := fun x hx => by unfold SF at hx; simp at hx; omega
  exact h.ke hk (fun x hx => by have := g x hx; omega) (Or.inl ⟨by decide, by decide⟩) (Or.inr hf) (Or.inl (fun x a b z => by have := g x z; omega)) (Or.inl (fun x a b z => by have := g x z; omega)) (Or.inl (fun x a b z => by have := g x z; omega))
theorem WO.sho {f f' : Hp} {w : Nat} {gs : List Gt} {pa : List (List Gt)} {sl : Nat → Option (List Gt)} {ni no : Nat} {v p : Nat → Nat} {tp : Nat} {T : Nat → Nat} {pl : Int} (h : WO f w gs pa sl ni no v p tp T pl) (hk : KE SS f f') (hf : Wsh f') : WO f' w gs pa sl ni no v p tp T pl := by
  have g : ∀ x, x ∈ SS → 329 ≤ x ∧ x ≤ 346 := fun x hx => by unfold SS at hx; simp at hx; omega
  exact h.ke hk (fun x hx => by have := g x hx; omega) (Or.inl ⟨by decide, by decide⟩) (Or.inl (fun x a b z => by have := g x z; omega)) (Or.inr hf) (Or.inl (fun x a b z => by have := g x z; omega)) (Or.inl (fun x a b z => by have := g x z; omega))
theorem SF_ok {f : Hp} {w : Nat} {gs : List Gt} {pa : List (List Gt)} {sl : Nat → Option (List Gt)} {ni no : Nat} {v p : Nat → Nat} {tp : Nat} {T : Nat → Nat} {pl : Int} (h : WO f w gs pa sl ni no v p tp T pl) : ∀ x ∈ SF, x < 392 ∧ ∀ q, f x ≠ some (cG q) := fun x hx => by
  have : x < 392 ∧ fxB x = true := by
    unfold SF at hx
    simp only [List.mem_cons, List.not_mem_nil, or_false] at hx
    rcases hx with e | e | e | e | e <;> subst e <;> decide
  exact ⟨this.1, fun q => h.ng this.2 q⟩
theorem SS_ok {f : Hp} {w : Nat} {gs : List Gt} {pa : List (List Gt)} {sl : Nat → Option (List Gt)} {ni no : Nat} {v p : Nat → Nat} {tp : Nat} {T : Nat → Nat} {pl : Int} (h : WO f w gs pa sl ni no v p tp T pl) : ∀ x ∈ SS, x < 392 ∧ ∀ q, f x ≠ some (cG q) := fun x hx => by
  have : x < 392 ∧ fxB x = true := by
    unfold SS at hx
    simp only [List.mem_cons, List.not_mem_nil, or_false] at hx
    rcases hx with e | e | e | e | e | e | e | e | e | e | e | e <;> subst e <;> decide
  exact ⟨this.1, fun q => h.ng this.2 q⟩
def SO : List Nat := [324, 325, 326, 327, 328, 354]
set_option maxHeartbeats 4000000 in
theorem ct_xFinds {G : GT} {Rel : Nat → Hp → Hp → Prop} (hR : RelOK Rel) (hP : Rel = RelP) (hX : GX G) {n : Nat} {f : Hp} {w : Nat} {gs : List Gt} {pa : List (List Gt)} {sl : Nat → Option (List Gt)} {ni no : Nat} {v p : Nat → Nat} {tp : Nat} {T : Nat → Nat} {pl : Int} {both : Bool} (h : WO f w gs pa sl ni no v p tp T pl) (hw : w ≤ 4) (ho : ∀ q ∈ gs, gok w q) (hn0 : 392 ≤ n) : Ct G Rel yX0_finds cX0_finds 2 none (9) (1600) [.ref 300, vB both] n (f) (fun r n' f' => r = none ∧ n ≤ n' ∧ KE SO f f' ∧ WO f' w gs pa sl ni no v p tp T pl ∧ ∃ l1 l2, FI f' 324 325 326 327 328 (rN w) w (fdAll w both (run gs)) l1 l2) := by
  refine ct_intro [some (.ref 300), some (vB both)] hR rfl (Nat.le_of_ble_eq_true rfl) ?_
  intro K hG hRel hK hRt hnm
  have hQ : kRel K = RelP := by rw [hRel]; exact hP
  have hXK : GX (kG K) := by rw [hG]; exact hX
  have h4 := rN4 hw
  have ho4 : ∀ g ∈ gs, gok 4 g := fun g hg => gok4 hw (ho g hg)
  have hb : ∀ q ∈ gs, gB q := fun q hq => (ho4 q hq).gB (by omega)
  obtain ⟨h0, hPW, ⟨l, hc⟩, hCT, hWp, hs, hWpr, hWt, hWf, hWsh, hWte, ⟨or0, hor⟩, hWa⟩ := id h
  refine r_aload_0 hK dX0_finds_0 ?_
  refine r_get hK fl_X0_41 dX0_finds_1 (h0) rfl ?_
  refine r_aload_0 hK dX0_finds_4 ?_
  refine r_get hK fl_X0_91 dX0_finds_5 (h0) rfl ?_
  refine r_aload_0 hK dX0_finds_8 ?_
  refine r_pV0 hK (ct_xRows hK.rel h0 hw) lk_X0_151 (Rcv.raw hK.rel h0 rfl) dX0_finds_9 ?_
  refine r_callV2 hK (ct_cOrders hK.rel hQ hXK hc hb hor (R := rN w) (by omega) (by omega) (by decide)) lk_X0_276 (Rcv.raw hK.rel hc.1 rfl) dX0_finds_12 (fun r n1 f1 hp => ?_)
  obtain ⟨rfl, hn1, hf1⟩ := hp
  have hW1 := h.ord (oA (rN w) (run gs) or0)
  rw [← hf1] at hW1
  obtain ⟨g0, -, -, -, -, -, -, -, ⟨R0, W0, s0, l1, l2, gfi⟩, -⟩ := id hW1.2
  have hA : f1 354 = some (.inr (0, 64, oA (rN w) (run gs) or0)) := by rw [hf1]; exact up_s _ _ _
  refine r_aload_0 hK dX0_finds_15 ?_
  refine r_get hK fl_X0_58 dX0_finds_16 (g0) rfl ?_
  refine r_aload_0 hK dX0_finds_19 ?_
  refine r_get hK fl_X0_91 dX0_finds_20 (g0) rfl ?_
  refine r_aload_0 hK dX0_finds_23 ?_
  refine r_pV0 hK (ct_xRows hK.rel g0 hw) lk_X0_151 (Rcv.raw hK.rel g0 rfl) dX0_finds_24 ?_
  refine r_iload_1 hK dX0_finds_27 ?_
  refine r_fact hK (fun _ hno => ?_)
  refine r_callV3 hK (ct_fFinds hK.rel hQ hXK gfi (L := w) (both := both) (p := run gs) (by omega) (onto_run ho) hA (by omega) (by decide) (fun x hx => if_pos hx) (by decide)) lk_X0_289 (Rcv.raw hK.rel gfi.1 rfl) dX0_finds_28 (fun r n2 f2 hp => ?_)
  obtain ⟨rfl, hn2, ⟨l1', l2', hfi⟩, hfr⟩ := hp
  have hk2 : KE SF f1 f2 := KE.of hno (by omega) hfr (SF_ok hW1.2)
  exact r_vret hK hRt dX0_finds_31 ⟨rfl, by omega, (hW1.1.mono (fun x hx => by rw [List.mem_singleton.mp hx]; decide)).tr (hk2.mono (fun x hx => by unfold SF at hx; unfold SO; simp at hx ⊢; omega)), hW1.2.fin hk2 ⟨_, _, _, l1', l2', hfi⟩, l1', l2', hfi⟩
theorem GL.ap2 {f : Hp} {a b : List Nat} {x y : List Gt} (h : GL f a x) (h' : GL f b y) : GL f (a ++ b) (x ++ y) := by
  rw [GL.mp] at h h' ⊢
  rw [List.map_append, List.map_append, h, h']
theorem FI.gl {f : Hp} {c oa fa la lb R W : Nat} {s : FS} {l1 l2 : List Nat} (h : FI f c oa fa la lb R W s l1 l2) : GL f (l1 ++ l2) ((fdL s).map gz) := by
  obtain ⟨-, -, -, -, -, h1, h2, -⟩ := h
  have := h1.ap2 h2
  rw [← List.map_append] at this
  exact this
theorem gt_gz {l : List (Nat × Nat)} {i : Nat} (h : i < l.length) : gt (l.map gz) i = gz (ftAt l i) := by
  rw [gt_at (by rw [List.length_map]; exact h), List.getElem_map]
  unfold ftAt
  rw [List.getD_eq_getElem?_getD, List.getElem?_eq_getElem h]; rfl
theorem tellG_gz {q : Nat × Nat} {z : Int} (h : 0 ≤ z ∧ z ≤ 1) : tellG (gz q) z = if z = 0 then (q.1 : Int) else (q.2 : Int) := by
  unfold tellG gz
  by_cases c : z = 0
  · rw [if_pos c, if_pos c]
  · rw [if_neg c, if_neg c, if_pos (by omega)]
theorem FB_l1 {L : Nat} {b : Bool} {to : Nat} : ∀ m (q : Nat × FS) B, FB B q.2 → FB (B + m) (ld1 L b to m q).2
  | 0, q, B, h => h
  | m + 1, q, B, h => by
    unfold ld1
    refine FB_mono (B := B + 1 + m) (FB_l1 m _ (B + 1) ?_) (by omega)
    split
    · exact FB_note h
    · exact FB_mono h (by omega)
theorem FB_l2 {L : Nat} {b : Bool} {to : Nat} : ∀ m (q : Nat × FS) B, FB B q.2 → FB (B + m) (ld2 L b to m q).2
  | 0, q, B, h => h
  | m + 1, q, B, h => by
    unfold ld2
    refine FB_mono (B := B + 1 + m) (FB_l2 m _ (B + 1) ?_) (by omega)
    split
    · exact FB_note h
    · exact FB_mono h (by omega)
theorem FB_f {L : Nat} {both : Bool} (hL : L ≤ 6) : ∀ m (s : FS) B, FB B s → FB (B + 12 * m) (fdF L both m s)
  | 0, s, B, h => h
  | m + 1, s, B, h => by
    unfold fdF
    refine FB_mono (FB_f hL m _ (B + L + L) ?_) (by omega)
    exact FB_l2 L _ _ (FB_l1 L _ _ h)
theorem fd_le {L : Nat} {both : Bool} {p : Nat → Nat} (hL : L ≤ 6) : (fdL (fdAll L both p)).length ≤ 12 * rN L := by
  have := FB_f (both := both) hL (rN L) (p, [], []) 0 (Nat.le_refl _)
  unfold FB at this
  unfold fdL fdAll
  rw [List.length_append]; omega
set_option maxHeartbeats 4000000 in
theorem ct_xFound {G : GT} {Rel : Nat → Hp → Hp → Prop} (hR : RelOK Rel) (hP : Rel = RelP) (hX : GX G) {n : Nat} {f : Hp} {w : Nat} {gs : List Gt} {pa : List (List Gt)} {sl : Nat → Option (List Gt)} {ni no : Nat} {v p : Nat → Nat} {tp : Nat} {T : Nat → Nat} {pl y z : Int} {both : Bool} (hy : inR y) (hz : inR z) (h : WO f w gs pa sl ni no v p tp T pl) (hw : w ≤ 4) (ho : ∀ q ∈ gs, gok w q) (hn0 : 392 ≤ n) : Ct G Rel yX0_found cX0_found 4 (some .int) (10) (1600) [.ref 300, vB both, zI y, zI z] n (f) (Qw (zI (askF (fdL (fdAll w both (run gs))) y z)) SO n f (fun f' => WO f' w gs pa sl ni no v p tp T pl)) := by
  refine ct_intro [some (.ref 300), some (vB both), some (zI y), some (zI z)] hR rfl (Nat.le_of_ble_eq_true rfl) ?_
  intro K hG hRel hK hRt hnm
  have hQ : kRel K = RelP := by rw [hRel]; exact hP
  have hXK : GX (kG K) := by rw [hG]; exact hX
  have h4 := rN4 hw
  have hle := fd_le (both := both) (p := run gs) (show w ≤ 6 by omega)
  refine r_aload_0 hK dX0_found_0 ?_
  refine r_iload_1 hK dX0_found_1 ?_
  refine r_callV1 hK (ct_xFinds hK.rel hQ hXK h hw ho hn0) lk_X0_217 (Rcv.raw hK.rel h.1 rfl) dX0_found_2 (fun r n1 f1 hp => ?_)
  obtain ⟨rfl, hn1, hk1, hW1, l1, l2, hfi⟩ := hp
  have g0 := hW1.1
  have hgl := hfi.gl
  refine r_iload_2 hK dX0_found_5 ?_
  refine r_iconst hK dX0_found_6 ?_
  refine r_icmp_ne 20 hK dX0_found_7 (by omega) (by omega) (fun h7 => ?_) (fun h7 => ?_)
  · refine r_iload_2 hK dX0_found_20 ?_
    refine r_iconstN (c := 0) hK dX0_found_21 ?_
    refine r_aload_0 hK dX0_found_22 ?_
    refine r_get hK fl_X0_58 dX0_found_23 (g0) rfl ?_
    refine r_pV0 hK (ct_fSize hK.rel hQ hXK hfi) lk_X0_222 (Rcv.raw hK.rel hfi.1 rfl) dX0_found_26 ?_
    refine r_iconstN (c := 1) hK dX0_found_29 ?_
    refine r_isub hK dX0_found_30 ?_
    refine r_pS3 hK (ct_isIn0 hK.rel hy (by omega) (by omega)) lk_X0_155 dX0_found_31 ?_
    refine r_ifB_eq 61 hK dX0_found_34 (fun h34 => ?_) (fun h34 => ?_)
    · refine r_iconst hK dX0_found_61 ?_
      exact r_iret hK hRt dX0_found_62 ⟨by unfold askF; rw [if_neg (by omega), if_neg (by omega)], hn1, hk1, hW1⟩
    · refine r_iload_3 hK dX0_found_37 ?_
      refine r_iconstN (c := 0) hK dX0_found_38 ?_
      refine r_iconstN (c := 1) hK dX0_found_39 ?_
      refine r_pS3 hK (ct_isIn0 hK.rel hz (by decide) (by decide)) lk_X0_155 dX0_found_40 ?_
      refine r_ifB_eq 61 hK dX0_found_43 (fun h43 => ?_) (fun h43 => ?_)
      · refine r_iconst hK dX0_found_61 ?_
        exact r_iret hK hRt dX0_found_62 ⟨by unfold askF; rw [if_neg (by omega), if_neg (by omega)], hn1, hk1, hW1⟩
      · obtain ⟨k, rfl⟩ : ∃ s : Nat, y = (s : Int) := ⟨y.toNat, by omega⟩
        have hkl : k < (fdL (fdAll w both (run gs))).length := by omega
        have gk := hgl.2 k (by rw [hgl.1, List.length_map]; exact hkl)
        rw [gt_gz hkl] at gk
        refine r_aload_0 hK dX0_found_46 ?_
        refine r_get hK fl_X0_58 dX0_found_47 (g0) rfl ?_
        refine r_iload_2 hK dX0_found_50 ?_
        refine r_pV1 hK (ct_fAt hK.rel hQ hXK hfi hkl (by omega)) lk_X0_223 (Rcv.raw hK.rel hfi.1 rfl) dX0_found_51 ?_
        refine r_iload_3 hK dX0_found_54 ?_
        refine r_pV1 hK (ct_gTold hK.rel gk hz) lk_X0_248 (Rcv.raw hK.rel gk rfl) dX0_found_55 ?_
        refine r_goto 62 hK dX0_found_58 ?_
        exact r_iret hK hRt dX0_found_62 ⟨by unfold askF; rw [if_neg (by omega), if_pos (by omega), tellG_gz (by omega)]; rfl, hn1, hk1, hW1⟩
  · refine r_aload_0 hK dX0_found_10 ?_
    refine r_get hK fl_X0_58 dX0_found_11 (g0) rfl ?_
    refine r_pV0 hK (ct_fSize hK.rel hQ hXK hfi) lk_X0_222 (Rcv.raw hK.rel hfi.1 rfl) dX0_found_14 ?_
    refine r_goto 62 hK dX0_found_17 ?_
    exact r_iret hK hRt dX0_found_62 ⟨by unfold askF; rw [if_pos (by omega)], hn1, hk1, hW1⟩
def SQ : List Nat := [329, 331, 333, 335, 337, 339, 341, 342, 343, 344, 345, 346, 354]
/-- orders of three wires or fewer, made ready -/
theorem sh_lays {f f' : Hp} {n : Nat} {w : Nat} {gs : List Gt} {pa : List (List Gt)} {sl : Nat → Option (List Gt)} {ni no : Nat} {v p : Nat → Nat} {tp : Nat} {T : Nat → Nat} {pl : Int} {wx : Nat} (h : WO f w gs pa sl ni no v p tp T pl) (hno : ∀ id, n ≤ id → f id = none) (hn0 : 392 ≤ n) (hS : SHL f' wx) (hks : KS n f f') : KE SS f f' ∧ Wsh f' ∧ WO f' w gs pa sl ni no v p tp T pl := by
  have hk : KE SS f f' := KE.of hno hn0 (fun id a b => hks id a (by unfold SS at b; simp at b; omega)) (SS_ok h)
  obtain ⟨-, x1, x2, hx1, hx2⟩ := h.2.2.2.2.2.2.2.2.2.1
  have hW : Wsh f' := ⟨⟨wx, rN wx, hS.1, hS.x, Or.inr ⟨rfl, hS⟩⟩, x1, x2, (hks 343 (by omega) (by omega)).trans hx1, (hks 344 (by omega) (by omega)).trans hx2⟩
  exact ⟨hk, hW, h.sho hk hW⟩
theorem pm_run {w : Nat} {gs : List Gt} (h : ∀ g ∈ gs, gok w g) : Pm (rN w) (run gs) := ⟨fun i hi => run_lt (fun g hg => (h g hg).1) hi, fun i j hij hj e => by
  have h1 := (run_rv h (show i < rN w by omega)).2.1
  have h2 := (run_rv h hj).2.1
  rw [e, h2] at h1
  omega⟩
set_option maxHeartbeats 4000000 in
theorem ct_xLeastRow {G : GT} {Rel : Nat → Hp → Hp → Prop} (hR : RelOK Rel) (hP : Rel = RelP) (hX : GX G) {n : Nat} {f : Hp} {w d : Nat} {gs : List Gt} {pa : List (List Gt)} {sl : Nat → Option (List Gt)} {ni no : Nat} {v p : Nat → Nat} {tp : Nat} {T TT : Nat → Nat} {pl : Int} (h : WO f w gs pa sl ni no v p tp T pl) (hw : w ≤ 3) (hD : D8 w) (hT : TabR w TT) (ho : ∀ q ∈ gs, gok w q) (hd : IsD w (run gs) d) (hn0 : 392 ≤ n) : Ct G Rel yX0_leastRow cX0_leastRow 1 (some (.object "java/util/LinkedList")) (10) (6474) [.ref 300] n (f) (fun r n' f' => n ≤ n' ∧ KE SQ f f' ∧ WO f' w gs pa sl ni no v p tp T pl ∧ ∃ (id : Nat) (l : List Nat), r = some (.ref id) ∧ n ≤ id ∧ f' id = some (cLL l) ∧ GL f' l ((fstL TT w d (run gs)).map gz)) := by
  refine ct_intro [some (.ref 300)] hR rfl (Nat.le_of_ble_eq_true rfl) ?_
  intro K hG hRel hK hRt hnm
  have hQ : kRel K = RelP := by rw [hRel]; exact hP
  have hXK : GX (kG K) := by rw [hG]; exact hX
  have h4 := rN4 (show w ≤ 4 by omega)
  have h8 : rN w ≤ 8 := rN_le8 hw
  have ho4 : ∀ g ∈ gs, gok 4 g := fun g hg => gok4 (by omega) (ho g hg)
  have hb : ∀ q ∈ gs, gB q := fun q hq => (ho4 q hq).gB (by omega)
  obtain ⟨h0, hPW, ⟨l, hc⟩, hCT, hWp, hs, hWpr, hWt, hWf, hWsh, hWte, ⟨or0, hor⟩, hWa⟩ := id h
  refine r_aload_0 hK dX0_leastRow_0 ?_
  refine r_get hK fl_X0_41 dX0_leastRow_1 (h0) rfl ?_
  refine r_aload_0 hK dX0_leastRow_4 ?_
  refine r_get hK fl_X0_91 dX0_leastRow_5 (h0) rfl ?_
  refine r_aload_0 hK dX0_leastRow_8 ?_
  refine r_pV0 hK (ct_xRows hK.rel h0 (by omega)) lk_X0_151 (Rcv.raw hK.rel h0 rfl) dX0_leastRow_9 ?_
  refine r_callV2 hK (ct_cOrders hK.rel hQ hXK hc hb hor (R := rN w) (by omega) (by omega) (by decide)) lk_X0_276 (Rcv.raw hK.rel hc.1 rfl) dX0_leastRow_12 (fun r n1 f1 hp => ?_)
  obtain ⟨rfl, hn1, hf1⟩ := hp
  have hW1 := h.ord (oA (rN w) (run gs) or0)
  rw [← hf1] at hW1
  have hA1 : f1 354 = some (.inr (0, 64, oA (rN w) (run gs) or0)) := by rw [hf1]; exact up_s _ _ _
  obtain ⟨g0, -, -, -, -, -, -, -, -, ⟨⟨w0, R0, q1, q2, q3⟩, -⟩, -⟩ := id hW1.2
  refine r_aload_0 hK dX0_leastRow_15 ?_
  refine r_get hK fl_X0_65 dX0_leastRow_16 (g0) rfl ?_
  refine r_aload_0 hK dX0_leastRow_19 ?_
  refine r_get hK fl_X0_131 dX0_leastRow_20 (g0) rfl ?_
  refine r_fact hK (fun _ hno => ?_)
  refine r_callV1 hK (ct_sLays hK.rel hQ hXK (w := w) hw hD (by omega) q2 q1 q3) lk_X0_292 (Rcv.raw hK.rel q2.1 rfl) dX0_leastRow_23 (fun r n2 f2 hp => ?_)
  obtain ⟨rfl, hn2, hSH, hKS⟩ := hp
  obtain ⟨k2, -, hW2⟩ := sh_lays hW1.2 hno (by omega) hSH hKS
  obtain ⟨e0, -, -, -, -, -, -, -, -, ⟨-, y1, y2, hy1, hy2⟩, -⟩ := id hW2
  have hA2 : f2 354 = some (.inr (0, 64, oA (rN w) (run gs) or0)) := (hKS 354 (by omega) (by omega)).trans hA1
  refine r_aload_0 hK dX0_leastRow_26 ?_
  refine r_get hK fl_X0_65 dX0_leastRow_27 (e0) rfl ?_
  refine r_aload_0 hK dX0_leastRow_30 ?_
  refine r_get hK fl_X0_91 dX0_leastRow_31 (e0) rfl ?_
  refine r_fact hK (fun _ hno2 => ?_)
  refine r_callV1 hK (ct_sFirst hK.rel hQ hXK hD hT (by omega) hSH hA2 (by omega) (by omega) (by decide) hy1 hy2 (pm_run ho) (fun x hx => if_pos hx) hd) lk_X0_295 (Rcv.raw hK.rel hSH.x.1 rfl) dX0_leastRow_34 (fun r n3 f3 hp => ?_)
  obtain ⟨rfl, hn3, ⟨l3, hl3, hg3, -⟩, hS3, ⟨z1, z2, hz1, hz2⟩, hfr⟩ := hp
  have k3 : KE SS f2 f3 := KE.of hno2 (by omega) (fun id a b => hfr id a (fun q => b (by rw [q]; decide)) (fun q => b (by rw [q]; decide)) (fun q => b (by rw [q]; decide))) (SS_ok hW2)
  have hW3 := hW2.sho k3 ⟨⟨w, rN w, hw, hS3.x, Or.inr ⟨rfl, hS3⟩⟩, z1, z2, hz1, hz2⟩
  have hmS : ∀ x ∈ SS, x ∈ SQ := fun x hx => by unfold SS at hx; unfold SQ; simp at hx ⊢; omega
  refine r_aret hK hRt dX0_leastRow_37 ⟨by omega, ((hW1.1.mono (fun x hx => by rw [List.mem_singleton.mp hx]; decide)).tr (k2.mono hmS)).tr (k3.mono hmS), hW3, n2, l3, rfl, by omega, hl3, hg3⟩
set_option maxHeartbeats 4000000 in
theorem ct_xLeast {G : GT} {Rel : Nat → Hp → Hp → Prop} (hR : RelOK Rel) (hP : Rel = RelP) (hX : GX G) {n : Nat} {f : Hp} {w : Nat} {gs : List Gt} {pa : List (List Gt)} {sl : Nat → Option (List Gt)} {ni no : Nat} {v p : Nat → Nat} {tp : Nat} {T TT : Nat → Nat} {pl y z : Int} (hy : inR y) (hz : inR z) (h : WO f w gs pa sl ni no v p tp T pl) (hw : w ≤ 4) (hD : w ≤ 3 → D8 w) (hT : w ≤ 3 → TabR w TT) (ho : ∀ q ∈ gs, gok w q) (hn0 : 392 ≤ n) : Ct G Rel yX0_least cX0_least 4 (some .int) (11) (6474) [.ref 300, zI y, zI z] n (f) (Qw (zI (if w ≤ 3 then askF (fstL TT w (TT (plc (run gs) (rN w))) (run gs)) y z else -1)) SQ n f (fun f' => WO f' w gs pa sl ni no v p tp T pl)) := by
  refine ct_intro [some (.ref 300), some (zI y), some (zI z), none] hR rfl (Nat.le_of_ble_eq_true rfl) ?_
  intro K hG hRel hK hRt hnm
  have hQ : kRel K = RelP := by rw [hRel]; exact hP
  have hXK : GX (kG K) := by rw [hG]; exact hX
  have h4 := rN4 hw
  have ho4 : ∀ g ∈ gs, gok 4 g := fun g hg => gok4 (by omega) (ho g hg)
  have hb : ∀ q ∈ gs, gB q := fun q hq => (ho4 q hq).gB (by omega)
  obtain ⟨h0, hPW, ⟨l, hc⟩, hCT, hWp, hs, hWpr, hWt, hWf, hWsh, hWte, ⟨or0, hor⟩, hWa⟩ := id h
  have hmS : ∀ x ∈ SS, x ∈ SQ := fun x hx => by unfold SS at hx; unfold SQ; simp at hx ⊢; omega
  refine r_aload_0 hK dX0_least_0 ?_
  refine r_get hK fl_X0_131 dX0_least_1 (h0) rfl ?_
  refine r_iconstN (c := 3) hK dX0_least_4 ?_
  refine r_icmp_le 10 hK dX0_least_5 (by omega) (by omega) (fun h5 => ?_) (fun h5 => ?_)
  · have hw3 : w ≤ 3 := by omega
    have h8 : rN w ≤ 8 := rN_le8 hw3
    have hpm := pm_run ho
    obtain ⟨hT8, hTd⟩ := hT hw3 (run gs) hpm
    obtain ⟨dd, hdd⟩ : ∃ dd, dd = TT (plc (run gs) (rN w)) := ⟨_, rfl⟩
    rw [← hdd] at hT8 hTd
    have hfl := fstL_len (hT hw3) dd (run gs) hpm hTd
    rw [if_pos hw3, ← hdd] at hRt
    refine r_iload_1 hK dX0_least_10 ?_
    refine r_iconst hK dX0_least_11 ?_
    refine r_icmp_ne 53 hK dX0_least_12 (by omega) (by omega) (fun h12 => ?_) (fun h12 => ?_)
    · refine r_aload_0 hK dX0_least_53 ?_
      refine r_callV0 hK (ct_xLeastRow hK.rel hQ hXK h hw3 (hD hw3) (hT hw3) ho hTd hn0) lk_X0_231 (Rcv.raw hK.rel h0 rfl) dX0_least_54 (fun r n1 f1 hp => ?_)
      obtain ⟨hn1, hk1, hW1, id1, l1, rfl, hid, hl1, hg1⟩ := hp
      have hlen := hg1.1
      rw [List.length_map] at hlen
      refine r_astore_3 hK dX0_least_57 ?_
      refine r_iload_1 hK dX0_least_58 ?_
      refine r_iconstN (c := 0) hK dX0_least_59 ?_
      refine r_aload_3 hK dX0_least_60 ?_
      refine r_pV0 hK (pl_size hQ hl1) lk_X0_301 (rcv_ll hQ hl1) dX0_least_61 ?_
      refine r_iconstN (c := 1) hK dX0_least_64 ?_
      refine r_isub hK dX0_least_65 ?_
      refine r_pS3 hK (ct_isIn0 hK.rel hy (by omega) (by omega)) lk_X0_155 dX0_least_66 ?_
      refine r_ifB_eq 96 hK dX0_least_69 (fun h69 => ?_) (fun h69 => ?_)
      · refine r_iconst hK dX0_least_96 ?_
        exact r_iret hK hRt dX0_least_97 ⟨by unfold askF; rw [if_neg (by omega), if_neg (by omega)], hn1, hk1, hW1⟩
      · refine r_iload_2 hK dX0_least_72 ?_
        refine r_iconstN (c := 0) hK dX0_least_73 ?_
        refine r_iconstN (c := 1) hK dX0_least_74 ?_
        refine r_pS3 hK (ct_isIn0 hK.rel hz (by decide) (by decide)) lk_X0_155 dX0_least_75 ?_
        refine r_ifB_eq 96 hK dX0_least_78 (fun h78 => ?_) (fun h78 => ?_)
        · refine r_iconst hK dX0_least_96 ?_
          exact r_iret hK hRt dX0_least_97 ⟨by unfold askF; rw [if_neg (by omega), if_neg (by omega)], hn1, hk1, hW1⟩
        · obtain ⟨k, rfl⟩ : ∃ s : Nat, y = (s : Int) := ⟨y.toNat, by omega⟩
          have hkl : k < (fstL TT w dd (run gs)).length := by omega
          have gk := hg1.2 k (by omega)
          rw [gt_gz hkl] at gk
          refine r_aload_3 hK dX0_least_81 ?_
          refine r_iload_1 hK dX0_least_82 ?_
          refine r_pV1 hK (pl_get hQ hl1 (i := k) (by omega) (by omega)) lk_X0_302 (rcv_ll hQ hl1) dX0_least_83 ?_
          refine r_cast hK cl_X0_193 (Rcv.raw hK.rel gk rfl) dX0_least_86 ?_
          refine r_iload_2 hK dX0_least_89 ?_
          refine r_pV1 hK (ct_gTold hK.rel gk hz) lk_X0_248 (Rcv.raw hK.rel gk rfl) dX0_least_90 ?_
          refine r_goto 97 hK dX0_least_93 ?_
          exact r_iret hK hRt dX0_least_97 ⟨by unfold askF; rw [if_neg (by omega), if_pos (by omega), tellG_gz (by omega)]; rfl, hn1, hk1, hW1⟩
    · refine r_aload_0 hK dX0_least_15 ?_
      refine r_get hK fl_X0_41 dX0_least_16 (h0) rfl ?_
      refine r_aload_0 hK dX0_least_19 ?_
      refine r_get hK fl_X0_91 dX0_least_20 (h0) rfl ?_
      refine r_aload_0 hK dX0_least_23 ?_
      refine r_pV0 hK (ct_xRows hK.rel h0 hw) lk_X0_151 (Rcv.raw hK.rel h0 rfl) dX0_least_24 ?_
      refine r_callV2 hK (ct_cOrders hK.rel hQ hXK hc hb hor (R := rN w) (by omega) (by omega) (by decide)) lk_X0_276 (Rcv.raw hK.rel hc.1 rfl) dX0_least_27 (fun r n1 f1 hp => ?_)
      obtain ⟨rfl, hn1, hf1⟩ := hp
      have hW1 := h.ord (oA (rN w) (run gs) or0)
      rw [← hf1] at hW1
      have hA1 : f1 354 = some (.inr (0, 64, oA (rN w) (run gs) or0)) := by rw [hf1]; exact up_s _ _ _
      obtain ⟨g0, -, -, -, -, -, -, -, -, ⟨⟨w0, R0, q1, q2, q3⟩, -⟩, -⟩ := id hW1.2
      refine r_aload_0 hK dX0_least_30 ?_
      refine r_get hK fl_X0_65 dX0_least_31 (g0) rfl ?_
      refine r_aload_0 hK dX0_least_34 ?_
      refine r_get hK fl_X0_131 dX0_least_35 (g0) rfl ?_
      refine r_fact hK (fun _ hno => ?_)
      refine r_callV1 hK (ct_sLays hK.rel hQ hXK (w := w) hw3 (hD hw3) (by omega) q2 q1 q3) lk_X0_292 (Rcv.raw hK.rel q2.1 rfl) dX0_least_38 (fun r n2 f2 hp => ?_)
      obtain ⟨rfl, hn2, hSH, hKS⟩ := hp
      obtain ⟨k2, -, hW2⟩ := sh_lays hW1.2 hno (by omega) hSH hKS
      obtain ⟨e0, -, -, -, -, -, -, -, -, ⟨-, y1, y2, hy1, hy2⟩, -⟩ := id hW2
      have hA2 : f2 354 = some (.inr (0, 64, oA (rN w) (run gs) or0)) := (hKS 354 (by omega) (by omega)).trans hA1
      refine r_aload_0 hK dX0_least_41 ?_
      refine r_get hK fl_X0_65 dX0_least_42 (e0) rfl ?_
      refine r_aload_0 hK dX0_least_45 ?_
      refine r_get hK fl_X0_91 dX0_least_46 (e0) rfl ?_
      refine r_callV1 hK (ct_sMany hK.rel hQ hXK (hD hw3) hSH hA2 (by decide) (by omega) (by decide) hpm (fun x hx => if_pos hx) hTd) lk_X0_299 (Rcv.raw hK.rel hSH.x.1 rfl) dX0_least_49 (fun r n3 f3 hp => ?_)
      obtain ⟨rfl, rfl, hx, rfl⟩ := hp
      have k3 : KE SS f2 (up f2 345 (.inr (0, 8, hx))) := (KE.up1 (by decide) (fun q => hW2.ng (by decide) q)).mono (fun x hx => by rw [List.mem_singleton.mp hx]; decide)
      have hS3 : SHL (up f2 345 (.inr (0, 8, hx))) w := hSH.up3 (Or.inr (Or.inr (Or.inl ⟨rfl, hx, rfl⟩)))
      have hW3 := hW2.sho k3 ⟨⟨w, rN w, hw3, hS3.x, Or.inr ⟨rfl, hS3⟩⟩, y1, y2, (up_n (by decide)).trans hy1, (up_n (by decide)).trans hy2⟩
      exact r_iret hK hRt dX0_least_52 ⟨by unfold askF; rw [if_pos (by omega), hfl], by omega, ((hW1.1.mono (fun x hx => by rw [List.mem_singleton.mp hx]; decide)).tr (k2.mono hmS)).tr (k3.mono hmS), hW3⟩
  · exact r_iconst hK dX0_least_8 (r_iret hK hRt dX0_least_9 ⟨by rw [if_neg (by omega)], Nat.le_refl _, KE.rf _ f, h⟩) --!
