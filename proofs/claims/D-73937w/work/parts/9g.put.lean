set_option maxRecDepth 100000
/-! ===== BackLogic: keeps, put, take, swap, undo, hold, restore ===== -/
theorem cK.el {f : Hp} {c : Nat} {gs : List Gt} (h : cK f c gs) : el f c := by
  obtain ⟨-, ll, l, -, h⟩ := h
  exact Or.inl ⟨4, _, h.1, by omega⟩
theorem past_el {f : Hp} {lp : List Nat} {pa : List (List Gt)} (h : ∀ i, i < lp.length → cK f (lp.getD i 0) (pa.getD i [])) : ∀ x ∈ lp, el f x := fun x hx => by
  obtain ⟨i, hi, e⟩ := List.getElem_of_mem hx
  have := h i hi
  rw [List.getD_eq_getElem?_getD, List.getElem?_eq_getElem hi] at this
  rw [← e]; exact this.el
theorem getD_snoc {α : Type} {l : List α} {x d : α} {i : Nat} (hi : i ≤ l.length) : (l ++ [x]).getD i d = if i = l.length then x else l.getD i d := by
  rw [List.getD_eq_getElem?_getD, List.getD_eq_getElem?_getD]
  by_cases c : i = l.length
  · rw [if_pos c, List.getElem?_append_right (by omega), c, Nat.sub_self]; rfl
  · rw [if_neg c, List.getElem?_append_left (by omega)]
/-- a copy of the cascade, put last -/
theorem past_push {f f' : Hp} {lp : List Nat} {pa : List (List Gt)} {c : Nat} {gs : List Gt} {S : List Nat} (h1 : lp.length = pa.length) (h2 : ∀ i, i < lp.length → cK f (lp.getD i 0) (pa.getD i [])) (hk : KE S f f') (hc : cK f' c gs) : (lp ++ [c]).length = (pa ++ [gs]).length ∧ ∀ i, i < (lp ++ [c]).length → cK f' ((lp ++ [c]).getD i 0) ((pa ++ [gs]).getD i []) := by
  refine ⟨by rw [List.length_append, List.length_append, h1]; rfl, fun i hi => ?_⟩
  have hi' : i ≤ lp.length := by rw [List.length_append] at hi; simp at hi; omega
  rw [getD_snoc hi', getD_snoc (by omega)]
  by_cases z : i = lp.length
  · rw [if_pos z, if_pos (by omega)]; exact hc
  · rw [if_neg z, if_neg (by omega)]; exact (h2 i (by omega)).ke hk
set_option maxHeartbeats 4000000 in
theorem ct_xKeeps {G : GT} {Rel : Nat → Hp → Hp → Prop} (hR : RelOK Rel) (hP : Rel = RelP) (hX : GX G) {n : Nat} {f : Hp} {w : Nat} {gs : List Gt} {pa : List (List Gt)} {sl : Nat → Option (List Gt)} {ni no : Nat} {v p : Nat → Nat} {tp : Nat} {T : Nat → Nat} {pl : Int} (h : WO f w gs pa sl ni no v p tp T pl) (hl16 : gs.length ≤ 16) (hpa : pa.length ≤ 40) (hn0 : 392 ≤ n) : Ct G Rel yX0_keeps cX0_keeps 1 none (8) (27) [.ref 300] n (f) (fun r n' f' => r = none ∧ n ≤ n' ∧ KE [350] f f' ∧ WO f' w gs (pushP pa gs) sl ni no v p tp T pl) := by
  refine ct_intro [some (.ref 300)] hR rfl (Nat.le_of_ble_eq_true rfl) ?_
  intro K hG hRel hK hRt hnm
  have hQ : kRel K = RelP := by rw [hRel]; exact hP
  have hXK : GX (kG K) := by rw [hG]; exact hX
  have key : ∀ (pa1 : List (List Gt)) (f1 : Hp), pa1.length ≤ 39 → pushP pa gs = pa1 ++ [gs] → KE [350] f f1 → WO f1 w gs pa1 sl ni no v p tp T pl → Wx K 20 [some (.ref 300)] [] n f1 0 := by
    intro pa1 f1 hp39 hpush hk1 h1
    obtain ⟨h0, -, ⟨l, hc⟩, -, ⟨lp, hp1, hp2, hp3⟩, -⟩ := id h1
    refine r_fact hK (fun _ hno => ?_)
    have hn1 := hno n (Nat.le_refl _)
    have hn2 := hno (n + 1) (by omega)
    refine r_aload_0 hK dX0_keeps_20 ?_
    refine r_get hK fl_X0_79 dX0_keeps_21 (h0) rfl ?_
    refine r_aload_0 hK dX0_keeps_24 ?_
    refine r_get hK fl_X0_41 dX0_keeps_25 (h0) rfl ?_
    refine r_callV0 hK (ct_cCopy hK.rel hQ hXK hc (by have := hc.2.2.1.1; omega) ⟨hn1, hn2⟩) lk_X0_166 (Rcv.raw hK.rel hc.1 rfl) dX0_keeps_28 (fun r n2 f2 hp => ?_)
    obtain ⟨rfl, hn3, hf2⟩ := hp
    have hka : KE [350] f1 (up f1 n (.inl (4, [.ref (n + 1)]))) := KE.fr hn1 hn0
    have hkb : KE [350] (up f1 n (.inl (4, [.ref (n + 1)]))) f2 := by rw [hf2]; exact KE.fr (by rw [up_n (by omega)]; exact hn2) (by omega)
    have hk2 := hka.tr hkb
    have hW2 : WO f2 w gs pa1 sl ni no v p tp T pl := by
      have ha0 : KE [] f1 (up f1 n (.inl (4, [.ref (n + 1)]))) := KE.fr hn1 hn0
      have hb0 : KE [] (up f1 n (.inl (4, [.ref (n + 1)]))) f2 := by rw [hf2]; exact KE.fr (by rw [up_n (by omega)]; exact hn2) (by omega)
      exact h1.no (ha0.tr hb0) rfl
    have hck : cK f2 n gs := ⟨hn0, n + 1, l, by omega, by rw [hf2, up_n (by omega)]; exact up_s _ _ _, by rw [hf2]; exact up_s _ _ _, hc.2.2.1.ke hk2, hc.2.2.2⟩
    obtain ⟨hq1, hq2⟩ := past_push hp2 hp3 hk2 hck
    have hp1' : f2 350 = some (cAD lp) := by rw [hf2, up_n (by omega), up_n (by omega)]; exact hp1
    refine r_callV1 hK (pd_addLast hQ hXK hp1' (by omega) (past_el (fun i hi => (hp3 i hi).ke hk2)) hck.el) lk_X0_170 (rcv_ad hQ hp1') dX0_keeps_31 (fun r n4 f4 hp => ?_)
    obtain ⟨rfl, hn4, rfl⟩ := hp
    have hfin := hW2.past hq1 hq2
    exact r_vret hK hRt dX0_keeps_34 ⟨rfl, by omega, (hk1.tr hk2).tr hfin.1, by rw [hpush]; exact hfin.2⟩
  obtain ⟨h0, -, ⟨l, hc⟩, -, ⟨lp, hp1, hp2, hp3⟩, -⟩ := id h
  refine r_aload_0 hK dX0_keeps_0 ?_
  refine r_get hK fl_X0_79 dX0_keeps_1 (h0) rfl ?_
  refine r_pV0 hK (pd_size hQ hp1) lk_X0_159 (rcv_ad hQ hp1) dX0_keeps_4 ?_
  refine r_bipushN (c := 40) hK dX0_keeps_7 ?_
  refine r_icmp_ne 20 hK dX0_keeps_9 (by omega) (by omega) (fun h9 => ?_) (fun h9 => ?_)
  · exact key pa f (by omega) (by unfold pushP; rw [if_neg (by omega)]) (KE.rf _ f) h --!
  · obtain ⟨v1, lp1, rfl⟩ : ∃ v1 lp1, lp = v1 :: lp1 := by
      cases lp with
      | nil => exact absurd h9 (by decide)
      | cons a b => exact ⟨a, b, rfl⟩
    obtain ⟨g1, pa1, rfl⟩ : ∃ g1 pa1, pa = g1 :: pa1 := by
      cases pa with
      | nil => exact absurd hp2 (by simp)
      | cons a b => exact ⟨a, b, rfl⟩
    have hl40 : lp1.length + 1 = 40 := by have : (v1 :: lp1).length = 40 := by omega
                                          simpa using this
    have hp2' : lp1.length = pa1.length := by simpa using hp2
    refine r_aload_0 hK dX0_keeps_12 ?_
    refine r_get hK fl_X0_79 dX0_keeps_13 (h0) rfl ?_
    refine r_callV0 hK (pd_pollFirst hQ hp1) lk_X0_162 (rcv_ad hQ hp1) dX0_keeps_16 (fun r n2 f2 hp => ?_)
    obtain ⟨rfl, rfl, rfl⟩ := hp
    refine r_pop hK dX0_keeps_19 ?_
    have hfin := h.past (lp := lp1) (pa' := pa1) hp2' (fun i hi => by have := hp3 (i + 1) (by simpa using hi); exact this)
    exact key pa1 _ (by omega) (by unfold pushP; rw [if_pos (by rw [List.length_cons]; omega)]; rfl) hfin.1 hfin.2
set_option maxHeartbeats 4000000 in
theorem ct_xPut {G : GT} {Rel : Nat → Hp → Hp → Prop} (hR : RelOK Rel) (hP : Rel = RelP) (hX : GX G) {n : Nat} {f : Hp} {w : Nat} {gs : List Gt} {pa : List (List Gt)} {sl : Nat → Option (List Gt)} {ni no : Nat} {v p : Nat → Nat} {tp : Nat} {T : Nat → Nat} {pl za zt zo zf : Int} (ha : inR za) (ht : inR zt) (hzo : inR zo) (hzf : inR zf) (h : WO f w gs pa sl ni no v p tp T pl) (hw : w ≤ 4) (hl16 : gs.length ≤ 16) (hpa : pa.length ≤ 40) (hn0 : 392 ≤ n) : Ct G Rel yX0_put cX0_put 5 (some .boolean) (9) (29) [.ref 300, zI za, zI zt, zI zo, zI zf] n (f) (fun r n' f' => n ≤ n' ∧ KE [319, 350] f f' ∧ ((putOK w gs.length za zt zo zf ∧ r = some (zI 1) ∧ WO f' w (gs.take za.toNat ++ (zt.toNat, zo.toNat, zf.toNat) :: gs.drop za.toNat) (pushP pa gs) sl ni no v p tp T pl) ∨ (¬ putOK w gs.length za zt zo zf ∧ r = some (zI 0) ∧ WO f' w gs pa sl ni no v p tp T pl))) := by
  refine ct_intro [some (.ref 300), some (zI za), some (zI zt), some (zI zo), some (zI zf)] hR rfl (Nat.le_of_ble_eq_true rfl) ?_
  intro K hG hRel hK hRt hnm
  have hQ : kRel K = RelP := by rw [hRel]; exact hP
  have hXK : GX (kG K) := by rw [hG]; exact hX
  have h4 := rN4 hw
  obtain ⟨h0, -, ⟨l, hc⟩, -, ⟨lp, hp1, hp2, hp3⟩, -⟩ := id h
  have bad : ¬ putOK w gs.length za zt zo zf → Wx K 52 [some (.ref 300), some (zI za), some (zI zt), some (zI zo), some (zI zf)] [] n f 0 := by
    intro hno
    refine r_iconstN (c := 0) hK dX0_put_52 ?_
    exact r_zret hK hRt dX0_put_53 rfl ⟨Nat.le_refl _, KE.rf _ f, Or.inr ⟨hno, rfl, h⟩⟩
  have bad2 : ¬ putOK w gs.length za zt zo zf → Wx K 72 [some (.ref 300), some (zI za), some (zI zt), some (zI zo), some (zI zf)] [] n f 0 := by
    intro hno
    refine r_iconstN (c := 0) hK dX0_put_72 ?_
    exact r_zret hK hRt dX0_put_73 rfl ⟨Nat.le_refl _, KE.rf _ f, Or.inr ⟨hno, rfl, h⟩⟩
  refine r_iload_1 hK dX0_put_0 ?_
  refine r_iconstN (c := 0) hK dX0_put_1 ?_
  refine r_aload_0 hK dX0_put_2 ?_
  refine r_get hK fl_X0_41 dX0_put_3 (h0) rfl ?_
  refine r_pV0 hK (ct_cSize hK.rel hQ hXK hc) lk_X0_174 (Rcv.raw hK.rel hc.1 rfl) dX0_put_6 ?_
  refine r_pS3 hK (ct_isIn0 hK.rel ha (by omega) (by omega)) lk_X0_155 dX0_put_9 ?_
  refine r_ifB_eq 52 hK dX0_put_12 (fun h12 => ?_) (fun h12 => ?_)
  · exact bad (fun q => h12 (by have := q.2.1; omega)) --!
  · refine r_aload_0 hK dX0_put_15 ?_
    refine r_get hK fl_X0_41 dX0_put_16 (h0) rfl ?_
    refine r_pV0 hK (ct_cSize hK.rel hQ hXK hc) lk_X0_174 (Rcv.raw hK.rel hc.1 rfl) dX0_put_19 ?_
    refine r_bipushN (c := 16) hK dX0_put_22 ?_
    refine r_icmp_eq 52 hK dX0_put_24 (by omega) (by omega) (fun h24 => ?_) (fun h24 => ?_)
    · exact bad (fun q => q.1 (by omega)) --!
    · refine r_aload_0 hK dX0_put_27 ?_
      refine r_iload_2 hK dX0_put_28 ?_
      refine r_pV1 hK (ct_xIsWire hK.rel h0 hw ht) lk_X0_175 (Rcv.raw hK.rel h0 rfl) dX0_put_29 ?_
      refine r_ifB_eq 52 hK dX0_put_32 (fun h32 => ?_) (fun h32 => ?_)
      · exact bad (fun q => h32 q.2.2.1) --!
      · refine r_aload_0 hK dX0_put_35 ?_
        refine r_iload_3 hK dX0_put_36 ?_
        refine r_pV1 hK (ct_xIsRow hK.rel h0 hw hzo) lk_X0_179 (Rcv.raw hK.rel h0 rfl) dX0_put_37 ?_
        refine r_ifB_eq 52 hK dX0_put_40 (fun h40 => ?_) (fun h40 => ?_)
        · exact bad (fun q => h40 q.2.2.2.1) --!
        · refine r_aload_0 hK dX0_put_43 ?_
          refine r_iload_4 hK dX0_put_44 ?_
          refine r_pV1 hK (ct_xIsRow hK.rel h0 hw hzf) lk_X0_179 (Rcv.raw hK.rel h0 rfl) dX0_put_46 ?_
          refine r_ifB_ne 54 hK dX0_put_49 (fun h49 => ?_) (fun h49 => ?_)
          · obtain ⟨a, rfl⟩ : ∃ s : Nat, za = (s : Int) := ⟨za.toNat, by omega⟩
            obtain ⟨t, rfl⟩ : ∃ s : Nat, zt = (s : Int) := ⟨zt.toNat, by omega⟩
            obtain ⟨on, rfl⟩ : ∃ s : Nat, zo = (s : Int) := ⟨zo.toNat, by omega⟩
            obtain ⟨off, rfl⟩ : ∃ s : Nat, zf = (s : Int) := ⟨zf.toNat, by omega⟩
            have hon : on < 16 := by omega
            have hoff : off < 16 := by omega
            have hand : on &&& off < 16 := Nat.lt_of_le_of_lt Nat.and_le_left hon
            have hor : on ||| off < 16 := or_lt (w := 4) hon hoff
            refine r_iload_3 hK dX0_put_54 ?_
            refine r_iload_4 hK dX0_put_55 ?_
            first | refine r_iand hK dX0_put_57 ?_ | refine r_andnot hK dX0_put_57 (by omega) ?_
            refine r_if_ne 72 hK dX0_put_58 (by omega) (fun h58 => ?_) (fun h58 => ?_)
            · exact bad2 (fun q => h58 (by have : on &&& off = 0 := q.2.2.2.2.2.1; omega)) --!
            · refine r_iload_3 hK dX0_put_61 ?_
              refine r_iload_4 hK dX0_put_62 ?_
              refine r_ior hK dX0_put_64 ?_
              refine r_iload_2 hK dX0_put_65 ?_
              refine r_pS2 hK (ct_has0 hK.rel (by omega) (by omega)) lk_X0_182 dX0_put_66 ?_
              refine r_ifB_eq 74 hK dX0_put_69 (fun h69 => ?_) (fun h69 => ?_)
              · have hok : putOK w gs.length ((a : Nat) : Int) ((t : Nat) : Int) ((on : Nat) : Int) ((off : Nat) : Int) := ⟨by omega, h12, h32, h40, h49, by show on &&& off = 0; omega, by show (on ||| off).testBit t = false; simpa using h69⟩
                refine r_aload_0 hK dX0_put_74 ?_
                refine r_callV0 hK (ct_xKeeps hK.rel hQ hXK h hl16 hpa hn0) lk_X0_186 (Rcv.raw hK.rel h0 rfl) dX0_put_75 (fun r n1 f1 hp => ?_)
                obtain ⟨rfl, hn1, hk1, hW1⟩ := hp
                obtain ⟨g0, -, ⟨l1, gc⟩, -⟩ := id hW1
                refine r_aload_0 hK dX0_put_78 ?_
                refine r_get hK fl_X0_41 dX0_put_79 (g0) rfl ?_
                refine r_get hK fl_X0_189 dX0_put_82 (gc.1) rfl ?_
                refine r_iload_1 hK dX0_put_85 ?_
                refine r_fact hK (fun _ hno => ?_)
                have hnn := hno n1 (Nat.le_refl _)
                refine r_new (fs := [zI 0, zI 0, zI 0]) 1 hK nw_X0_193 dX0_put_86 (by omega) ?_ (hw := new11)
                refine r_dup hK dX0_put_89 ?_
                refine r_iload_2 hK dX0_put_90 ?_
                refine r_iload_3 hK dX0_put_91 ?_
                refine r_iload_4 hK dX0_put_92 ?_
                refine r_callI3 hK (ct_gInit hK.rel (up_s _ _ _)) lk_X0_195 dX0_put_94 (fun r n2 f2 hp => ?_)
                obtain ⟨rfl, rfl, rfl⟩ := hp
                rw [up_up]
                have hkN : KE [] f1 (up f1 n1 (cG (t, on, off))) := KE.fr hnn (by omega)
                have hW2 := hW1.no hkN rfl
                have hl2 : up f1 n1 (cG (t, on, off)) 319 = some (cLL l1) := (up_n (by omega)).trans gc.2.1
                have hlen := gc.2.2.1.1
                refine r_callV2 hK (pl_add hQ hl2 (i := a) (by omega) gc.2.2.2) lk_X0_198 (rcv_ll hQ hl2) dX0_put_97 (fun r n3 f3 hp => ?_)
                obtain ⟨rfl, hn3, rfl⟩ := hp
                have hgl := (gc.2.2.1.ke hkN).ins (v := n1) (g := (t, on, off)) (up_s _ _ _) a
                have hfin := hW2.cas hgl (by rw [List.length_append, List.length_cons, List.length_take, List.length_drop]; omega)
                refine r_iconstN (c := 1) hK dX0_put_100 ?_
                refine r_zret hK hRt dX0_put_101 rfl ⟨by omega, ((hk1.mono (fun x hx => by rw [List.mem_singleton.mp hx]; decide)).tr (hkN.mono (fun x hx => absurd hx List.not_mem_nil))).tr (hfin.1.mono (fun x hx => by rw [List.mem_singleton.mp hx]; decide)), Or.inl ⟨hok, rfl, hfin.2⟩⟩
              · exact bad2 (fun q => by have : (on ||| off).testBit t = false := q.2.2.2.2.2.2; rw [this] at h69; cases h69) --!
          · exact bad (fun q => h49 q.2.2.2.2.1) --!
set_option maxHeartbeats 4000000 in
theorem ct_xTake {G : GT} {Rel : Nat → Hp → Hp → Prop} (hR : RelOK Rel) (hP : Rel = RelP) (hX : GX G) {n : Nat} {f : Hp} {w : Nat} {gs : List Gt} {pa : List (List Gt)} {sl : Nat → Option (List Gt)} {ni no : Nat} {v p : Nat → Nat} {tp : Nat} {T : Nat → Nat} {pl z : Int} (hz : inR z) (h : WO f w gs pa sl ni no v p tp T pl) (hl16 : gs.length ≤ 16) (hpa : pa.length ≤ 40) (hn0 : 392 ≤ n) : Ct G Rel yX0_take cX0_take 2 (some .boolean) (9) (27) [.ref 300, zI z] n (f) (fun r n' f' => n ≤ n' ∧ KE [319, 350] f f' ∧ ((∃ k, z = ((k : Nat) : Int) ∧ k < gs.length ∧ r = some (zI 1) ∧ WO f' w (gs.eraseIdx k) (pushP pa gs) sl ni no v p tp T pl) ∨ (¬ (0 ≤ z ∧ z < gs.length) ∧ r = some (zI 0) ∧ WO f' w gs pa sl ni no v p tp T pl))) := by
  refine ct_intro [some (.ref 300), some (zI z)] hR rfl (Nat.le_of_ble_eq_true rfl) ?_
  intro K hG hRel hK hRt hnm
  have hQ : kRel K = RelP := by rw [hRel]; exact hP
  have hXK : GX (kG K) := by rw [hG]; exact hX
  obtain ⟨h0, -, ⟨l, hc⟩, -⟩ := id h
  refine r_aload_0 hK dX0_take_0 ?_
  refine r_get hK fl_X0_41 dX0_take_1 (h0) rfl ?_
  refine r_iload_1 hK dX0_take_4 ?_
  refine r_pV1 hK (ct_cIsGate hK.rel hQ hXK hc hz) lk_X0_204 (Rcv.raw hK.rel hc.1 rfl) dX0_take_5 ?_
  refine r_ifB_ne 13 hK dX0_take_8 (fun h8 => ?_) (fun h8 => ?_)
  · obtain ⟨k, rfl⟩ : ∃ s : Nat, z = (s : Int) := ⟨z.toNat, by omega⟩
    have hkl : k < gs.length := by omega
    refine r_aload_0 hK dX0_take_13 ?_
    refine r_callV0 hK (ct_xKeeps hK.rel hQ hXK h hl16 hpa hn0) lk_X0_186 (Rcv.raw hK.rel h0 rfl) dX0_take_14 (fun r n1 f1 hp => ?_)
    obtain ⟨rfl, hn1, hk1, hW1⟩ := hp
    obtain ⟨g0, -, ⟨l1, gc⟩, -⟩ := id hW1
    have hlen := gc.2.2.1.1
    refine r_aload_0 hK dX0_take_17 ?_
    refine r_get hK fl_X0_41 dX0_take_18 (g0) rfl ?_
    refine r_get hK fl_X0_189 dX0_take_21 (gc.1) rfl ?_
    refine r_iload_1 hK dX0_take_24 ?_
    refine r_callV1 hK (pl_remove hQ gc.2.1 (i := k) (by omega) gc.2.2.2) lk_X0_207 (rcv_ll hQ gc.2.1) dX0_take_25 (fun r n3 f3 hp => ?_)
    obtain ⟨rfl, rfl, rfl⟩ := hp
    have hfin := hW1.cas (gc.2.2.1.er hkl) (by have := gc.2.2.2; have := List.length_eraseIdx_le l1 k; omega)
    refine r_pop hK dX0_take_28 ?_
    refine r_iconstN (c := 1) hK dX0_take_29 ?_
    exact r_zret hK hRt dX0_take_30 rfl ⟨by omega, (hk1.mono (fun x hx => by rw [List.mem_singleton.mp hx]; decide)).tr (hfin.1.mono (fun x hx => by rw [List.mem_singleton.mp hx]; decide)), Or.inl ⟨k, rfl, hkl, rfl, hfin.2⟩⟩
  · refine r_iconstN (c := 0) hK dX0_take_11 ?_
    exact r_zret hK hRt dX0_take_12 rfl ⟨Nat.le_refl _, KE.rf _ f, Or.inr ⟨h8, rfl, h⟩⟩
set_option maxHeartbeats 4000000 in
theorem ct_xUndo {G : GT} {Rel : Nat → Hp → Hp → Prop} (hR : RelOK Rel) (hP : Rel = RelP) (hX : GX G) {n : Nat} {f : Hp} {w : Nat} {gs : List Gt} {pa : List (List Gt)} {sl : Nat → Option (List Gt)} {ni no : Nat} {v p : Nat → Nat} {tp : Nat} {T : Nat → Nat} {pl : Int} (h : WO f w gs pa sl ni no v p tp T pl) (hp16 : ∀ q ∈ pa, q.length ≤ 16) : Ct G Rel yX0_undo cX0_undo 1 (some .boolean) (7) (17) [.ref 300] n (f) (fun r n' f' => n ≤ n' ∧ KE [319, 350] f f' ∧ r = some (zI (if pa = [] then 0 else 1)) ∧ WO f' w (pa.getLast?.getD gs) pa.dropLast sl ni no v p tp T pl) := by
  refine ct_intro [some (.ref 300)] hR rfl (Nat.le_of_ble_eq_true rfl) ?_
  intro K hG hRel hK hRt hnm
  have hQ : kRel K = RelP := by rw [hRel]; exact hP
  have hXK : GX (kG K) := by rw [hG]; exact hX
  obtain ⟨h0, -, ⟨l, hc⟩, -, ⟨lp, hp1, hp2, hp3⟩, -⟩ := id h
  refine r_aload_0 hK dX0_undo_0 ?_
  refine r_get hK fl_X0_79 dX0_undo_1 (h0) rfl ?_
  refine r_pV0 hK (pd_isEmpty hQ hp1) lk_X0_243 (rcv_ad hQ hp1) dX0_undo_4 ?_
  by_cases hpe : pa = []
  · have hle : lp = [] := by
      have : lp.length = 0 := by rw [hp2, hpe]; rfl
      exact List.length_eq_zero_iff.mp this
    subst hpe
    subst hle
    refine r_if_eq 12 hK dX0_undo_7 (by decide) (fun q => absurd q (by decide)) (fun _ => ?_)
    refine r_iconstN (c := 0) hK dX0_undo_10 ?_
    exact r_zret hK hRt dX0_undo_11 rfl ⟨Nat.le_refl _, KE.rf _ f, rfl, h⟩
  · have hlne : lp ≠ [] := fun q => by
      have h2 : pa.length = 0 := by rw [← hp2, q]; rfl
      exact hpe (List.length_eq_zero_iff.mp h2)
    obtain ⟨lp0, c, rfl⟩ : ∃ lp0 c, lp = lp0 ++ [c] := sp_c hlne
    obtain ⟨pa0, g1, rfl⟩ : ∃ pa0 g1, pa = pa0 ++ [g1] := ⟨pa.dropLast, pa.getLast hpe, (List.dropLast_concat_getLast hpe).symm⟩
    have hlen : lp0.length = pa0.length := by simpa using hp2
    have hck : cK f c g1 := by
      have := hp3 lp0.length (by simp)
      rw [getD_snoc (Nat.le_refl _), getD_snoc (by omega), if_pos rfl, if_pos hlen] at this
      exact this
    obtain ⟨hc392, ll, l2, hll, hcc⟩ := hck
    refine r_if_eq 12 hK dX0_undo_7 (by rw [if_neg (by simp)]; decide) (fun _ => ?_) (fun q => absurd (by rw [if_neg (by simp)]; rfl) q)
    refine r_aload_0 hK dX0_undo_12 ?_
    refine r_get hK fl_X0_41 dX0_undo_13 h0 rfl ?_
    refine r_aload_0 hK dX0_undo_16 ?_
    refine r_get hK fl_X0_79 dX0_undo_17 h0 rfl ?_
    refine r_callV0 hK (pd_pollLast hQ hp1) lk_X0_244 (rcv_ad hQ hp1) dX0_undo_20 (fun r n2 f2 hp => ?_)
    obtain ⟨rfl, rfl, hf2⟩ := hp
    have hw1 := h.past (lp := lp0) (pa' := pa0) hlen (fun i hi => by
      have := hp3 i (by simp; omega)
      rw [getD_snoc (by omega), getD_snoc (by omega), if_neg (by omega), if_neg (by omega)] at this
      exact this)
    rw [← hf2] at hw1
    have hcc2 : CC f2 c ll l2 g1 := hcc.ke hw1.1 (fun q => by omega) (fun q => by omega)
    obtain ⟨-, -, ⟨l1, gc⟩, -⟩ := id hw1.2
    refine r_cast hK cl_X0_38 (Rcv.raw hK.rel hcc2.1 rfl) dX0_undo_23 ?_
    have h16 : l2.length ≤ 16 := by rw [hcc.2.2.1.1]; exact hp16 g1 (by simp)
    refine r_callV1 hK (pc_becomes hQ hXK gc.1 gc.2.1 hcc2 (by omega) h16) lk_X0_133 (Rcv.raw hK.rel gc.1 rfl) dX0_undo_26 (fun r n3 f3 hp => ?_)
    obtain ⟨rfl, hn3, rfl⟩ := hp
    refine r_iconstN (c := 1) hK dX0_undo_29 ?_
    have hfin := hw1.2.cas hcc2.2.2.1 hcc2.2.2.2
    refine r_zret hK hRt dX0_undo_30 rfl ⟨by omega, (hw1.1.mono (fun x hx => by rw [List.mem_singleton.mp hx]; decide)).tr (hfin.1.mono (fun x hx => by rw [List.mem_singleton.mp hx]; decide)), by rw [if_neg hpe]; rfl, ?_⟩
    rw [List.dropLast_concat, List.getLast?_concat]
    exact hfin.2
theorem gs_swap {α : Type} {gs : List α} {k : Nat} {a b : α} (ha : gs[k]? = some a) (hb : gs[k + 1]? = some b) : (gs.eraseIdx k).take (k + 1) ++ a :: (gs.eraseIdx k).drop (k + 1) = (gs.set k b).set (k + 1) a := by
  obtain ⟨h1, ha'⟩ := List.getElem?_eq_some_iff.mp ha
  obtain ⟨h2, hb'⟩ := List.getElem?_eq_some_iff.mp hb
  have e : gs = gs.take k ++ a :: b :: gs.drop (k + 2) := by
    rw [← ha', ← hb', ← List.drop_eq_getElem_cons h2, ← List.drop_eq_getElem_cons h1, List.take_append_drop]
  obtain ⟨P, hPe⟩ : ∃ P, P = gs.take k := ⟨_, rfl⟩
  obtain ⟨Q, hQe⟩ : ∃ Q, Q = gs.drop (k + 2) := ⟨_, rfl⟩
  have hk : k = P.length := by rw [hPe, List.length_take]; omega
  rw [← hPe, ← hQe] at e
  rw [e, hk]
  have e1 : (P ++ a :: b :: Q).eraseIdx P.length = P ++ b :: Q := by
    rw [List.eraseIdx_append_of_length_le (Nat.le_refl _), Nat.sub_self]; rfl
  have e2 : (P ++ a :: b :: Q).set P.length b = P ++ b :: b :: Q := by
    rw [List.set_append, if_neg (by omega), Nat.sub_self]; rfl
  have e3 : (P ++ b :: b :: Q).set (P.length + 1) a = P ++ b :: a :: Q := by
    rw [List.set_append, if_neg (by omega), show P.length + 1 - P.length = 1 by omega]; rfl
  have e4 : P ++ b :: Q = (P ++ [b]) ++ Q := by simp
  have e5 : (P ++ [b]).length = P.length + 1 := by simp
  rw [e1, e2, e3, e4, ← e5, List.take_left, List.drop_left]
  simp
set_option maxHeartbeats 4000000 in
theorem ct_xSwap {G : GT} {Rel : Nat → Hp → Hp → Prop} (hR : RelOK Rel) (hP : Rel = RelP) (hX : GX G) {n : Nat} {f : Hp} {w : Nat} {gs : List Gt} {pa : List (List Gt)} {sl : Nat → Option (List Gt)} {ni no : Nat} {v p : Nat → Nat} {tp : Nat} {T : Nat → Nat} {pl z : Int} (hz : inR z) (h : WO f w gs pa sl ni no v p tp T pl) (hl16 : gs.length ≤ 16) (hpa : pa.length ≤ 40) (hn0 : 392 ≤ n) : Ct G Rel yX0_swap cX0_swap 2 (some .boolean) (9) (28) [.ref 300, zI z] n (f) (fun r n' f' => n ≤ n' ∧ KE [319, 350] f f' ∧ ((∃ (k : Nat) (a b : Gt), z = (k : Int) ∧ gs[k]? = some a ∧ gs[k + 1]? = some b ∧ r = some (zI 1) ∧ WO f' w ((gs.set k b).set (k + 1) a) (pushP pa gs) sl ni no v p tp T pl) ∨ (¬ (0 ≤ z ∧ z + 1 < gs.length) ∧ r = some (zI 0) ∧ WO f' w gs pa sl ni no v p tp T pl))) := by
  refine ct_intro [some (.ref 300), some (zI z)] hR rfl (Nat.le_of_ble_eq_true rfl) ?_
  intro K hG hRel hK hRt hnm
  have hQ : kRel K = RelP := by rw [hRel]; exact hP
  have hXK : GX (kG K) := by rw [hG]; exact hX
  obtain ⟨h0, -, ⟨l, hc⟩, -⟩ := id h
  refine r_iload_1 hK dX0_swap_0 ?_
  refine r_iconstN (c := 0) hK dX0_swap_1 ?_
  refine r_aload_0 hK dX0_swap_2 ?_
  refine r_get hK fl_X0_41 dX0_swap_3 (h0) rfl ?_
  refine r_pV0 hK (ct_cSize hK.rel hQ hXK hc) lk_X0_174 (Rcv.raw hK.rel hc.1 rfl) dX0_swap_6 ?_
  refine r_iconstN (c := 2) hK dX0_swap_9 ?_
  refine r_isub hK dX0_swap_10 ?_
  refine r_pS3 hK (ct_isIn0 hK.rel hz (by omega) (by omega)) lk_X0_155 dX0_swap_11 ?_
  refine r_ifB_ne 19 hK dX0_swap_14 (fun h14 => ?_) (fun h14 => ?_)
  · obtain ⟨k, rfl⟩ : ∃ s : Nat, z = (s : Int) := ⟨z.toNat, by omega⟩
    have hkl : k + 1 < gs.length := by omega
    refine r_aload_0 hK dX0_swap_19 ?_
    refine r_callV0 hK (ct_xKeeps hK.rel hQ hXK h hl16 hpa hn0) lk_X0_186 (Rcv.raw hK.rel h0 rfl) dX0_swap_20 (fun r n1 f1 hp => ?_)
    obtain ⟨rfl, hn1, hk1, hW1⟩ := hp
    obtain ⟨g0, -, ⟨l1, gc⟩, -⟩ := id hW1
    have hlen := gc.2.2.1.1
    refine r_aload_0 hK dX0_swap_23 ?_
    refine r_get hK fl_X0_41 dX0_swap_24 (g0) rfl ?_
    refine r_iload_1 hK dX0_swap_27 ?_
    refine r_callV1 hK (ct_cSwaps hK.rel hQ hXK gc hkl) lk_X0_211 (Rcv.raw hK.rel gc.1 rfl) dX0_swap_28 (fun r n3 f3 hp => ?_)
    obtain ⟨rfl, hn3, rfl⟩ := hp
    have eg := gs_swap (gs := gs) (k := k) (a := gs[k]) (b := gs[k + 1]) (List.getElem?_eq_getElem (by omega)) (List.getElem?_eq_getElem hkl)
    have hgk := gc.2.2.1.2 k (by omega)
    rw [gt_at (show k < gs.length by omega)] at hgk
    have hgl := (gc.2.2.1.er (show k < gs.length by omega)).ins hgk (k + 1)
    rw [eg] at hgl
    have hfin := hW1.cas hgl (by rw [List.length_append, List.length_cons, List.length_take, List.length_drop]; have := List.length_eraseIdx_le l1 k; have := gc.2.2.2; omega)
    refine r_iconstN (c := 1) hK dX0_swap_31 ?_
    exact r_zret hK hRt dX0_swap_32 rfl ⟨by omega, (hk1.mono (fun x hx => by rw [List.mem_singleton.mp hx]; decide)).tr (hfin.1.mono (fun x hx => by rw [List.mem_singleton.mp hx]; decide)), Or.inl ⟨k, gs[k], gs[k + 1], rfl, List.getElem?_eq_getElem (by omega), List.getElem?_eq_getElem hkl, rfl, hfin.2⟩⟩
  · refine r_iconstN (c := 0) hK dX0_swap_17 ?_
    exact r_zret hK hRt dX0_swap_18 rfl ⟨Nat.le_refl _, KE.rf _ f, Or.inr ⟨fun q => h14 (by omega), rfl, h⟩⟩
set_option maxHeartbeats 4000000 in
theorem ct_xIsHeld {G : GT} {Rel : Nat → Hp → Hp → Prop} (hR : RelOK Rel) {n : Nat} {f : Hp} {pl z : Int} {w : Nat} {sl : Nat → Option (List Gt)} (hz : inR z) (h0 : f 300 = some (x0C pl w)) (hs : Ws f sl) : Ct G Rel yX0_isHeld cX0_isHeld 2 (some .boolean) (2) (0) [.ref 300, zI z] n (f) (fun r n' f' => n' = n ∧ f' = f ∧ ((∃ (s : Nat) (g : List Gt) (c : Nat) (hv : Nat → Value), z = (s : Int) ∧ s < 3 ∧ sl s = some g ∧ f 352 = some (.inr (7, 3, hv)) ∧ hv s = .ref c ∧ cK f c g ∧ r = some (zI ((1 : Nat) : Int))) ∨ ((¬ ∃ (g : List Gt) (s : Nat), z = (s : Int) ∧ s < 3 ∧ sl s = some g) ∧ r = some (zI ((0 : Nat) : Int))))) := by
  refine ct_intro [some (.ref 300), some (zI z)] hR rfl (Nat.le_of_ble_eq_true rfl) ?_
  intro K hG hRel hK hRt hnm
  obtain ⟨hv, hs1, hs2⟩ := hs
  refine r_iload_1 hK dX0_isHeld_0 ?_
  refine r_iconstN (c := 0) hK dX0_isHeld_1 ?_
  refine r_iconstN (c := 2) hK dX0_isHeld_2 ?_
  refine r_pS3 hK (ct_isIn0 hK.rel hz (by decide) (by decide)) lk_X0_155 dX0_isHeld_3 ?_
  refine r_ifB_eq 22 hK dX0_isHeld_6 (fun h6 => ?_) (fun h6 => ?_)
  · refine r_iconstN (c := 0) hK dX0_isHeld_22 ?_
    exact r_zret hK hRt dX0_isHeld_23 rfl ⟨rfl, rfl, Or.inr ⟨fun ⟨g, s, z1, z2, z3⟩ => h6 (by omega), rfl⟩⟩ --!
  · obtain ⟨k, rfl⟩ : ∃ s : Nat, z = (s : Int) := ⟨z.toNat, by omega⟩
    refine r_aload_0 hK dX0_isHeld_9 ?_
    refine r_get hK fl_X0_83 dX0_isHeld_10 (h0) rfl ?_
    refine r_iload_1 hK dX0_isHeld_13 ?_
    refine r_aald hK dX0_isHeld_14 hs1 (by omega) ?_
    rcases hs2 k (by omega) with ⟨z1, z2⟩ | ⟨c, g, z1, z2, z3⟩
    · rw [z2]
      refine r_ifnullN 22 hK dX0_isHeld_15 ?_
      refine r_iconstN (c := 0) hK dX0_isHeld_22 ?_
      have hno : ¬ ∃ (g : List Gt) (s : Nat), ((k : Nat) : Int) = (s : Int) ∧ s < 3 ∧ sl s = some g := fun ⟨g, s, y1, y2, y3⟩ => by
        have e : s = k := by omega
        rw [e, z1] at y3; cases y3
      exact r_zret hK hRt dX0_isHeld_23 rfl ⟨rfl, rfl, Or.inr ⟨hno, rfl⟩⟩
    · rw [z1]
      refine r_ifnull hK dX0_isHeld_15 ?_
      refine r_iconstN (c := 1) hK dX0_isHeld_18 ?_
      refine r_goto 23 hK dX0_isHeld_19 ?_
      exact r_zret hK hRt dX0_isHeld_23 rfl ⟨rfl, rfl, Or.inl ⟨k, g, c, hv, rfl, by omega, z2, hs1, z1, z3, rfl⟩⟩
set_option maxHeartbeats 4000000 in
theorem ct_xHold {G : GT} {Rel : Nat → Hp → Hp → Prop} (hR : RelOK Rel) (hP : Rel = RelP) (hX : GX G) {n : Nat} {f : Hp} {w : Nat} {gs : List Gt} {pa : List (List Gt)} {sl : Nat → Option (List Gt)} {ni no : Nat} {v p : Nat → Nat} {tp : Nat} {T : Nat → Nat} {pl z : Int} (hz : inR z) (h : WO f w gs pa sl ni no v p tp T pl) (hl16 : gs.length ≤ 16) (hn0 : 392 ≤ n) : Ct G Rel yX0_hold cX0_hold 2 (some .boolean) (8) (19) [.ref 300, zI z] n (f) (fun r n' f' => n ≤ n' ∧ KE [352] f f' ∧ r = some (zI (if 0 ≤ z ∧ z ≤ 2 then 1 else 0)) ∧ WO f' w gs pa (fun s => if (s : Int) = z then some gs else sl s) ni no v p tp T pl) := by
  refine ct_intro [some (.ref 300), some (zI z)] hR rfl (Nat.le_of_ble_eq_true rfl) ?_
  intro K hG hRel hK hRt hnm
  have hQ : kRel K = RelP := by rw [hRel]; exact hP
  have hXK : GX (kG K) := by rw [hG]; exact hX
  obtain ⟨h0, -, ⟨l, hc⟩, -, -, ⟨hv, hs1, hs2⟩, -⟩ := id h
  refine r_fact hK (fun _ hno => ?_)
  have hn1 := hno n (Nat.le_refl _)
  have hn2 := hno (n + 1) (by omega)
  refine r_iload_1 hK dX0_hold_0 ?_
  refine r_iconstN (c := 0) hK dX0_hold_1 ?_
  refine r_iconstN (c := 2) hK dX0_hold_2 ?_
  refine r_pS3 hK (ct_isIn0 hK.rel hz (by decide) (by decide)) lk_X0_155 dX0_hold_3 ?_
  refine r_ifB_ne 11 hK dX0_hold_6 (fun h6 => ?_) (fun h6 => ?_)
  · obtain ⟨k, rfl⟩ : ∃ s : Nat, z = (s : Int) := ⟨z.toNat, by omega⟩
    refine r_aload_0 hK dX0_hold_11 ?_
    refine r_get hK fl_X0_83 dX0_hold_12 (h0) rfl ?_
    refine r_iload_1 hK dX0_hold_15 ?_
    refine r_aload_0 hK dX0_hold_16 ?_
    refine r_get hK fl_X0_41 dX0_hold_17 (h0) rfl ?_
    refine r_callV0 hK (ct_cCopy hK.rel hQ hXK hc (by have := hc.2.2.1.1; omega) ⟨hn1, hn2⟩) lk_X0_166 (Rcv.raw hK.rel hc.1 rfl) dX0_hold_20 (fun r n2 f2 hp => ?_)
    obtain ⟨rfl, hn3, hf2⟩ := hp
    have hka : KE [] f (up f n (.inl (4, [.ref (n + 1)]))) := KE.fr hn1 hn0
    have hkb : KE [] (up f n (.inl (4, [.ref (n + 1)]))) f2 := by rw [hf2]; exact KE.fr (by rw [up_n (by omega)]; exact hn2) (by omega)
    have hk2 := hka.tr hkb
    have hW2 := h.no hk2 rfl
    have hcc : CC f2 n (n + 1) l gs := ⟨by rw [hf2, up_n (by omega)]; exact up_s _ _ _, by rw [hf2]; exact up_s _ _ _, hc.2.2.1.ke hk2, hc.2.2.2⟩
    have hck : cK f2 n gs := ⟨hn0, n + 1, l, by omega, hcc⟩
    have hs1' : f2 352 = some (.inr (7, 3, hv)) := by rw [hf2, up_n (by omega), up_n (by omega)]; exact hs1
    refine r_aastR (E := "BackLogic$Cascade") hK ⟨rfl, by decide, by decide⟩ dX0_hold_23 hs1' (by omega) (Rcv.raw hK.rel hcc.1 rfl) ?_
    have hfin := hW2.slot (sl' := fun s => if (s : Int) = ((k : Nat) : Int) then some gs else sl s) (hs := updV hv k (.ref n)) (fun j hj => by
      show ((if (j : Int) = ((k : Nat) : Int) then some gs else sl j) = none ∧ _) ∨ ∃ c g, _ ∧ (if (j : Int) = ((k : Nat) : Int) then some gs else sl j) = some g ∧ _
      unfold updV
      by_cases q : j = k
      · rw [if_pos (by omega), if_pos q]; exact Or.inr ⟨n, gs, rfl, rfl, hck⟩
      · rw [if_neg (by omega), if_neg q]
        rcases hs2 j hj with y | ⟨c, g, y1, y2, y3⟩
        · exact Or.inl y
        · exact Or.inr ⟨c, g, y1, y2, y3.ke hk2⟩)
    refine r_iconstN (c := 1) hK dX0_hold_24 ?_
    exact r_zret hK hRt dX0_hold_25 rfl ⟨by omega, (hk2.mono (fun x hx => absurd hx List.not_mem_nil)).tr hfin.1, by rw [if_pos (by omega)]; rfl, hfin.2⟩
  · refine r_iconstN (c := 0) hK dX0_hold_9 ?_
    refine r_zret hK hRt dX0_hold_10 rfl ⟨Nat.le_refl _, KE.rf _ f, by rw [if_neg (by omega)]; rfl, ?_⟩
    have := h.slot (sl' := fun s => if (s : Int) = z then some gs else sl s) (hs := hv) (fun k hk => by
      show ((if (k : Int) = z then some gs else sl k) = none ∧ _) ∨ ∃ c g, _ ∧ (if (k : Int) = z then some gs else sl k) = some g ∧ _
      rw [if_neg (by omega)]; exact hs2 k hk)
    rw [up_self hs1] at this
    exact this.2
set_option maxHeartbeats 4000000 in
theorem ct_xRestore {G : GT} {Rel : Nat → Hp → Hp → Prop} (hR : RelOK Rel) (hP : Rel = RelP) (hX : GX G) {n : Nat} {f : Hp} {w : Nat} {gs : List Gt} {pa : List (List Gt)} {sl : Nat → Option (List Gt)} {ni no : Nat} {v p : Nat → Nat} {tp : Nat} {T : Nat → Nat} {pl z : Int} (hz : inR z) (h : WO f w gs pa sl ni no v p tp T pl) (hs16 : ∀ k g, k < 3 → sl k = some g → g.length ≤ 16) : Ct G Rel yX0_restore cX0_restore 2 (some .boolean) (7) (17) [.ref 300, zI z] n (f) (fun r n' f' => n ≤ n' ∧ KE [319, 350] f f' ∧ ((∃ gs' s, z = ((s : Nat) : Int) ∧ s < 3 ∧ sl s = some gs' ∧ r = some (zI 1) ∧ WO f' w gs' [] sl ni no v p tp T pl) ∨ ((¬ ∃ gs' s, z = ((s : Nat) : Int) ∧ s < 3 ∧ sl s = some gs') ∧ r = some (zI 0) ∧ WO f' w gs pa sl ni no v p tp T pl))) := by
  refine ct_intro [some (.ref 300), some (zI z)] hR rfl (Nat.le_of_ble_eq_true rfl) ?_
  intro K hG hRel hK hRt hnm
  have hQ : kRel K = RelP := by rw [hRel]; exact hP
  have hXK : GX (kG K) := by rw [hG]; exact hX
  obtain ⟨h0, -, ⟨l, hc⟩, -, ⟨lp, hp1, hp2, hp3⟩, hs, -⟩ := id h
  refine r_aload_0 hK dX0_restore_0 ?_
  refine r_iload_1 hK dX0_restore_1 ?_
  refine r_callV1 hK (ct_xIsHeld hK.rel hz h0 hs) lk_X0_363 (Rcv.raw hK.rel h0 rfl) dX0_restore_2 (fun r n1 f1 hp => ?_)
  obtain ⟨rfl, rfl, hp⟩ := hp
  rcases hp with ⟨s, g, c, hv, z1, z2, z3, z4, z5, ⟨z6, ll, l2, hll, hcc⟩, rfl⟩ | ⟨z1, rfl⟩
  · refine r_if_ne 10 hK dX0_restore_5 (by decide) (fun _ => ?_) (fun q => absurd q (by decide))
    subst z1
    refine r_aload_0 hK dX0_restore_10 ?_
    refine r_get hK fl_X0_41 dX0_restore_11 h0 rfl ?_
    refine r_aload_0 hK dX0_restore_14 ?_
    refine r_get hK fl_X0_83 dX0_restore_15 h0 rfl ?_
    refine r_iload_1 hK dX0_restore_18 ?_
    refine r_aald hK dX0_restore_19 z4 z2 ?_
    rw [z5]
    have h16 : l2.length ≤ 16 := by rw [hcc.2.2.1.1]; exact hs16 s g z2 z3
    refine r_callV1 hK (pc_becomes hQ hXK hc.1 hc.2.1 hcc (by omega) h16) lk_X0_133 (Rcv.raw hK.rel hc.1 rfl) dX0_restore_20 (fun r n3 f3 hp => ?_)
    obtain ⟨rfl, hn3, rfl⟩ := hp
    have hw1 := h.cas hcc.2.2.1 hcc.2.2.2
    obtain ⟨g0, -, -, -, ⟨lp', hq1, -⟩, -⟩ := id hw1.2
    refine r_aload_0 hK dX0_restore_23 ?_
    refine r_get hK fl_X0_79 dX0_restore_24 g0 rfl ?_
    refine r_callV0 hK (pd_clear hQ hq1) lk_X0_148 (rcv_ad hQ hq1) dX0_restore_27 (fun r n4 f4 hp => ?_)
    obtain ⟨rfl, rfl, rfl⟩ := hp
    have hfin := hw1.2.past (lp := []) (pa' := []) rfl (fun i hi => absurd hi (Nat.not_lt_zero _))
    refine r_iconstN (c := 1) hK dX0_restore_30 ?_
    exact r_zret hK hRt dX0_restore_31 rfl ⟨hn3, (hw1.1.mono (fun x hx => by rw [List.mem_singleton.mp hx]; decide)).tr (hfin.1.mono (fun x hx => by rw [List.mem_singleton.mp hx]; decide)), Or.inl ⟨g, s, rfl, z2, z3, rfl, hfin.2⟩⟩
  · refine r_if_ne 10 hK dX0_restore_5 (by decide) (fun q => absurd rfl q) (fun _ => ?_)
    refine r_iconstN (c := 0) hK dX0_restore_8 ?_
    exact r_zret hK hRt dX0_restore_9 rfl ⟨Nat.le_refl _, KE.rf _ f1, Or.inr ⟨z1, rfl, h⟩⟩
