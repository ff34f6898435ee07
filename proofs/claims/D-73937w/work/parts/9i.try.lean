set_option maxRecDepth 100000
/-! ===== BackLogic: off, tries, become, shrunk ===== -/
def SC : List Nat := [320, 321, 324, 325, 326, 327, 328, 329, 331, 333, 335, 337, 339, 341, 342, 343, 344, 345, 346, 354]
theorem SO_C : ∀ x ∈ SO, x ∈ SC := fun x hx => by unfold SO at hx; unfold SC; simp at hx ⊢; omega
theorem SQ_C : ∀ x ∈ SQ, x ∈ SC := fun x hx => by unfold SQ at hx; unfold SC; simp at hx ⊢; omega
theorem ST_C : ∀ x ∈ [320, 321], x ∈ SC := fun x hx => by unfold SC; simp at hx ⊢; omega
theorem WO.tri {f f' : Hp} {w : Nat} {gs : List Gt} {pa : List (List Gt)} {sl : Nat → Option (List Gt)} {ni no : Nat} {v p : Nat → Nat} {tp : Nat} {T : Nat → Nat} {pl : Int} (h : WO f w gs pa sl ni no v p tp T pl) (hk : KE [320, 321] f f') (hf : Wt f') : WO f' w gs pa sl ni no v p tp T pl := by
  have g : ∀ x, x ∈ [320, 321] → x = 320 ∨ x = 321 := fun x hx => by simp at hx; omega
  exact h.ke hk (fun x hx => by have := g x hx; omega) (Or.inr hf) (Or.inl (fun x a b z => by have := g x z; omega)) (Or.inl (fun x a b z => by have := g x z; omega)) (Or.inl (fun x a b z => by have := g x z; omega)) (Or.inl (fun x a b z => by have := g x z; omega))
theorem WO.tr1 {f : Hp} {w : Nat} {gs g2 : List Gt} {pa : List (List Gt)} {sl : Nat → Option (List Gt)} {ni no : Nat} {v p : Nat → Nat} {tp : Nat} {T : Nat → Nat} {pl : Int} {l2 : List Nat} (h : WO f w gs pa sl ni no v p tp T pl) (hg : GL f l2 g2) (hl : l2.length < 1000000) : KE [320, 321] f (up f 321 (cLL l2)) ∧ WO (up f 321 (cLL l2)) w gs pa sl ni no v p tp T pl ∧ CC (up f 321 (cLL l2)) 320 321 l2 g2 := by
  have hk : KE [320, 321] f (up f 321 (cLL l2)) := (KE.up1 (by decide) (fun q => h.ng (by decide) q)).mono (fun x hx => by rw [List.mem_singleton.mp hx]; decide)
  obtain ⟨l, g, hc⟩ := h.2.2.2.2.2.2.2.1
  have hcc : CC (up f 321 (cLL l2)) 320 321 l2 g2 := ⟨(up_n (by decide)).trans hc.1, up_s _ _ _, hg.ke hk, hl⟩
  exact ⟨hk, h.tri hk ⟨l2, g2, hcc⟩, hcc⟩
theorem FI.ke {S : List Nat} {f f' : Hp} {R W : Nat} {s : FS} {l1 l2 : List Nat} (h : FI f 324 325 326 327 328 R W s l1 l2) (hk : KE S f f') (hS : ∀ x, 324 ≤ x → x ≤ 328 → x ∉ S) : FI f' 324 325 326 327 328 R W s l1 l2 := by
  obtain ⟨h1, ⟨h2, h3, h4⟩, ⟨h5, h6⟩, h7, h8, h9, h10, h11, h12⟩ := h
  have g := fun id (a : 324 ≤ id) (b : id ≤ 328) => hk.2.2 id (by omega) (hS id a b)
  exact ⟨(g 324 (by decide) (by decide)).trans h1, ⟨h2, (g 325 (by decide) (by decide)).trans h3, h4⟩, ⟨h5, (g 326 (by decide) (by decide)).trans h6⟩, (g 327 (by decide) (by decide)).trans h7, (g 328 (by decide) (by decide)).trans h8, h9.ke hk, h10.ke hk, h11, h12⟩
theorem GL.tk {f : Hp} {l : List Nat} {gs : List Gt} (h : GL f l gs) (k : Nat) : GL f (l.take k) (gs.take k) := by
  rw [GL.mp] at h ⊢
  rw [List.map_take, List.map_take, h]
def S4 : List Nat := [320, 321, 329, 331, 333, 335, 337, 339, 341, 342, 343, 344, 345, 346, 354]
theorem S4_C : ∀ x ∈ S4, x ∈ SC := fun x hx => by unfold S4 at hx; unfold SC; simp at hx ⊢; omega
theorem SQ_4 : ∀ x ∈ SQ, x ∈ S4 := fun x hx => by unfold SQ at hx; unfold S4; simp at hx ⊢; omega
def Wsh_up_ (f : Hp) (k : Nat) (e : E_) (id : Nat) : Prop := up f k e id = f id
theorem Wsh.up {f : Hp} {k : Nat} {e : E_} (h : Wsh f) (hk : k < 329 ∨ (392 ≤ k ∧ ∃ e0, f k = some e0 ∧ rawE e0 = false)) : Wsh (up f k e) := by
  obtain ⟨⟨w0, R0, h0, h1, h2⟩, x1, x2, h3, h4⟩ := h
  have g : ∀ id, 329 ≤ id → id ≤ 346 → Wsh_up_ f k e id := fun id a b => up_n (by omega)
  refine ⟨⟨w0, R0, h0, ?_, ?_⟩, x1, x2, (g 343 (by decide) (by decide)).trans h3, (g 344 (by decide) (by decide)).trans h4⟩
  · obtain ⟨s1, ⟨s2, s3⟩, ⟨s4, s5, s6, s6'⟩, ⟨s7, s8, s9, s9'⟩, ⟨s10, s11, s12, s12'⟩, s13, s14⟩ := h1
    exact ⟨(g 329 (by decide) (by decide)).trans s1, ⟨(g 330 (by decide) (by decide)).trans s2, fun j hj => by obtain ⟨b, hb⟩ := s3 j hj; exact ⟨b, (g _ (by omega) (by omega)).trans hb⟩⟩, ⟨s4, s5, (g 341 (by decide) (by decide)).trans s6, s6'⟩, ⟨s7, s8, (g 342 (by decide) (by decide)).trans s9, s9'⟩, ⟨s10, s11, (g 346 (by decide) (by decide)).trans s12, s12'⟩, s13, (g 345 (by decide) (by decide)).trans s14⟩
  · rcases h2 with z | ⟨z1, z2⟩
    · exact Or.inl z
    · refine Or.inr ⟨z1, z2.up3 ?_⟩
      rcases hk with q | ⟨q1, q2⟩
      · exact Or.inr (Or.inr (Or.inr (Or.inr (Or.inl q))))
      · exact Or.inr (Or.inr (Or.inr (Or.inr (Or.inr (Or.inr ⟨by omega, q2⟩)))))
set_option maxHeartbeats 4000000 in
theorem ct_xTries {G : GT} {Rel : Nat → Hp → Hp → Prop} (hR : RelOK Rel) (hP : Rel = RelP) (hX : GX G) {n : Nat} {f : Hp} {w : Nat} {gs : List Gt} {pa : List (List Gt)} {sl : Nat → Option (List Gt)} {ni no : Nat} {v p : Nat → Nat} {tp : Nat} {T TT : Nat → Nat} {pl z : Int} (hz : inR z) (h : WO f w gs pa sl ni no v p tp T pl) (hw : w ≤ 4) (hl16 : gs.length ≤ 16) (hD : w ≤ 3 → D8 w) (hT : w ≤ 3 → TabR w TT) (ho : ∀ q ∈ gs, gok w q) (hn0 : 392 ≤ n) : Ct G Rel yX0_tries cX0_tries 3 (some .int) (11) (7497) [.ref 300, zI z] n (f) (fun r n' f' => n ≤ n' ∧ KE SC f f' ∧ WO f' w gs pa sl ni no v p tp T pl ∧ ((∃ l lt, (0 ≤ z ∧ z ≤ 4 ∧ (z = 4 → w ≤ 3)) ∧ BecR w gs z l ∧ l.length ≤ 1000 ∧ r = some (zI ((l.length : Nat) : Int)) ∧ CC f' 320 321 lt l) ∨ (¬ (0 ≤ z ∧ z ≤ 4 ∧ (z = 4 → w ≤ 3)) ∧ r = some (zI (-1))))) := by
  refine ct_intro [some (.ref 300), some (zI z), none] hR rfl (Nat.le_of_ble_eq_true rfl) ?_
  intro K hG hRel hK hRt hnm
  have hQ : kRel K = RelP := by rw [hRel]; exact hP
  have hXK : GX (kG K) := by rw [hG]; exact hX
  have h4 := rN4 hw
  obtain ⟨h0, -, ⟨l, hc⟩, -, -, -, -, ⟨lt0, gt0, hct⟩, -⟩ := id h
  have hlen := hc.2.2.1.1
  -- gates that were found, one by one
  have lp : ∀ (both : Bool) (n0 : Nat) (f2 : Hp) (l1 l2 : List Nat), n ≤ n0 → KE SC f f2 → WO f2 w gs pa sl ni no v p tp T pl → FI f2 324 325 326 327 328 (rN w) w (fdAll w both (run gs)) l1 l2 → (∀ q, (q = false ∧ z = 1 ∨ q = true ∧ z = 2) ↔ q = both) → ∀ (d k n1 u : Nat), k + d = (fdL (fdAll w both (run gs))).length → n0 ≤ n1 → u ≤ 1617 + k → Wx K 93 [some (.ref 300), some (zI z), some (zI (k : Int))] [] n1 (up f2 321 (cLL ((l1 ++ l2).take k))) u := by
    intro both n0 f2 l1 l2 hn0' hk2 hW2 hfi hbz d
    have hgl := hfi.gl
    have hle := fd_le (both := both) (p := run gs) (show w ≤ 6 by omega)
    have hlen2 : (l1 ++ l2).length = (fdL (fdAll w both (run gs))).length := by rw [hgl.1, List.length_map]
    have hst : ∀ k, KE [320, 321] f2 (up f2 321 (cLL ((l1 ++ l2).take k))) ∧ WO (up f2 321 (cLL ((l1 ++ l2).take k))) w gs pa sl ni no v p tp T pl ∧ CC (up f2 321 (cLL ((l1 ++ l2).take k))) 320 321 ((l1 ++ l2).take k) (((fdL (fdAll w both (run gs))).map gz).take k) := fun k => hW2.tr1 (hgl.tk k) (by rw [List.length_take]; omega)
    have hfk : ∀ k, FI (up f2 321 (cLL ((l1 ++ l2).take k))) 324 325 326 327 328 (rN w) w (fdAll w both (run gs)) l1 l2 := fun k => hfi.ke (hst k).1 (fun x a b q => by simp at q; omega)
    induction d with
    | zero =>
      intro k n1 u hk hn1 hu
      have ek : k = (fdL (fdAll w both (run gs))).length := hk
      obtain ⟨s1, s2, s3⟩ := hst k
      have e1 : ((fdL (fdAll w both (run gs))).map gz).take k = (fdL (fdAll w both (run gs))).map gz := List.take_of_length_le (by rw [List.length_map]; omega)
      rw [e1] at s3
      refine r_iload_2 hK dX0_tries_93 ?_
      refine r_aload_0 hK dX0_tries_94 ?_
      refine r_get hK fl_X0_58 dX0_tries_95 (s2.1) rfl ?_
      refine r_pV0 hK (ct_fSize hK.rel hQ hXK (hfk k)) lk_X0_222 (Rcv.raw hK.rel (hfk k).1 rfl) dX0_tries_98 ?_
      refine r_icmp_ge 128 hK dX0_tries_101 (by omega) (by omega) (fun h101 => ?_) (fun h101 => ?_)
      · refine r_aload_0 hK dX0_tries_128 ?_
        refine r_get hK fl_X0_45 dX0_tries_129 (s2.1) rfl ?_
        refine r_pV0 hK (ct_cSize hK.rel hQ hXK s3) lk_X0_174 (Rcv.raw hK.rel s3.1 rfl) dX0_tries_132 ?_
        refine r_iret hK hRt dX0_tries_135 ⟨by omega, hk2.tr (s1.mono ST_C), s2, Or.inl ⟨(fdL (fdAll w both (run gs))).map gz, _, ?_, ?_, by rw [List.length_map]; omega, rfl, s3⟩⟩ (by omega)
        · have := (hbz both).mpr rfl
          omega
        · have hb := (hbz both).mpr rfl
          rcases hb with ⟨b1, b2⟩ | ⟨b1, b2⟩
          · right; left; exact ⟨b2, by rw [b1]; rfl⟩
          · right; right; left; exact ⟨b2, by rw [b1]; rfl⟩
      · omega --!
    | succ d ih =>
      intro k n1 u hk hn1 hu
      obtain ⟨s1, s2, s3⟩ := hst k
      have hkl : k < (fdL (fdAll w both (run gs))).length := by omega
      have et : (l1 ++ l2).take (k + 1) = (l1 ++ l2).take k ++ [(l1 ++ l2).getD k 0] := by
        rw [List.take_succ_eq_append_getElem (by omega), List.getD_eq_getElem?_getD, List.getElem?_eq_getElem (by omega)]; rfl
      refine r_iload_2 hK dX0_tries_93 ?_
      refine r_aload_0 hK dX0_tries_94 ?_
      refine r_get hK fl_X0_58 dX0_tries_95 (s2.1) rfl ?_
      refine r_pV0 hK (ct_fSize hK.rel hQ hXK (hfk k)) lk_X0_222 (Rcv.raw hK.rel (hfk k).1 rfl) dX0_tries_98 ?_
      refine r_icmp_ge 128 hK dX0_tries_101 (by omega) (by omega) (fun h101 => ?_) (fun h101 => ?_)
      · omega --!
      · refine r_aload_0 hK dX0_tries_104 ?_
        refine r_get hK fl_X0_45 dX0_tries_105 (s2.1) rfl ?_
        refine r_get hK fl_X0_189 dX0_tries_108 (s3.1) rfl ?_
        refine r_aload_0 hK dX0_tries_111 ?_
        refine r_get hK fl_X0_58 dX0_tries_112 (s2.1) rfl ?_
        refine r_iload_2 hK dX0_tries_115 ?_
        refine r_pV1 hK (ct_fAt hK.rel hQ hXK (hfk k) hkl (by omega)) lk_X0_223 (Rcv.raw hK.rel (hfk k).1 rfl) dX0_tries_116 ?_
        refine r_callV1 hK (pl_addLast hQ (up_s _ _ _)) lk_X0_227 (rcv_ll hQ (up_s _ _ _)) dX0_tries_119 (fun r n3 f3 hp => ?_) (hu := by omega)
        obtain ⟨rfl, hn3, rfl⟩ := hp
        rw [up_up, ← et]
        first | refine r_incN_2 hK dX0_tries_122 ?_ | refine r_iinc_2 hK dX0_tries_122 ?_
        refine r_goto 93 hK dX0_tries_125 ?_
        exact ih (k + 1) n3 (u + 1) (by omega) (by omega) (by omega)
  have fnd : ∀ (both : Bool) (n1 : Nat) (f1 : Hp), n ≤ n1 → KE SC f f1 → WO f1 w gs pa sl ni no v p tp T pl → (∀ q, (q = false ∧ z = 1 ∨ q = true ∧ z = 2) ↔ q = both) → Wx K 78 [some (.ref 300), some (zI z), none] [vB both, .ref 300] n1 f1 17 := by
    intro both n1 f1 hn1 hk1 hW1 hbz
    refine r_callV1 hK (ct_xFinds hK.rel hQ hXK hW1 hw ho (both := both) (by omega)) lk_X0_217 (Rcv.raw hK.rel hW1.1 rfl) dX0_tries_78 (fun r n2 f2 hp => ?_)
    obtain ⟨rfl, hn2, hk2, hW2, l1, l2, hfi⟩ := hp
    obtain ⟨e0, -, -, -, -, -, -, ⟨lt, gt1, ect⟩, -⟩ := id hW2
    refine r_aload_0 hK dX0_tries_81 ?_
    refine r_get hK fl_X0_45 dX0_tries_82 (e0) rfl ?_
    refine r_get hK fl_X0_189 dX0_tries_85 (ect.1) rfl ?_
    refine r_callV0 hK (pl_clear hQ ect.2.1) lk_X0_221 (rcv_ll hQ ect.2.1) dX0_tries_88 (fun r n3 f3 hp => ?_)
    obtain ⟨rfl, rfl, rfl⟩ := hp
    refine r_iconstN (c := 0) hK dX0_tries_91 ?_
    refine r_istore_2 hK dX0_tries_92 ?_
    exact lp both n3 f2 l1 l2 (by omega) (hk1.tr (hk2.mono SO_C)) hW2 hfi hbz (fdL (fdAll w both (run gs))).length 0 n3 _ (by omega) (Nat.le_refl _) (by omega)
  refine r_aload_0 hK dX0_tries_0 ?_
  refine r_get hK fl_X0_45 dX0_tries_1 (h0) rfl ?_
  refine r_aload_0 hK dX0_tries_4 ?_
  refine r_get hK fl_X0_41 dX0_tries_5 (h0) rfl ?_
  refine r_callV1 hK (pc_becomes hQ hXK hct.1 hct.2.1 hc (by decide) (by omega)) lk_X0_133 (Rcv.raw hK.rel hct.1 rfl) dX0_tries_8 (fun r n1 f1 hp => ?_)
  obtain ⟨rfl, hn1, hf1⟩ := hp
  obtain ⟨k1, hW1, hc1⟩ := h.tr1 hc.2.2.1 hc.2.2.2
  rw [← hf1] at k1 hW1 hc1
  have g0 := hW1.1
  have k1' := k1.mono ST_C
  refine r_iload_1 hK dX0_tries_11 ?_
  have hsw : z = 0 ∨ z = 1 ∨ z = 2 ∨ z = 3 ∨ z = 4 ∨ (z < 0 ∨ 4 < z) := by omega
  rcases hsw with rfl | rfl | rfl | rfl | rfl | hsw
  · refine r_tabIn 48 hK dX0_tries_12 (by decide) (by decide) (by decide) rfl rfl ?_
    refine r_aload_0 hK dX0_tries_48 ?_
    refine r_get hK fl_X0_45 dX0_tries_49 (g0) rfl ?_
    refine r_aload_0 hK dX0_tries_52 ?_
    refine r_pV0 hK (ct_xRows hK.rel g0 hw) lk_X0_151 (Rcv.raw hK.rel g0 rfl) dX0_tries_53 ?_
    refine r_fact hK (fun _ hno => ?_)
    refine r_callV1 hK (ct_cShrinks hK.rel hQ hXK hc1 hl16 hw ho) lk_X0_214 (Rcv.raw hK.rel hc1.1 rfl) dX0_tries_56 (fun r n2 f2 hp => ?_)
    obtain ⟨rfl, hn2, hkp, l', hc2⟩ := hp
    have k2 : KE [320, 321] f1 f2 := KE.of hno (by omega) (fun id a b => hkp id a (fun q => b (by rw [q]; decide))) (fun x hx => by
      have : x = 320 ∨ x = 321 := by simpa using hx
      rcases this with e | e <;> subst e
      · exact ⟨by decide, fun q => hW1.ng (by decide) q⟩
      · exact ⟨by decide, fun q => hW1.ng (by decide) q⟩)
    have hW2 := hW1.tri k2 ⟨l', _, hc2⟩
    have hsl := (shrAll_ok hw 17 gs ho).2
    refine r_aload_0 hK dX0_tries_59 ?_
    refine r_get hK fl_X0_45 dX0_tries_60 (hW2.1) rfl ?_
    refine r_pV0 hK (ct_cSize hK.rel hQ hXK hc2) lk_X0_174 (Rcv.raw hK.rel hc2.1 rfl) dX0_tries_63 ?_
    exact r_iret hK hRt dX0_tries_66 ⟨by omega, k1'.tr (k2.mono ST_C), hW2, Or.inl ⟨shrAll w 17 gs, l', by omega, Or.inl ⟨rfl, rfl⟩, by omega, rfl, hc2⟩⟩
  · refine r_tabIn 67 hK dX0_tries_12 (by decide) (by decide) (by decide) rfl rfl ?_
    refine r_aload_0 hK dX0_tries_67 ?_
    refine r_iload_1 hK dX0_tries_68 ?_
    refine r_iconstN (c := 2) hK dX0_tries_69 ?_
    refine r_icmp_ne 77 hK dX0_tries_70 (by omega) (by omega) (fun h70 => ?_) (fun h70 => ?_)
    · refine r_iconstN (c := 0) hK dX0_tries_77 ?_
      exact fnd false n1 f1 (by omega) k1' hW1 (fun q => by cases q <;> simp) --!
    · exact absurd h70 (by decide) --!
  · refine r_tabIn 67 hK dX0_tries_12 (by decide) (by decide) (by decide) rfl rfl ?_
    refine r_aload_0 hK dX0_tries_67 ?_
    refine r_iload_1 hK dX0_tries_68 ?_
    refine r_iconstN (c := 2) hK dX0_tries_69 ?_
    refine r_icmp_ne 77 hK dX0_tries_70 (by omega) (by omega) (fun h70_1 => ?_) (fun h70_1 => ?_)
    · exact absurd (show ((2 : Int)) = ((2 : Nat) : Int) from rfl) h70_1 --!
    · refine r_iconstN (c := 1) hK dX0_tries_73 ?_
      refine r_goto 78 hK dX0_tries_74 ?_
      exact fnd true n1 f1 (by omega) k1' hW1 (fun q => by cases q <;> simp) --!
  · refine r_tabIn 136 hK dX0_tries_12 (by decide) (by decide) (by decide) rfl rfl ?_
    refine r_aload_0 hK dX0_tries_136 ?_
    refine r_get hK fl_X0_45 dX0_tries_137 (g0) rfl ?_
    refine r_fact hK (fun _ hno => ?_)
    refine r_callV0 hK (ct_cTurns hK.rel hQ hXK hc1 (by omega)) lk_X0_228 (Rcv.raw hK.rel hc1.1 rfl) dX0_tries_140 (fun r n2 f2 hp => ?_)
    obtain ⟨rfl, hn2, hf2⟩ := hp
    have ka : KE [] f1 (up f1 n1 (cLL [])) := KE.fr (hno n1 (Nat.le_refl _)) (by omega)
    have hWa := hW1.no ka rfl
    obtain ⟨kb, hW2, hc2⟩ := hWa.tr1 ((hc1.2.2.1.ke ka).rev) (by rw [List.length_reverse]; omega)
    rw [← hf2] at kb hW2 hc2
    refine r_aload_0 hK dX0_tries_143 ?_
    refine r_get hK fl_X0_45 dX0_tries_144 (hW2.1) rfl ?_
    refine r_pV0 hK (ct_cSize hK.rel hQ hXK hc2) lk_X0_174 (Rcv.raw hK.rel hc2.1 rfl) dX0_tries_147 ?_
    exact r_iret hK hRt dX0_tries_150 ⟨by omega, (k1'.tr (ka.mono (fun x hx => absurd hx List.not_mem_nil))).tr (kb.mono ST_C), hW2, Or.inl ⟨gs.reverse, _, by omega, Or.inr (Or.inr (Or.inr (Or.inl ⟨rfl, rfl⟩))), by rw [List.length_reverse]; omega, rfl, hc2⟩⟩
  · refine r_tabIn 151 hK dX0_tries_12 (by decide) (by decide) (by decide) rfl rfl ?_
    refine r_aload_0 hK dX0_tries_151 ?_
    refine r_get hK fl_X0_131 dX0_tries_152 (g0) rfl ?_
    refine r_iconstN (c := 3) hK dX0_tries_155 ?_
    refine r_icmp_le 161 hK dX0_tries_156 (by omega) (by omega) (fun h156 => ?_) (fun h156 => ?_)
    · refine r_aload_0 hK dX0_tries_161 ?_
      have hw3 : w ≤ 3 := by omega
      have hpm := pm_run ho
      obtain ⟨hT8, hTd⟩ := hT hw3 (run gs) hpm
      have hfl := fstL_len (hT hw3) _ (run gs) hpm hTd
      refine r_fact hK (fun _ hno => ?_)
      refine r_callV0 hK (ct_xLeastRow hK.rel hQ hXK hW1 hw3 (hD hw3) (hT hw3) ho hTd (by omega)) lk_X0_231 (Rcv.raw hK.rel g0 rfl) dX0_tries_162 (fun r n2 f2 hp => ?_)
      obtain ⟨hn2, hk2, hW2, id1, l1, rfl, hid, hl1, hg1⟩ := hp
      obtain ⟨G1, hG1⟩ : ∃ G1, G1 = (fstL TT w (TT (plc (run gs) (rN w))) (run gs)).map gz := ⟨_, rfl⟩
      have hG1l : G1.length ≤ 8 := by rw [hG1, List.length_map, hfl]; exact hT8
      rw [← hG1] at hg1
      have hl1l : l1.length = G1.length := hg1.1
      obtain ⟨e0, -, -, -, -, -, -, ⟨lt, gt1, ect⟩, -, hsh2, -, hwa2⟩ := id hW2
      have hf1n : f1 id1 = none := hno id1 hid
      have hst : ∀ k, KE S4 f1 (up (up f2 id1 (cLL (l1.drop k))) 321 (cLL (l1.take k))) ∧ WO (up (up f2 id1 (cLL (l1.drop k))) 321 (cLL (l1.take k))) w gs pa sl ni no v p tp T pl ∧ CC (up (up f2 id1 (cLL (l1.drop k))) 321 (cLL (l1.take k))) 320 321 (l1.take k) (G1.take k) := by
        intro k
        have kk : KE S4 f1 (up (up f2 id1 (cLL (l1.drop k))) 321 (cLL (l1.take k))) := by
          refine ⟨fun id q e => ?_, fun id e a b => ?_, fun id a b => ?_⟩
          · have a1 : id ≠ 321 := fun y => hW1.ng (id := 321) (by decide) q (by rw [← y]; exact e)
            have a2 : id ≠ id1 := fun y => by rw [y, hf1n] at e; cases e
            rw [up_n a1, up_n a2]; exact hk2.1 id q e
          · have a2 : id ≠ id1 := fun y => by rw [y, hf1n] at b; cases b
            rw [up_n (by omega), up_n a2]; exact hk2.2.1 id e a b
          · have a1 : id ≠ 321 := fun y => b (by rw [y]; decide)
            rw [up_n a1, up_n (by omega)]; exact hk2.2.2 id a (fun y => b (SQ_4 id y))
        have hgk : GL (up (up f2 id1 (cLL (l1.drop k))) 321 (cLL (l1.take k))) (l1.take k) (G1.take k) := by
          refine (GL.upN (e' := cLL lt) (GL.upN (e' := cLL l1) (hg1.tk k) hl1 (fun q y => by unfold cLL cG at y; cases y)) ?_ (fun q y => by unfold cLL cG at y; cases y))
          rw [up_n (by omega)]; exact ect.2.1
        have hcc : CC (up (up f2 id1 (cLL (l1.drop k))) 321 (cLL (l1.take k))) 320 321 (l1.take k) (G1.take k) := ⟨by rw [up_n (by decide), up_n (by omega)]; exact ect.1, up_s _ _ _, hgk, by rw [List.length_take]; omega⟩
        refine ⟨kk, ?_, hcc⟩
        have gS : ∀ x ∈ S4, x = 320 ∨ x = 321 ∨ (329 ≤ x ∧ x ≤ 346) ∨ x = 354 := fun x hx => by unfold S4 at hx; simp at hx; omega
        refine hW1.ke kk (fun x hx => by have := gS x hx; omega) (Or.inr ⟨_, _, hcc⟩) (Or.inl (fun x a b y => by have := gS x y; omega)) (Or.inr ?_) (Or.inl (fun x a b y => by have := gS x y; omega)) (Or.inr ?_)
        · exact (hsh2.up (Or.inr ⟨by omega, _, hl1, rfl⟩)).up (Or.inl (by decide))
        · obtain ⟨⟨a, q1⟩, ⟨b, q2⟩, ⟨c, q3⟩, d, q4⟩ := hwa2
          exact ⟨⟨a, by rw [up_n (by decide), up_n (by omega)]; exact q1⟩, ⟨b, by rw [up_n (by decide), up_n (by omega)]; exact q2⟩, ⟨c, by rw [up_n (by decide), up_n (by omega)]; exact q3⟩, d, by rw [up_n (by decide), up_n (by omega)]; exact q4⟩
      have lp4 : ∀ (d k n3 u : Nat), k + d = l1.length → n2 ≤ n3 → u ≤ 6491 + k → Wx K 176 [some (.ref 300), some (zI (4 : Int)), some (.ref id1)] [] n3 (up (up f2 id1 (cLL (l1.drop k))) 321 (cLL (l1.take k))) u := by
        intro d
        induction d with
        | zero =>
          intro k n3 u hk hn3 hu
          obtain ⟨s1, s2, s3⟩ := hst k
          have e1 : G1.take k = G1 := List.take_of_length_le (by omega)
          rw [e1] at s3
          have e2 : l1.drop k = [] := List.drop_eq_nil_of_le (by omega)
          have hr : up (up f2 id1 (cLL (l1.drop k))) 321 (cLL (l1.take k)) id1 = some (cLL []) := by rw [up_n (by omega), up_s, e2]
          refine r_aload_2 hK dX0_tries_176 ?_
          refine r_callU0 hK (pl_isEmpty hQ hr (by decide)) lu_X0_235_J13 (rcv_ll hQ hr) dX0_tries_177 (fun r n4 f4 hp => ?_) (hu := by omega)
          obtain ⟨rfl, rfl, rfl⟩ := hp
          refine r_if_ne 203 hK dX0_tries_180 (by decide) (fun _ => ?_) (fun q => absurd q (by decide))
          refine r_aload_0 hK dX0_tries_203 ?_
          refine r_get hK fl_X0_45 dX0_tries_204 s2.1 rfl ?_
          refine r_pV0 hK (ct_cSize hK.rel hQ hXK s3) lk_X0_174 (Rcv.raw hK.rel s3.1 rfl) dX0_tries_207 ?_ (hu := by omega)
          exact r_iret hK hRt dX0_tries_210 ⟨by omega, k1'.tr (s1.mono S4_C), s2, Or.inl ⟨G1, _, by omega, Or.inr (Or.inr (Or.inr (Or.inr ⟨rfl, TT, hT hw3, hG1⟩))), by omega, rfl, s3⟩⟩ (by omega)
        | succ d ih =>
          intro k n3 u hk hn3 hu
          obtain ⟨s1, s2, s3⟩ := hst k
          have hkl : k < l1.length := by omega
          have e2 : l1.drop k = l1.getD k 0 :: l1.drop (k + 1) := by rw [List.getD_eq_getElem?_getD, List.getElem?_eq_getElem hkl]; exact List.drop_eq_getElem_cons hkl
          have et : l1.take (k + 1) = l1.take k ++ [l1.getD k 0] := by
            rw [List.take_succ_eq_append_getElem hkl, List.getD_eq_getElem?_getD, List.getElem?_eq_getElem hkl]; rfl
          have hr : up (up f2 id1 (cLL (l1.drop k))) 321 (cLL (l1.take k)) id1 = some (cLL (l1.getD k 0 :: l1.drop (k + 1))) := by rw [up_n (by omega), up_s, e2]
          have hgk := hg1.2 k hkl
          have hne1 : l1.getD k 0 ≠ id1 := fun y => by rw [y, hl1] at hgk; exact absurd (Option.some.inj hgk) (fun y2 => by unfold cLL cG at y2; cases y2)
          have hne2 : l1.getD k 0 ≠ 321 := fun y => by rw [y, ect.2.1] at hgk; exact absurd (Option.some.inj hgk) (fun y2 => by unfold cLL cG at y2; cases y2)
          refine r_aload_2 hK dX0_tries_176 ?_
          refine r_callU0 hK (pl_isEmpty hQ hr (by rw [List.length_cons, List.length_drop]; omega)) lu_X0_235_J13 (rcv_ll hQ hr) dX0_tries_177 (fun r n4 f4 hp => ?_) (hu := by omega)
          obtain ⟨rfl, rfl, rfl⟩ := hp
          refine r_if_ne 203 hK dX0_tries_180 (by rw [if_neg (by simp)]; decide) (fun q => absurd (by rw [if_neg (by simp)]; rfl) q) (fun _ => ?_)
          refine r_aload_0 hK dX0_tries_183 ?_
          refine r_get hK fl_X0_45 dX0_tries_184 s2.1 rfl ?_
          refine r_get hK fl_X0_189 dX0_tries_187 s3.1 rfl ?_
          refine r_aload_2 hK dX0_tries_190 ?_
          refine r_callV0 hK (pl_pollFirst hQ hr) lk_X0_239 (rcv_ll hQ hr) dX0_tries_191 (fun r n4 f4 hp => ?_) (hu := by omega)
          obtain ⟨rfl, rfl, rfl⟩ := hp
          have hg4 : up (up (up f2 id1 (cLL (l1.drop k))) 321 (cLL (l1.take k))) id1 (cLL (l1.drop (k + 1))) (l1.getD k 0) = some (cG (gt G1 k)) := by rw [up_n hne1, up_n hne2, up_n hne1]; exact hgk
          refine r_cast hK cl_X0_193 (Rcv.raw hK.rel hg4 rfl) dX0_tries_194 ?_
          have h321 : up (up (up f2 id1 (cLL (l1.drop k))) 321 (cLL (l1.take k))) id1 (cLL (l1.drop (k + 1))) 321 = some (cLL (l1.take k)) := by rw [up_n (by omega), up_s]
          refine r_callV1 hK (pl_addLast hQ h321) lk_X0_227 (rcv_ll hQ h321) dX0_tries_197 (fun r n5 f5 hp => ?_) (hu := by omega)
          obtain ⟨rfl, hn5, rfl⟩ := hp
          refine r_goto 176 hK dX0_tries_200 ?_
          rw [up_comm (j := 321) (k := id1) (by omega), up_up, up_up, ← et]
          exact ih (k + 1) n5 _ (by omega) (by omega) (by omega)
      refine r_astore_2 hK dX0_tries_165 ?_
      refine r_aload_0 hK dX0_tries_166 ?_
      refine r_get hK fl_X0_45 dX0_tries_167 (e0) rfl ?_
      refine r_get hK fl_X0_189 dX0_tries_170 (ect.1) rfl ?_
      refine r_callV0 hK (pl_clear hQ ect.2.1) lk_X0_221 (rcv_ll hQ ect.2.1) dX0_tries_173 (fun r n3 f3 hp => ?_)
      obtain ⟨rfl, rfl, rfl⟩ := hp
      have := lp4 l1.length 0 n3 _ (by omega) (Nat.le_refl _) (Nat.le_refl _)
      rw [List.drop_zero, List.take_zero, up_self hl1] at this
      exact this
    · refine r_iconst hK dX0_tries_159 ?_
      exact r_iret hK hRt dX0_tries_160 ⟨by omega, k1', hW1, Or.inr ⟨by omega, rfl⟩⟩
  · refine r_tabOut 211 hK dX0_tries_12 hz hsw rfl ?_
    refine r_iconst hK dX0_tries_211 ?_
    exact r_iret hK hRt dX0_tries_212 ⟨by omega, k1', hW1, Or.inr ⟨by omega, rfl⟩⟩
