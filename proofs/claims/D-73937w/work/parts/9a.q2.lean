set_option maxRecDepth 100000
/-! ===== BackLogic: stuck wires, terms, idle runs ===== -/
theorem stk_b : ((List.range 64).all fun x => (List.range 6).all fun w => decide (x ||| (1 <<< w) = stk w 1 x) && decide (clr x (1 <<< w) = stk w 0 x)) = true := by decide +kernel
theorem stk_at {x w : Nat} (hx : x < 64) (hw : w < 6) : x ||| (1 <<< w) = stk w 1 x ∧ clr x (1 <<< w) = stk w 0 x := by
  have := all_r (all_r stk_b hx) hw
  simpa using this
set_option maxHeartbeats 4000000 in
theorem rw_stuckAt {G : GT} {Rel : Nat → Hp → Hp → Prop} (hR : RelOK Rel) (hX : GX G) {n : Nat} {g : Hp} {x wr : Nat} {o : Bool} {pl : Int} {w : Nat} {l ns : List Nat} {gs : List Gt} (hz : ∀ id, n ≤ id → g id = none) (h0 : g 300 = some (x0C pl w)) (hc : g 318 = some (.inl (4, [.ref 319]))) (hL : LLs g 319 l ns) (hs : l.length < 1000000) (hgs : GL g l gs) (hb : ∀ q ∈ gs, gB q) (hx : x < 64) (hwr : wr < 6) : Ct G Rel yX0_stuckAt cX0_stuckAt 6 (some .int) (6) (1) [.ref 300, zI (x : Int), zI (wr : Int), zI (((if o then 1 else 0) : Nat) : Int)] n (g) (fun r n' g' => r = some (zI ((stkRun gs wr (if o then 1 else 0) x : Nat) : Int)) ∧ n' = n + 1 ∧ ∀ id, id < n → g' id = g id) := by
  refine ct_intro [some (.ref 300), some (zI (x : Int)), some (zI (wr : Int)), some (zI (((if o then 1 else 0) : Nat) : Int)), none, none] hR rfl (Nat.le_of_ble_eq_true rfl) ?_
  intro K hG hRel hK hRt hnm
  have hXK : GX (kG K) := by rw [hG]; exact hX
  have hlen := hL.len
  have hlt : ∀ id e, g id = some e → id < n := fun id e h => by
    by_cases q : id < n
    · exact q
    · rw [hz id (by omega)] at h; cases h
  obtain ⟨mc, l3⟩ := hL.2.2.1
  have hll := hlt _ _ l3
  have h3n := hlt _ _ h0
  have hcn := hlt _ _ hc
  have hn : ∀ y ∈ ns, y < n := fun y hy => by
    obtain ⟨i, hi, e⟩ := List.getElem_of_mem hy
    have := hL.2.2.2.cell (i := i) hi
    rw [List.getD_eq_getElem?_getD, List.getElem?_eq_getElem hi] at this
    exact hlt y _ (by rw [← e]; exact this)
  obtain ⟨b, hb01⟩ : ∃ b : Nat, b = if o then 1 else 0 := ⟨_, rfl⟩
  have hb2 : b = 0 ∨ b = 1 := by cases o <;> simp [hb01]
  rw [← hb01] at hRt
  rw [← hb01]
  have hs64 : ∀ y, y < 64 → stk wr b y < 64 := fun y hy => by
    have h1 := stk_at hy hwr
    have h2 : (1 <<< wr) < 64 := bit_lt (w := 6) hwr
    rcases hb2 with z | z
    · rw [z, ← h1.2]; exact clr_lt (w := 6) hy
    · rw [z, ← h1.1]; exact or_lt (w := 6) hy h2
  have hr : ∀ k, stkRun (gs.take k) wr b x < 64 := by
    intro k
    have : ∀ (l : List Gt), (∀ q ∈ l, gB q) → ∀ y, y < 64 → l.foldl (fun r g => stk wr b (mk g r)) y < 64 := by
      intro l
      induction l with
      | nil => intro _ y hy; exact hy
      | cons q l ih => intro hq y hy; exact ih (fun r hr => hq r (List.mem_cons_of_mem _ hr)) _ (hs64 _ (mk64 (hq q List.mem_cons_self).1 hy))
    exact this _ (fun q hq => hb q (List.mem_of_mem_take hq)) _ (hs64 x hx)
  have lp : ∀ (d k : Nat) (lr : Value), k + d = l.length → Wx K 33 [some (.ref 300), some (zI (x : Int)), some (zI (wr : Int)), some (zI (b : Int)), some (zI ((stkRun (gs.take k) wr b x : Nat) : Int)), some (.ref n)] [] (n + 1) (up g n (.inl (14, [lr, hd (ns.drop k) .null, zI (k : Int), zI mc, .ref 319]))) 1 := by
    intro d
    induction d with
    | zero =>
      intro k lr hk
      have ek : k = l.length := hk
      subst ek
      have hit : up g n (.inl (14, [lr, hd (ns.drop l.length) .null, zI ((l.length : Nat) : Int), zI mc, .ref 319])) n = some (.inl (14, [lr, hd (ns.drop l.length) .null, zI ((l.length : Nat) : Int), zI mc, .ref 319])) := up_s _ _ _
      have hl2' : up g n (.inl (14, [lr, hd (ns.drop l.length) .null, zI ((l.length : Nat) : Int), zI mc, .ref 319])) 319 = some (.inl (12, [zI mc, zI ((l.length : Nat) : Int), hd ns .null, ls_ .null ns])) := (up_n (show 319 ≠ n by omega)).trans l3
      refine r_aload_5 hK dX0_stuckAt_33 ?_
      refine r_callF0 hK (ll_hasNext hK.rel hit hl2' (by omega) (by omega)) lf_X0_309_J28 (hK.px hXK).1.1 (ci := 14) ⟨rfl, rfl⟩ (Rcv.raw hK.rel hit rfl) dX0_stuckAt_35 (fun r n1 f1 hp => ?_)
      obtain ⟨rfl, rfl, rfl⟩ := hp
      refine r_ifB_eq 86 hK dX0_stuckAt_40 (fun h40 => ?_) (fun h40 => absurd h40 (by omega))
      refine r_iload_4 hK dX0_stuckAt_86 ?_
      refine r_iret hK hRt dX0_stuckAt_88 ⟨?_, rfl, fun id hid => up_n (by omega)⟩
      rw [show gs.take l.length = gs from by rw [hgs.1]; exact List.take_length]
    | succ d ih =>
      intro k lr hk
      have hkl : k < l.length := by omega
      have hcell := hL.2.2.2.cell (i := k) (by omega)
      have hyn : ns.getD k 0 ≠ n := by have := hlt _ _ hcell; omega
      have hgk := hgs.2 k hkl
      have hgn : l.getD k 0 ≠ n := by have := hlt _ _ hgk; omega
      have hgl : k < gs.length := by rw [← hgs.1]; exact hkl
      have hrk := hr k
      rw [hd_drop (by omega)]
      have hit : up g n (.inl (14, [lr, .ref (ns.getD k 0), zI (k : Int), zI mc, .ref 319])) n = some (.inl (14, [lr, .ref (ns.getD k 0), zI (k : Int), zI mc, .ref 319])) := up_s _ _ _
      have hl2' : up g n (.inl (14, [lr, .ref (ns.getD k 0), zI (k : Int), zI mc, .ref 319])) 319 = some (.inl (12, [zI mc, zI ((l.length : Nat) : Int), hd ns .null, ls_ .null ns])) := (up_n (show 319 ≠ n by omega)).trans l3
      have cE : ∀ v, (up g n v) (l.getD k 0) = some (cG (gt gs k)) := fun v => (up_n hgn).trans hgk
      have hm64 : mk (gt gs k) (stkRun (gs.take k) wr b x) < 64 := mk64 (hb _ (gt_mem hgl)).1 hrk
      have hst := stk_at hm64 hwr
      have nx : ∀ lr, Wx K 81 [some (.ref 300), some (zI (x : Int)), some (zI (wr : Int)), some (zI (b : Int)), some (zI ((mk (gt gs k) (stkRun (gs.take k) wr b x) : Nat) : Int)), some (.ref n)] [zI ((stk wr b (mk (gt gs k) (stkRun (gs.take k) wr b x)) : Nat) : Int)] (n + 1) (up g n (.inl (14, [lr, hd (ns.drop (k + 1)) .null, zI ((k + 1 : Nat) : Int), zI mc, .ref 319]))) 1 := by
        intro lr
        have := ih (k + 1) lr (by omega)
        rw [stkRun_take hgl] at this
        refine r_istore_4 hK dX0_stuckAt_81 ?_
        refine r_goto 33 hK dX0_stuckAt_83 ?_
        rw [gt_at hgl] at *
        exact this
      refine r_aload_5 hK dX0_stuckAt_33 ?_
      refine r_callF0 hK (ll_hasNext hK.rel hit hl2' (by omega) (by omega)) lf_X0_309_J28 (hK.px hXK).1.1 (ci := 14) ⟨rfl, rfl⟩ (Rcv.raw hK.rel hit rfl) dX0_stuckAt_35 (fun r n1 f1 hp => ?_)
      obtain ⟨rfl, rfl, rfl⟩ := hp
      refine r_ifB_eq 86 hK dX0_stuckAt_40 (fun h40 => absurd (show k < l.length by omega) h40) (fun h40 => ?_)
      refine r_aload_5 hK dX0_stuckAt_43 ?_
      refine r_callF0 hK (ll_next hK.rel hit hl2' ((up_n hyn).trans hcell) (by cases (ns.drop (k + 1)) <;> rfl) hyn (by omega) (by omega)) lf_X0_314_J28 (hK.px hXK).1.2.1 (ci := 14) ⟨rfl, rfl⟩ (Rcv.raw hK.rel hit rfl) dX0_stuckAt_45 (fun r n1 f1 hp => ?_)
      obtain ⟨rfl, rfl, rfl⟩ := hp
      rw [up_up]
      refine r_cast hK cl_X0_193 (Rcv.raw hK.rel (cE _) rfl) dX0_stuckAt_50 ?_
      refine r_iload_4 hK dX0_stuckAt_53 ?_
      refine r_pV1 hK (ct_gMade hK.rel (cE _) (hb _ (gt_mem hgl)) hrk) lk_X0_317 (Rcv.raw hK.rel (cE _) rfl) dX0_stuckAt_55 ?_
      refine r_istore_4 hK dX0_stuckAt_58 ?_
      refine r_iload_3 hK dX0_stuckAt_60 ?_
      refine r_if_eq 73 hK dX0_stuckAt_61 (by omega) (fun h61 => ?_) (fun h61 => ?_)
      · refine r_iload_4 hK dX0_stuckAt_73 ?_
        refine r_iconstN (c := 1) hK dX0_stuckAt_75 ?_
        refine r_iload_2 hK dX0_stuckAt_76 ?_
        refine r_ishl hK dX0_stuckAt_77 (by omega) (by first | exact sh1 (by omega) | omega) ?_
        refine r_iconst hK dX0_stuckAt_78 ?_
        first | refine r_ixor hK dX0_stuckAt_79 ?_ | refine r_not hK dX0_stuckAt_79 ?_
        first | refine r_iand hK dX0_stuckAt_80 ?_ | refine r_andnot hK dX0_stuckAt_80 (by omega) ?_
        have hb0 : b = 0 := by omega
        have := nx (.ref (ns.getD k 0))
        subst hb0
        rw [← hst.2] at this
        exact this
      · refine r_iload_4 hK dX0_stuckAt_64 ?_
        refine r_iconstN (c := 1) hK dX0_stuckAt_66 ?_
        refine r_iload_2 hK dX0_stuckAt_67 ?_
        refine r_ishl hK dX0_stuckAt_68 (by omega) (by first | exact sh1 (by omega) | omega) ?_
        refine r_ior hK dX0_stuckAt_69 ?_
        refine r_goto 81 hK dX0_stuckAt_70 ?_
        have hb1 : b = 1 := by omega
        have := nx (.ref (ns.getD k 0))
        subst hb1
        rw [← hst.1] at this
        exact this
  have hst := stk_at hx hwr
  have bg : Wx K 19 [some (.ref 300), some (zI (x : Int)), some (zI (wr : Int)), some (zI (b : Int)), none, none] [zI ((stk wr b x : Nat) : Int)] n g 0 := by
    refine r_istore_4 hK dX0_stuckAt_19 ?_
    refine r_aload_0 hK dX0_stuckAt_21 ?_
    refine r_get hK fl_X0_41 dX0_stuckAt_22 (h0) rfl ?_
    refine r_get hK fl_X0_189 dX0_stuckAt_25 (hc) rfl ?_
    refine r_callU0 hK (ll_iterator hK.rel hL l3 hn hll hs) lu_X0_305_J13 (Rcv.raw hK.rel l3 rfl) dX0_stuckAt_28 (fun r n1 f1 hp => ?_)
    obtain ⟨rfl, rfl, rfl⟩ := hp
    refine r_astore_5 hK dX0_stuckAt_31 ?_
    have := lp l.length 0 .null (by omega)
    rw [List.drop_zero] at this
    exact this
  refine r_iload_3 hK dX0_stuckAt_0 ?_
  refine r_if_eq 12 hK dX0_stuckAt_1 (by omega) (fun h1 => ?_) (fun h1 => ?_)
  · refine r_iload_1 hK dX0_stuckAt_12 ?_
    refine r_iconstN (c := 1) hK dX0_stuckAt_13 ?_
    refine r_iload_2 hK dX0_stuckAt_14 ?_
    refine r_ishl hK dX0_stuckAt_15 (by omega) (by first | exact sh1 (by omega) | omega) ?_
    refine r_iconst hK dX0_stuckAt_16 ?_
    first | refine r_ixor hK dX0_stuckAt_17 ?_ | refine r_not hK dX0_stuckAt_17 ?_
    first | refine r_iand hK dX0_stuckAt_18 ?_ | refine r_andnot hK dX0_stuckAt_18 (by omega) ?_
    have hb0 : b = 0 := by omega
    subst hb0
    rw [← hst.2] at bg
    exact bg
  · refine r_iload_1 hK dX0_stuckAt_4 ?_
    refine r_iconstN (c := 1) hK dX0_stuckAt_5 ?_
    refine r_iload_2 hK dX0_stuckAt_6 ?_
    refine r_ishl hK dX0_stuckAt_7 (by omega) (by first | exact sh1 (by omega) | omega) ?_
    refine r_ior hK dX0_stuckAt_8 ?_
    refine r_goto 19 hK dX0_stuckAt_9 ?_
    have hb1 : b = 1 := by omega
    subst hb1
    rw [← hst.1] at bg
    exact bg
theorem ct_xStuckAt {G : GT} {Rel : Nat → Hp → Hp → Prop} (hP : Rel = RelP) (hX : GX G) {n : Nat} {f : Hp} {x wr : Nat} {o : Bool} {pl : Int} {w : Nat} {l : List Nat} {gs : List Gt} (h0 : f 300 = some (x0C pl w)) (h : CC f 318 319 l gs) (hb : ∀ q ∈ gs, gB q) (hx : x < 64) (hwr : wr < 6) : Ct G Rel yX0_stuckAt cX0_stuckAt 6 (some .int) 6 1 [.ref 300, zI (x : Int), zI (wr : Int), zI (((if o then 1 else 0) : Nat) : Int)] n f (Pg (zI ((stkRun gs wr (if o then 1 else 0) x : Nat) : Int)) n f) := by
  subst hP
  obtain ⟨c1, c2, c3, c4⟩ := h
  refine Ct.lift (fun g hg hn0 h300 => ?_)
  have hg' := hg
  obtain ⟨h1, ow, h2, h3, h4⟩ := hg
  refine (rw_stuckAt RelId_ok hX hn0 (h1 300 _ h0 rfl) (h1 318 _ c1 rfl) (h2 319 _ c2 rfl).ll c4 (c3.raw (n := n) h1) hb hx hwr).mono ?_
  rintro r n' g' ⟨rfl, rfl, hfr⟩ hn'
  exact ⟨f, ⟨rfl, by omega, rfl⟩, hg'.frame hn0 hfr (by omega)⟩
