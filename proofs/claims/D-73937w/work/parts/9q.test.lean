set_option maxRecDepth 100000
/-! ===== BackLogic: test ===== -/
theorem WO.tst {f f' : Hp} {w : Nat} {gs : List Gt} {pa : List (List Gt)} {sl : Nat → Option (List Gt)} {ni no : Nat} {v p : Nat → Nat} {tp : Nat} {T : Nat → Nat} {pl : Int} (h : WO f w gs pa sl ni no v p tp T pl) (hk : KE [347, 348, 349] f f') (hf : Wte f') : WO f' w gs pa sl ni no v p tp T pl := by
  have g : ∀ x, x ∈ [347, 348, 349] → 347 ≤ x ∧ x ≤ 349 := fun x hx => by simp at hx; omega
  exact h.ke hk (fun x hx => by have := g x hx; omega) (Or.inl ⟨by decide, by decide⟩) (Or.inl (fun x a b z => by have := g x z; omega)) (Or.inl (fun x a b z => by have := g x z; omega)) (Or.inr hf) (Or.inl (fun x a b z => by have := g x z; omega))
theorem KE.up3 {f : Hp} {w : Nat} {gs : List Gt} {pa : List (List Gt)} {sl : Nat → Option (List Gt)} {ni no : Nat} {v p : Nat → Nat} {tp : Nat} {T : Nat → Nat} {pl : Int} {k : Nat} {e : E_} (h : WO f w gs pa sl ni no v p tp T pl) (hk : k = 347 ∨ k = 348 ∨ k = 349) : KE [347, 348, 349] f (up f k e) := by
  refine (KE.up1 (by omega) (fun q => h.ng ?_ q)).mono (fun x hx => by rw [List.mem_singleton.mp hx]; simp; omega)
  rcases hk with z | z | z <;> subst z <;> decide
theorem scn_ext {g g' : Nat → Option (List Nat)} : ∀ d x, (∀ y, x ≤ y → y < x + d → g y = g' y) → scn g d x = scn g' d x
  | 0, x, _ => rfl
  | d + 1, x, h => by
    show (match g x with | some l => some l | none => scn g d (x + 1)) = (match g' x with | some l => some l | none => scn g' d (x + 1))
    rw [h x (Nat.le_refl _) (by omega), scn_ext d (x + 1) (fun y a b => h y (by omega) (by omega))]
theorem tgo_ext {S S' : Nat → Nat} {R all : Nat} (h : ∀ r, r < R → S r = S' r) : ∀ k x had, tgo S R all k x had = tgo S' R all k x had
  | 0, x, had => rfl
  | k + 1, x, had => scn_ext _ _ (fun y a b => by
    show (tgo S R all k (y + 1) (had ||| S y)).map _ = (tgo S' R all k (y + 1) (had ||| S' y)).map _
    rw [h y (by omega), tgo_ext h k])
theorem allS_or {S : Nat → Nat} (r : Nat) : allS S (r + 1) = allS S r ||| S r := rfl
set_option maxHeartbeats 4000000 in
theorem ct_xTest {G : GT} {Rel : Nat → Hp → Hp → Prop} (hR : RelOK Rel) (hP : Rel = RelP) (hX : GX G) {n : Nat} {f : Hp} {w Ms : Nat} {gs : List Gt} {pa : List (List Gt)} {sl : Nat → Option (List Gt)} {ni no : Nat} {v p : Nat → Nat} {tp : Nat} {T : Nat → Nat} {pl z : Int} {lr : List Nat} {S : Nat → Nat} (hz : inR z) (h : WO f w gs pa sl ni no v p tp T pl) (hw : w ≤ 4) (ho : ∀ q ∈ gs, gok w q) (hS : S = fun r => senF gs r (2 * w)) (hMs : Ms ≤ 8) (hl : tgo S (rN w) (allS S (rN w)) Ms 0 0 = some lr) (hmin : ∀ M, M < Ms → tgo S (rN w) (allS S (rN w)) M 0 0 = none) : Ct G Rel yX0_test cX0_test 3 (some .int) (12) (144) [.ref 300, zI z] n (f) (Qw (zI (if z = -1 then (Ms : Int) else if 0 ≤ z ∧ z < Ms then ((lr.getD z.toNat 0 : Nat) : Int) else -1)) [347, 348, 349] n f (fun f' => WO f' w gs pa sl ni no v p tp T pl)) := by
  refine ct_intro [some (.ref 300), some (zI z), none] hR rfl (Nat.le_of_ble_eq_true rfl) ?_
  intro K hG hRel hK hRt hnm
  have hQ : kRel K = RelP := by rw [hRel]; exact hP
  have hXK : GX (kG K) := by rw [hG]; exact hX
  have h4 := rN4 hw
  have ho4 : ∀ g ∈ gs, gok 4 g := fun g hg => gok4 hw (ho g hg)
  have hSl : ∀ x, S x < 256 := fun x => by rw [hS]; exact Nat.lt_of_lt_of_le (senF_lt gs x (2 * w)) (rN_le (k := 8) (by omega))
  have hAl : ∀ x, allS S x < 256 := fun x => allS_lt (k := 8) x (fun r _ => hSl r)
  obtain ⟨h0, -, -, -, -, -, -, -, -, -, ⟨R0, all0, M0, S0, ch0, hX0, hS0⟩, -⟩ := id h
  have lp : ∀ (d x n1 u : Nat) (f1 : Hp) (S1 ch1 : Nat → Nat), x + d = rN w → n ≤ n1 → u ≤ 9 * x → KE [347, 348, 349] f f1 → WO f1 w gs pa sl ni no v p tp T pl → CX f1 347 348 349 (rN w) (allS S x) M0 S1 ch1 → (∀ y, S1 y < 65536) → (∀ y, y < x → S1 y = S y) → Wx K 13 [some (.ref 300), some (zI z), some (zI (x : Int))] [] n1 f1 u := by
    intro d
    induction d with
    | zero =>
      intro x n1 u f1 S1 ch1 hx hn1 hu hk1 hW1 hX1 hS1 hSv
      have ex : x = rN w := hx
      subst ex
      have g0 := hW1.1
      have e := fun M => tgo_ext (S := S1) (S' := S) (R := rN w) (all := allS S (rN w)) hSv M 0 0
      refine r_iload_2 hK dX0_test_13 ?_
      refine r_aload_0 hK dX0_test_14 ?_
      refine r_pV0 hK (ct_xRows hK.rel g0 hw) lk_X0_151 (Rcv.raw hK.rel g0 rfl) dX0_test_15 ?_
      refine r_icmp_ge 40 hK dX0_test_18 (by omega) (by omega) (fun h18 => ?_) (fun h18 => ?_)
      · refine r_aload_0 hK dX0_test_40 ?_
        refine r_get hK fl_X0_72 dX0_test_41 (g0) rfl ?_
        refine r_callV0 hK (ct_tLays hK.rel hX1 (by omega) hS1 (by have := hAl (rN w); omega) hMs (by rw [e]; exact hl) (fun M hM => by rw [e]; exact hmin M hM)) lk_X0_331 (Rcv.raw hK.rel hX1.1 rfl) dX0_test_44 (fun r n2 f2 hp => ?_) (hu := by omega)
        obtain ⟨rfl, rfl, ch', hf2, hch⟩ := hp
        have ka := KE.up3 (k := 347) (e := .inl (8, [.ref 348, .ref 349, zI ((rN w : Nat) : Int), zI ((allS S (rN w) : Nat) : Int), zI (Ms : Int)])) hW1 (Or.inl rfl)
        have hXa : CX (up f1 347 (.inl (8, [.ref 348, .ref 349, zI ((rN w : Nat) : Int), zI ((allS S (rN w) : Nat) : Int), zI (Ms : Int)]))) 347 348 349 (rN w) (allS S (rN w)) Ms S1 ch1 := ⟨up_s _ _ _, (up_n (by decide)).trans hX1.2.1, (up_n (by decide)).trans hX1.2.2.1, by decide⟩
        have hWa := hW1.tst ka ⟨_, _, _, _, _, hXa, hS1⟩
        have kb := KE.up3 (k := 349) (e := .inr (0, 8, fun j => zI ((ch' j : Nat) : Int))) hWa (Or.inr (Or.inr rfl))
        have hXb : CX f2 347 348 349 (rN w) (allS S (rN w)) Ms S1 ch' := by rw [hf2]; exact hXa.ch
        rw [← hf2] at kb
        have hWb := hWa.tst kb ⟨_, _, _, _, _, hXb, hS1⟩
        have hk2 := (hk1.tr ka).tr kb
        refine r_istore_2 hK dX0_test_47 ?_
        refine r_iload_1 hK dX0_test_48 ?_
        refine r_iconst hK dX0_test_49 ?_
        refine r_icmp_ne 57 hK dX0_test_50 (by omega) (by omega) (fun h50 => ?_) (fun h50 => ?_)
        · refine r_iload_1 hK dX0_test_57 ?_
          refine r_iconstN (c := 0) hK dX0_test_58 ?_
          refine r_iload_2 hK dX0_test_59 ?_
          refine r_iconstN (c := 1) hK dX0_test_60 ?_
          refine r_isub hK dX0_test_61 ?_
          refine r_pS3 hK (ct_isIn0 hK.rel hz (by omega) (by omega)) lk_X0_155 dX0_test_62 ?_
          refine r_ifB_eq 79 hK dX0_test_65 (fun h65 => ?_) (fun h65 => ?_)
          · refine r_iconst hK dX0_test_79 ?_
            refine r_iret hK hRt dX0_test_80 ⟨?_, by omega, hk2, hWb⟩ (by omega)
            rw [if_neg (by omega), if_neg (by omega)]
          · obtain ⟨k, rfl⟩ : ∃ s : Nat, z = (s : Int) := ⟨z.toNat, by omega⟩
            refine r_aload_0 hK dX0_test_68 ?_
            refine r_get hK fl_X0_72 dX0_test_69 (hWb.1) rfl ?_
            refine r_iload_1 hK dX0_test_72 ?_
            refine r_pV1 hK (ct_tChosen hK.rel hXb (x := k) (by omega)) lk_X0_333 (Rcv.raw hK.rel hXb.1 rfl) dX0_test_73 ?_
            refine r_goto 80 hK dX0_test_76 ?_
            refine r_iret hK hRt dX0_test_80 ⟨?_, by omega, hk2, hWb⟩ (by omega)
            rw [if_neg (by omega), if_pos (by omega), hch k (by omega)]; rfl
        · refine r_iload_2 hK dX0_test_53 ?_
          refine r_goto 80 hK dX0_test_54 ?_
          refine r_iret hK hRt dX0_test_80 ⟨?_, by omega, hk2, hWb⟩ (by omega)
          rw [if_pos (by omega)]
      · omega --!
    | succ d ih =>
      intro x n1 u f1 S1 ch1 hx hn1 hu hk1 hW1 hX1 hS1 hSv
      obtain ⟨g0, -, ⟨l1, hc1⟩, -⟩ := id hW1
      have hsx : senF gs x (2 * w) = S x := by rw [hS]
      refine r_iload_2 hK dX0_test_13 ?_
      refine r_aload_0 hK dX0_test_14 ?_
      refine r_pV0 hK (ct_xRows hK.rel g0 hw) lk_X0_151 (Rcv.raw hK.rel g0 rfl) dX0_test_15 ?_
      refine r_icmp_ge 40 hK dX0_test_18 (by omega) (by omega) (fun h18 => ?_) (fun h18 => ?_)
      · omega --!
      · refine r_aload_0 hK dX0_test_21 ?_
        refine r_get hK fl_X0_72 dX0_test_22 (g0) rfl ?_
        refine r_iload_2 hK dX0_test_25 ?_
        refine r_aload_0 hK dX0_test_26 ?_
        refine r_iload_2 hK dX0_test_27 ?_
        refine r_callV1 hK (ct_xSeen hK.rel hQ hXK g0 hw hc1 ho4 (x := x) (by omega)) lk_X0_324 (Rcv.raw hK.rel g0 rfl) dX0_test_28 (fun r n2 f2 hp => ?_) (hu := by omega)
        obtain ⟨rfl, hn2, rfl⟩ := hp
        rw [hsx]
        refine r_callV2 hK (ct_tAdds hK.rel hX1 (x := x) (s := S x) (by omega)) lk_X0_327 (Rcv.raw hK.rel hX1.1 rfl) dX0_test_31 (fun r n3 f3 hp => ?_) (hu := by omega)
        obtain ⟨rfl, rfl, hf3⟩ := hp
        have ka := KE.up3 (k := 348) (e := .inr (0, 16, fun j => zI ((upN S1 x (S x) j : Nat) : Int))) hW1 (Or.inr (Or.inl rfl))
        have hS2 : ∀ y, upN S1 x (S x) y < 65536 := fun y => by
          unfold upN; split
          · have := hSl x; omega
          · exact hS1 y
        have hXa : CX (up f2 348 (.inr (0, 16, fun j => zI ((upN S1 x (S x) j : Nat) : Int)))) 347 348 349 (rN w) (allS S x) M0 (upN S1 x (S x)) ch1 := ⟨(up_n (by decide)).trans hX1.1, up_s _ _ _, (up_n (by decide)).trans hX1.2.2.1, by decide⟩
        have hWa := hW1.tst ka ⟨_, _, _, _, _, hXa, hS2⟩
        have kb := KE.up3 (k := 347) (e := .inl (8, [.ref 348, .ref 349, zI ((rN w : Nat) : Int), zI ((allS S x ||| S x : Nat) : Int), zI (M0 : Int)])) hWa (Or.inl rfl)
        have hXb : CX f3 347 348 349 (rN w) (allS S (x + 1)) M0 (upN S1 x (S x)) ch1 := by rw [hf3]; exact ⟨up_s _ _ _, (up_n (by decide)).trans hXa.2.1, (up_n (by decide)).trans hXa.2.2.1, by decide⟩
        rw [← hf3] at kb
        have hWb := hWa.tst kb ⟨_, _, _, _, _, hXb, hS2⟩
        first | refine r_incN_2 hK dX0_test_34 ?_ | refine r_iinc_2 hK dX0_test_34 ?_
        refine r_goto 13 hK dX0_test_37 ?_
        refine ih (x + 1) n3 _ f3 _ ch1 (by omega) (by omega) (by omega) ((hk1.tr ka).tr kb) hWb hXb hS2 (fun y hy => ?_)
        unfold upN
        by_cases c : y = x
        · rw [if_pos c, c]
        · rw [if_neg c]; exact hSv y (by omega)
  refine r_aload_0 hK dX0_test_0 ?_
  refine r_get hK fl_X0_72 dX0_test_1 (h0) rfl ?_
  refine r_aload_0 hK dX0_test_4 ?_
  refine r_pV0 hK (ct_xRows hK.rel h0 hw) lk_X0_151 (Rcv.raw hK.rel h0 rfl) dX0_test_5 ?_
  refine r_callV1 hK (ct_tBegins hK.rel hX0.1) lk_X0_322 (Rcv.raw hK.rel hX0.1 rfl) dX0_test_8 (fun r n2 f2 hp => ?_)
  obtain ⟨rfl, rfl, hf2⟩ := hp
  have ka := KE.up3 (k := 347) (e := .inl (8, [.ref 348, .ref 349, zI ((rN w : Nat) : Int), zI ((0 : Nat) : Int), zI (M0 : Int)])) h (Or.inl rfl)
  rw [← hf2] at ka
  have hXa : CX f2 347 348 349 (rN w) (allS S 0) M0 S0 ch0 := by rw [hf2]; exact ⟨up_s _ _ _, (up_n (by decide)).trans hX0.2.1, (up_n (by decide)).trans hX0.2.2.1, by decide⟩
  refine r_iconstN (c := 0) hK dX0_test_11 ?_
  refine r_istore_2 hK dX0_test_12 ?_
  exact lp (rN w) 0 n2 0 f2 S0 ch0 (by omega) (Nat.le_refl _) (by omega) ka (h.tst ka ⟨_, _, _, _, _, hXa, hS0⟩) hXa hS0 (fun y hy => absurd hy (Nat.not_lt_zero _))
