set_option maxRecDepth 100000
/-! ===== BackLogic.like: both ways to count ===== -/
def cdF (g : Nat → Nat) : Nat → Nat
  | 0 => 0
  | v + 1 => cdF g v + g v * 4 ^ v
theorem cdF_lt {g : Nat → Nat} : ∀ w, (∀ v, v < w → g v < 4) → cdF g w < 4 ^ w
  | 0, _ => Nat.lt_succ_self 0
  | w + 1, h => by
    have h1 := cdF_lt w (fun v hv => h v (by omega))
    have h2 := h w (by omega)
    have h3 : g w * 4 ^ w ≤ 3 * 4 ^ w := Nat.mul_le_mul_right _ (by omega)
    show cdF g w + g w * 4 ^ w < 4 ^ (w + 1)
    rw [Nat.pow_succ]; omega
theorem cdF_at {g : Nat → Nat} {v : Nat} : ∀ w, v < w → (∀ u, u < w → g u < 4) → cdF g w / 4 ^ v % 4 = g v
  | 0, hv, _ => by omega
  | w + 1, hv, h => by
    show (cdF g w + g w * 4 ^ w) / 4 ^ v % 4 = g v
    have hp : 0 < 4 ^ v := Nat.pow_pos (by decide)
    by_cases c : v = w
    · subst c
      have h1 := cdF_lt (g := g) v (fun u hu => h u (by omega))
      rw [Nat.add_mul_div_right _ _ hp, Nat.div_eq_of_lt h1, Nat.zero_add]
      exact Nat.mod_eq_of_lt (h v (by omega))
    · have e : 4 ^ w = 4 ^ (w - v - 1) * 4 * 4 ^ v := by
        rw [Nat.mul_assoc, ← Nat.pow_succ', ← Nat.pow_add]; congr 1; omega
      rw [e, ← Nat.mul_assoc, Nat.add_mul_div_right _ _ hp, ← Nat.mul_assoc, Nat.add_mul_mod_self_right]
      exact cdF_at w (by omega) (fun u hu => h u (by omega))
theorem cdF_ext {g h : Nat → Nat} : ∀ w, (∀ v, v < w → g v = h v) → cdF g w = cdF h w
  | 0, _ => rfl
  | w + 1, e => by
    show cdF g w + g w * 4 ^ w = cdF h w + h w * 4 ^ w
    rw [cdF_ext w (fun v hv => e v (by omega)), e w (by omega)]
/-- all ways, as codes -/
def rnQ (w : Nat) : Nat → Nat → Nat → Nat → List Nat
  | 0, _, _, c => [c]
  | m + 1, wire, had, c => (List.range w).flatMap (fun k => if had.testBit k = true then [] else rnQ w m (wire + 1) (had ||| (1 <<< k)) (c + k * 4 ^ wire))
def bS (P : Nat → Bool) (l : List Nat) : Nat := (l.map (fun c => if P c = true then 1 else 0)).sum
theorem bS_app (P : Nat → Bool) (a b : List Nat) : bS P (a ++ b) = bS P a + bS P b := by unfold bS; rw [List.map_append, List.sum_append]
theorem bS_fm {P : Nat → Bool} {F : Nat → List Nat} {G : Nat → Nat} : ∀ (l : List Nat), (∀ k ∈ l, bS P (F k) = G k) → bS P (l.flatMap F) = (l.map G).sum
  | [], _ => rfl
  | k :: l, h => by
    rw [List.flatMap_cons, bS_app, List.map_cons, List.sum_cons, h k List.mem_cons_self, bS_fm l (fun x hx => h x (List.mem_cons_of_mem _ hx))]
theorem bS_perm {P : Nat → Bool} {a b : List Nat} (h : a.Perm b) : bS P a = bS P b := by
  induction h with
  | nil => rfl
  | cons x _ ih => unfold bS at ih ⊢; rw [List.map_cons, List.map_cons, List.sum_cons, List.sum_cons, ih]
  | swap x y l => unfold bS; simp only [List.map_cons, List.sum_cons]; omega
  | trans _ _ ih1 ih2 => rw [ih1, ih2]
theorem rnC_Q {w : Nat} {P : (Nat → Nat) → Bool} {P' : Nat → Bool} (hw : w ≤ 4) (hP : ∀ g, (∀ v, v < w → g v < 4) → P g = P' (cdF g w)) : ∀ m wire had g, wire + m = w → (∀ v, v < wire → g v < 4) → rnC w P m wire had g = bS P' (rnQ w m wire had (cdF g wire))
  | 0, wire, had, g, hm, hg => by
    have ew : wire = w := hm
    subst ew
    show (if P g = true then 1 else 0) = bS P' [cdF g wire]
    rw [hP g hg]
    unfold bS
    simp
  | m + 1, wire, had, g, hm, hg => by
    show ((List.range w).map _).sum = bS P' ((List.range w).flatMap _)
    rw [bS_fm (G := fun k => if had.testBit k = true then 0 else rnC w P m (wire + 1) (had ||| (1 <<< k)) (upN g wire k))]
    intro k hk
    have hk4 := List.mem_range.mp hk
    by_cases c : had.testBit k = true
    · rw [if_pos c, if_pos c]; rfl
    · rw [if_neg c, if_neg c]
      rw [rnC_Q hw hP m (wire + 1) (had ||| (1 <<< k)) (upN g wire k) (by omega) (fun v hv => by
        unfold upN
        split
        · omega
        · exact hg v (by omega))]
      have e : cdF (upN g wire k) (wire + 1) = cdF g wire + k * 4 ^ wire := by
        show cdF (upN g wire k) wire + upN g wire k wire * 4 ^ wire = _
        rw [upN_s, cdF_ext wire (fun v hv => upN_n (by omega))]
      rw [e]
theorem rn_b : ((List.range 5).all fun w => (rnQ w w 0 0 0).isPerm ((List.range (facN w)).map (fun way => cdF (dcG w way) w))) = true := by decide +kernel
theorem lkF_b {w : Nat} {p q : Nat → Nat} {P' : Nat → Bool} (hP : ∀ g, (∀ v, v < w → g v < 4) → rnmOK w p q g = P' (cdF g w)) (hd : ∀ way v, way < facN w → v < w → dcG w way v < 4) : ∀ k, k ≤ facN w → lkF w p q k = bS P' ((List.range k).map (fun way => cdF (dcG w way) w))
  | 0, _ => rfl
  | k + 1, hk => by
    rw [List.range_succ, List.map_append, bS_app, ← lkF_b hP hd k (by omega)]
    show (if rnmOK w p q (dcG w k) = true then lkF w p q k + 1 else lkF w p q k) = lkF w p q k + bS P' [cdF (dcG w k) w]
    rw [hP _ (fun v hv => hd k v (by omega) hv)]
    have e : bS P' [cdF (dcG w k) w] = if P' (cdF (dcG w k) w) = true then 1 else 0 := by unfold bS; simp
    rw [e]
    split <;> rfl
theorem like_eq {w : Nat} (hw : w ≤ 4) {p q g0 : Nat → Nat} : rnC w (rnmOK w p q) w 0 0 g0 = lkF w p q (facN w) := by
  obtain ⟨P', hP'⟩ : ∃ P' : Nat → Bool, P' = fun c => rnmOK w p q (fun v => c / 4 ^ v % 4) := ⟨_, rfl⟩
  have hP : ∀ g, (∀ v, v < w → g v < 4) → rnmOK w p q g = P' (cdF g w) := fun g hg => by rw [hP']; exact rnmOK_congr (fun v hv => (cdF_at w hv hg).symm)
  rw [rnC_Q hw hP w 0 0 g0 (by omega) (fun v hv => absurd hv (Nat.not_lt_zero _)), lkF_b hP (fun way v h1 h2 => by have := (dc_ok hw h1 h2).2.1; omega) (facN w) (Nat.le_refl _)]
  have := all_r rn_b (show w < 5 by omega)
  exact bS_perm (List.isPerm_iff.mp this)
theorem WO.goe {f : Hp} {w : Nat} {gs : List Gt} {pa : List (List Gt)} {sl : Nat → Option (List Gt)} {ni no : Nat} {v p : Nat → Nat} {tp : Nat} {T : Nat → Nat} {pl : Int} (h : WO f w gs pa sl ni no v p tp T pl) (hh : Nat → Value) : KE [357] f (up f 357 (.inr (0, 4, hh))) ∧ WO (up f 357 (.inr (0, 4, hh))) w gs pa sl ni no v p tp T pl := by
  have hk : KE [357] f (up f 357 (.inr (0, 4, hh))) := KE.up1 (by decide) (fun q => h.ng (by decide) q)
  refine ⟨hk, h.ke hk (fun x hx => by have := List.mem_singleton.mp hx; omega) (Or.inl (by decide)) (Or.inl (fun x _ _ z => by have := List.mem_singleton.mp z; omega)) (Or.inl (fun x _ _ z => by have := List.mem_singleton.mp z; omega)) (Or.inl (fun x _ _ z => by have := List.mem_singleton.mp z; omega)) (Or.inr ?_)⟩
  obtain ⟨⟨a, h1⟩, ⟨b, h2⟩, ⟨c, h3⟩, -⟩ := h.2.2.2.2.2.2.2.2.2.2.2
  exact ⟨⟨a, (up_n (by decide)).trans h1⟩, ⟨b, (up_n (by decide)).trans h2⟩, ⟨c, (up_n (by decide)).trans h3⟩, hh, up_s _ _ _⟩
theorem rnU_le : ∀ w, w < 5 → rnU w ≤ 8192 := by decide
set_option maxHeartbeats 4000000 in
theorem ct_xLike {G : GT} {Rel : Nat → Hp → Hp → Prop} (hR : RelOK Rel) (hP : Rel = RelP) (hX : GX G) {n : Nat} {f : Hp} {w : Nat} {gs : List Gt} {pa : List (List Gt)} {sl : Nat → Option (List Gt)} {ni no : Nat} {v p : Nat → Nat} {tp : Nat} {T : Nat → Nat} {pl z : Int} (hz : inR z) (h : WO f w gs pa sl ni no v p tp T pl) (hw : w ≤ 4) (ho : ∀ q ∈ gs, gok w q) (hso : ∀ s hs, s < 3 → sl s = some hs → ∀ g ∈ hs, gok w g) : Ct G Rel yX0_like cX0_like 2 (some .int) (14) (8192) [.ref 300, zI z] n (f) (Qw (zI (likeS w gs sl z)) [357] n f (fun f' => WO f' w gs pa sl ni no v p tp T pl)) := by
  refine ct_intro [some (.ref 300), some (zI z)] hR rfl (Nat.le_of_ble_eq_true rfl) ?_
  intro K hG hRel hK hRt hnm
  have hQ : kRel K = RelP := by rw [hRel]; exact hP
  have hXK : GX (kG K) := by rw [hG]; exact hX
  obtain ⟨h0, hPW, ⟨l, hc⟩, hCT, hWp, hs, hWpr, hWt, hWf, hWsh, hWte, -, -, -, ⟨go0, hgo⟩⟩ := id h
  have hU := rnU_le w (by omega)
  refine r_aload_0 hK dX0_like_0 ?_
  refine r_iload_1 hK dX0_like_1 ?_
  refine r_callV1 hK (ct_xIsHeld hK.rel hz h0 hs) lk_X0_363 (Rcv.raw hK.rel h0 rfl) dX0_like_2 (fun r n1 f1 hp => ?_)
  obtain ⟨rfl, rfl, hp⟩ := hp
  rcases hp with ⟨s, hg, c, hv, z1, z2, z3, z4, z5, ⟨z6, ll, l2, hll, hcc⟩, rfl⟩ | ⟨z1, rfl⟩
  · subst z1
    refine r_if_eq 18 hK dX0_like_5 (by decide) (fun q => absurd q (by decide)) (fun _ => ?_)
    refine r_aload_0 hK dX0_like_8 ?_
    refine r_iload_1 hK dX0_like_9 ?_
    refine r_iconstN (c := 0) hK dX0_like_10 ?_
    refine r_iconstN (c := 0) hK dX0_like_11 ?_
    refine r_callV3 hK (ct_xRenames hK.rel hQ hXK hw ho (hso s hg z2 z3) z2 z5 w 0 0 n1 f1 (fun _ => 0) go0 l l2 ll (by omega) (by decide) h0 hc hcc z4 hgo ⟨z6, hll⟩ (fun q => h.ng (by decide) q) (fun v hv => absurd hv (Nat.not_lt_zero _))) lk_X0_369 (Rcv.raw hK.rel h0 rfl) dX0_like_12 (fun r n2 f2 hp => ?_) (hu := by omega) (hdp := by omega)
    obtain ⟨rfl, hn2, h', rfl, -⟩ := hp
    refine r_goto 19 hK dX0_like_15 ?_
    refine r_iret hK hRt dX0_like_19 ⟨?_, hn2, (h.goe h').1, (h.goe h').2⟩ (by omega)
    rw [like_eq hw]
    unfold likeS
    rw [if_pos (by omega), show ((s : Nat) : Int).toNat = s from rfl, z3]
  · refine r_if_eq 18 hK dX0_like_5 (by decide) (fun _ => ?_) (fun q => absurd rfl q)
    refine r_iconst hK dX0_like_18 ?_
    refine r_iret hK hRt dX0_like_19 ⟨?_, Nat.le_refl _, KE.rf _ f1, h⟩
    unfold likeS
    by_cases c : 0 ≤ z ∧ z ≤ 2
    · rw [if_pos c]
      obtain ⟨k, rfl⟩ : ∃ s : Nat, z = (s : Int) := ⟨z.toNat, by omega⟩
      rw [show ((k : Nat) : Int).toNat = k from rfl]
      cases hsl : sl k with
      | none => rfl
      | some g => exact absurd ⟨g, k, rfl, by omega, hsl⟩ z1
    · rw [if_neg c]
