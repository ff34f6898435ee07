set_option maxRecDepth 100000
/-! ===== class Tokens ===== -/
/-- names tell letters: a number of letters has one reading -/
theorem nm_pos {B : Nat → Nat} {i : Nat} : ∀ m, (∀ j, j < m + 1 → isL (B (i + j))) → 0 < nmF B i (m + 1) := fun m h => by
  have := h m (by omega)
  show 0 < 27 * nmF B i m + (B (i + m) - 96)
  omega
theorem nm_inj {B B' : Nat → Nat} {i i' : Nat} : ∀ m m', (∀ j, j < m → isL (B (i + j))) → (∀ j, j < m' → isL (B' (i' + j))) → nmF B i m = nmF B' i' m' → m = m' ∧ ∀ j, j < m → B (i + j) = B' (i' + j)
  | 0, 0, _, _, _ => ⟨rfl, fun j hj => absurd hj (Nat.not_lt_zero _)⟩
  | 0, m' + 1, _, h', e => by have := nm_pos m' h'; rw [← e] at this; exact absurd this (Nat.lt_irrefl _)
  | m + 1, 0, h, _, e => by have := nm_pos m h; rw [e] at this; exact absurd this (Nat.lt_irrefl _)
  | m + 1, m' + 1, h, h', e => by
    have e : 27 * nmF B i m + (B (i + m) - 96) = 27 * nmF B' i' m' + (B' (i' + m') - 96) := e
    have h1 := h m (by omega)
    have h2 := h' m' (by omega)
    obtain ⟨r1, r2⟩ := nm_inj m m' (fun j hj => h j (by omega)) (fun j hj => h' j (by omega)) (by omega)
    refine ⟨by omega, fun j hj => ?_⟩
    by_cases c : j = m
    · subst c; subst r1; omega
    · exact r2 j (by omega)
theorem nm_ext {B B' : Nat → Nat} {i i' : Nat} : ∀ m, (∀ j, j < m → B (i + j) = B' (i' + j)) → nmF B i m = nmF B' i' m
  | 0, _ => rfl
  | m + 1, h => by
    show 27 * nmF B i m + (B (i + m) - 96) = 27 * nmF B' i' m + (B' (i' + m) - 96)
    rw [nm_ext m (fun j hj => h j (by omega)), h m (by omega)]
def TKo (f : Hp) (tp mn : Nat) : Prop := f 302 = some (.inl (2, [.ref 304, .ref 305, zI (tp : Int), .ref 306, .ref 307, .ref 308, .ref 309, zI (mn : Int)]))
def TKw (f : Hp) : Prop := f 304 = some (.inl (18, [.ref 303, zI ((0 : Nat) : Int)])) ∧ f 303 = some (.inr (5, 4, fun j => .ref (6 + j)))
def TKt (f : Hp) (T : Nat → Nat) : Prop := f 305 = some (.inr (1, 2000, fun j => zI (sx (T j))))
def TKa (f : Hp) (S A B W : Nat → Value) : Prop := f 306 = some (.inr (1, 2001, S)) ∧ f 307 = some (.inr (2, 2001, A)) ∧ f 308 = some (.inr (2, 2001, B)) ∧ f 309 = some (.inr (2, 2001, W))
theorem sx_eq {b c : Nat} (hb : b < 256) (hc : c < 128) : sx b = (c : Int) ↔ b = c := by unfold sx; split <;> omega
theorem sx_Bt {tp : Nat} {T : Nat → Nat} (k : Nat) : (if k < tp then sx (T k) else 0) = sx (Bt tp T k) := by
  unfold Bt
  split
  · rfl
  · rfl
theorem sx_in {b lo hi : Nat} (hb : b < 256) (hh : hi < 128) : ((lo : Int) ≤ sx b ∧ sx b ≤ (hi : Int)) ↔ (lo ≤ b ∧ b ≤ hi) := by unfold sx; split <;> omega
set_option maxHeartbeats 4000000 in
theorem ct_kAt {G : GT} {Rel : Nat → Hp → Hp → Prop} (hR : RelOK Rel) {n : Nat} {f : Hp} {tp mn k : Nat} {T : Nat → Nat} (hO : TKo f tp mn) (hT : TKt f T) (htp : tp ≤ 2000) (hk : k ≤ 2000) : Ct G Rel yX2_at cX2_at 2 (some .int) (1) (0) [.ref 302, zI (k : Int)] n (f) (Pu (zI (sx (Bt tp T k))) n f) := by
  refine ct_intro [some (.ref 302), some (zI (k : Int))] hR rfl (Nat.le_of_ble_eq_true rfl) ?_
  intro K hG hRel hK hRt hnm
  refine r_iload_1 hK dX2_at_0 ?_
  refine r_aload_0 hK dX2_at_1 ?_
  refine r_get hK fl_X2_46 dX2_at_2 (hO) rfl ?_
  refine r_icmp_ge 17 hK dX2_at_5 (by omega) (by omega) (fun h5 => ?_) (fun h5 => ?_)
  · refine r_iconstN (c := 0) hK dX2_at_17 ?_
    exact r_iret hK hRt dX2_at_18 ⟨by rw [← sx_Bt, if_neg (by omega)]; rfl, rfl, rfl⟩
  · refine r_aload_0 hK dX2_at_8 ?_
    refine r_get hK fl_X2_29 dX2_at_9 (hO) rfl ?_
    refine r_iload_1 hK dX2_at_12 ?_
    refine r_bald hK dX2_at_13 hT (by omega) ?_
    refine r_goto 18 hK dX2_at_14 ?_
    exact r_iret hK hRt dX2_at_18 ⟨by rw [← sx_Bt, if_pos (by omega)], rfl, rfl⟩
set_option maxHeartbeats 4000000 in
theorem ct_kDig {G : GT} {Rel : Nat → Hp → Hp → Prop} (hR : RelOK Rel) {n : Nat} {f : Hp} {tp mn k : Nat} {T : Nat → Nat} (hO : TKo f tp mn) (hT : TKt f T) (hT2 : ∀ i, T i < 256) (htp : tp ≤ 2000) (hk : k ≤ 2000) : Ct G Rel yX2_isDigit cX2_isDigit 2 (some .boolean) (2) (0) [.ref 302, zI (k : Int)] n (f) (Pu (zB (isD (Bt tp T k))) n f) := by
  refine ct_intro [some (.ref 302), some (zI (k : Int))] hR rfl (Nat.le_of_ble_eq_true rfl) ?_
  intro K hG hRel hK hRt hnm
  have hb := Bt_lt (n := tp) hT2 k
  have hs := sx_r hb
  have hi := sx_in (lo := 48) (hi := 57) hb (by decide)
  refine r_aload_0 hK dX2_isDigit_0 ?_
  refine r_iload_1 hK dX2_isDigit_1 ?_
  refine r_pV1 hK (ct_kAt hK.rel hO hT htp hk) lk_X2_50 (Rcv.raw hK.rel hO rfl) dX2_isDigit_2 ?_
  refine r_bipushN (c := 48) hK dX2_isDigit_5 ?_
  refine r_icmp_lt 24 hK dX2_isDigit_7 (by omega) (by omega) (fun h7 => ?_) (fun h7 => ?_)
  · refine r_iconstN (c := 0) hK dX2_isDigit_24 ?_
    exact r_zret hK hRt dX2_isDigit_25 rfl ⟨by rw [zB_f (by omega)]; rfl, rfl, rfl⟩
  · refine r_aload_0 hK dX2_isDigit_10 ?_
    refine r_iload_1 hK dX2_isDigit_11 ?_
    refine r_pV1 hK (ct_kAt hK.rel hO hT htp hk) lk_X2_50 (Rcv.raw hK.rel hO rfl) dX2_isDigit_12 ?_
    refine r_bipushN (c := 57) hK dX2_isDigit_15 ?_
    refine r_icmp_gt 24 hK dX2_isDigit_17 (by omega) (by omega) (fun h17 => ?_) (fun h17 => ?_)
    · refine r_iconstN (c := 0) hK dX2_isDigit_24 ?_
      exact r_zret hK hRt dX2_isDigit_25 rfl ⟨by rw [zB_f (by omega)]; rfl, rfl, rfl⟩
    · refine r_iconstN (c := 1) hK dX2_isDigit_20 ?_
      refine r_goto 25 hK dX2_isDigit_21 ?_
      exact r_zret hK hRt dX2_isDigit_25 rfl ⟨by rw [zB_t (by omega)]; rfl, rfl, rfl⟩
set_option maxHeartbeats 4000000 in
theorem ct_kLet {G : GT} {Rel : Nat → Hp → Hp → Prop} (hR : RelOK Rel) {n : Nat} {f : Hp} {tp mn k : Nat} {T : Nat → Nat} (hO : TKo f tp mn) (hT : TKt f T) (hT2 : ∀ i, T i < 256) (htp : tp ≤ 2000) (hk : k ≤ 2000) : Ct G Rel yX2_isLetter cX2_isLetter 2 (some .boolean) (2) (0) [.ref 302, zI (k : Int)] n (f) (Pu (zB (isL (Bt tp T k))) n f) := by
  refine ct_intro [some (.ref 302), some (zI (k : Int))] hR rfl (Nat.le_of_ble_eq_true rfl) ?_
  intro K hG hRel hK hRt hnm
  have hb := Bt_lt (n := tp) hT2 k
  have hs := sx_r hb
  have hi := sx_in (lo := 97) (hi := 122) hb (by decide)
  refine r_aload_0 hK dX2_isLetter_0 ?_
  refine r_iload_1 hK dX2_isLetter_1 ?_
  refine r_pV1 hK (ct_kAt hK.rel hO hT htp hk) lk_X2_50 (Rcv.raw hK.rel hO rfl) dX2_isLetter_2 ?_
  refine r_bipushN (c := 97) hK dX2_isLetter_5 ?_
  refine r_icmp_lt 24 hK dX2_isLetter_7 (by omega) (by omega) (fun h7 => ?_) (fun h7 => ?_)
  · refine r_iconstN (c := 0) hK dX2_isLetter_24 ?_
    exact r_zret hK hRt dX2_isLetter_25 rfl ⟨by rw [zB_f (by omega)]; rfl, rfl, rfl⟩
  · refine r_aload_0 hK dX2_isLetter_10 ?_
    refine r_iload_1 hK dX2_isLetter_11 ?_
    refine r_pV1 hK (ct_kAt hK.rel hO hT htp hk) lk_X2_50 (Rcv.raw hK.rel hO rfl) dX2_isLetter_12 ?_
    refine r_bipushN (c := 122) hK dX2_isLetter_15 ?_
    refine r_icmp_gt 24 hK dX2_isLetter_17 (by omega) (by omega) (fun h17 => ?_) (fun h17 => ?_)
    · refine r_iconstN (c := 0) hK dX2_isLetter_24 ?_
      exact r_zret hK hRt dX2_isLetter_25 rfl ⟨by rw [zB_f (by omega)]; rfl, rfl, rfl⟩
    · refine r_iconstN (c := 1) hK dX2_isLetter_20 ?_
      refine r_goto 25 hK dX2_isLetter_21 ?_
      exact r_zret hK hRt dX2_isLetter_25 rfl ⟨by rw [zB_t (by omega)]; rfl, rfl, rfl⟩
theorem i2b_s : ∀ s : Nat, s < 6 → Value.int (Int32.ofInt (s : Int)).toInt8.toInt32 = zI (s : Int) := by decide +kernel
theorem i2s_x : ∀ b : Nat, b < 256 → Value.int (Int32.ofInt (sx b)).toInt16.toInt32 = zI (sx b) := by decide +kernel
theorem nar_s5 : ∀ s : Nat, s < 6 → narrow .byte (zI (s : Int)) = zI (s : Int) := by decide +kernel
theorem nar_sx : ∀ b : Nat, b < 256 → narrow .short (zI (sx b)) = zI (sx b) := by decide +kernel
theorem nar_sh {x : Nat} (h : x < 2048) : narrow .short (zI (x : Int)) = zI (x : Int) := by
  revert x
  decide +kernel
theorem i2s_n {x : Nat} (h : x < 2048) : Value.int (Int32.ofInt (x : Int)).toInt16.toInt32 = zI (x : Int) := by
  revert x
  decide +kernel
theorem r_i2sN {K : KT} {own : String} {cc : ByteArray} {nL d U pc : Nat} {L : List (Option Value)} {st : List Value} {n : Nat} {f : Hp} {u x : Nat} (hK : Gd K own cc nL d U) (hd : decode cc pc = .ok (.i2s, 1)) (hx : x < 2048) (k : Wx K (pc + 1) L (zI (x : Int) :: st) n f u) : Wx K pc L (zI (x : Int) :: st) n f u := r_i2s hK hd (r_top (i2s_n hx) k)
/-- what isn't the tokens' own is kept -/
def KT_ (f f' : Hp) : Prop := ∀ id, (id < 302 ∨ 309 < id ∨ id = 303 ∨ id = 304 ∨ id = 305) → f' id = f id
set_option maxHeartbeats 4000000 in
theorem ct_kAdd {G : GT} {Rel : Nat → Hp → Hp → Prop} (hR : RelOK Rel) {n : Nat} {f : Hp} {tp mn s a b w : Nat} {S A B W : Nat → Value} (hO : TKo f tp mn) (hA : TKa f S A B W) (hm : mn < 2001) (hs : s < 6) (ha : a ≤ 2000) (hb : b ≤ 2000) (hw : w < 256) : Ct G Rel yX2_add cX2_add 5 none (1) (0) [.ref 302, zI (s : Int), zI (a : Int), zI (b : Int), zI (sx w)] n (f) (fun r n' f' => r = none ∧ n' = n ∧ TKo f' tp (mn + 1) ∧ TKa f' (updV S mn (zI (s : Int))) (updV A mn (zI (a : Int))) (updV B mn (zI (b : Int))) (updV W mn (zI (sx w))) ∧ KT_ f f') := by
  refine ct_intro [some (.ref 302), some (zI (s : Int)), some (zI (a : Int)), some (zI (b : Int)), some (zI (sx w))] hR rfl (Nat.le_of_ble_eq_true rfl) ?_
  intro K hG hRel hK hRt hnm
  obtain ⟨a1, a2, a3, a4⟩ := hA
  refine r_aload_0 hK dX2_add_0 ?_
  refine r_get hK fl_X2_33 dX2_add_1 (hO) rfl ?_
  refine r_aload_0 hK dX2_add_4 ?_
  refine r_get hK fl_X2_54 dX2_add_5 (hO) rfl ?_
  refine r_iload_1 hK dX2_add_8 ?_
  refine r_i2b hK dX2_add_9 ?_
  refine r_top (i2b_s s hs) ?_
  refine r_bast hK dX2_add_10 a1 (by omega) (nar_s5 s hs) ?_
  refine r_aload_0 hK dX2_add_11 ?_
  refine r_get hK fl_X2_36 dX2_add_12 ((by rw [up_n (by decide)]; exact hO)) rfl ?_
  refine r_aload_0 hK dX2_add_15 ?_
  refine r_get hK fl_X2_54 dX2_add_16 ((by rw [up_n (by decide)]; exact hO)) rfl ?_
  refine r_iload_2 hK dX2_add_19 ?_
  refine r_i2sN hK dX2_add_20 (by omega) ?_
  refine r_sast hK dX2_add_21 ((up_n (by decide)).trans a2) (by omega) (nar_sh (by omega)) ?_
  refine r_aload_0 hK dX2_add_22 ?_
  refine r_get hK fl_X2_40 dX2_add_23 ((by rw [up_n (by decide), up_n (by decide)]; exact hO)) rfl ?_
  refine r_aload_0 hK dX2_add_26 ?_
  refine r_get hK fl_X2_54 dX2_add_27 ((by rw [up_n (by decide), up_n (by decide)]; exact hO)) rfl ?_
  refine r_iload_3 hK dX2_add_30 ?_
  refine r_i2sN hK dX2_add_31 (by omega) ?_
  refine r_sast hK dX2_add_32 (by rw [up_n (by decide), up_n (by decide)]; exact a3) (by omega) (nar_sh (by omega)) ?_
  refine r_aload_0 hK dX2_add_33 ?_
  refine r_get hK fl_X2_43 dX2_add_34 ((by rw [up_n (by decide), up_n (by decide), up_n (by decide)]; exact hO)) rfl ?_
  refine r_aload_0 hK dX2_add_37 ?_
  refine r_get hK fl_X2_54 dX2_add_38 ((by rw [up_n (by decide), up_n (by decide), up_n (by decide)]; exact hO)) rfl ?_
  refine r_iload_4 hK dX2_add_41 ?_
  refine r_i2s hK dX2_add_43 ?_
  refine r_top (i2s_x w hw) ?_
  refine r_sast hK dX2_add_44 (by rw [up_n (by decide), up_n (by decide), up_n (by decide)]; exact a4) (by omega) (nar_sx w hw) ?_
  refine r_aload_0 hK dX2_add_45 ?_
  refine r_dup hK dX2_add_46 ?_
  refine r_get hK fl_X2_54 dX2_add_47 ((by rw [up_n (by decide), up_n (by decide), up_n (by decide), up_n (by decide)]; exact hO)) rfl ?_
  refine r_iconstN (c := 1) hK dX2_add_50 ?_
  first | refine r_iaddN hK dX2_add_51 ?_ | refine r_iadd hK dX2_add_51 ?_
  refine r_put hK fl_X2_54 dX2_add_52 ((by rw [up_n (by decide), up_n (by decide), up_n (by decide), up_n (by decide)]; exact hO)) (by simp) ?_
  refine r_vret hK hRt dX2_add_55 ⟨rfl, rfl, up_s _ _ _, ⟨?_, ?_, ?_, ?_⟩, fun id hid => ?_⟩
  · rw [up_n (by decide), up_n (by decide), up_n (by decide), up_n (by decide), up_s]
  · rw [up_n (by decide), up_n (by decide), up_n (by decide), up_s]
  · rw [up_n (by decide), up_n (by decide), up_s]
  · rw [up_n (by decide), up_s]
  · rw [up_n (by omega), up_n (by omega), up_n (by omega), up_n (by omega), up_n (by omega)]
set_option maxHeartbeats 4000000 in
theorem ct_kSign {G : GT} {Rel : Nat → Hp → Hp → Prop} (hR : RelOK Rel) {n : Nat} {f : Hp} {tp mn k s c : Nat} {S A B W : Nat → Value} (hO : TKo f tp mn) (hA : TKa f S A B W) (hk : k < 2001) (hs : s < 6) (hS : S k = zI (s : Int)) (hW : s = 2 → W k = zI (c : Int)) (hc : c < 256) {e : Nat} (he : e < 256) : Ct G Rel yX2_isSign cX2_isSign 3 (some .boolean) (1) (0) [.ref 302, zI (k : Int), zI (e : Int)] n (f) (Pu (zB (s = 2 ∧ c = e)) n f) := by
  refine ct_intro [some (.ref 302), some (zI (k : Int)), some (zI (e : Int))] hR rfl (Nat.le_of_ble_eq_true rfl) ?_
  intro K hG hRel hK hRt hnm
  obtain ⟨a1, a2, a3, a4⟩ := hA
  refine r_aload_0 hK dX2_isSign_0 ?_
  refine r_get hK fl_X2_33 dX2_isSign_1 (hO) rfl ?_
  refine r_iload_1 hK dX2_isSign_4 ?_
  refine r_bald hK dX2_isSign_5 a1 (by omega) ?_
  rw [hS]
  refine r_iconstN (c := 2) hK dX2_isSign_6 ?_
  refine r_icmp_ne 24 hK dX2_isSign_7 (by omega) (by omega) (fun h7 => ?_) (fun h7 => ?_)
  · refine r_iconstN (c := 0) hK dX2_isSign_24 ?_
    exact r_zret hK hRt dX2_isSign_25 rfl ⟨by rw [zB_f (by omega)]; rfl, rfl, rfl⟩
  · refine r_aload_0 hK dX2_isSign_10 ?_
    refine r_get hK fl_X2_43 dX2_isSign_11 (hO) rfl ?_
    refine r_iload_1 hK dX2_isSign_14 ?_
    refine r_sald hK dX2_isSign_15 a4 (by omega) ?_
    rw [hW (by omega)]
    refine r_iload_2 hK dX2_isSign_16 ?_
    refine r_icmp_ne 24 hK dX2_isSign_17 (by omega) (by omega) (fun h17 => ?_) (fun h17 => ?_)
    · refine r_iconstN (c := 0) hK dX2_isSign_24 ?_
      exact r_zret hK hRt dX2_isSign_25 rfl ⟨by rw [zB_f (by omega)]; rfl, rfl, rfl⟩
    · refine r_iconstN (c := 1) hK dX2_isSign_20 ?_
      refine r_goto 25 hK dX2_isSign_21 ?_
      exact r_zret hK hRt dX2_isSign_25 rfl ⟨by rw [zB_t (by omega)]; rfl, rfl, rfl⟩
theorem sx_inj {a b : Nat} (ha : a < 256) (hb : b < 256) : sx a = sx b ↔ a = b := by unfold sx; split <;> split <;> omega
set_option maxHeartbeats 4000000 in
theorem ct_kAlike {G : GT} {Rel : Nat → Hp → Hp → Prop} (hR : RelOK Rel) {n : Nat} {f : Hp} {tp mn t o a b a' b' : Nat} {T : Nat → Nat} {S A B W : Nat → Value} (hO : TKo f tp mn) (hT : TKt f T) (hT2 : ∀ i, T i < 256) (hA : TKa f S A B W) (ht : t < 2001) (ho : o < 2001) (h1 : A t = zI (a : Int)) (h2 : B t = zI (b : Int)) (h3 : A o = zI (a' : Int)) (h4 : B o = zI (b' : Int)) (ab : a ≤ b ∧ b ≤ 2000) (ab' : a' ≤ b' ∧ b' ≤ 2000) : Ct G Rel yX2_isAlike cX2_isAlike 4 (some .boolean) (1) (0) [.ref 302, zI (t : Int), zI (o : Int)] n (f) (Pu (zB (b - a = b' - a' ∧ ∀ j, j < b - a → T (a + j) = T (a' + j))) n f) := by
  refine ct_intro [some (.ref 302), some (zI (t : Int)), some (zI (o : Int)), none] hR rfl (Nat.le_of_ble_eq_true rfl) ?_
  intro K hG hRel hK hRt hnm
  obtain ⟨a1, a2, a3, a4⟩ := hA
  have lp : ∀ (d k : Nat), d = (b - a) - k → k ≤ b - a → b - a = b' - a' → (∀ j, j < k → T (a + j) = T (a' + j)) → Wx K 33 [some (.ref 302), some (zI (t : Int)), some (zI (o : Int)), some (zI (k : Int))] [] n f 0 := by
    intro d
    induction d using Nat.strongRecOn with
    | _ d ih =>
      intro k hd hk hab hj
      have t1 := hT2 (a + k)
      have t2 := hT2 (a' + k)
      have s1 := sx_r t1
      have s2 := sx_r t2
      have se := sx_inj t1 t2
      refine r_iload_3 hK dX2_isAlike_33 ?_
      refine r_aload_0 hK dX2_isAlike_34 ?_
      refine r_get hK fl_X2_40 dX2_isAlike_35 (hO) rfl ?_
      refine r_iload_1 hK dX2_isAlike_38 ?_
      refine r_sald hK dX2_isAlike_39 a3 (by omega) ?_
      rw [h2]
      refine r_aload_0 hK dX2_isAlike_40 ?_
      refine r_get hK fl_X2_36 dX2_isAlike_41 (hO) rfl ?_
      refine r_iload_1 hK dX2_isAlike_44 ?_
      refine r_sald hK dX2_isAlike_45 a2 (by omega) ?_
      rw [h1]
      first | refine r_isubN hK dX2_isAlike_46 (by omega) ?_ | refine r_isub hK dX2_isAlike_46 ?_
      refine r_icmp_ge 87 hK dX2_isAlike_47 (by omega) (by omega) (fun h47 => ?_) (fun h47 => ?_)
      · refine r_iconstN (c := 1) hK dX2_isAlike_87 ?_
        exact r_zret hK hRt dX2_isAlike_88 rfl ⟨by rw [zB_t ⟨hab, fun j hj2 => hj j (by omega)⟩]; rfl, rfl, rfl⟩
      · refine r_aload_0 hK dX2_isAlike_50 ?_
        refine r_get hK fl_X2_29 dX2_isAlike_51 (hO) rfl ?_
        refine r_aload_0 hK dX2_isAlike_54 ?_
        refine r_get hK fl_X2_36 dX2_isAlike_55 (hO) rfl ?_
        refine r_iload_1 hK dX2_isAlike_58 ?_
        refine r_sald hK dX2_isAlike_59 a2 (by omega) ?_
        rw [h1]
        refine r_iload_3 hK dX2_isAlike_60 ?_
        first | refine r_iaddN hK dX2_isAlike_61 ?_ | refine r_iadd hK dX2_isAlike_61 ?_
        refine r_bald hK dX2_isAlike_62 hT (by omega) ?_
        refine r_aload_0 hK dX2_isAlike_63 ?_
        refine r_get hK fl_X2_29 dX2_isAlike_64 (hO) rfl ?_
        refine r_aload_0 hK dX2_isAlike_67 ?_
        refine r_get hK fl_X2_36 dX2_isAlike_68 (hO) rfl ?_
        refine r_iload_2 hK dX2_isAlike_71 ?_
        refine r_sald hK dX2_isAlike_72 a2 (by omega) ?_
        rw [h3]
        refine r_iload_3 hK dX2_isAlike_73 ?_
        first | refine r_iaddN hK dX2_isAlike_74 ?_ | refine r_iadd hK dX2_isAlike_74 ?_
        refine r_bald hK dX2_isAlike_75 hT (by omega) ?_
        refine r_icmp_eq 81 hK dX2_isAlike_76 (by omega) (by omega) (fun h76 => ?_) (fun h76 => ?_)
        · first | refine r_incN_3 hK dX2_isAlike_81 ?_ | refine r_iinc_3 hK dX2_isAlike_81 ?_
          refine r_goto 33 hK dX2_isAlike_84 ?_
          exact ih ((b - a) - (k + 1)) (by omega) (k + 1) rfl (by omega) hab (fun j hj2 => by
            by_cases c : j = k
            · rw [c]; exact se.mp h76
            · exact hj j (by omega))
        · refine r_iconstN (c := 0) hK dX2_isAlike_79 ?_
          exact r_zret hK hRt dX2_isAlike_80 rfl ⟨by rw [zB_f (fun q => h76 (by rw [q.2 k (by omega)]))]; rfl, rfl, rfl⟩
  refine r_aload_0 hK dX2_isAlike_0 ?_
  refine r_get hK fl_X2_40 dX2_isAlike_1 (hO) rfl ?_
  refine r_iload_1 hK dX2_isAlike_4 ?_
  refine r_sald hK dX2_isAlike_5 a3 (by omega) ?_
  rw [h2]
  refine r_aload_0 hK dX2_isAlike_6 ?_
  refine r_get hK fl_X2_36 dX2_isAlike_7 (hO) rfl ?_
  refine r_iload_1 hK dX2_isAlike_10 ?_
  refine r_sald hK dX2_isAlike_11 a2 (by omega) ?_
  rw [h1]
  first | refine r_isubN hK dX2_isAlike_12 (by omega) ?_ | refine r_isub hK dX2_isAlike_12 ?_
  refine r_aload_0 hK dX2_isAlike_13 ?_
  refine r_get hK fl_X2_40 dX2_isAlike_14 (hO) rfl ?_
  refine r_iload_2 hK dX2_isAlike_17 ?_
  refine r_sald hK dX2_isAlike_18 a3 (by omega) ?_
  rw [h4]
  refine r_aload_0 hK dX2_isAlike_19 ?_
  refine r_get hK fl_X2_36 dX2_isAlike_20 (hO) rfl ?_
  refine r_iload_2 hK dX2_isAlike_23 ?_
  refine r_sald hK dX2_isAlike_24 a2 (by omega) ?_
  rw [h3]
  first | refine r_isubN hK dX2_isAlike_25 (by omega) ?_ | refine r_isub hK dX2_isAlike_25 ?_
  refine r_icmp_eq 31 hK dX2_isAlike_26 (by omega) (by omega) (fun h26 => ?_) (fun h26 => ?_)
  · refine r_iconstN (c := 0) hK dX2_isAlike_31 ?_
    refine r_istore_3 hK dX2_isAlike_32 ?_
    exact lp (b - a) 0 rfl (Nat.zero_le _) (by omega) (fun j hj => absurd hj (Nat.not_lt_zero _))
  · refine r_iconstN (c := 0) hK dX2_isAlike_29 ?_
    exact r_zret hK hRt dX2_isAlike_30 rfl ⟨by rw [zB_f (fun q => by omega)]; rfl, rfl, rfl⟩
set_option maxHeartbeats 4000000 in
theorem ct_kNum {G : GT} {Rel : Nat → Hp → Hp → Prop} (hR : RelOK Rel) {n : Nat} {f : Hp} {tp mn t a b : Nat} {T : Nat → Nat} {S A B W : Nat → Value} (hO : TKo f tp mn) (hT : TKt f T) (hA : TKa f S A B W) (ht : t < 2001) (h1 : A t = zI (a : Int)) (h2 : B t = zI (b : Int)) (ab : a ≤ b ∧ b ≤ a + 4 ∧ b ≤ 2000) (hd : ∀ j, j < b - a → isD (T (a + j))) : Ct G Rel yX2_number cX2_number 4 (some .int) (1) (0) [.ref 302, zI (t : Int)] n (f) (Pu (zI ((vlF T a (b - a) : Nat) : Int)) n f) := by
  refine ct_intro [some (.ref 302), some (zI (t : Int)), none, none] hR rfl (Nat.le_of_ble_eq_true rfl) ?_
  intro K hG hRel hK hRt hnm
  obtain ⟨a1, a2, a3, a4⟩ := hA
  have hv : ∀ k, k ≤ b - a → vlF T a k < 10000 := fun k hk => Nat.lt_of_lt_of_le (vlF_lt k (fun j hj => hd j (by omega))) (Nat.le_trans (Nat.pow_le_pow_right (by decide) (show k ≤ 4 by omega)) (by decide))
  have lp : ∀ (d k : Nat), d = (b - a) - k → k ≤ b - a → Wx K 9 [some (.ref 302), some (zI (t : Int)), some (zI ((vlF T a k : Nat) : Int)), some (zI ((a + k : Nat) : Int))] [] n f 0 := by
    intro d
    induction d using Nat.strongRecOn with
    | _ d ih =>
      intro k hdd hk
      have hvk := hv k hk
      refine r_iload_3 hK dX2_number_9 ?_
      refine r_aload_0 hK dX2_number_10 ?_
      refine r_get hK fl_X2_40 dX2_number_11 (hO) rfl ?_
      refine r_iload_1 hK dX2_number_14 ?_
      refine r_sald hK dX2_number_15 a3 (by omega) ?_
      rw [h2]
      refine r_icmp_ge 40 hK dX2_number_16 (by omega) (by omega) (fun h16 => ?_) (fun h16 => ?_)
      · refine r_iload_2 hK dX2_number_40 ?_
        exact r_iret hK hRt dX2_number_41 ⟨by rw [show k = b - a by omega], rfl, rfl⟩
      · have hdk := hd k (by omega)
        have e1 : sx (T (a + k)) = ((T (a + k) : Nat) : Int) := by unfold sx; rw [if_pos (by omega)]
        refine r_bipushN (c := 10) hK dX2_number_19 ?_
        refine r_iload_2 hK dX2_number_21 ?_
        first | refine r_imulN hK dX2_number_22 ?_ | refine r_imul hK dX2_number_22 ?_
        refine r_aload_0 hK dX2_number_23 ?_
        refine r_get hK fl_X2_29 dX2_number_24 (hO) rfl ?_
        refine r_iload_3 hK dX2_number_27 ?_
        refine r_bald hK dX2_number_28 hT (by omega) ?_
        rw [e1]
        first | refine r_iaddN hK dX2_number_29 ?_ | refine r_iadd hK dX2_number_29 ?_
        refine r_bipushN (c := 48) hK dX2_number_30 ?_
        first | refine r_isubN hK dX2_number_32 (by omega) ?_ | refine r_isub hK dX2_number_32 ?_
        refine r_istore_2 hK dX2_number_33 ?_
        first | refine r_incN_3 hK dX2_number_34 ?_ | refine r_iinc_3 hK dX2_number_34 ?_
        refine r_goto 9 hK dX2_number_37 ?_
        have := ih ((b - a) - (k + 1)) (by omega) (k + 1) rfl (by omega)
        have e2 : vlF T a (k + 1) = 10 * vlF T a k + T (a + k) - 48 := by
          show 10 * vlF T a k + (T (a + k) - 48) = _
          omega
        rw [e2, show a + (k + 1) = a + k + 1 by omega] at this
        exact this
  refine r_iconstN (c := 0) hK dX2_number_0 ?_
  refine r_istore_2 hK dX2_number_1 ?_
  refine r_aload_0 hK dX2_number_2 ?_
  refine r_get hK fl_X2_36 dX2_number_3 (hO) rfl ?_
  refine r_iload_1 hK dX2_number_6 ?_
  refine r_sald hK dX2_number_7 a2 (by omega) ?_
  rw [h1]
  refine r_istore_3 hK dX2_number_8 ?_
  exact lp (b - a) 0 rfl (Nat.zero_le _)
/-- which word it is -/
def wdI (T : Nat → Nat) (a b : Nat) : Nat → Nat → Nat
  | 0, _ => 255
  | m + 1, w => if wlen w = b - a ∧ ∀ j, j < b - a → wlet w j = T (a + j) then w else wdI T a b m (w + 1)
set_option maxHeartbeats 4000000 in
theorem ct_kWord {G : GT} {Rel : Nat → Hp → Hp → Prop} (hR : RelOK Rel) (hX : GX G) {n : Nat} {f : Hp} {tp mn a b : Nat} {T : Nat → Nat} (hO : TKo f tp mn) (hW : TKw f) (hT : TKt f T) (hT2 : ∀ i, T i < 256) (ab : a ≤ b ∧ b ≤ 2000) : Ct G Rel yX2_word cX2_word 6 (some .int) (5) (0) [.ref 302, zI (a : Int), zI (b : Int)] n (f) (Pu (zI (sx (wdI T a b 4 0))) n f) := by
  refine ct_intro [some (.ref 302), some (zI (a : Int)), some (zI (b : Int)), none, none, none] hR rfl (Nat.le_of_ble_eq_true rfl) ?_
  intro K hG hRel hK hRt hnm
  have hXK : GX (kG K) := by rw [hG]; exact hX
  have lp : ∀ (m w : Nat) (x4 x5 : Option Value), w + m = 4 → wdI T a b 4 0 = wdI T a b m w → Wx K 2 [some (.ref 302), some (zI (a : Int)), some (zI (b : Int)), some (zI (w : Int)), x4, x5] [] n f 0 := by
    intro m
    induction m with
    | zero =>
      intro w x4 x5 hw he
      refine r_iload_3 hK dX2_word_2 ?_
      refine r_aload_0 hK dX2_word_3 ?_
      refine r_get hK fl_X2_23 dX2_word_4 (hO) rfl ?_
      refine r_callF0 hK (ct_lnSize hK.rel hW.1 hW.2) lf_X2_57_J10 (hK.px hXK).1.2.2.1 (ci := 18) ⟨rfl, rfl⟩ (Rcv.raw hK.rel hW.1 rfl) dX2_word_7 (fun r m1 g1 hp => ?_)
      obtain ⟨rfl, rfl, rfl⟩ := hp
      show Wx K 12 _ (zI ((4 : Nat) : Int) :: _) _ _ _
      refine r_icmp_ge 114 hK dX2_word_12 (by omega) (by omega) (fun h12 => ?_) (fun h12 => ?_)
      · refine r_iconst hK dX2_word_114 ?_
        refine r_iret hK hRt dX2_word_115 ⟨?_, rfl, rfl⟩
        rw [he]; rfl
      · omega --!
    | succ m ih =>
      intro w x4 x5 hw he
      have e : wdI T a b (m + 1) w = if wlen w = b - a ∧ ∀ j, j < b - a → wlet w j = T (a + j) then w else wdI T a b m (w + 1) := rfl
      have hwl := wl_b w (by omega)
      have fail : (¬ (wlen w = b - a ∧ ∀ j, j < b - a → wlet w j = T (a + j))) → ∀ (x5 : Option Value), Wx K 101 [some (.ref 302), some (zI (a : Int)), some (zI (b : Int)), some (zI (w : Int)), some (zI ((0 : Nat) : Int)), x5] [] n f 0 := by
        intro hno x5
        refine r_iload_4 hK dX2_word_101 ?_
        refine r_if_eq 108 hK dX2_word_103 (by decide) (fun h103 => ?_) (fun h103 => ?_)
        · first | refine r_incN_3 hK dX2_word_108 ?_ | refine r_iinc_3 hK dX2_word_108 ?_
          refine r_goto 2 hK dX2_word_111 ?_
          exact ih (w + 1) _ _ (by omega) (by rw [he, e, if_neg hno])
        · exact absurd rfl h103 --!
      have li : ∀ (d k : Nat), d = b - k → a ≤ k → k ≤ b → wlen w = b - a → (∀ j, j < k - a → wlet w j = T (a + j)) → Wx K 47 [some (.ref 302), some (zI (a : Int)), some (zI (b : Int)), some (zI (w : Int)), some (zI ((1 : Nat) : Int)), some (zI (k : Int))] [] n f 0 := by
        intro d
        induction d using Nat.strongRecOn with
        | _ d ih2 =>
          intro k hd hak hkb hl hj
          have t1 := hT2 k
          have s1 := sx_r t1
          refine r_iload_5 hK dX2_word_47 ?_
          refine r_iload_2 hK dX2_word_49 ?_
          refine r_icmp_ge 101 hK dX2_word_50 (by omega) (by omega) (fun h50 => ?_) (fun h50 => ?_)
          · have hke : k = b := by omega
            subst hke
            refine r_iload_4 hK dX2_word_101 ?_
            refine r_if_eq 108 hK dX2_word_103 (by decide) (fun h103 => ?_) (fun h103 => ?_)
            · exact absurd h103 (by decide) --!
            · refine r_iload_3 hK dX2_word_106 ?_
              refine r_iret hK hRt dX2_word_107 ⟨?_, rfl, rfl⟩
              rw [he, e, if_pos ⟨hl, hj⟩]
              unfold sx
              rw [if_pos (by omega)]
          · refine r_iload_4 hK dX2_word_53 ?_
            refine r_if_eq 101 hK dX2_word_55 (by decide) (fun h55 => ?_) (fun h55 => ?_)
            · exact absurd h55 (by decide) --!
            · refine r_aload_0 hK dX2_word_58 ?_
              refine r_get hK fl_X2_23 dX2_word_59 (hO) rfl ?_
              refine r_iload_3 hK dX2_word_62 ?_
              refine r_callF1 hK (ct_lnGet hK.rel hW.1 hW.2 (i := w) (by omega) (by decide) rfl) lf_X2_61_J10 (hK.px hXK).1.2.2.2 (ci := 18) ⟨rfl, rfl⟩ (Rcv.raw hK.rel hW.1 rfl) dX2_word_63 (fun r m1 g1 hp => ?_)
              obtain ⟨rfl, rfl, rfl⟩ := hp
              refine r_castH hK cl_X2_65 (p_rcv (str_px hK hXK (show w < 4 by omega)).1) dX2_word_68 ?_
              refine r_iload_5 hK dX2_word_71 ?_
              refine r_iload_1 hK dX2_word_73 ?_
              first | refine r_isubN hK dX2_word_74 (by omega) ?_ | refine r_isub hK dX2_word_74 ?_
              refine r_callVH1 hK (ct_strAt hK.rel hXK (i := w) (j := k - a) (by omega) (by omega)) lk_X2_70 (p_rcv (str_px hK hXK (show w < 4 by omega)).1) dX2_word_75 (fun r m1 g1 hp => ?_)
              obtain ⟨rfl, rfl, rfl⟩ := hp
              have hlk := hwl.2.2 (k - a) (by omega)
              have sq := sx_eq (b := T k) (c := wlet w (k - a)) t1 (by omega)
              refine r_aload_0 hK dX2_word_78 ?_
              refine r_get hK fl_X2_29 dX2_word_79 (hO) rfl ?_
              refine r_iload_5 hK dX2_word_82 ?_
              refine r_bald hK dX2_word_84 hT (by omega) ?_
              refine r_icmp_ne 92 hK dX2_word_85 (by omega) (by omega) (fun h85 => ?_) (fun h85 => ?_)
              · refine r_iconstN (c := 0) hK dX2_word_92 ?_
                refine r_istore_4 hK dX2_word_93 ?_
                refine r_incN_5 hK dX2_word_95 ?_
                refine r_goto 47 hK dX2_word_98 ?_
                have hno : ¬ (wlen w = b - a ∧ ∀ j, j < b - a → wlet w j = T (a + j)) := fun q => by
                  have := q.2 (k - a) (by omega)
                  rw [show a + (k - a) = k by omega] at this
                  exact h85 (by rw [sq.mpr this.symm])
                refine r_iload_5 hK dX2_word_47 ?_
                refine r_iload_2 hK dX2_word_49 ?_
                refine r_icmp_ge 101 hK dX2_word_50 (by omega) (by omega) (fun _ => fail hno _) (fun _ => ?_)
                refine r_iload_4 hK dX2_word_53 ?_
                exact r_if_eq 101 hK dX2_word_55 (by decide) (fun _ => fail hno _) (fun q => absurd rfl q) --!
              · refine r_iconstN (c := 1) hK dX2_word_88 ?_
                refine r_goto 93 hK dX2_word_89 ?_
                refine r_istore_4 hK dX2_word_93 ?_
                refine r_incN_5 hK dX2_word_95 ?_
                refine r_goto 47 hK dX2_word_98 ?_
                exact ih2 (b - (k + 1)) (by omega) (k + 1) rfl (by omega) (by omega) hl (fun j hj2 => by
                  by_cases c : j = k - a
                  · rw [c, show a + (k - a) = k by omega]; exact (sq.mp h85.symm).symm
                  · exact hj j (by omega)) --!
      refine r_iload_3 hK dX2_word_2 ?_
      refine r_aload_0 hK dX2_word_3 ?_
      refine r_get hK fl_X2_23 dX2_word_4 (hO) rfl ?_
      refine r_callF0 hK (ct_lnSize hK.rel hW.1 hW.2) lf_X2_57_J10 (hK.px hXK).1.2.2.1 (ci := 18) ⟨rfl, rfl⟩ (Rcv.raw hK.rel hW.1 rfl) dX2_word_7 (fun r m1 g1 hp => ?_)
      obtain ⟨rfl, rfl, rfl⟩ := hp
      show Wx K 12 _ (zI ((4 : Nat) : Int) :: _) _ _ _
      refine r_icmp_ge 114 hK dX2_word_12 (by omega) (by omega) (fun h12 => ?_) (fun h12 => ?_)
      · omega --!
      · refine r_aload_0 hK dX2_word_15 ?_
        refine r_get hK fl_X2_23 dX2_word_16 (hO) rfl ?_
        refine r_iload_3 hK dX2_word_19 ?_
        refine r_callF1 hK (ct_lnGet hK.rel hW.1 hW.2 (i := w) (by omega) (by decide) rfl) lf_X2_61_J10 (hK.px hXK).1.2.2.2 (ci := 18) ⟨rfl, rfl⟩ (Rcv.raw hK.rel hW.1 rfl) dX2_word_20 (fun r m1 g1 hp => ?_)
        obtain ⟨rfl, rfl, rfl⟩ := hp
        refine r_castH hK cl_X2_65 (p_rcv (str_px hK hXK (show w < 4 by omega)).1) dX2_word_25 ?_
        refine r_callVH0 hK (ct_strLen hK.rel hXK (i := w) (by omega)) lk_X2_67 (p_rcv (str_px hK hXK (show w < 4 by omega)).1) dX2_word_28 (fun r m1 g1 hp => ?_)
        obtain ⟨rfl, rfl, rfl⟩ := hp
        refine r_iload_2 hK dX2_word_31 ?_
        refine r_iload_1 hK dX2_word_32 ?_
        first | refine r_isubN hK dX2_word_33 (by omega) ?_ | refine r_isub hK dX2_word_33 ?_
        refine r_icmp_ne 41 hK dX2_word_34 (by omega) (by omega) (fun h34 => ?_) (fun h34 => ?_)
        · have hno : ¬ (wlen w = b - a ∧ ∀ j, j < b - a → wlet w j = T (a + j)) := fun q => h34 (by rw [q.1])
          refine r_iconstN (c := 0) hK dX2_word_41 ?_
          refine r_istore_4 hK dX2_word_42 ?_
          refine r_iload_1 hK dX2_word_44 ?_
          refine r_istore_5 hK dX2_word_45 ?_
          refine r_iload_5 hK dX2_word_47 ?_
          refine r_iload_2 hK dX2_word_49 ?_
          refine r_icmp_ge 101 hK dX2_word_50 (by omega) (by omega) (fun _ => fail hno _) (fun _ => ?_)
          refine r_iload_4 hK dX2_word_53 ?_
          exact r_if_eq 101 hK dX2_word_55 (by decide) (fun _ => fail hno _) (fun q => absurd rfl q) --!
        · refine r_iconstN (c := 1) hK dX2_word_37 ?_
          refine r_goto 42 hK dX2_word_38 ?_
          refine r_istore_4 hK dX2_word_42 ?_
          refine r_iload_1 hK dX2_word_44 ?_
          refine r_istore_5 hK dX2_word_45 ?_
          exact li (b - a) a (by omega) (Nat.le_refl _) ab.1 (by omega) (fun j hj => by omega)
  refine r_iconstN (c := 0) hK dX2_word_0 ?_
  refine r_istore_3 hK dX2_word_1 ?_
  exact lp 4 0 _ _ rfl rfl
