set_option maxRecDepth 100000
/-! ===== Tokens.read ===== -/
def srtK (kd : Nat) : Nat := if kd = 0 then 4 else if kd = 1 then 0 else if kd = 2 then 1 else if kd = 3 then 5 else if kd < 20 then 2 else 3
/-- the component stops behind the first stray token -/
def cutB : List Tk → List Tk
  | [] => []
  | t :: l => if t.1 = 3 then [t] else t :: cutB l
def tkOK (t : Tk) (s a b w : Value) : Prop := s = zI ((srtK t.1 : Nat) : Int) ∧ a = zI ((t.2.1 : Nat) : Int) ∧ b = zI ((t.2.2 : Nat) : Int) ∧ (20 ≤ t.1 → w = zI ((t.1 - 20 : Nat) : Int)) ∧ (t.1 = 4 → w = zI ((59 : Nat) : Int)) ∧ (t.1 = 5 → w = zI ((45 : Nat) : Int))
theorem tkOK_c {kd a b : Nat} {w : Value} (h : kd < 20) (h4 : kd ≠ 4) (h5 : kd ≠ 5) : tkOK (kd, a, b) (zI ((srtK kd : Nat) : Int)) (zI (a : Int)) (zI (b : Int)) w := ⟨rfl, rfl, rfl, fun q => absurd h (Nat.not_lt.mpr q), fun q => absurd q h4, fun q => absurd q h5⟩
theorem tkOK_4 {a b : Nat} {w : Value} (hw : w = zI ((59 : Nat) : Int)) : tkOK (4, a, b) (zI ((srtK 4 : Nat) : Int)) (zI (a : Int)) (zI (b : Int)) w := ⟨rfl, rfl, rfl, fun q => absurd (show (20 : Nat) ≤ 4 from q) (by decide), fun _ => hw, fun q => absurd (show (4 : Nat) = 5 from q) (by decide)⟩
theorem tkOK_5 {a b : Nat} {w : Value} (hw : w = zI ((45 : Nat) : Int)) : tkOK (5, a, b) (zI ((srtK 5 : Nat) : Int)) (zI (a : Int)) (zI (b : Int)) w := ⟨rfl, rfl, rfl, fun q => absurd (show (20 : Nat) ≤ 5 from q) (by decide), fun q => absurd (show (5 : Nat) = 4 from q) (by decide), fun _ => hw⟩
def TKs (toks : List Tk) (S A B W : Nat → Value) : Prop := ∀ k t, toks[k]? = some t → tkOK t (S k) (A k) (B k) (W k)
theorem TKs.add {toks : List Tk} {S A B W : Nat → Value} {t : Tk} {s a b w : Value} (h : TKs toks S A B W) (ht : tkOK t s a b w) : TKs (toks ++ [t]) (updV S toks.length s) (updV A toks.length a) (updV B toks.length b) (updV W toks.length w) := by
  intro k t' hk
  unfold updV
  by_cases c : k = toks.length
  · subst c
    rw [List.getElem?_append_right (Nat.le_refl _), Nat.sub_self] at hk
    have e : t = t' := Option.some.inj hk
    rw [if_pos rfl, if_pos rfl, if_pos rfl, if_pos rfl, ← e]; exact ht
  · rw [if_neg c, if_neg c, if_neg c, if_neg c]
    refine h k t' ?_
    by_cases c2 : k < toks.length
    · rwa [List.getElem?_append_left c2] at hk
    · rw [List.getElem?_eq_none (by rw [List.length_append]; simp; omega)] at hk; cases hk
theorem kdL_w {T : Nat → Nat} {B : Nat → Nat} {i r : Nat} (hB : ∀ j, j < r → B (i + j) = T (i + j)) (hl : ∀ j, j < r → isL (B (i + j))) : (wdI T i (i + r) 4 0 < 4 ∧ kdL B i r = 20 + wdI T i (i + r) 4 0) ∨ (wdI T i (i + r) 4 0 = 255 ∧ kdL B i r = if 8 < r then 3 else 1) := by
  have key : ∀ w, w < 4 → ((wlen w = i + r - i ∧ ∀ j, j < i + r - i → wlet w j = T (i + j)) ↔ keyN w = nmF B i r) := fun w hw => by
    rw [Nat.add_sub_cancel_left, wl_key w hw]
    have hwl := (wl_b w hw).2.2
    constructor
    · rintro ⟨h1, h2⟩
      rw [h1]
      exact nm_ext r (fun j hj => by rw [Nat.zero_add, h2 j hj, hB j hj])
    · intro e
      obtain ⟨h1, h2⟩ := nm_inj (B := wlet w) (B' := B) (i := 0) (i' := i) (wlen w) r (fun j hj => by rw [Nat.zero_add]; exact hwl j hj) hl e
      refine ⟨h1, fun j hj => ?_⟩
      have := h2 j (by omega)
      rw [Nat.zero_add] at this
      rw [this, hB j hj]
  have kif : ∀ w, w < 4 → ∀ a b : Nat, (if wlen w = i + r - i ∧ (∀ j, j < i + r - i → wlet w j = T (i + j)) then a else b) = if keyN w = nmF B i r then a else b := fun w hw a b => by
    by_cases q : keyN w = nmF B i r
    · rw [if_pos q, if_pos ((key w hw).mpr q)]
    · rw [if_neg q, if_neg (fun z => q ((key w hw).mp z))]
  have hw : wdI T i (i + r) 4 0 = if keyN 0 = nmF B i r then 0 else if keyN 1 = nmF B i r then 1 else if keyN 2 = nmF B i r then 2 else if keyN 3 = nmF B i r then 3 else 255 := by
    show (if wlen 0 = i + r - i ∧ (∀ j, j < i + r - i → wlet 0 j = T (i + j)) then 0 else if wlen 1 = i + r - i ∧ (∀ j, j < i + r - i → wlet 1 j = T (i + j)) then 1 else if wlen 2 = i + r - i ∧ (∀ j, j < i + r - i → wlet 2 j = T (i + j)) then 2 else if wlen 3 = i + r - i ∧ (∀ j, j < i + r - i → wlet 3 j = T (i + j)) then 3 else 255) = _
    rw [kif 0 (by decide), kif 1 (by decide), kif 2 (by decide), kif 3 (by decide)]
  have hk : kyF (nmF B i r) 4 = if keyN 3 = nmF B i r then 23 else if keyN 2 = nmF B i r then 22 else if keyN 1 = nmF B i r then 21 else if keyN 0 = nmF B i r then 20 else 1 := rfl
  have big : 8 < r → ∀ w, w < 4 → keyN w ≠ nmF B i r := fun h8 w hw4 e => by
    have h1 := ((key w hw4).mpr e).1
    have := (wl_b w hw4).1
    omega
  unfold kdL
  rw [hw]
  have k0 : keyN 0 = 459761 := rfl
  have k1 : keyN 1 = 139055 := rfl
  have k2 : keyN 2 = 8863997 := rfl
  have k3 : keyN 3 = 10650290 := rfl
  by_cases h8 : 8 < r
  · right
    rw [if_neg (big h8 0 (by decide)), if_neg (big h8 1 (by decide)), if_neg (big h8 2 (by decide)), if_neg (big h8 3 (by decide)), if_pos h8, if_pos h8]
    exact ⟨rfl, rfl⟩
  · rw [if_neg h8, hk]
    by_cases c0 : keyN 0 = nmF B i r
    · left; rw [if_pos c0, if_neg (show ¬ keyN 3 = nmF B i r by omega), if_neg (show ¬ keyN 2 = nmF B i r by omega), if_neg (show ¬ keyN 1 = nmF B i r by omega), if_pos c0]; exact ⟨by decide, rfl⟩
    · rw [if_neg c0]
      by_cases c1 : keyN 1 = nmF B i r
      · left; rw [if_pos c1, if_neg (show ¬ keyN 3 = nmF B i r by omega), if_neg (show ¬ keyN 2 = nmF B i r by omega), if_pos c1]; exact ⟨by decide, rfl⟩
      · rw [if_neg c1]
        by_cases c2 : keyN 2 = nmF B i r
        · left; rw [if_pos c2, if_neg (show ¬ keyN 3 = nmF B i r by omega), if_pos c2]; exact ⟨by decide, rfl⟩
        · rw [if_neg c2]
          by_cases c3 : keyN 3 = nmF B i r
          · left; rw [if_pos c3, if_pos c3]; exact ⟨by decide, rfl⟩
          · right; rw [if_neg c3, if_neg c3, if_neg c2, if_neg c1, if_neg c0, if_neg h8]; exact ⟨rfl, rfl⟩
theorem KT_.tr {f f1 f2 : Hp} (h : KT_ f f1) (h' : KT_ f1 f2) : KT_ f f2 := fun id hid => by rw [h' id hid]; exact h id hid
theorem TKw.kp {f f' : Hp} (h : TKw f) (hk : KT_ f f') : TKw f' := ⟨by rw [hk 304 (by decide)]; exact h.1, by rw [hk 303 (by decide)]; exact h.2⟩
theorem TKt.kp {f f' : Hp} {T : Nat → Nat} (h : TKt f T) (hk : KT_ f f') : TKt f' T := (hk 305 (by decide)).trans h
set_option maxHeartbeats 4000000 in
theorem ct_kRead {G : GT} {Rel : Nat → Hp → Hp → Prop} (hR : RelOK Rel) (hX : GX G) {n : Nat} {f : Hp} {tp mn0 : Nat} {T : Nat → Nat} {S A B W : Nat → Value} (hO : TKo f tp mn0) (hW : TKw f) (hT : TKt f T) (hT2 : ∀ i, T i < 256) (htp : tp ≤ 2000) (hA : TKa f S A B W) : Ct G Rel yX2_read cX2_read 7 none (7) (0) [.ref 302] n (f) (fun r n' f' => r = none ∧ n' = n ∧ (∃ S' A' B' W', TKo f' tp (cutB (lex tp T)).length ∧ TKa f' S' A' B' W' ∧ TKs (cutB (lex tp T)) S' A' B' W') ∧ KT_ f f') := by
  refine ct_intro [some (.ref 302), none, none, none, none, none, none] hR rfl (Nat.le_of_ble_eq_true rfl) ?_
  intro K hG hRel hK hRt hnm
  have hXK : GX (kG K) := by rw [hG]; exact hX
  obtain ⟨LX, hLX⟩ : ∃ LX, LX = cutB (lex tp T) := ⟨_, rfl⟩
  rw [← hLX] at hRt
  have fin : ∀ (i : Nat) (f1 : Hp) (S A B W : Nat → Value) (x3 x4 x5 x6 : Option Value), TKo f1 tp LX.length → TKa f1 S A B W → TKs LX S A B W → KT_ f f1 → Wx K 218 [some (.ref 302), some (zI (i : Int)), some (zI ((0 : Nat) : Int)), x3, x4, x5, x6] [] n f1 0 := by
    intro i f1 S A B W x3 x4 x5 x6 h1 h2 h3 h4
    refine r_iload_2 hK dX2_read_218 ?_
    refine r_if_eq 230 hK dX2_read_219 (by decide) (fun h219 => ?_) (fun h219 => ?_)
    · exact r_vret hK hRt dX2_read_230 ⟨rfl, rfl, ⟨S, A, B, W, h1, h2, h3⟩, h4⟩
    · exact absurd rfl h219 --!
  have LP : ∀ (m i : Nat) (acc : List Tk) (f1 : Hp) (S A B W : Nat → Value) (x3 x4 x5 x6 : Option Value), tp < i + m → i ≤ tp → acc.length ≤ i → TKo f1 tp acc.length → TKa f1 S A B W → TKs acc S A B W → KT_ f f1 → acc ++ cutB (lexF tp (Bt tp T) m i) = LX → nl x3 = true → nl x4 = true → nl x5 = true → Wx K 9 [some (.ref 302), some (zI (i : Int)), some (zI ((1 : Nat) : Int)), x3, x4, x5, x6] [] n f1 0 := by
    intro m
    induction m with
    | zero => intro i acc f1 S A B W x3 x4 x5 x6 h1 h2; omega
    | succ m ih =>
      intro i acc f1 S A B W x3 x4 x5 x6 h1 h2 h3 hO hA hS hk he hn3 hn4 hn5
      have hW1 := hW.kp hk
      have hT1 := hT.kp hk
      have hti := hT2 i
      have hsi := sx_r hti
      -- a token is noted
      have note : ∀ (kd e w : Nat) (x3 : Option Value), i < tp → i < e → e ≤ tp → w < 256 → tkOK (kd, i, e) (zI ((srtK kd : Nat) : Int)) (zI (i : Int)) (zI (e : Int)) (zI (sx w)) → srtK kd < 6 → (srtK kd = 5 ↔ kd = 3) → acc ++ cutB ((kd, i, e) :: lexF tp (Bt tp T) m e) = LX → nl x3 = true → Wx K 189 [some (.ref 302), some (zI (i : Int)), some (zI ((1 : Nat) : Int)), x3, some (zI (e : Int)), some (zI ((srtK kd : Nat) : Int)), some (zI (sx w))] [] n f1 0 := by
        intro kd e w x3 hit hie het hw hok hs6 hs5 hee hn3
        have hwr := sx_r hw
        refine r_aload_0 hK dX2_read_189 ?_
        refine r_iload_5 hK dX2_read_190 ?_
        refine r_iload_1 hK dX2_read_192 ?_
        refine r_iload_4 hK dX2_read_193 ?_
        refine r_iload_6 hK dX2_read_195 ?_
        refine r_callV4 hK (ct_kAdd hK.rel hO hA (by omega) hs6 (by omega) (by omega) hw) lk_X2_85 (Rcv.raw hK.rel hO rfl) dX2_read_197 (fun r n1 f2 hp => ?_)
        obtain ⟨rfl, rfl, p1, p2, p3⟩ := hp
        have hS' := hS.add hok
        have hlen : acc.length + 1 = (acc ++ [((kd, i, e) : Tk)]).length := by rw [List.length_append]; rfl
        rw [hlen] at p1
        refine r_iload_5 hK dX2_read_200 ?_
        refine r_iconstN (c := 5) hK dX2_read_202 ?_
        refine r_icmp_eq 210 hK dX2_read_203 (by omega) (by omega) (fun h203 => ?_) (fun h203 => ?_)
        · have k3 : kd = 3 := hs5.mp (by omega)
          have e2 : acc ++ [((kd, i, e) : Tk)] = LX := by
            rw [← hee]
            show _ = acc ++ (if kd = 3 then [(kd, i, e)] else _)
            rw [if_pos k3]
          refine r_iconstN (c := 0) hK dX2_read_210 ?_
          refine r_istore_2 hK dX2_read_211 ?_
          refine r_iload_4 hK dX2_read_212 ?_
          refine r_istore_1 hK dX2_read_214 ?_
          refine r_goto 9 hK dX2_read_215 ?_
          rw [e2] at p1 hS'
          refine r_iload_1 hK dX2_read_9 ?_
          refine r_aload_0 hK dX2_read_10 ?_
          refine r_get hK fl_X2_46 dX2_read_11 p1 rfl ?_
          refine r_icmp_ge 218 hK dX2_read_14 (by omega) (by omega) (fun _ => fin e f2 _ _ _ _ _ _ _ _ p1 p2 hS' (hk.tr p3)) (fun _ => ?_)
          refine r_iload_2 hK dX2_read_17 ?_
          exact r_if_eq 218 hK dX2_read_18 (by decide) (fun _ => fin e f2 _ _ _ _ _ _ _ _ p1 p2 hS' (hk.tr p3)) (fun q => absurd rfl q) --!
        · have k3 : kd ≠ 3 := fun q => by have := hs5.mpr q; omega
          refine r_iconstN (c := 1) hK dX2_read_206 ?_
          refine r_goto 211 hK dX2_read_207 ?_
          refine r_istore_2 hK dX2_read_211 ?_
          refine r_iload_4 hK dX2_read_212 ?_
          refine r_istore_1 hK dX2_read_214 ?_
          refine r_goto 9 hK dX2_read_215 ?_
          refine ih e (acc ++ [(kd, i, e)]) f2 _ _ _ _ _ _ _ _ (by omega) het (by rw [← hlen]; omega) p1 p2 hS' (hk.tr p3) ?_ hn3 rfl rfl
          rw [← hee, List.append_assoc]
          show acc ++ ([(kd, i, e)] ++ _) = acc ++ (if kd = 3 then [(kd, i, e)] else (kd, i, e) :: cutB _)
          rw [if_neg k3]; rfl --!
      by_cases hit : tp ≤ i
      · have hie : i = tp := by omega
        subst hie
        have e1 : lexF i (Bt i T) (m + 1) i = [(0, i, i)] := by unfold lexF; rw [if_pos (Nat.le_refl _)]
        rw [e1] at he
        refine r_iload_1 hK dX2_read_9 ?_
        refine r_aload_0 hK dX2_read_10 ?_
        refine r_get hK fl_X2_46 dX2_read_11 (hO) rfl ?_
        refine r_icmp_ge 218 hK dX2_read_14 (by omega) (by omega) (fun h14 => ?_) (fun h14 => ?_)
        · refine r_iload_2 hK dX2_read_218 ?_
          refine r_if_eq 230 hK dX2_read_219 (by decide) (fun h219 => ?_) (fun h219 => ?_)
          · exact absurd h219 (by decide) --!
          · refine r_aload_0 hK dX2_read_222 ?_
            refine r_iconstN (c := 4) hK dX2_read_223 ?_
            refine r_iload_1 hK dX2_read_224 ?_
            refine r_iload_1 hK dX2_read_225 ?_
            refine r_iconstN (c := 0) hK dX2_read_226 ?_
            refine r_callV4 hK (ct_kAdd hK.rel (s := 4) (w := 0) hO hA (by omega) (by decide) (by omega) (by omega) (by decide)) lk_X2_85 (Rcv.raw hK.rel hO rfl) dX2_read_227 (fun r n1 f2 hp => ?_)
            obtain ⟨rfl, rfl, p1, p2, p3⟩ := hp
            have hS' := hS.add (t := (0, i, i)) (s := zI ((4 : Nat) : Int)) (a := zI (i : Int)) (b := zI (i : Int)) (w := zI (sx 0)) (tkOK_c (kd := 0) (by decide) (by decide) (by decide))
            have hlen : acc.length + 1 = (acc ++ [((0, i, i) : Tk)]).length := by rw [List.length_append]; rfl
            have e2 : acc ++ [((0, i, i) : Tk)] = LX := he
            rw [hlen, e2] at p1
            rw [e2] at hS'
            exact r_vret hK hRt dX2_read_230 ⟨rfl, rfl, ⟨_, _, _, _, p1, p2, hS'⟩, hk.tr p3⟩
        · omega --!
      · have hit' : i < tp := by omega
        have hBi : Bt tp T i = T i := by unfold Bt; rw [if_pos hit']
        have e1 : lexF tp (Bt tp T) (m + 1) i = if isW (Bt tp T i) then lexF tp (Bt tp T) m (i + 1)
            else if isL (Bt tp T i) then (kdL (Bt tp T) i (rlL (Bt tp T) 2001 i), i, i + rlL (Bt tp T) 2001 i) :: lexF tp (Bt tp T) m (i + rlL (Bt tp T) 2001 i)
            else if isD (Bt tp T i) then ((if 4 < rlD (Bt tp T) 2001 i then 3 else 2), i, i + rlD (Bt tp T) 2001 i) :: lexF tp (Bt tp T) m (i + rlD (Bt tp T) 2001 i)
            else (sgK (Bt tp T i), i, i + 1) :: lexF tp (Bt tp T) m (i + 1) := by
          show (if tp ≤ i then _ else _) = _
          rw [if_neg hit]
        rw [e1] at he
        have s32 := sx_eq (b := T i) (c := 32) hti (by decide)
        have s9 := sx_eq (b := T i) (c := 9) hti (by decide)
        have s10 := sx_eq (b := T i) (c := 10) hti (by decide)
        have s13 := sx_eq (b := T i) (c := 13) hti (by decide)
        have s59 := sx_eq (b := T i) (c := 59) hti (by decide)
        have s45 := sx_eq (b := T i) (c := 45) hti (by decide)
        -- blanks
        have blank : isW (T i) → ∀ (x3 x4 x5 x6 : Option Value), nl x3 = true → nl x4 = true → nl x5 = true → Wx K 57 [some (.ref 302), some (zI (i : Int)), some (zI ((1 : Nat) : Int)), x3, x4, x5, x6] [] n f1 0 := by
          intro hw x3 x4 x5 x6 hn3 hn4 hn5
          first | refine r_incN_1 hK dX2_read_57 ?_ | refine r_iinc_1 hK dX2_read_57 ?_
          refine r_goto 9 hK dX2_read_60 ?_
          rw [hBi, if_pos hw] at he
          exact ih (i + 1) acc f1 S A B W _ _ _ _ (by omega) (by omega) (by omega) hO hA hS hk he hn3 hn4 hn5
        -- letters
        have LL : ∀ (d e : Nat) (x5 : Option Value), d = tp + 1 - e → i < e → e ≤ tp → (∀ j, j < e - i → isL (Bt tp T (i + j))) → ¬ isW (T i) → nl x5 = true → Wx K 74 [some (.ref 302), some (zI (i : Int)), some (zI ((1 : Nat) : Int)), some (zI (sx (T i))), some (zI (e : Int)), x5, some (zI ((0 : Nat) : Int))] [] n f1 0 := by
          intro d
          induction d using Nat.strongRecOn with
          | _ d ih2 =>
            intro e x5 hd hie het hl hnw hn5
            refine r_aload_0 hK dX2_read_74 ?_
            refine r_iload_4 hK dX2_read_75 ?_
            refine r_pV1 hK (ct_kLet hK.rel hO hT1 hT2 htp (by omega)) lk_X2_74 (Rcv.raw hK.rel hO rfl) dX2_read_77 ?_
            refine r_ifB_eq 89 hK dX2_read_80 (fun h80 => ?_) (fun h80 => ?_)
            · have hL0 : isL (Bt tp T i) := hl 0 (by omega)
              have hr : rlL (Bt tp T) 2001 i = e - i := rlL_eq 2001 i (e - i) (by omega) hl (by rw [show i + (e - i) = e by omega]; exact h80)
              rw [hBi, if_neg hnw, ← hBi, if_pos hL0, hr, show i + (e - i) = e by omega] at he
              have hBT : ∀ j, j < e - i → Bt tp T (i + j) = T (i + j) := fun j hj => by unfold Bt; rw [if_pos (by omega)]
              have hkw := kdL_w (T := T) (B := Bt tp T) (i := i) (r := e - i) hBT hl
              rw [show i + (e - i) = e by omega] at hkw
              obtain ⟨wd, hwd⟩ : ∃ wd, wd = wdI T i e 4 0 := ⟨_, rfl⟩
              obtain ⟨kd, hkd⟩ : ∃ kd, kd = kdL (Bt tp T) i (e - i) := ⟨_, rfl⟩
              rw [← hwd, ← hkd] at hkw
              rw [← hkd] at he
              have hw255 : wd < 256 := by omega
              have hswd := sx_r hw255
              refine r_aload_0 hK dX2_read_89 ?_
              refine r_iload_1 hK dX2_read_90 ?_
              refine r_iload_4 hK dX2_read_91 ?_
              refine r_pV2 hK (ct_kWord hK.rel hXK hO hW1 hT1 hT2 (by omega)) lk_X2_78 (Rcv.raw hK.rel hO rfl) dX2_read_93 ?_
              refine r_istore_6 hK dX2_read_96 ?_ (hp := hn5)
              rw [← hwd]
              refine r_iload_6 hK dX2_read_98 ?_
              refine r_if_lt 107 hK dX2_read_100 (by omega) (fun h100 => ?_) (fun h100 => ?_)
              · have hk1 : wd = 255 ∧ kd = if 8 < e - i then 3 else 1 := by
                  rcases hkw with z | z
                  · exact absurd h100 (by unfold sx; rw [if_pos (by omega)]; omega)
                  · exact z
                refine r_iload_4 hK dX2_read_107 ?_
                refine r_iload_1 hK dX2_read_109 ?_
                first | refine r_isubN hK dX2_read_110 (by omega) ?_ | refine r_isub hK dX2_read_110 ?_
                refine r_bipushN (c := 8) hK dX2_read_111 ?_
                refine r_icmp_le 120 hK dX2_read_113 (by omega) (by omega) (fun h113 => ?_) (fun h113 => ?_)
                · have hsr : srtK kd = 0 ∧ kd = 1 := by rw [hk1.2, if_neg (by omega)]; exact ⟨rfl, rfl⟩
                  refine r_iconstN (c := 0) hK dX2_read_120 ?_
                  refine r_istore_5 hK dX2_read_121 ?_
                  refine r_goto 189 hK dX2_read_123 ?_
                  have := note kd e wd (some (zI (sx (T i)))) hit' hie het hw255 ⟨rfl, rfl, rfl, fun q => absurd q (by show ¬ 20 ≤ kd; omega), fun q => absurd q (by show kd ≠ 4; omega), fun q => absurd q (by show kd ≠ 5; omega)⟩ (by omega) (by omega) he rfl
                  rw [hsr.1] at this
                  exact this --!
                · have hsr : srtK kd = 5 ∧ kd = 3 := by rw [hk1.2, if_pos (by omega)]; exact ⟨rfl, rfl⟩
                  refine r_iconstN (c := 5) hK dX2_read_116 ?_
                  refine r_goto 121 hK dX2_read_117 ?_
                  refine r_istore_5 hK dX2_read_121 ?_
                  refine r_goto 189 hK dX2_read_123 ?_
                  have := note kd e wd (some (zI (sx (T i)))) hit' hie het hw255 ⟨rfl, rfl, rfl, fun q => absurd q (by show ¬ 20 ≤ kd; omega), fun q => absurd q (by show kd ≠ 4; omega), fun q => absurd q (by show kd ≠ 5; omega)⟩ (by omega) (by omega) he rfl
                  rw [hsr.1] at this
                  exact this --!
              · have hk1 : wd < 4 ∧ kd = 20 + wd := by
                  rcases hkw with z | z
                  · exact z
                  · rw [z.1] at h100; exact absurd h100 (by decide)
                have hsr : srtK kd = 3 := by unfold srtK; rw [if_neg (by omega), if_neg (by omega), if_neg (by omega), if_neg (by omega), if_neg (by omega)]
                refine r_iconstN (c := 3) hK dX2_read_103 ?_
                refine r_goto 121 hK dX2_read_104 ?_
                refine r_istore_5 hK dX2_read_121 ?_
                refine r_goto 189 hK dX2_read_123 ?_
                have := note kd e wd (some (zI (sx (T i)))) hit' hie het hw255 ⟨rfl, rfl, rfl, fun _ => by show zI (sx wd) = _; rw [show kd - 20 = wd by omega]; unfold sx; rw [if_pos (by omega)], fun q => absurd q (by show kd ≠ 4; omega), fun q => absurd q (by show kd ≠ 5; omega)⟩ (by omega) (by omega) he rfl
                rw [hsr] at this
                exact this --!
            · first | refine r_incN_4 hK dX2_read_83 ?_ | refine r_iinc_4 hK dX2_read_83 ?_
              refine r_goto 74 hK dX2_read_86 ?_
              have := Bt_in (n := tp) (T := T) (i := e) (by omega)
              exact ih2 (tp + 1 - (e + 1)) (by omega) (e + 1) _ rfl (by omega) (by omega) (fun j hj => by
                by_cases c : j = e - i
                · rw [c, show i + (e - i) = e by omega]; exact h80
                · exact hl j (by omega)) hnw hn5
        -- digits
        have DD : ∀ (d e : Nat) (x5 : Option Value), d = tp + 1 - e → i < e → e ≤ tp → (∀ j, j < e - i → isD (Bt tp T (i + j))) → ¬ isW (T i) → ¬ isL (T i) → nl x5 = true → Wx K 134 [some (.ref 302), some (zI (i : Int)), some (zI ((1 : Nat) : Int)), some (zI (sx (T i))), some (zI (e : Int)), x5, some (zI ((0 : Nat) : Int))] [] n f1 0 := by
          intro d
          induction d using Nat.strongRecOn with
          | _ d ih2 =>
            intro e x5 hd hie het hl hnw hnl hn5
            refine r_aload_0 hK dX2_read_134 ?_
            refine r_iload_4 hK dX2_read_135 ?_
            refine r_pV1 hK (ct_kDig hK.rel hO hT1 hT2 htp (by omega)) lk_X2_82 (Rcv.raw hK.rel hO rfl) dX2_read_137 ?_
            refine r_ifB_eq 149 hK dX2_read_140 (fun h140 => ?_) (fun h140 => ?_)
            · have hD0 : isD (Bt tp T i) := hl 0 (by omega)
              have hr : rlD (Bt tp T) 2001 i = e - i := rlD_eq 2001 i (e - i) (by omega) hl (by rw [show i + (e - i) = e by omega]; exact h140)
              rw [hBi, if_neg hnw, if_neg hnl, ← hBi, if_pos hD0, hr, show i + (e - i) = e by omega] at he
              refine r_iload_4 hK dX2_read_149 ?_
              refine r_iload_1 hK dX2_read_151 ?_
              first | refine r_isubN hK dX2_read_152 (by omega) ?_ | refine r_isub hK dX2_read_152 ?_
              refine r_iconstN (c := 4) hK dX2_read_153 ?_
              refine r_icmp_le 161 hK dX2_read_154 (by omega) (by omega) (fun h154 => ?_) (fun h154 => ?_)
              · rw [if_neg (show ¬ 4 < e - i by omega)] at he
                refine r_iconstN (c := 1) hK dX2_read_161 ?_
                refine r_istore_5 hK dX2_read_162 ?_
                refine r_goto 189 hK dX2_read_164 ?_
                exact note 2 e 0 (some (zI (sx (T i)))) hit' hie het (by decide) (tkOK_c (by decide) (by decide) (by decide)) (by decide) (by decide) he rfl --!
              · rw [if_pos (show 4 < e - i by omega)] at he
                refine r_iconstN (c := 5) hK dX2_read_157 ?_
                refine r_goto 162 hK dX2_read_158 ?_
                refine r_istore_5 hK dX2_read_162 ?_
                refine r_goto 189 hK dX2_read_164 ?_
                exact note 3 e 0 (some (zI (sx (T i)))) hit' hie het (by decide) (tkOK_c (by decide) (by decide) (by decide)) (by decide) (by decide) he rfl --!
            · first | refine r_incN_4 hK dX2_read_143 ?_ | refine r_iinc_4 hK dX2_read_143 ?_
              refine r_goto 134 hK dX2_read_146 ?_
              have := Bt_in (n := tp) (T := T) (i := e) (by omega)
              exact ih2 (tp + 1 - (e + 1)) (by omega) (e + 1) _ rfl (by omega) (by omega) (fun j hj => by
                by_cases c : j = e - i
                · rw [c, show i + (e - i) = e by omega]; exact h140
                · exact hl j (by omega)) hnw hnl hn5
        have rest : ¬ isW (T i) → ∀ (x5 x6 : Option Value), nl x5 = true → Wx K 63 [some (.ref 302), some (zI (i : Int)), some (zI ((1 : Nat) : Int)), some (zI (sx (T i))), some (zI ((i + 1 : Nat) : Int)), x5, x6] [] n f1 0 := by
          intro hnw x5 x6 hn5
          refine r_iconstN (c := 0) hK dX2_read_63 ?_
          refine r_istore_6 hK dX2_read_64 ?_ (hp := hn5)
          refine r_aload_0 hK dX2_read_66 ?_
          refine r_iload_1 hK dX2_read_67 ?_
          refine r_pV1 hK (ct_kLet hK.rel hO hT1 hT2 htp (by omega)) lk_X2_74 (Rcv.raw hK.rel hO rfl) dX2_read_68 ?_
          refine r_ifB_eq 126 hK dX2_read_71 (fun h71 => ?_) (fun h71 => ?_)
          · rw [hBi] at h71
            refine r_aload_0 hK dX2_read_126 ?_
            refine r_iload_1 hK dX2_read_127 ?_
            refine r_pV1 hK (ct_kDig hK.rel hO hT1 hT2 htp (by omega)) lk_X2_82 (Rcv.raw hK.rel hO rfl) dX2_read_128 ?_
            refine r_ifB_eq 167 hK dX2_read_131 (fun h131 => ?_) (fun h131 => ?_)
            · rw [hBi] at h131
              rw [hBi, if_neg hnw, if_neg h71, if_neg h131] at he
              refine r_iload_3 hK dX2_read_167 ?_
              refine r_istore_6 hK dX2_read_168 ?_ (hp := hn5)
              refine r_iload_3 hK dX2_read_170 ?_
              refine r_bipushN (c := 59) hK dX2_read_171 ?_
              refine r_icmp_eq 182 hK dX2_read_173 (by omega) (by omega) (fun h173 => ?_) (fun h173 => ?_)
              · have hc : T i = 59 := s59.mp h173
                have hsg : sgK (T i) = 4 := by unfold sgK; rw [if_pos hc]
                rw [hsg] at he
                refine r_iconstN (c := 2) hK dX2_read_182 ?_
                refine r_goto 187 hK dX2_read_183 ?_
                refine r_istore_5 hK dX2_read_187 ?_
                exact note 4 (i + 1) (T i) (some (zI (sx (T i)))) hit' (by omega) (by omega) hti (tkOK_4 (by rw [s59.mpr hc])) (by decide) (by decide) he rfl --!
              · refine r_iload_3 hK dX2_read_176 ?_
                refine r_bipushN (c := 45) hK dX2_read_177 ?_
                refine r_icmp_ne 186 hK dX2_read_179 (by omega) (by omega) (fun h179 => ?_) (fun h179 => ?_)
                · have hc59 : ¬ T i = 59 := fun q => h173 (s59.mpr q)
                  have hc45 : ¬ T i = 45 := fun q => h179 (s45.mpr q)
                  have hsg : sgK (T i) = 3 := by unfold sgK; rw [if_neg hc59, if_neg hc45]
                  rw [hsg] at he
                  refine r_iconstN (c := 5) hK dX2_read_186 ?_
                  refine r_istore_5 hK dX2_read_187 ?_
                  exact note 3 (i + 1) (T i) (some (zI (sx (T i)))) hit' (by omega) (by omega) hti (tkOK_c (by decide) (by decide) (by decide)) (by decide) (by decide) he rfl --!
                · have hc : T i = 45 := s45.mp h179
                  have hsg : sgK (T i) = 5 := by unfold sgK; rw [if_neg (by omega), if_pos hc]
                  rw [hsg] at he
                  refine r_iconstN (c := 2) hK dX2_read_182 ?_
                  refine r_goto 187 hK dX2_read_183 ?_
                  refine r_istore_5 hK dX2_read_187 ?_
                  exact note 5 (i + 1) (T i) (some (zI (sx (T i)))) hit' (by omega) (by omega) hti (tkOK_5 (by rw [s45.mpr hc])) (by decide) (by decide) he rfl --!
            · exact DD (tp + 1 - (i + 1)) (i + 1) x5 rfl (by omega) (by omega) (fun j hj => by rw [show j = 0 by omega]; exact h131) hnw h71 hn5 --!
          · exact LL (tp + 1 - (i + 1)) (i + 1) x5 rfl (by omega) (by omega) (fun j hj => by rw [show j = 0 by omega]; exact h71) hnw hn5 --!
        refine r_iload_1 hK dX2_read_9 ?_
        refine r_aload_0 hK dX2_read_10 ?_
        refine r_get hK fl_X2_46 dX2_read_11 (hO) rfl ?_
        refine r_icmp_ge 218 hK dX2_read_14 (by omega) (by omega) (fun h14 => ?_) (fun h14 => ?_)
        · omega --!
        · refine r_iload_2 hK dX2_read_17 ?_
          refine r_if_eq 218 hK dX2_read_18 (by decide) (fun h18 => ?_) (fun h18 => ?_)
          · exact absurd h18 (by decide) --!
          · refine r_aload_0 hK dX2_read_21 ?_
            refine r_get hK fl_X2_29 dX2_read_22 (hO) rfl ?_
            refine r_iload_1 hK dX2_read_25 ?_
            refine r_bald hK dX2_read_26 hT1 (by omega) ?_
            refine r_istore_3 hK dX2_read_27 ?_
            refine r_iload_1 hK dX2_read_28 ?_
            refine r_iconstN (c := 1) hK dX2_read_29 ?_
            first | refine r_iaddN hK dX2_read_30 ?_ | refine r_iadd hK dX2_read_30 ?_
            refine r_istore_4 hK dX2_read_31 ?_
            refine r_iload_3 hK dX2_read_33 ?_
            refine r_bipushN (c := 32) hK dX2_read_34 ?_
            refine r_icmp_eq 57 hK dX2_read_36 (by omega) (by omega) (fun h36 => ?_) (fun h36 => ?_)
            · exact blank (Or.inr (Or.inr (Or.inr (s32.mp h36)))) _ _ _ _ rfl rfl hn5 --!
            · refine r_iload_3 hK dX2_read_39 ?_
              refine r_bipushN (c := 9) hK dX2_read_40 ?_
              refine r_icmp_eq 57 hK dX2_read_42 (by omega) (by omega) (fun h42 => ?_) (fun h42 => ?_)
              · exact blank (Or.inl (s9.mp h42)) _ _ _ _ rfl rfl hn5 --!
              · refine r_iload_3 hK dX2_read_45 ?_
                refine r_bipushN (c := 10) hK dX2_read_46 ?_
                refine r_icmp_eq 57 hK dX2_read_48 (by omega) (by omega) (fun h48 => ?_) (fun h48 => ?_)
                · exact blank (Or.inr (Or.inl (s10.mp h48))) _ _ _ _ rfl rfl hn5 --!
                · refine r_iload_3 hK dX2_read_51 ?_
                  refine r_bipushN (c := 13) hK dX2_read_52 ?_
                  refine r_icmp_ne 63 hK dX2_read_54 (by omega) (by omega) (fun h54 => ?_) (fun h54 => ?_)
                  · exact rest (fun q => by rcases q with q | q | q | q; exact h42 (s9.mpr q); exact h48 (s10.mpr q); exact h54 (s13.mpr q); exact h36 (s32.mpr q)) _ _ hn5 --!
                  · exact blank (Or.inr (Or.inr (Or.inl (s13.mp h54)))) _ _ _ _ rfl rfl hn5 --!
  refine r_aload_0 hK dX2_read_0 ?_
  refine r_iconstN (c := 0) hK dX2_read_1 ?_
  refine r_put hK fl_X2_54 dX2_read_2 (hO) (by simp) ?_
  refine r_iconstN (c := 0) hK dX2_read_5 ?_
  refine r_istore_1 hK dX2_read_6 ?_
  refine r_iconstN (c := 1) hK dX2_read_7 ?_
  refine r_istore_2 hK dX2_read_8 ?_
  have hO' : TKo (up f 302 (.inl (2, [.ref 304, .ref 305, zI (tp : Int), .ref 306, .ref 307, .ref 308, .ref 309, zI ((0 : Nat) : Int)]))) tp 0 := up_s _ _ _
  have hA' : TKa (up f 302 (.inl (2, [.ref 304, .ref 305, zI (tp : Int), .ref 306, .ref 307, .ref 308, .ref 309, zI ((0 : Nat) : Int)]))) S A B W := ⟨(up_n (by decide)).trans hA.1, (up_n (by decide)).trans hA.2.1, (up_n (by decide)).trans hA.2.2.1, (up_n (by decide)).trans hA.2.2.2⟩
  exact LP (tp + 1) 0 [] _ S A B W _ _ _ _ (by omega) (Nat.zero_le _) (Nat.le_refl _) hO' hA' (fun k t hk => by cases hk) (fun id hid => up_n (by omega)) hLX.symm rfl rfl rfl
