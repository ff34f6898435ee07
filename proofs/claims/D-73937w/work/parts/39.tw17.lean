set_option maxRecDepth 100000
/-! ===== the reference: tokens of a text ===== -/
set_option maxHeartbeats 4000000 in
theorem ct_byteAt {G : GT} {Rel : Nat → Hp → Hp → Prop} (hR : RelOK Rel) {n : Nat} {f0 : Hp} {F : Nat → Nat} {A : Nat → Nat → Nat} {i : Nat} (h4 : F 4 ≤ 2000) (hT : ∀ i, A 1 i < 256) (hi : i < 10000) : Ct G Rel yX9_byteAt cX9_byteAt 2 (some .int) (1) (0) [.ref 358, zI (i : Int)] n (tw f0 F A) (Pu (zI ((Bt (F 4) (A 1) i : Nat) : Int)) n (tw f0 F A)) := by
  refine ct_intro [some (.ref 358), some (zI (i : Int))] hR rfl (Nat.le_of_ble_eq_true rfl) ?_
  intro K hG hRel hK hRt hnm
  refine r_iload_1 hK dX9_byteAt_0 ?_
  refine r_aload_0 hK dX9_byteAt_1 ?_
  refine r_get hK fl_X9_134 dX9_byteAt_2 tw_obj rfl ?_
  refine r_icmp_ge 21 hK dX9_byteAt_5 (by omega) (by omega) (fun h5 => ?_) (fun h5 => ?_)
  · refine r_iconstN (c := 0) hK dX9_byteAt_21 ?_
    exact r_iret hK hRt dX9_byteAt_22 ⟨by unfold Bt; rw [if_neg (by omega)], rfl, rfl⟩
  · refine r_aload_0 hK dX9_byteAt_8 ?_
    refine r_get hK fl_X9_17 dX9_byteAt_9 tw_obj rfl ?_
    refine r_iload_1 hK dX9_byteAt_12 ?_
    refine t_bld hK dX9_byteAt_13 (show _ < 2000 by omega) ?_
    refine r_sipushN (c := 255) hK dX9_byteAt_14 ?_
    refine r_iandR hK dX9_byteAt_17 ?_
    refine r_top (sx_and _ (hT i)) ?_
    refine r_goto 22 hK dX9_byteAt_18 ?_
    exact r_iret hK hRt dX9_byteAt_22 ⟨by unfold Bt; rw [if_pos (by omega)], rfl, rfl⟩
set_option maxHeartbeats 4000000 in
theorem ct_isDigit {G : GT} {Rel : Nat → Hp → Hp → Prop} (hR : RelOK Rel) {n : Nat} {f : Hp} {c : Nat} (hc : c < 256) : Ct G Rel yX9_isDigit cX9_isDigit 1 (some .boolean) (1) (0) [zI (c : Int)] n (f) (Pu (zB (isD c)) n f) := by
  refine ct_intro [some (zI (c : Int))] hR rfl (Nat.le_of_ble_eq_true rfl) ?_
  intro K hG hRel hK hRt hnm
  refine r_iload_0 hK dX9_isDigit_0 ?_
  refine r_bipushN (c := 48) hK dX9_isDigit_1 ?_
  refine r_icmp_lt 16 hK dX9_isDigit_3 (by omega) (by omega) (fun h3 => ?_) (fun h3 => ?_)
  · refine r_iconstN (c := 0) hK dX9_isDigit_16 ?_
    exact r_zret hK hRt dX9_isDigit_17 rfl ⟨by rw [zB_f (by omega)]; rfl, rfl, rfl⟩
  · refine r_iload_0 hK dX9_isDigit_6 ?_
    refine r_bipushN (c := 57) hK dX9_isDigit_7 ?_
    refine r_icmp_gt 16 hK dX9_isDigit_9 (by omega) (by omega) (fun h9 => ?_) (fun h9 => ?_)
    · refine r_iconstN (c := 0) hK dX9_isDigit_16 ?_
      exact r_zret hK hRt dX9_isDigit_17 rfl ⟨by rw [zB_f (by omega)]; rfl, rfl, rfl⟩
    · refine r_iconstN (c := 1) hK dX9_isDigit_12 ?_
      refine r_goto 17 hK dX9_isDigit_13 ?_
      exact r_zret hK hRt dX9_isDigit_17 rfl ⟨by rw [zB_t (by omega)]; rfl, rfl, rfl⟩
set_option maxHeartbeats 4000000 in
theorem ct_isLetter {G : GT} {Rel : Nat → Hp → Hp → Prop} (hR : RelOK Rel) {n : Nat} {f : Hp} {c : Nat} (hc : c < 256) : Ct G Rel yX9_isLetter cX9_isLetter 1 (some .boolean) (1) (0) [zI (c : Int)] n (f) (Pu (zB (isL c)) n f) := by
  refine ct_intro [some (zI (c : Int))] hR rfl (Nat.le_of_ble_eq_true rfl) ?_
  intro K hG hRel hK hRt hnm
  refine r_iload_0 hK dX9_isLetter_0 ?_
  refine r_bipushN (c := 97) hK dX9_isLetter_1 ?_
  refine r_icmp_lt 16 hK dX9_isLetter_3 (by omega) (by omega) (fun h3 => ?_) (fun h3 => ?_)
  · refine r_iconstN (c := 0) hK dX9_isLetter_16 ?_
    exact r_zret hK hRt dX9_isLetter_17 rfl ⟨by rw [zB_f (by omega)]; rfl, rfl, rfl⟩
  · refine r_iload_0 hK dX9_isLetter_6 ?_
    refine r_bipushN (c := 122) hK dX9_isLetter_7 ?_
    refine r_icmp_gt 16 hK dX9_isLetter_9 (by omega) (by omega) (fun h9 => ?_) (fun h9 => ?_)
    · refine r_iconstN (c := 0) hK dX9_isLetter_16 ?_
      exact r_zret hK hRt dX9_isLetter_17 rfl ⟨by rw [zB_f (by omega)]; rfl, rfl, rfl⟩
    · refine r_iconstN (c := 1) hK dX9_isLetter_12 ?_
      refine r_goto 17 hK dX9_isLetter_13 ?_
      exact r_zret hK hRt dX9_isLetter_17 rfl ⟨by rw [zB_t (by omega)]; rfl, rfl, rfl⟩
def apN (m c : Nat) : Nat := if c = 0 then m else 27 * m + (c - 96)
set_option maxHeartbeats 4000000 in
theorem ct_appends {G : GT} {Rel : Nat → Hp → Hp → Prop} (hR : RelOK Rel) {n : Nat} {f : Hp} {m c : Nat} (hc : c = 0 ∨ isL c) : Ct G Rel yX9_appends cX9_appends 3 (some .long) (1) (0) [zL (m : Int), zI (c : Int)] n (f) (Pu (zL ((apN m c : Nat) : Int)) n f) := by
  refine ct_intro [some (zL (m : Int)), none, some (zI (c : Int))] hR rfl (Nat.le_of_ble_eq_true rfl) ?_
  intro K hG hRel hK hRt hnm
  refine r_iload_2 hK dX9_appends_0 ?_
  refine r_if_ne 8 hK dX9_appends_1 (by omega) (fun h1 => ?_) (fun h1 => ?_)
  · refine r_ldc2 (c := 27) hK q2105 dX9_appends_8 (by decide +kernel) ?_
    refine r_lload_0 hK dX9_appends_11 ?_
    refine r_lmul hK dX9_appends_12 ?_
    refine r_iload_2 hK dX9_appends_13 ?_
    refine r_bipushN (c := 97) hK dX9_appends_14 ?_
    first | refine r_isubN hK dX9_appends_16 (by omega) ?_ | refine r_isub hK dX9_appends_16 ?_
    refine r_iconstN (c := 1) hK dX9_appends_17 ?_
    first | refine r_iaddN hK dX9_appends_18 ?_ | refine r_iadd hK dX9_appends_18 ?_
    refine r_i2l hK dX9_appends_19 (by omega) ?_
    refine r_ladd hK dX9_appends_20 ?_
    exact r_lret hK hRt dX9_appends_21 ⟨by unfold apN; rw [if_neg (by omega)]; congr 2; omega, rfl, rfl⟩
  · refine r_lload_0 hK dX9_appends_4 ?_
    refine r_goto 21 hK dX9_appends_5 ?_
    exact r_lret hK hRt dX9_appends_21 ⟨by unfold apN; rw [if_pos (by omega)], rfl, rfl⟩
def tokA (A : Nat → Nat → Nat) (j k p v m : Nat) : Nat → Nat → Nat := upA (upA (upA (upA A 2 j k) 3 j p) 4 j v) 5 j m
set_option maxHeartbeats 4000000 in
theorem ct_token {G : GT} {Rel : Nat → Hp → Hp → Prop} (hR : RelOK Rel) {n : Nat} {f0 : Hp} {F : Nat → Nat} {A : Nat → Nat → Nat} {k p v m : Nat} (h : F 10 < 403) : Ct G Rel yX9_token cX9_token 6 none (1) (0) [.ref 358, zI (k : Int), zI (p : Int), zI (v : Int), zL (m : Int)] n (tw f0 F A) (Pv n (tw f0 (upF F 10 (F 10 + 1)) (tokA A (F 10) k p v m))) := by
  refine ct_intro [some (.ref 358), some (zI (k : Int)), some (zI (p : Int)), some (zI (v : Int)), some (zL (m : Int)), none] hR rfl (Nat.le_of_ble_eq_true rfl) ?_
  intro K hG hRel hK hRt hnm
  refine r_aload_0 hK dX9_token_0 ?_
  refine r_get hK fl_X9_20 dX9_token_1 tw_obj rfl ?_
  refine r_aload_0 hK dX9_token_4 ?_
  refine r_get hK fl_X9_143 dX9_token_5 tw_obj rfl ?_
  refine r_iload_1 hK dX9_token_8 ?_
  refine t_ist hK dX9_token_9 (show _ < 403 by omega) ?_
  refine r_aload_0 hK dX9_token_10 ?_
  refine r_get hK fl_X9_24 dX9_token_11 tw_obj rfl ?_
  refine r_aload_0 hK dX9_token_14 ?_
  refine r_get hK fl_X9_143 dX9_token_15 tw_obj rfl ?_
  refine r_iload_2 hK dX9_token_18 ?_
  refine t_ist hK dX9_token_19 (show _ < 403 by omega) ?_
  refine r_aload_0 hK dX9_token_20 ?_
  refine r_get hK fl_X9_27 dX9_token_21 tw_obj rfl ?_
  refine r_aload_0 hK dX9_token_24 ?_
  refine r_get hK fl_X9_143 dX9_token_25 tw_obj rfl ?_
  refine r_iload_3 hK dX9_token_28 ?_
  refine t_ist hK dX9_token_29 (show _ < 403 by omega) ?_
  refine r_aload_0 hK dX9_token_30 ?_
  refine r_get hK fl_X9_30 dX9_token_31 tw_obj rfl ?_
  refine r_aload_0 hK dX9_token_34 ?_
  refine r_get hK fl_X9_143 dX9_token_35 tw_obj rfl ?_
  refine r_lload_4 hK dX9_token_38 ?_
  refine t_lst hK dX9_token_40 (show _ < 403 by omega) ?_
  refine r_aload_0 hK dX9_token_41 ?_
  refine r_dup hK dX9_token_42 ?_
  refine r_get hK fl_X9_143 dX9_token_43 tw_obj rfl ?_
  refine r_iconstN (c := 1) hK dX9_token_46 ?_
  first | refine r_iaddN hK dX9_token_47 ?_ | refine r_iadd hK dX9_token_47 ?_
  refine t_put hK fl_X9_143 dX9_token_48 ?_
  exact r_vret hK hRt dX9_token_51 ⟨rfl, rfl, rfl⟩
set_option maxHeartbeats 4000000 in
theorem ct_sign {G : GT} {Rel : Nat → Hp → Hp → Prop} (hR : RelOK Rel) {n : Nat} {f0 : Hp} {F : Nat → Nat} {A : Nat → Nat → Nat} {i c : Nat} (h : F 10 < 403) (hc : c < 256) : Ct G Rel yX9_sign cX9_sign 3 (some .int) (2) (0) [.ref 358, zI (i : Int), zI (c : Int)] n (tw f0 F A) (Pu (zI ((1 : Nat) : Int)) n (tw f0 (upF F 10 (F 10 + 1)) (tokA A (F 10) (sgK c) i 0 0))) := by
  refine ct_intro [some (.ref 358), some (zI (i : Int)), some (zI (c : Int))] hR rfl (Nat.le_of_ble_eq_true rfl) ?_
  intro K hG hRel hK hRt hnm
  have j22 : ∀ k, k = sgK c → Wx K 22 [some (.ref 358), some (zI (i : Int)), some (zI (c : Int))] [zI (k : Int), .ref 358] n (tw f0 F A) 0 := by
    intro k hk
    subst hk
    refine r_iload_1 hK dX9_sign_22 ?_
    refine r_iconstN (c := 0) hK dX9_sign_23 ?_
    show Wx K 24 _ [zI ((0 : Nat) : Int), zI (i : Int), zI ((sgK c : Nat) : Int), .ref 358] _ _ _
    refine r_lconst_0 hK dX9_sign_24 ?_
    show Wx K 25 _ [zL ((0 : Nat) : Int), zI ((0 : Nat) : Int), zI (i : Int), zI ((sgK c : Nat) : Int), .ref 358] _ _ _
    refine r_vV4 hK (ct_token hK.rel h) lk_X9_150 (tw_rcv hK) dX9_sign_25 ?_
    refine r_iconstN (c := 1) hK dX9_sign_28 ?_
    exact r_iret hK hRt dX9_sign_29 ⟨rfl, rfl, rfl⟩
  refine r_aload_0 hK dX9_sign_0 ?_
  refine r_iload_2 hK dX9_sign_1 ?_
  refine r_bipushN (c := 59) hK dX9_sign_2 ?_
  refine r_icmp_ne 11 hK dX9_sign_4 (by omega) (by omega) (fun h4 => ?_) (fun h4 => ?_)
  · refine r_iload_2 hK dX9_sign_11 ?_
    refine r_bipushN (c := 45) hK dX9_sign_12 ?_
    refine r_icmp_ne 21 hK dX9_sign_14 (by omega) (by omega) (fun h14 => ?_) (fun h14 => ?_)
    · refine r_iconstN (c := 3) hK dX9_sign_21 ?_
      exact j22 3 (by unfold sgK; rw [if_neg (by omega), if_neg (by omega)])
    · refine r_iconstN (c := 5) hK dX9_sign_17 ?_
      refine r_goto 22 hK dX9_sign_18 ?_
      exact j22 5 (by unfold sgK; rw [if_neg (by omega), if_pos (by omega)])
  · refine r_iconstN (c := 4) hK dX9_sign_7 ?_
    refine r_goto 22 hK dX9_sign_8 ?_
    exact j22 4 (by unfold sgK; rw [if_pos (by omega)])
/-- the arrays of tokens tell the first of a list -/
def TkR (B : Nat → Nat) (A : Nat → Nat → Nat) (N : Nat) (l : List Tk) : Prop := ∀ k, k < N → ∃ b, l[k]? = some (A 2 k, A 3 k, b) ∧ A 4 k = vlT B (A 3 k) b ∧ A 5 k = nmT B (A 3 k) b
theorem TkR.add {B : Nat → Nat} {A : Nat → Nat → Nat} {N : Nat} {l : List Tk} {k p v m b : Nat} (h : TkR B A N l) (hl : l[N]? = some (k, p, b)) (hv : v = vlT B p b) (hm : m = nmT B p b) : TkR B (tokA A N k p v m) (N + 1) l := by
  intro j hj
  unfold tokA
  by_cases e : j = N
  · subst e
    refine ⟨b, ?_, ?_, ?_⟩
    · rw [upA_j (by decide), upA_j (by decide), upA_j (by decide), upA_s, upA_j (by decide), upA_j (by decide), upA_s]; exact hl
    · rw [upA_j (by decide), upA_s, upA_j (by decide), upA_j (by decide), upA_s]; exact hv
    · rw [upA_s, upA_j (by decide), upA_j (by decide), upA_s]; exact hm
  · obtain ⟨b', h1, h2, h3⟩ := h j (by omega)
    refine ⟨b', ?_, ?_, ?_⟩
    · rw [upA_j (by decide), upA_j (by decide), upA_j (by decide), upA_n e, upA_j (by decide), upA_j (by decide), upA_n e, upA_j (by decide)]; exact h1
    · rw [upA_j (by decide), upA_n e, upA_j (by decide), upA_j (by decide), upA_j (by decide), upA_j (by decide), upA_n e, upA_j (by decide)]; exact h2
    · rw [upA_n e, upA_j (by decide), upA_j (by decide), upA_j (by decide), upA_j (by decide), upA_j (by decide), upA_n e, upA_j (by decide)]; exact h3
theorem tokA_j {A : Nat → Nat → Nat} {j k p v m a : Nat} (h : a < 2 ∨ 5 < a) : tokA A j k p v m a = A a := by
  unfold tokA; rw [upA_j (by omega), upA_j (by omega), upA_j (by omega), upA_j (by omega)]
set_option maxHeartbeats 4000000 in
theorem ct_cutsText {G : GT} {Rel : Nat → Hp → Hp → Prop} (hR : RelOK Rel) {n : Nat} {f0 : Hp} {F : Nat → Nat} {A : Nat → Nat → Nat} (hs : F 4 ≤ 2000) (hT : ∀ i, A 1 i < 256) (hky : ∀ k, k < 4 → A 6 k = keyN k) : Ct G Rel yX9_cutsText cX9_cutsText 8 none (3) (0) [.ref 358] n (tw f0 F A) (Tv n f0 (fun F' A' => ∃ N, F' = upF F 10 N ∧ 1 ≤ N ∧ N ≤ 401 ∧ N ≤ (lex (F 4) (A 1)).length ∧ (N = 401 ∨ N = (lex (F 4) (A 1)).length) ∧ TkR (Bt (F 4) (A 1)) A' N (lex (F 4) (A 1)) ∧ ∀ a, a < 2 ∨ 5 < a → A' a = A a)) := by
  refine ct_intro [some (.ref 358), none, none, none, none, none, none, none] hR rfl (Nat.le_of_ble_eq_true rfl) ?_
  intro K hG hRel hK hRt hnm
  obtain ⟨B, hB⟩ : ∃ B, B = Bt (F 4) (A 1) := ⟨_, rfl⟩
  have hBl : ∀ i, B i < 256 := fun i => by rw [hB]; exact Bt_lt hT i
  have hBn : ∀ i, B i ≠ 0 → i < F 4 := fun i h => by rw [hB] at h; exact Bt_in h
  have cB : ∀ (F1 : Nat → Nat) (A1 : Nat → Nat → Nat) (i : Nat), F1 4 = F 4 → A1 1 = A 1 → Bt (F1 4) (A1 1) i = B i := fun F1 A1 i e1 e2 => by rw [e1, e2, hB]
  have lp : ∀ (m i N : Nat) (A1 : Nat → Nat → Nat) a2 a3 a4 a5 a6 a7, nl a3 = true → F 4 < i + m → i ≤ F 4 → N ≤ 401 → (∃ pre, lex (F 4) (A 1) = pre ++ lexF (F 4) B m i ∧ pre.length = N) → TkR B A1 N (lex (F 4) (A 1)) → (∀ a, a < 2 ∨ 5 < a → A1 a = A a) → Wx K 7 [some (.ref 358), some (zI (i : Int)), a2, a3, a4, a5, a6, a7] [] n (tw f0 (upF F 10 N) A1) 0 := by
    intro m
    induction m with
    | zero => intro i N A1 a2 a3 a4 a5 a6 a7 _ h1 h2; omega
    | succ m ih =>
      intro i N A1 a2 a3 a4 a5 a6 a7 hnl h1 h2 hN hpre hTk hA
      obtain ⟨pre, hp1, hp2⟩ := hpre
      have e : lexF (F 4) B (m + 1) i = if F 4 ≤ i then [(0, F 4, F 4)] else if isW (B i) then lexF (F 4) B m (i + 1)
        else if isL (B i) then (kdL B i (rlL B 2001 i), i, i + rlL B 2001 i) :: lexF (F 4) B m (i + rlL B 2001 i)
        else if isD (B i) then ((if 4 < rlD B 2001 i then 3 else 2), i, i + rlD B 2001 i) :: lexF (F 4) B m (i + rlD B 2001 i)
        else (sgK (B i), i, i + 1) :: lexF (F 4) B m (i + 1) := rfl
      rw [e] at hp1
      have hb := hBl i
      have q4 : upF F 10 N 4 = F 4 := upF_n (by decide)
      have q10 : upF F 10 N 10 = N := upF_s _ _ _
      have hA1 := hA 1 (by omega)
      have hA6 := hA 6 (by omega)
      have hTA : ∀ j, A1 1 j < 256 := fun j => by rw [hA1]; exact hT j
      have nxt : ∀ (k b v w : Nat) (l : List Tk), lex (F 4) (A 1) = pre ++ (k, i, b) :: l → v = vlT B i b → w = nmT B i b → TkR B (tokA A1 N k i v w) (N + 1) (lex (F 4) (A 1)) ∧ (∃ pre, lex (F 4) (A 1) = pre ++ l ∧ pre.length = N + 1) ∧ ∀ a, a < 2 ∨ 5 < a → tokA A1 N k i v w a = A a := by
        intro k b v w l hl hv hw
        refine ⟨hTk.add (by rw [hl, List.getElem?_append_right (by omega), hp2, Nat.sub_self]; rfl) hv hw, ⟨pre ++ [(k, i, b)], by rw [hl]; simp, by simp; omega⟩, fun a ha => by rw [tokA_j ha]; exact hA a ha⟩
      have W1 : N ≤ 400 → i < F 4 → ¬ isW (B i) → isL (B i) → ∀ (d c : Nat) a6 a7, c + d = F 4 + 1 - i → 1 ≤ d → (∀ j, j < c → isL (B (i + j))) → Wx K 85 [some (.ref 358), some (zI (i : Int)), some (zI ((B i : Nat) : Int)), some (zI (c : Int)), some (zL ((nmF B i (min c 8) : Nat) : Int)), none, a6, a7] [] n (tw f0 (upF F 10 N) A1) 0 := by
        intro hN4 hil hw hL d
        induction d with
        | zero => intro c a6 a7 hc h0; omega
        | succ d ihd =>
          intro c a6 a7 hc _ hj
          have hbc := hBl (i + c)
          have hn1 : nmF B i (min c 8) < 27 ^ (min c 8) := nmF_lt _ (fun j hjj => hj j (by omega))
          have hn2 : (27 : Nat) ^ (min c 8) ≤ 27 ^ 8 := Nat.pow_le_pow_right (by decide) (by omega)
          have hn3 : nmF B i (min c 8) < 282429536481 := Nat.lt_of_lt_of_le hn1 hn2
          have fin : ¬ isL (B (i + c)) → ∀ (kd : Nat) a7, kd = kdL B i c → Wx K 178 [some (.ref 358), some (zI (i : Int)), some (zI ((B i : Nat) : Int)), some (zI (c : Int)), some (zL ((nmF B i (min c 8) : Nat) : Int)), none, some (zI (kd : Int)), a7] [] n (tw f0 (upF F 10 N) A1) 0 := by
            intro hnl kd a7 hkd
            have hrl : rlL B 2001 i = c := rlL_eq 2001 i c (by omega) hj hnl
            have hc1 : 1 ≤ c := by
              cases c with
              | zero => exact absurd hL hnl
              | succ c => omega
            rw [if_neg (by omega), if_neg hw, if_pos hL, hrl] at hp1
            obtain ⟨t1, t2, t3⟩ := nxt (kdL B i c) (i + c) 0 (nmF B i (min c 8)) _ hp1 (by unfold vlT; rw [if_neg (by omega)]) (by unfold nmT; rw [if_pos hL, show i + c - i = c by omega])
            subst hkd
            refine r_aload_0 hK dX9_cutsText_178 ?_
            refine r_iload_6 hK dX9_cutsText_179 ?_
            refine r_iload_1 hK dX9_cutsText_181 ?_
            refine r_iconstN (c := 0) hK dX9_cutsText_182 ?_
            refine r_lload_4 hK dX9_cutsText_183 ?_
            refine r_vV4 hK (ct_token hK.rel (by rw [q10]; omega)) lk_X9_150 (tw_rcv hK) dX9_cutsText_185 ?_
            rw [q10, upF_upF]
            refine r_iload_1 hK dX9_cutsText_188 ?_
            refine r_iload_3 hK dX9_cutsText_189 ?_
            first | refine r_iaddN hK dX9_cutsText_190 ?_ | refine r_iadd hK dX9_cutsText_190 ?_
            refine r_istore_1 hK dX9_cutsText_191 ?_
            refine r_goto 283 hK dX9_cutsText_192 ?_
            refine r_goto 7 hK dX9_cutsText_283 ?_
            exact ih (i + c) (N + 1) _ _ _ _ _ _ _ rfl (by omega) (by
              have := hBn (i + (c - 1)) (by have := hj (c - 1) (by omega); omega)
              omega) (by omega) t2 t1 t3
          have kl : ¬ isL (B (i + c)) → c ≤ 8 → ∀ (d2 k : Nat), k + d2 = 4 → Wx K 146 [some (.ref 358), some (zI (i : Int)), some (zI ((B i : Nat) : Int)), some (zI (c : Int)), some (zL ((nmF B i (min c 8) : Nat) : Int)), none, some (zI ((kyF (nmF B i c) k : Nat) : Int)), some (zI (k : Int))] [] n (tw f0 (upF F 10 N) A1) 0 := by
            intro hnl hc8 d2
            have hmin : min c 8 = c := by omega
            induction d2 with
            | zero =>
              intro k hk
              refine r_iload_7 hK dX9_cutsText_146 ?_
              refine r_iconstN (c := 4) hK dX9_cutsText_148 ?_
              refine r_icmp_ge 178 hK dX9_cutsText_149 (by omega) (by omega) (fun h149 => ?_) (fun h149 => ?_)
              · exact fin hnl _ _ (by unfold kdL; rw [if_neg (by omega), show k = 4 by omega])
              · exact absurd h149 (by omega)
            | succ d2 ih2 =>
              intro k hk
              have ek : kyF (nmF B i c) (k + 1) = if keyN k = nmF B i c then 20 + k else kyF (nmF B i c) k := rfl
              have hkn : keyN k < 9223372036854775808 := by unfold keyN; split <;> (try split) <;> (try split) <;> decide
              refine r_iload_7 hK dX9_cutsText_146 ?_
              refine r_iconstN (c := 4) hK dX9_cutsText_148 ?_
              refine r_icmp_ge 178 hK dX9_cutsText_149 (by omega) (by omega) (fun h149 => ?_) (fun h149 => ?_)
              · exact absurd h149 (by omega)
              · refine r_aload_0 hK dX9_cutsText_152 ?_
                refine r_get hK fl_X9_34 dX9_cutsText_153 tw_obj rfl ?_
                refine r_iload_7 hK dX9_cutsText_156 ?_
                refine t_lld hK dX9_cutsText_158 (show _ < 4 by omega) ?_
                rw [hA6, hky k (by omega)]
                refine r_lload_4 hK dX9_cutsText_159 ?_
                refine r_lcmp hK dX9_cutsText_161 ?_
                refine r_top (lcmpN (by omega) (by omega)) ?_
                rw [hmin]
                refine r_if_ne 172 hK dX9_cutsText_162 (by split <;> (try split) <;> decide) (fun h162 => ?_) (fun h162 => ?_)
                · have hne : ¬ keyN k = nmF B i c := fun q => by rw [if_pos q] at h162; exact h162 rfl
                  first | refine r_incN_7 hK dX9_cutsText_172 ?_ | refine r_iinc_7 hK dX9_cutsText_172 ?_
                  refine r_goto 146 hK dX9_cutsText_175 ?_
                  have := ih2 (k + 1) (by omega)
                  rw [ek, if_neg hne, hmin] at this
                  exact this
                · have heq : keyN k = nmF B i c := by
                    by_cases q : keyN k = nmF B i c
                    · exact q
                    · rw [if_neg q] at h162; split at h162 <;> exact absurd h162 (by decide)
                  refine r_bipushN (c := 20) hK dX9_cutsText_165 ?_
                  refine r_iload_7 hK dX9_cutsText_167 ?_
                  first | refine r_iaddN hK dX9_cutsText_169 ?_ | refine r_iadd hK dX9_cutsText_169 ?_
                  refine r_istore_6 hK dX9_cutsText_170 ?_
                  first | refine r_incN_7 hK dX9_cutsText_172 ?_ | refine r_iinc_7 hK dX9_cutsText_172 ?_
                  refine r_goto 146 hK dX9_cutsText_175 ?_
                  have := ih2 (k + 1) (by omega)
                  rw [ek, if_pos heq, hmin] at this
                  exact this
          refine r_aload_0 hK dX9_cutsText_85 ?_
          refine r_iload_1 hK dX9_cutsText_86 ?_
          refine r_iload_3 hK dX9_cutsText_87 ?_
          first | refine r_iaddN hK dX9_cutsText_88 ?_ | refine r_iadd hK dX9_cutsText_88 ?_
          refine r_pV1 hK (ct_byteAt hK.rel (by rw [q4]; exact hs) hTA (by omega)) lk_X9_146 (tw_rcv hK) dX9_cutsText_89 ?_
          rw [cB _ _ _ q4 hA1]
          refine r_pS1 hK (ct_isLetter hK.rel hbc) lk_X9_154 dX9_cutsText_92 ?_
          refine r_ifB_eq 124 hK dX9_cutsText_95 (fun h95 => ?_) (fun h95 => ?_)
          · refine r_iload_3 hK dX9_cutsText_124 ?_
            refine r_bipushN (c := 8) hK dX9_cutsText_125 ?_
            refine r_icmp_le 134 hK dX9_cutsText_127 (by omega) (by omega) (fun h127 => ?_) (fun h127 => ?_)
            · refine r_iconstN (c := 1) hK dX9_cutsText_134 ?_
              refine r_istore_6 hK dX9_cutsText_135 ?_
              refine r_iload_3 hK dX9_cutsText_137 ?_
              refine r_bipushN (c := 8) hK dX9_cutsText_138 ?_
              refine r_icmp_gt 178 hK dX9_cutsText_140 (by omega) (by omega) (fun h140 => ?_) (fun h140 => ?_)
              · exact absurd h140 (by omega)
              · refine r_iconstN (c := 0) hK dX9_cutsText_143 ?_
                refine r_istore_7 hK dX9_cutsText_144 ?_
                exact kl h95 (by omega) 4 0 rfl
            · refine r_iconstN (c := 3) hK dX9_cutsText_130 ?_
              refine r_goto 135 hK dX9_cutsText_131 ?_
              refine r_istore_6 hK dX9_cutsText_135 ?_
              refine r_iload_3 hK dX9_cutsText_137 ?_
              refine r_bipushN (c := 8) hK dX9_cutsText_138 ?_
              refine r_icmp_gt 178 hK dX9_cutsText_140 (by omega) (by omega) (fun h140_1 => ?_) (fun h140_1 => ?_)
              · exact fin h95 _ _ (by unfold kdL; rw [if_pos (by omega)])
              · refine r_iconstN (c := 0) hK dX9_cutsText_143 ?_
                refine r_istore_7 hK dX9_cutsText_144 ?_
                exact absurd h140_1 (by omega)
          · refine r_iload_3 hK dX9_cutsText_98 ?_
            refine r_bipushN (c := 8) hK dX9_cutsText_99 ?_
            refine r_icmp_ge 118 hK dX9_cutsText_101 (by omega) (by omega) (fun h101 => ?_) (fun h101 => ?_)
            · first | refine r_incN_3 hK dX9_cutsText_118 ?_ | refine r_iinc_3 hK dX9_cutsText_118 ?_
              refine r_goto 85 hK dX9_cutsText_121 ?_
              have hin := hBn (i + c) (by omega)
              have := ihd (c + 1) a6 a7 (by omega) (by omega) (fun j hjj => by
                by_cases ej : j = c
                · subst ej; exact h95
                · exact hj j (by omega))
              rw [show min (c + 1) 8 = min c 8 by omega] at this
              exact this
            · refine r_lload_4 hK dX9_cutsText_104 ?_
              refine r_aload_0 hK dX9_cutsText_106 ?_
              refine r_iload_1 hK dX9_cutsText_107 ?_
              refine r_iload_3 hK dX9_cutsText_108 ?_
              first | refine r_iaddN hK dX9_cutsText_109 ?_ | refine r_iadd hK dX9_cutsText_109 ?_
              refine r_pV1 hK (ct_byteAt hK.rel (by rw [q4]; exact hs) hTA (by omega)) lk_X9_146 (tw_rcv hK) dX9_cutsText_110 ?_
              rw [cB _ _ _ q4 hA1]
              refine r_pS2 hK (ct_appends hK.rel (Or.inr h95)) lk_X9_139 dX9_cutsText_113 ?_
              refine r_lstore_4 hK dX9_cutsText_116 ?_
              first | refine r_incN_3 hK dX9_cutsText_118 ?_ | refine r_iinc_3 hK dX9_cutsText_118 ?_
              refine r_goto 85 hK dX9_cutsText_121 ?_
              have hin := hBn (i + c) (by omega)
              have := ihd (c + 1) a6 a7 (by omega) (by omega) (fun j hjj => by
                by_cases ej : j = c
                · subst ej; exact h95
                · exact hj j (by omega))
              rw [show min (c + 1) 8 = c + 1 by omega, show nmF B i (c + 1) = apN (nmF B i (min c 8)) (B (i + c)) by unfold apN; rw [if_neg (by omega), show min c 8 = c by omega]; rfl] at this
              exact this
      have W2 : N ≤ 400 → i < F 4 → ¬ isW (B i) → ¬ isL (B i) → isD (B i) → ∀ (d c : Nat) a5 a6 a7, c + d = F 4 + 1 - i → 1 ≤ d → (∀ j, j < c → isD (B (i + j))) → Wx K 207 [some (.ref 358), some (zI (i : Int)), some (zI ((B i : Nat) : Int)), some (zI (c : Int)), some (zI ((vlF B i (min c 4) : Nat) : Int)), a5, a6, a7] [] n (tw f0 (upF F 10 N) A1) 0 := by
        intro hN4 hil hw hL hD d
        induction d with
        | zero => intro c a5 a6 a7 hc h0; omega
        | succ d ihd =>
          intro c a5 a6 a7 hc _ hj
          have hbc := hBl (i + c)
          have hn1 : vlF B i (min c 4) < 10 ^ (min c 4) := vlF_lt _ (fun j hjj => hj j (by omega))
          have hn2 : (10 : Nat) ^ (min c 4) ≤ 10 ^ 4 := Nat.pow_le_pow_right (by decide) (by omega)
          have hn3 : vlF B i (min c 4) < 10000 := Nat.lt_of_lt_of_le hn1 hn2
          have fin : ¬ isD (B (i + c)) → ∀ (kd : Nat), kd = (if 4 < c then 3 else 2) → Wx K 260 [some (.ref 358), some (zI (i : Int)), some (zI ((B i : Nat) : Int)), some (zI (c : Int)), some (zI ((vlF B i (min c 4) : Nat) : Int)), a5, a6, a7] [zI (kd : Int), .ref 358] n (tw f0 (upF F 10 N) A1) 0 := by
            intro hnl kd hkd
            have hrl : rlD B 2001 i = c := rlD_eq 2001 i c (by omega) hj hnl
            have hc1 : 1 ≤ c := by
              cases c with
              | zero => exact absurd hD hnl
              | succ c => omega
            rw [if_neg (by omega), if_neg hw, if_neg hL, if_pos hD, hrl] at hp1
            obtain ⟨t1, t2, t3⟩ := nxt (if 4 < c then 3 else 2) (i + c) (vlF B i (min c 4)) 0 _ hp1 (by unfold vlT; rw [if_pos hD, show i + c - i = c by omega]) (by unfold nmT; rw [if_neg hL])
            rw [← hkd] at t1 t3
            refine r_iload_1 hK dX9_cutsText_260 ?_
            refine r_iload_4 hK dX9_cutsText_261 ?_
            refine r_lconst_0 hK dX9_cutsText_263 ?_
            show Wx K 264 _ (zL ((0 : Nat) : Int) :: _) _ _ _
            refine r_vV4 hK (ct_token hK.rel (by rw [q10]; omega)) lk_X9_150 (tw_rcv hK) dX9_cutsText_264 ?_
            rw [q10, upF_upF]
            refine r_iload_1 hK dX9_cutsText_267 ?_
            refine r_iload_3 hK dX9_cutsText_268 ?_
            first | refine r_iaddN hK dX9_cutsText_269 ?_ | refine r_iadd hK dX9_cutsText_269 ?_
            refine r_istore_1 hK dX9_cutsText_270 ?_
            refine r_goto 283 hK dX9_cutsText_271 ?_
            refine r_goto 7 hK dX9_cutsText_283 ?_
            exact ih (i + c) (N + 1) _ _ _ _ _ _ _ rfl (by omega) (by
              have := hBn (i + (c - 1)) (by have := hj (c - 1) (by omega); omega)
              omega) (by omega) t2 t1 t3
          refine r_aload_0 hK dX9_cutsText_207 ?_
          refine r_iload_1 hK dX9_cutsText_208 ?_
          refine r_iload_3 hK dX9_cutsText_209 ?_
          first | refine r_iaddN hK dX9_cutsText_210 ?_ | refine r_iadd hK dX9_cutsText_210 ?_
          refine r_pV1 hK (ct_byteAt hK.rel (by rw [q4]; exact hs) hTA (by omega)) lk_X9_146 (tw_rcv hK) dX9_cutsText_211 ?_
          rw [cB _ _ _ q4 hA1]
          refine r_pS1 hK (ct_isDigit hK.rel hbc) lk_X9_158 dX9_cutsText_214 ?_
          refine r_ifB_eq 249 hK dX9_cutsText_217 (fun h217 => ?_) (fun h217 => ?_)
          · refine r_aload_0 hK dX9_cutsText_249 ?_
            refine r_iload_3 hK dX9_cutsText_250 ?_
            refine r_iconstN (c := 4) hK dX9_cutsText_251 ?_
            refine r_icmp_le 259 hK dX9_cutsText_252 (by omega) (by omega) (fun h252 => ?_) (fun h252 => ?_)
            · refine r_iconstN (c := 2) hK dX9_cutsText_259 ?_
              exact fin h217 2 (by rw [if_neg (by omega)])
            · refine r_iconstN (c := 3) hK dX9_cutsText_255 ?_
              refine r_goto 260 hK dX9_cutsText_256 ?_
              exact fin h217 3 (by rw [if_pos (by omega)])
          · refine r_iload_3 hK dX9_cutsText_220 ?_
            refine r_iconstN (c := 4) hK dX9_cutsText_221 ?_
            refine r_icmp_ge 243 hK dX9_cutsText_222 (by omega) (by omega) (fun h222 => ?_) (fun h222 => ?_)
            · first | refine r_incN_3 hK dX9_cutsText_243 ?_ | refine r_iinc_3 hK dX9_cutsText_243 ?_
              refine r_goto 207 hK dX9_cutsText_246 ?_
              have hin := hBn (i + c) (by omega)
              have := ihd (c + 1) a5 a6 a7 (by omega) (by omega) (fun j hjj => by
                by_cases ej : j = c
                · subst ej; exact h217
                · exact hj j (by omega))
              rw [show min (c + 1) 4 = min c 4 by omega] at this
              exact this
            · refine r_bipushN (c := 10) hK dX9_cutsText_225 ?_
              refine r_iload_4 hK dX9_cutsText_227 ?_
              first | refine r_imulN hK dX9_cutsText_229 ?_ | refine r_imul hK dX9_cutsText_229 ?_
              refine r_aload_0 hK dX9_cutsText_230 ?_
              refine r_iload_1 hK dX9_cutsText_231 ?_
              refine r_iload_3 hK dX9_cutsText_232 ?_
              first | refine r_iaddN hK dX9_cutsText_233 ?_ | refine r_iadd hK dX9_cutsText_233 ?_
              refine r_pV1 hK (ct_byteAt hK.rel (by rw [q4]; exact hs) hTA (by omega)) lk_X9_146 (tw_rcv hK) dX9_cutsText_234 ?_
              rw [cB _ _ _ q4 hA1]
              first | refine r_iaddN hK dX9_cutsText_237 ?_ | refine r_iadd hK dX9_cutsText_237 ?_
              refine r_bipushN (c := 48) hK dX9_cutsText_238 ?_
              first | refine r_isubN hK dX9_cutsText_240 (by omega) ?_ | refine r_isub hK dX9_cutsText_240 ?_
              refine r_istore_4 hK dX9_cutsText_241 ?_
              first | refine r_incN_3 hK dX9_cutsText_243 ?_ | refine r_iinc_3 hK dX9_cutsText_243 ?_
              refine r_goto 207 hK dX9_cutsText_246 ?_
              have hin := hBn (i + c) (by omega)
              have := ihd (c + 1) a5 a6 a7 (by omega) (by omega) (fun j hjj => by
                by_cases ej : j = c
                · subst ej; exact h217
                · exact hj j (by omega))
              rw [show min (c + 1) 4 = c + 1 by omega, show vlF B i (c + 1) = 10 * vlF B i (min c 4) + B (i + c) - 48 by rw [show min c 4 = c by omega]; show 10 * vlF B i c + (B (i + c) - 48) = _; omega] at this
              exact this
      have blank : N ≤ 400 → i < F 4 → isW (B i) → ∀ x2, Wx K 67 [some (.ref 358), some (zI (i : Int)), x2, a3, a4, a5, a6, a7] [] n (tw f0 (upF F 10 N) A1) 0 := by
        intro hN4 hil hw x2
        rw [if_neg (by omega), if_pos hw] at hp1
        first | refine r_incN_1 hK dX9_cutsText_67 ?_ | refine r_iinc_1 hK dX9_cutsText_67 ?_
        refine r_goto 283 hK dX9_cutsText_70 ?_
        refine r_goto 7 hK dX9_cutsText_283 ?_
        exact ih (i + 1) N _ _ _ _ _ _ _ hnl (by omega) (by omega) hN ⟨pre, hp1, hp2⟩ hTk hA
      refine r_aload_0 hK dX9_cutsText_7 ?_
      refine r_get hK fl_X9_143 dX9_cutsText_8 tw_obj rfl ?_
      rw [q10]
      refine r_sipushN (c := 400) hK dX9_cutsText_11 ?_
      refine r_icmp_gt 286 hK dX9_cutsText_14 (by omega) (by omega) (fun h14 => ?_) (fun h14 => ?_)
      · refine r_vret hK hRt dX9_cutsText_286 ⟨rfl, rfl, _, _, rfl, N, rfl, by omega, hN, ?_, Or.inl (by omega), by rw [← hB]; exact hTk, hA⟩
        rw [hp1, List.length_append]; omega
      · refine r_aload_0 hK dX9_cutsText_17 ?_
        refine r_iload_1 hK dX9_cutsText_18 ?_
        refine r_pV1 hK (ct_byteAt hK.rel (by rw [q4]; exact hs) hTA (by omega)) lk_X9_146 (tw_rcv hK) dX9_cutsText_19 ?_
        rw [cB _ _ _ q4 hA1]
        refine r_istore_2 hK dX9_cutsText_22 ?_
        refine r_iload_1 hK dX9_cutsText_23 ?_
        refine r_aload_0 hK dX9_cutsText_24 ?_
        refine r_get hK fl_X9_134 dX9_cutsText_25 tw_obj rfl ?_
        rw [q4]
        refine r_icmp_lt 43 hK dX9_cutsText_28 (by omega) (by omega) (fun h28 => ?_) (fun h28 => ?_)
        · refine r_iload_2 hK dX9_cutsText_43 ?_
          refine r_bipushN (c := 9) hK dX9_cutsText_44 ?_
          refine r_icmp_eq 67 hK dX9_cutsText_46 (by omega) (by omega) (fun h46 => ?_) (fun h46 => ?_)
          · exact blank (by omega) (by omega) (by omega) _
          · refine r_iload_2 hK dX9_cutsText_49 ?_
            refine r_bipushN (c := 10) hK dX9_cutsText_50 ?_
            refine r_icmp_eq 67 hK dX9_cutsText_52 (by omega) (by omega) (fun h52 => ?_) (fun h52 => ?_)
            · exact blank (by omega) (by omega) (by omega) _
            · refine r_iload_2 hK dX9_cutsText_55 ?_
              refine r_bipushN (c := 13) hK dX9_cutsText_56 ?_
              refine r_icmp_eq 67 hK dX9_cutsText_58 (by omega) (by omega) (fun h58 => ?_) (fun h58 => ?_)
              · exact blank (by omega) (by omega) (by omega) _
              · refine r_iload_2 hK dX9_cutsText_61 ?_
                refine r_bipushN (c := 32) hK dX9_cutsText_62 ?_
                refine r_icmp_ne 73 hK dX9_cutsText_64 (by omega) (by omega) (fun h64 => ?_) (fun h64 => ?_)
                · refine r_iload_2 hK dX9_cutsText_73 ?_
                  refine r_pS1 hK (ct_isLetter hK.rel hb) lk_X9_154 dX9_cutsText_74 ?_
                  refine r_ifB_eq 195 hK dX9_cutsText_77 (fun h77 => ?_) (fun h77 => ?_)
                  · refine r_iload_2 hK dX9_cutsText_195 ?_
                    refine r_pS1 hK (ct_isDigit hK.rel hb) lk_X9_158 dX9_cutsText_196 ?_
                    refine r_ifB_eq 274 hK dX9_cutsText_199 (fun h199 => ?_) (fun h199 => ?_)
                    · rw [if_neg (by omega), if_neg (by omega), if_neg h77, if_neg h199] at hp1
                      refine r_iload_1 hK dX9_cutsText_274 ?_
                      refine r_aload_0 hK dX9_cutsText_275 ?_
                      refine r_iload_1 hK dX9_cutsText_276 ?_
                      refine r_iload_2 hK dX9_cutsText_277 ?_
                      refine r_pV2 hK (ct_sign hK.rel (by rw [q10]; omega) hb) lk_X9_161 (tw_rcv hK) dX9_cutsText_278 ?_
                      rw [q10, upF_upF]
                      obtain ⟨t1, t2, t3⟩ := nxt (sgK (B i)) (i + 1) 0 0 _ hp1 (by unfold vlT; rw [if_neg h199]) (by unfold nmT; rw [if_neg h77])
                      first | refine r_iaddN hK dX9_cutsText_281 ?_ | refine r_iadd hK dX9_cutsText_281 ?_
                      refine r_istore_1 hK dX9_cutsText_282 ?_
                      refine r_goto 7 hK dX9_cutsText_283 ?_
                      exact ih (i + 1) (N + 1) _ _ _ _ _ _ _ hnl (by omega) (by omega) (by omega) t2 t1 t3
                    · refine r_iconstN (c := 0) hK dX9_cutsText_202 ?_
                      refine r_istore_3 hK dX9_cutsText_203 ?_
                      refine r_iconstN (c := 0) hK dX9_cutsText_204 ?_
                      refine r_istore_4 hK dX9_cutsText_205 ?_
                      exact W2 (by omega) (by omega) (by omega) h77 h199 (F 4 + 1 - i) 0 _ _ _ (by omega) (by omega) (fun j hj => by omega)
                  · refine r_iconstN (c := 0) hK dX9_cutsText_80 ?_
                    refine r_istore_3 hK dX9_cutsText_81 ?_
                    refine r_lconst_0 hK dX9_cutsText_82 ?_
                    refine r_lstore_4 hK dX9_cutsText_83 ?_
                    exact W1 (by omega) (by omega) (by omega) h77 (F 4 + 1 - i) 0 _ _ (by omega) (by omega) (fun j hj => by omega)
                · exact blank (by omega) (by omega) (by omega) _
        · refine r_aload_0 hK dX9_cutsText_31 ?_
          refine r_iconstN (c := 0) hK dX9_cutsText_32 ?_
          refine r_aload_0 hK dX9_cutsText_33 ?_
          refine r_get hK fl_X9_134 dX9_cutsText_34 tw_obj rfl ?_
          rw [q4]
          refine r_iconstN (c := 0) hK dX9_cutsText_37 ?_
          show Wx K 38 _ (zI ((0 : Nat) : Int) :: _) _ _ _
          refine r_lconst_0 hK dX9_cutsText_38 ?_
          show Wx K 39 _ (zL ((0 : Nat) : Int) :: _) _ _ _
          refine r_vV4 hK (ct_token hK.rel (by rw [q10]; omega)) lk_X9_150 (tw_rcv hK) dX9_cutsText_39 ?_
          rw [if_pos (by omega)] at hp1
          have ei : i = F 4 := by omega
          have hB0 : B i = 0 := by rw [hB, ei]; unfold Bt; rw [if_neg (by omega)]
          obtain ⟨t1, t2, t3⟩ := nxt 0 (F 4) 0 0 [] (by rw [hp1, ei]) (by unfold vlT; rw [hB0]; rfl) (by unfold nmT; rw [hB0]; rfl)
          rw [q10, upF_upF]
          rw [ei] at t1 t3
          refine r_vret hK hRt dX9_cutsText_42 ⟨rfl, rfl, _, _, rfl, N + 1, rfl, by omega, by omega, ?_, Or.inr ?_, by rw [← hB]; exact t1, t3⟩
          · rw [hp1, List.length_append, hp2]; exact Nat.le_refl _
          · rw [hp1, List.length_append, hp2]; rfl
  refine r_aload_0 hK dX9_cutsText_0 ?_
  refine r_iconstN (c := 0) hK dX9_cutsText_1 ?_
  refine t_put hK fl_X9_143 dX9_cutsText_2 ?_
  refine r_iconstN (c := 0) hK dX9_cutsText_5 ?_
  refine r_istore_1 hK dX9_cutsText_6 ?_
  exact lp (F 4 + 1) 0 0 A _ _ _ _ _ _ rfl (by omega) (by omega) (by omega) ⟨[], by rw [hB]; rfl, rfl⟩ (fun k hk => by omega) (fun _ _ => rfl)
