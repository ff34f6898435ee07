set_option maxRecDepth 100000
/-! ===== ArrayList, Arrays.copyOf: raw ===== -/
def elE : E_ → Bool
  | .inl o => o.1 == 4 || o.1 == 10 || o.1 == 11 || o.1 == 20
  | .inr a => a.1 == 0
theorem el_E {g : Hp} {v : Nat} : el g v ↔ (∃ e, g v = some e ∧ elE e = true) ∨ (6 ≤ v ∧ v < 10) ∨ (20 ≤ v ∧ v < 276) := by
  constructor
  · rintro (⟨ci, fs, e3, e4⟩ | ⟨N', h', e3⟩ | e3 | e3)
    · exact Or.inl ⟨_, e3, by simp [elE]; omega⟩
    · exact Or.inl ⟨_, e3, rfl⟩
    · exact Or.inr (Or.inl e3)
    · exact Or.inr (Or.inr e3)
  · rintro (⟨e, e3, e4⟩ | e3 | e3)
    · cases e with
      | inl o => exact Or.inl ⟨o.1, o.2, e3, by simp [elE] at e4; omega⟩
      | inr a => exact Or.inr (Or.inl ⟨a.2.1, a.2.2, by simp [elE] at e4; rw [e3, ← e4]⟩)
    · exact Or.inr (Or.inr (Or.inl e3))
    · exact Or.inr (Or.inr (Or.inr e3))
/-- other cells' changes leave an element one -/
theorem el.up {g : Hp} {k v : Nat} {e : E_} (h : el g v) (hk : ∀ e0, g k = some e0 → elE e0 = false) : el (up g k e) v := by
  rw [el_E] at h ⊢
  rcases h with ⟨e1, e3, e4⟩ | e3
  · by_cases c : v = k
    · subst c; rw [hk _ e3] at e4; cases e4
    · exact Or.inl ⟨e1, by rw [up_n c]; exact e3, e4⟩
  · exact Or.inr e3
theorem elV.up {g : Hp} {k : Nat} {e : E_} {w : Value} (h : elV g w) (hk : ∀ e0, g k = some e0 → elE e0 = false) : elV (up g k e) w := by
  rcases h with h | ⟨v, h1, h2⟩
  · exact Or.inl h
  · exact Or.inr ⟨v, h1, h2.up hk⟩
theorem Rcv.ups {Rel : Nat → Hp → Hp → Prop} (hR : RelOK Rel) {n : Nat} {f : Hp} {ci id : Nat} {fs : List Value} {r : vw_C} (hc : cls[ci]? = some r) (hr : rawE (.inl (ci, fs)) = true := by rfl) : Rcv Rel r.1 n (up f id (.inl (ci, fs))) id := Rcv.raw hR (up_s _ _ _) hc hr
set_option maxHeartbeats 4000000 in
theorem ct_chkIdx3 {G : GT} {Rel : Nat → Hp → Hp → Prop} (hR : RelOK Rel) {n : Nat} {g : Hp} {i N : Nat} (hi : i < N) (hN : N < 2147483648) : Ct G Rel yJ17_checkIndex cJ17_checkIndex 3 (some .int) (1) (0) [zI (i : Int), zI (N : Int), .null] n (g) (Pu (zI (i : Int)) n g) := by
  refine ct_intro [some (zI (i : Int)), some (zI (N : Int)), some (.null)] hR rfl (Nat.le_of_ble_eq_true rfl) ?_
  intro K hG hRel hK hRt hnm
  refine r_iload_0 hK dJ17_checkIndex_0 ?_
  refine r_if_lt 9 hK dJ17_checkIndex_1 (by omega) (fun h1 => ?_) (fun h1 => ?_)
  · omega --!
  · refine r_iload_0 hK dJ17_checkIndex_4 ?_
    refine r_iload_1 hK dJ17_checkIndex_5 ?_
    refine r_icmp_lt 16 hK dJ17_checkIndex_6 (by omega) (by omega) (fun h6 => ?_) (fun h6 => ?_)
    · refine r_iload_0 hK dJ17_checkIndex_16 ?_
      exact r_iret hK hRt dJ17_checkIndex_17 ⟨rfl, rfl, rfl⟩
    · omega --!
set_option maxHeartbeats 4000000 in
theorem ct_chkIdx {G : GT} {Rel : Nat → Hp → Hp → Prop} (hR : RelOK Rel) {n : Nat} {g : Hp} {i N : Nat} (hi : i < N) (hN : N < 2147483648) : Ct G Rel yJ5_checkIndex cJ5_checkIndex 2 (some .int) (2) (0) [zI (i : Int), zI (N : Int)] n (g) (Pu (zI (i : Int)) n g) := by
  refine ct_intro [some (zI (i : Int)), some (zI (N : Int))] hR rfl (Nat.le_of_ble_eq_true rfl) ?_
  intro K hG hRel hK hRt hnm
  refine r_iload_0 hK dJ5_checkIndex_0 ?_
  refine r_iload_1 hK dJ5_checkIndex_1 ?_
  refine r_null hK dJ5_checkIndex_2 ?_
  refine r_pS3 hK (ct_chkIdx3 hK.rel hi hN) lk_J5_105 dJ5_checkIndex_3 ?_
  exact r_iret hK hRt dJ5_checkIndex_6 ⟨rfl, rfl, rfl⟩
set_option maxHeartbeats 4000000 in
theorem ct_newLen {G : GT} {Rel : Nat → Hp → Hp → Prop} (hR : RelOK Rel) {n : Nat} {g : Hp} {o m p : Nat} (ho : o < 1000000) (hm : m < 1000000) (hp : p < 1000000) (h0 : 0 < o) : Ct G Rel yJ21_newLength cJ21_newLength 4 (some .int) (2) (0) [zI (o : Int), zI (m : Int), zI (p : Int)] n (g) (Pu (zI ((o + max m p : Nat) : Int)) n g) := by
  refine ct_intro [some (zI (o : Int)), some (zI (m : Int)), some (zI (p : Int)), none] hR rfl (Nat.le_of_ble_eq_true rfl) ?_
  intro K hG hRel hK hRt hnm
  have hmx : max m p < 1000000 := by omega
  refine r_iload_0 hK dJ21_newLength_0 ?_
  refine r_iload_1 hK dJ21_newLength_1 ?_
  refine r_iload_2 hK dJ21_newLength_2 ?_
  refine r_mmax hK lk_J21_194 dJ21_newLength_3 (by omega) (by omega) ?_
  first | refine r_iaddN hK dJ21_newLength_6 ?_ | refine r_iadd hK dJ21_newLength_6 ?_
  refine r_istore_3 hK dJ21_newLength_7 ?_
  refine r_iconstN (c := 0) hK dJ21_newLength_8 ?_
  refine r_iload_3 hK dJ21_newLength_9 ?_
  refine r_icmp_ge 21 hK dJ21_newLength_10 (by omega) (by omega) (fun h10 => ?_) (fun h10 => ?_)
  · omega --!
  · refine r_iload_3 hK dJ21_newLength_13 ?_
    refine r_ldcN (c := 2147483639) hK q980 dJ21_newLength_14 (by decide +kernel) ?_
    refine r_icmp_gt 21 hK dJ21_newLength_16 (by omega) (by omega) (fun h16 => ?_) (fun h16 => ?_)
    · omega --!
    · refine r_iload_3 hK dJ21_newLength_19 ?_
      exact r_iret hK hRt dJ21_newLength_20 ⟨rfl, rfl, rfl⟩
theorem zI_notNull {a : Int} : zI a ≠ .null := fun h => by unfold zI at h; cases h
set_option maxHeartbeats 4000000 in
theorem ct_copyOf2 {G : GT} {Rel : Nat → Hp → Hp → Prop} (hR : RelOK Rel) (hX : GX G) {n : Nat} {g : Hp} {a N M : Nat} {h : Nat → Value} (ha : g a = some (.inr (5, N, h))) (hNM : N ≤ M) (hM : M < 1000000) (hel : ∀ j, j < N → elV g (h j)) (han : a < n) : Ct G Rel yJ23_copyOf_2 cJ23_copyOf_2 4 (some (.array (.object "java/lang/Object"))) (2) ((M / 12 + 1)) [.ref a, zI (M : Int), .ref 15] n (g) (fun r n' g' => r = some (.ref n) ∧ n' = n + 1 ∧ g' = up g n (.inr (5, M, va_cpy h (fun _ => .null) 0 0 N))) := by
  refine ct_intro [some (.ref a), some (zI (M : Int)), some (.ref 15), none] hR rfl (Nat.le_of_ble_eq_true rfl) ?_
  intro K hG hRel hK hRt hnm
  have hXK : GX (kG K) := by rw [hG]; exact hX
  have hne : a ≠ n := by omega
  refine r_fact hK (fun _ hno => ?_)
  refine r_aload_2 hK dJ23_copyOf_2_0 ?_
  refine r_ldcM hK hXK cl_J23_110 dJ23_copyOf_2_1 ?_
  refine r_acmpN 13 hK dJ23_copyOf_2_3 ?_
  refine r_iload_1 hK dJ23_copyOf_2_6 ?_
  refine r_anew (M / 12 + 1) 5 hK ⟨rfl, by decide, by decide⟩ cl_J23_2 q277 dJ23_copyOf_2_7 (by omega) ?_ (by omega) (by omega)
  refine r_goto 24 hK dJ23_copyOf_2_10 ?_
  refine r_astore_3 hK dJ23_copyOf_2_24 ?_
  refine r_aload_0 hK dJ23_copyOf_2_25 ?_
  refine r_iconstN (c := 0) hK dJ23_copyOf_2_26 ?_
  refine r_aload_3 hK dJ23_copyOf_2_27 ?_
  refine r_iconstN (c := 0) hK dJ23_copyOf_2_28 ?_
  refine r_aload_0 hK dJ23_copyOf_2_29 ?_
  refine r_alen hK dJ23_copyOf_2_30 (by rw [up_n hne]; exact ha) ?_
  refine r_iload_1 hK dJ23_copyOf_2_31 ?_
  refine r_mmin hK lk_J23_304 dJ23_copyOf_2_32 (by omega) (by omega) ?_
  rw [show min N M = N from by omega]
  refine r_acpyO hK hXK q996 dJ23_copyOf_2_35 (by rw [up_n hne]; exact ha) (up_s _ _ _) (by omega) (by omega) (fun j hj => ?_) ?_ (by omega)
  · rw [Nat.zero_add]; exact (hel j hj).up (fun e0 h0 => by rw [hno n (Nat.le_refl n)] at h0; cases h0)
  refine r_aload_3 hK dJ23_copyOf_2_38 ?_
  exact r_aret hK hRt dJ23_copyOf_2_39 ⟨rfl, rfl, by rw [up_up]⟩ (Nat.le_of_eq (Nat.zero_add _))
set_option maxHeartbeats 4000000 in
theorem ct_copyOf {G : GT} {Rel : Nat → Hp → Hp → Prop} (hR : RelOK Rel) (hX : GX G) {n : Nat} {g : Hp} {a N M : Nat} {h : Nat → Value} (ha : g a = some (.inr (5, N, h))) (hNM : N ≤ M) (hM : M < 1000000) (hel : ∀ j, j < N → elV g (h j)) (han : a < n) : Ct G Rel yJ23_copyOf cJ23_copyOf 2 (some (.array (.object "java/lang/Object"))) (3) ((M / 12 + 1)) [.ref a, zI (M : Int)] n (g) (fun r n' g' => r = some (.ref n) ∧ n' = n + 1 ∧ g' = up g n (.inr (5, M, va_cpy h (fun _ => .null) 0 0 N))) := by
  refine ct_intro [some (.ref a), some (zI (M : Int))] hR rfl (Nat.le_of_ble_eq_true rfl) ?_
  intro K hG hRel hK hRt hnm
  have hXK : GX (kG K) := by rw [hG]; exact hX
  refine r_aload_0 hK dJ23_copyOf_0 ?_
  refine r_iload_1 hK dJ23_copyOf_1 ?_
  refine r_aload_0 hK dJ23_copyOf_2 ?_
  refine r_getC hK hXK ha q987 dJ23_copyOf_3 ?_
  refine r_callS3 hK (ct_copyOf2 hK.rel hXK ha hNM hM hel han) lk_J23_300 dJ23_copyOf_6 (fun r n1 f1 hp => ?_) (hu := by omega)
  obtain ⟨rfl, rfl, rfl⟩ := hp
  exact r_aret hK hRt dJ23_copyOf_9 ⟨rfl, rfl, rfl⟩ (Nat.le_of_eq (Nat.zero_add _))
set_option maxHeartbeats 4000000 in
theorem al_init {G : GT} {Rel : Nat → Hp → Hp → Prop} (hR : RelOK Rel) (hX : GX G) {n : Nat} {g : Hp} {k : Nat} {a b c : Value} (h : g k = some (.inl (15, [a, b, c]))) (hc : c = zI ((0 : Nat) : Int)) : Ct G Rel yJ14_init cJ14_init 1 none (3) (0) [.ref k] n (g) (Pv n (up g k (.inl (15, [zI ((0 : Nat) : Int), .ref 2, zI ((0 : Nat) : Int)])))) := by
  refine ct_intro [some (.ref k)] hR rfl (Nat.le_of_ble_eq_true rfl) ?_
  intro K hG hRel hK hRt hnm
  have hXK : GX (kG K) := by rw [hG]; exact hX
  refine r_aload_0 hK dJ14_init_0 ?_
  refine r_callI0 hK (ct_alInit15 hK.rel h) lk_J14_1 dJ14_init_1 (fun r n1 f1 hp => ?_)
  obtain ⟨rfl, rfl, rfl⟩ := hp
  refine r_aload_0 hK dJ14_init_4 ?_
  refine r_gets hK hXK (v := .ref 2) (by simp [stT]) q470 dJ14_init_5 ?_
  refine r_put hK fl_J14_9 dJ14_init_8 (up_s _ _ _) (by simp) ?_
  exact r_vret hK hRt dJ14_init_11 ⟨rfl, rfl, by rw [up_up, hc]; rfl⟩
set_option maxHeartbeats 4000000 in
theorem al_size {G : GT} {Rel : Nat → Hp → Hp → Prop} (hR : RelOK Rel) {n : Nat} {g : Hp} {id : Nat} {a b c : Value} {z : Int} (h : g id = some (.inl (15, [a, b, zI z]))) : Ct G Rel yJ14_size cJ14_size 1 (some .int) (1) (0) [.ref id] n (g) (Pu (zI z) n g) := by
  refine ct_intro [some (.ref id)] hR rfl (Nat.le_of_ble_eq_true rfl) ?_
  intro K hG hRel hK hRt hnm
  refine r_aload_0 hK dJ14_size_0 ?_
  refine r_get hK fl_J14_48 dJ14_size_1 (by assumption) rfl ?_
  exact r_iret hK hRt dJ14_size_4 ⟨rfl, rfl, rfl⟩
set_option maxHeartbeats 4000000 in
theorem al_eData {G : GT} {Rel : Nat → Hp → Hp → Prop} (hR : RelOK Rel) {n : Nat} {g : Hp} {id arr N i : Nat} {h : Nat → Value} {a c : Value} {v : Nat} (h1 : g id = some (.inl (15, [a, .ref arr, c]))) (h2 : g arr = some (.inr (5, N, h))) (hi : i < N) (hN : N < 1000000) (hv : h i = .ref v) : Ct G Rel yJ14_elementData cJ14_elementData 2 (some (.object "java/lang/Object")) (1) (0) [.ref id, zI (i : Int)] n (g) (Pu (.ref v) n g) := by
  refine ct_intro [some (.ref id), some (zI (i : Int))] hR rfl (Nat.le_of_ble_eq_true rfl) ?_
  intro K hG hRel hK hRt hnm
  refine r_aload_0 hK dJ14_elementData_0 ?_
  refine r_get hK fl_J14_9 dJ14_elementData_1 (by assumption) rfl ?_
  refine r_iload_1 hK dJ14_elementData_4 ?_
  refine r_aald hK dJ14_elementData_5 h2 hi ?_ (hN := by omega)
  rw [hv]
  exact r_aret hK hRt dJ14_elementData_6 ⟨rfl, rfl, rfl⟩
set_option maxHeartbeats 4000000 in
theorem al_get {G : GT} {Rel : Nat → Hp → Hp → Prop} (hR : RelOK Rel) {n : Nat} {g : Hp} {id N i : Nat} {l ow : List Nat} (hL : ALs g id N l ow) (hi : i < l.length) : Ct G Rel yJ14_get cJ14_get 2 (some (.object "java/lang/Object")) (3) (0) [.ref id, zI (i : Int)] n (g) (Pu (.ref (l.getD i 0)) n g) := by
  refine ct_intro [some (.ref id), some (zI (i : Int))] hR rfl (Nat.le_of_ble_eq_true rfl) ?_
  intro K hG hRel hK hRt hnm
  obtain ⟨mc, hL⟩ := hL
  rcases hL with ⟨-, e, -⟩ | ⟨arr, h, -, -, h1, h2, h3, h4, h5, h6⟩
  · rw [e] at hi; exact absurd hi (Nat.not_lt_zero _)
  refine r_iload_1 hK dJ14_get_0 ?_
  refine r_aload_0 hK dJ14_get_1 ?_
  refine r_get hK fl_J14_48 dJ14_get_2 (by assumption) rfl ?_
  refine r_pS2 hK (ct_chkIdx hK.rel hi (by omega)) lk_J14_118 dJ14_get_5 ?_
  refine r_pop hK dJ14_get_8 ?_
  refine r_aload_0 hK dJ14_get_9 ?_
  refine r_iload_1 hK dJ14_get_10 ?_
  refine r_pV1 hK (al_eData hK.rel h1 h2 (by omega) h5 (h6 i hi)) lk_J14_123 (Rcv.raw hK.rel (by assumption) rfl) dJ14_get_11 ?_
  exact r_aret hK hRt dJ14_get_14 ⟨rfl, rfl, rfl⟩
/-- the capacity that a full list grows to -/
def gwC (N : Nat) : Nat := if N = 0 then 10 else N + max 1 (N / 2)
theorem gwC_lt {N : Nat} (h : N < 600000) (h0 : N = 0 ∨ 10 ≤ N) : gwC N < 1000000 ∧ 10 ≤ gwC N ∧ N < gwC N := by
  unfold gwC
  split <;> omega
set_option maxHeartbeats 4000000 in
theorem al_grow0 {G : GT} {Rel : Nat → Hp → Hp → Prop} (hR : RelOK Rel) (hX : GX G) {n : Nat} {g : Hp} {id : Nat} {mc : Int} (h1 : g id = some (.inl (15, [zI mc, .ref 2, zI ((0 : Nat) : Int)]))) (hid : id < n) : Ct G Rel yJ14_grow_2 cJ14_grow_2 4 (some (.array (.object "java/lang/Object"))) (3) (1) [.ref id, zI ((1 : Nat) : Int)] n (g) (fun r n' g' => r = some (.ref n) ∧ n' = n + 1 ∧ g' = up (up g n (.inr (5, 10, fun _ => .null))) id (.inl (15, [zI mc, .ref n, zI ((0 : Nat) : Int)]))) := by
  refine ct_intro [some (.ref id), some (zI ((1 : Nat) : Int)), none, none] hR rfl (Nat.le_of_ble_eq_true rfl) ?_
  intro K hG hRel hK hRt hnm
  have hXK : GX (kG K) := by rw [hG]; exact hX
  have hne : id ≠ n := by omega
  have w45 : Wx K 45 [some (.ref id), some (zI ((1 : Nat) : Int)), some (zI ((0 : Nat) : Int)), none] [] n g 0 := by
    refine r_aload_0 hK dJ14_grow_2_45 ?_
    refine r_bipushN (c := 10) hK dJ14_grow_2_46 ?_
    refine r_iload_1 hK dJ14_grow_2_48 ?_
    refine r_mmax hK lk_J14_79 dJ14_grow_2_49 (by omega) (by omega) ?_
    refine r_anew (N := 10) 1 5 hK ⟨rfl, by decide, by decide⟩ cl_J14_7 q277 dJ14_grow_2_52 (by omega) ?_
    refine r_dup_x1 hK dJ14_grow_2_55 ?_
    refine r_put hK fl_J14_9 dJ14_grow_2_56 ((by rw [up_n hne]; exact h1)) (by simp) ?_
    exact r_aret hK hRt dJ14_grow_2_59 ⟨rfl, rfl, rfl⟩
  refine r_aload_0 hK dJ14_grow_2_0 ?_
  refine r_get hK fl_J14_9 dJ14_grow_2_1 (by assumption) rfl ?_
  refine p_alen hK (hK.px hXK).2.2.2.2.2.2.2.2.1 dJ14_grow_2_4 ?_
  refine r_istore_2 hK dJ14_grow_2_5 ?_
  refine r_iload_2 hK dJ14_grow_2_6 ?_
  refine r_if_gt 20 hK dJ14_grow_2_7 (by omega) (fun h7 => ?_) (fun h7 => ?_)
  · omega --!
  · refine r_aload_0 hK dJ14_grow_2_10 ?_
    refine r_get hK fl_J14_9 dJ14_grow_2_11 (by assumption) rfl ?_
    refine r_gets hK hXK (v := .ref 2) (by simp [stT]) q470 dJ14_grow_2_14 ?_
    exact r_acmpE 45 hK dJ14_grow_2_17 w45
set_option maxHeartbeats 4000000 in
theorem al_growN {G : GT} {Rel : Nat → Hp → Hp → Prop} (hR : RelOK Rel) (hX : GX G) {n : Nat} {g : Hp} {id arr N : Nat} {mc : Int} {h : Nat → Value} (h1 : g id = some (.inl (15, [zI mc, .ref arr, zI (N : Int)]))) (h2 : g arr = some (.inr (5, N, h))) (hid : id < n) (harr : arr < n) (hN : 10 ≤ N ∧ N < 600000) (hel : ∀ j, j < N → elV g (h j)) : Ct G Rel yJ14_grow_2 cJ14_grow_2 4 (some (.array (.object "java/lang/Object"))) (4) ((gwC N / 12 + 1)) [.ref id, zI ((N + 1 : Nat) : Int)] n (g) (fun r n' g' => r = some (.ref n) ∧ n' = n + 1 ∧ g' = up (up g n (.inr (5, gwC N, va_cpy h (fun _ => .null) 0 0 N))) id (.inl (15, [zI mc, .ref n, zI (N : Int)]))) := by
  refine ct_intro [some (.ref id), some (zI ((N + 1 : Nat) : Int)), none, none] hR rfl (Nat.le_of_ble_eq_true rfl) ?_
  intro K hG hRel hK hRt hnm
  have hXK : GX (kG K) := by rw [hG]; exact hX
  have hne : id ≠ n := by omega
  have eg : gwC N = N + max 1 (N / 2) := by unfold gwC; rw [if_neg (by omega)]
  refine r_aload_0 hK dJ14_grow_2_0 ?_
  refine r_get hK fl_J14_9 dJ14_grow_2_1 (by assumption) rfl ?_
  refine r_alen hK dJ14_grow_2_4 h2 ?_
  refine r_istore_2 hK dJ14_grow_2_5 ?_
  refine r_iload_2 hK dJ14_grow_2_6 ?_
  refine r_if_gt 20 hK dJ14_grow_2_7 (by omega) (fun h7 => ?_) (fun h7 => ?_)
  · refine r_iload_2 hK dJ14_grow_2_20 ?_
    refine r_iload_1 hK dJ14_grow_2_21 ?_
    refine r_iload_2 hK dJ14_grow_2_22 ?_
    first | refine r_isubN hK dJ14_grow_2_23 (by omega) ?_ | refine r_isub hK dJ14_grow_2_23 ?_
    refine r_iload_2 hK dJ14_grow_2_24 ?_
    refine r_iconstN (c := 1) hK dJ14_grow_2_25 ?_
    refine r_ishr hK dJ14_grow_2_26 (by omega) (by omega) ?_
    rw [show N + 1 - N = 1 from by omega, show N >>> 1 = N / 2 from rfl]
    refine r_pS3 hK (ct_newLen hK.rel (by omega) (by omega) (by omega) (by omega)) lk_J14_73 dJ14_grow_2_27 ?_
    rw [← eg]
    refine r_istore_3 hK dJ14_grow_2_30 ?_
    refine r_aload_0 hK dJ14_grow_2_31 ?_
    refine r_aload_0 hK dJ14_grow_2_32 ?_
    refine r_get hK fl_J14_9 dJ14_grow_2_33 (by assumption) rfl ?_
    refine r_iload_3 hK dJ14_grow_2_36 ?_
    refine r_callS2 hK (ct_copyOf hK.rel hXK h2 (by omega) (by omega) hel harr) lk_J14_66 dJ14_grow_2_37 (fun r n1 f1 hp => ?_) (hu := by omega)
    obtain ⟨rfl, rfl, rfl⟩ := hp
    refine r_dup_x1 hK dJ14_grow_2_40 ?_
    refine r_put hK fl_J14_9 dJ14_grow_2_41 ((by rw [up_n hne]; exact h1)) (by simp) ?_
    exact r_aret hK hRt dJ14_grow_2_44 ⟨rfl, rfl, rfl⟩ (Nat.le_of_eq (Nat.zero_add _))
  · omega --!
set_option maxHeartbeats 4000000 in
theorem al_growA {G : GT} {Rel : Nat → Hp → Hp → Prop} (hR : RelOK Rel) (hX : GX G) {n : Nat} {g : Hp} {id : Nat} {mc : Int} (h1 : g id = some (.inl (15, [zI mc, .ref 2, zI ((0 : Nat) : Int)]))) (hid : id < n) : Ct G Rel yJ14_grow cJ14_grow 1 (some (.array (.object "java/lang/Object"))) (4) (1) [.ref id] n (g) (fun r n' g' => r = some (.ref n) ∧ n' = n + 1 ∧ g' = up (up g n (.inr (5, 10, fun _ => .null))) id (.inl (15, [zI mc, .ref n, zI ((0 : Nat) : Int)]))) := by
  refine ct_intro [some (.ref id)] hR rfl (Nat.le_of_ble_eq_true rfl) ?_
  intro K hG hRel hK hRt hnm
  have hXK : GX (kG K) := by rw [hG]; exact hX
  refine r_aload_0 hK dJ14_grow_0 ?_
  refine r_aload_0 hK dJ14_grow_1 ?_
  refine r_get hK fl_J14_48 dJ14_grow_2 (by assumption) rfl ?_
  refine r_iconstN (c := 1) hK dJ14_grow_5 ?_
  first | refine r_iaddN hK dJ14_grow_6 ?_ | refine r_iadd hK dJ14_grow_6 ?_
  refine r_callV1 hK (al_grow0 hK.rel hXK h1 hid) lk_J14_69 (Rcv.raw hK.rel h1 rfl) dJ14_grow_7 (fun r n1 f1 hp => ?_) (hu := by omega)
  obtain ⟨rfl, rfl, rfl⟩ := hp
  exact r_aret hK hRt dJ14_grow_10 ⟨rfl, rfl, rfl⟩
set_option maxHeartbeats 4000000 in
theorem al_growB {G : GT} {Rel : Nat → Hp → Hp → Prop} (hR : RelOK Rel) (hX : GX G) {n : Nat} {g : Hp} {id arr N : Nat} {mc : Int} {h : Nat → Value} (h1 : g id = some (.inl (15, [zI mc, .ref arr, zI (N : Int)]))) (h2 : g arr = some (.inr (5, N, h))) (hid : id < n) (harr : arr < n) (hN : 10 ≤ N ∧ N < 600000) (hel : ∀ j, j < N → elV g (h j)) : Ct G Rel yJ14_grow cJ14_grow 1 (some (.array (.object "java/lang/Object"))) (5) ((gwC N / 12 + 1)) [.ref id] n (g) (fun r n' g' => r = some (.ref n) ∧ n' = n + 1 ∧ g' = up (up g n (.inr (5, gwC N, va_cpy h (fun _ => .null) 0 0 N))) id (.inl (15, [zI mc, .ref n, zI (N : Int)]))) := by
  refine ct_intro [some (.ref id)] hR rfl (Nat.le_of_ble_eq_true rfl) ?_
  intro K hG hRel hK hRt hnm
  have hXK : GX (kG K) := by rw [hG]; exact hX
  refine r_aload_0 hK dJ14_grow_0 ?_
  refine r_aload_0 hK dJ14_grow_1 ?_
  refine r_get hK fl_J14_48 dJ14_grow_2 (by assumption) rfl ?_
  refine r_iconstN (c := 1) hK dJ14_grow_5 ?_
  first | refine r_iaddN hK dJ14_grow_6 ?_ | refine r_iadd hK dJ14_grow_6 ?_
  refine r_callV1 hK (al_growN hK.rel hXK h1 h2 hid harr hN hel) lk_J14_69 (Rcv.raw hK.rel h1 rfl) dJ14_grow_7 (fun r n1 f1 hp => ?_) (hu := by omega)
  obtain ⟨rfl, rfl, rfl⟩ := hp
  exact r_aret hK hRt dJ14_grow_10 ⟨rfl, rfl, rfl⟩ (Nat.le_of_eq (Nat.zero_add _))
/-- what an addition leaves -/
def ALP (n : Nat) (g : Hp) (id N : Nat) (ow l' : List Nat) (n' : Nat) (g' : Hp) : Prop := n ≤ n' ∧ ∃ ow', ALs g' id N l' ow' ∧ (∀ x ∈ ow', x ∈ ow ∨ n ≤ x ∧ x < n') ∧ ∀ x, x ≠ id → x ∉ ow → x < n → g' x = g x
theorem getD_app {l : List Nat} {v j : Nat} (h : j ≤ l.length) : (l ++ [v]).getD j 0 = if j = l.length then v else l.getD j 0 := by
  rw [List.getD_eq_getElem?_getD, List.getD_eq_getElem?_getD]
  by_cases c : j = l.length
  · rw [if_pos c, List.getElem?_append_right (by omega), c]; simp
  · rw [if_neg c, List.getElem?_append_left (by omega)]
set_option maxHeartbeats 4000000 in
theorem al_add2F {G : GT} {Rel : Nat → Hp → Hp → Prop} (hR : RelOK Rel) (hX : GX G) {n : Nat} {g : Hp} {id arr N s : Nat} {mc : Int} {h : Nat → Value} {v : Nat} {z : Value} (h1 : g id = some (.inl (15, [zI mc, z, zI (s : Int)]))) (h2 : g arr = some (.inr (5, N, h))) (hne : arr ≠ id) (hN : N < 1000000) (hs : s < N) (hv : el g v) : Ct G Rel yJ14_add_2 cJ14_add_2 4 none (1) (0) [.ref id, .ref v, .ref arr, zI (s : Int)] n (g) (Pv n (up (up g arr (.inr (5, N, updV h s (.ref v)))) id (.inl (15, [zI mc, z, zI ((s + 1 : Nat) : Int)])))) := by
  refine ct_intro [some (.ref id), some (.ref v), some (.ref arr), some (zI (s : Int))] hR rfl (Nat.le_of_ble_eq_true rfl) ?_
  intro K hG hRel hK hRt hnm
  have hXK : GX (kG K) := by rw [hG]; exact hX
  refine r_iload_3 hK dJ14_add_2_0 ?_
  refine r_aload_2 hK dJ14_add_2_1 ?_
  refine r_alen hK dJ14_add_2_2 h2 ?_
  refine r_icmp_ne 11 hK dJ14_add_2_3 (by omega) (by omega) (fun h3 => ?_) (fun h3 => ?_)
  · refine r_aload_2 hK dJ14_add_2_11 ?_
    refine r_iload_3 hK dJ14_add_2_12 ?_
    refine r_aload_1 hK dJ14_add_2_13 ?_
    refine r_aastE hK hXK dJ14_add_2_14 h2 hs hv ?_ (hN := by omega)
    refine r_aload_0 hK dJ14_add_2_15 ?_
    refine r_iload_3 hK dJ14_add_2_16 ?_
    refine r_iconstN (c := 1) hK dJ14_add_2_17 ?_
    first | refine r_iaddN hK dJ14_add_2_18 ?_ | refine r_iadd hK dJ14_add_2_18 ?_
    refine r_put hK fl_J14_48 dJ14_add_2_19 ((by rw [up_n hne.symm]; exact h1)) (by simp) ?_
    exact r_vret hK hRt dJ14_add_2_22 ⟨rfl, rfl, rfl⟩
  · omega --!
set_option maxHeartbeats 4000000 in
theorem al_add2A {G : GT} {Rel : Nat → Hp → Hp → Prop} (hR : RelOK Rel) (hX : GX G) {n : Nat} {g : Hp} {id : Nat} {mc : Int} {v : Nat} (h1 : g id = some (.inl (15, [zI mc, .ref 2, zI ((0 : Nat) : Int)]))) (hid : id < n) (hv : el g v) : Ct G Rel yJ14_add_2 cJ14_add_2 4 none (5) (1) [.ref id, .ref v, .ref 2, zI ((0 : Nat) : Int)] n (g) (Pv (n + 1) (up (up (up (up g n (.inr (5, 10, fun _ => .null))) id (.inl (15, [zI mc, .ref n, zI ((0 : Nat) : Int)]))) n (.inr (5, 10, updV (fun _ => .null) 0 (.ref v)))) id (.inl (15, [zI mc, .ref n, zI ((0 + 1 : Nat) : Int)])))) := by
  refine ct_intro [some (.ref id), some (.ref v), some (.ref 2), some (zI ((0 : Nat) : Int))] hR rfl (Nat.le_of_ble_eq_true rfl) ?_
  intro K hG hRel hK hRt hnm
  have hXK : GX (kG K) := by rw [hG]; exact hX
  have hne : n ≠ id := by omega
  refine r_fact hK (fun _ hno => ?_)
  refine r_iload_3 hK dJ14_add_2_0 ?_
  refine r_aload_2 hK dJ14_add_2_1 ?_
  refine p_alen hK (hK.px hXK).2.2.2.2.2.2.2.2.1 dJ14_add_2_2 ?_
  refine r_icmp_ne 11 hK dJ14_add_2_3 (by omega) (by omega) (fun h3 => ?_) (fun h3 => ?_)
  · omega --!
  · refine r_aload_0 hK dJ14_add_2_6 ?_
    refine r_callV0 hK (al_growA hK.rel hXK h1 hid) lk_J14_129 (Rcv.raw hK.rel h1 rfl) dJ14_add_2_7 (fun r n1 f1 hp => ?_) (hu := by omega)
    obtain ⟨rfl, rfl, rfl⟩ := hp
    refine r_astore_2 hK dJ14_add_2_10 ?_
    refine r_aload_2 hK dJ14_add_2_11 ?_
    refine r_iload_3 hK dJ14_add_2_12 ?_
    refine r_aload_1 hK dJ14_add_2_13 ?_
    refine r_aastE hK hXK dJ14_add_2_14 (by rw [up_n hne, up_s]) (by decide) ?_ ?_
    · exact (hv.up (fun e0 h0 => by rw [hno n (Nat.le_refl n)] at h0; cases h0)).up (fun e0 h0 => by rw [up_n hne.symm, h1] at h0; cases h0; rfl)
    refine r_aload_0 hK dJ14_add_2_15 ?_
    refine r_iload_3 hK dJ14_add_2_16 ?_
    refine r_iconstN (c := 1) hK dJ14_add_2_17 ?_
    first | refine r_iaddN hK dJ14_add_2_18 ?_ | refine r_iadd hK dJ14_add_2_18 ?_
    refine r_put hK fl_J14_48 dJ14_add_2_19 ((by rw [up_n hne.symm, up_s])) (by simp) ?_
    exact r_vret hK hRt dJ14_add_2_22 ⟨rfl, rfl, rfl⟩
set_option maxHeartbeats 4000000 in
theorem al_add2B {G : GT} {Rel : Nat → Hp → Hp → Prop} (hR : RelOK Rel) (hX : GX G) {n : Nat} {g : Hp} {id arr N : Nat} {mc : Int} {h : Nat → Value} {v : Nat} (h1 : g id = some (.inl (15, [zI mc, .ref arr, zI (N : Int)]))) (h2 : g arr = some (.inr (5, N, h))) (hid : id < n) (harr : arr < n) (hN : 10 ≤ N ∧ N < 600000) (hel : ∀ j, j < N → elV g (h j)) (hv : el g v) : Ct G Rel yJ14_add_2 cJ14_add_2 4 none (6) ((gwC N / 12 + 1)) [.ref id, .ref v, .ref arr, zI (N : Int)] n (g) (Pv (n + 1) (up (up (up (up g n (.inr (5, gwC N, va_cpy h (fun _ => .null) 0 0 N))) id (.inl (15, [zI mc, .ref n, zI (N : Int)]))) n (.inr (5, gwC N, updV (va_cpy h (fun _ => .null) 0 0 N) N (.ref v)))) id (.inl (15, [zI mc, .ref n, zI ((N + 1 : Nat) : Int)])))) := by
  refine ct_intro [some (.ref id), some (.ref v), some (.ref arr), some (zI (N : Int))] hR rfl (Nat.le_of_ble_eq_true rfl) ?_
  intro K hG hRel hK hRt hnm
  have hXK : GX (kG K) := by rw [hG]; exact hX
  have hne : n ≠ id := by omega
  have hgw := gwC_lt (N := N) (by omega) (by omega)
  refine r_fact hK (fun _ hno => ?_)
  refine r_iload_3 hK dJ14_add_2_0 ?_
  refine r_aload_2 hK dJ14_add_2_1 ?_
  refine r_alen hK dJ14_add_2_2 h2 ?_
  refine r_icmp_ne 11 hK dJ14_add_2_3 (by omega) (by omega) (fun h3 => ?_) (fun h3 => ?_)
  · omega --!
  · refine r_aload_0 hK dJ14_add_2_6 ?_
    refine r_callV0 hK (al_growB hK.rel hXK h1 h2 hid harr hN hel) lk_J14_129 (Rcv.raw hK.rel h1 rfl) dJ14_add_2_7 (fun r n1 f1 hp => ?_) (hu := by omega)
    obtain ⟨rfl, rfl, rfl⟩ := hp
    refine r_astore_2 hK dJ14_add_2_10 ?_
    refine r_aload_2 hK dJ14_add_2_11 ?_
    refine r_iload_3 hK dJ14_add_2_12 ?_
    refine r_aload_1 hK dJ14_add_2_13 ?_
    refine r_aastE hK hXK dJ14_add_2_14 (by rw [up_n hne, up_s]) (by omega) ?_ ?_ (hN := by omega)
    · exact (hv.up (fun e0 h0 => by rw [hno n (Nat.le_refl n)] at h0; cases h0)).up (fun e0 h0 => by rw [up_n hne.symm, h1] at h0; cases h0; rfl)
    refine r_aload_0 hK dJ14_add_2_15 ?_
    refine r_iload_3 hK dJ14_add_2_16 ?_
    refine r_iconstN (c := 1) hK dJ14_add_2_17 ?_
    first | refine r_iaddN hK dJ14_add_2_18 ?_ | refine r_iadd hK dJ14_add_2_18 ?_
    refine r_put hK fl_J14_48 dJ14_add_2_19 ((by rw [up_n hne.symm, up_s])) (by simp) ?_
    exact r_vret hK hRt dJ14_add_2_22 ⟨rfl, rfl, rfl⟩ (Nat.le_of_eq (Nat.zero_add _))
theorem al_set {g : Hp} {id arr N : Nat} {mc : Int} {l : List Nat} {h : Nat → Value} {v : Nat} (hne : arr ≠ id) (h10 : 10 ≤ N) (hN : N < 1000000) (hl : l.length < N) (h6 : ∀ j, j < l.length → h j = .ref (l.getD j 0)) (k1 : g id = some (.inl (15, [zI mc, .ref arr, zI ((l.length + 1 : Nat) : Int)]))) (k2 : g arr = some (.inr (5, N, updV h l.length (.ref v)))) : ALs g id N (l ++ [v]) [arr] := by
  refine ⟨mc, Or.inr ⟨arr, _, rfl, hne, ?_, k2, by simp; omega, h10, hN, fun j hj => ?_⟩⟩
  · rw [k1, List.length_append]; rfl
  · have hj' : j ≤ l.length := by simp at hj; omega
    rw [getD_app hj']
    by_cases c : j = l.length
    · rw [if_pos c, c]; unfold updV; rw [if_pos rfl]
    · rw [if_neg c]; unfold updV; rw [if_neg c]; exact h6 j (by omega)
set_option maxHeartbeats 4000000 in
theorem al_addF {G : GT} {Rel : Nat → Hp → Hp → Prop} (hR : RelOK Rel) (hX : GX G) {n : Nat} {g : Hp} {id N v : Nat} {l ow : List Nat} (hL : ALs g id N l ow) (hl : l.length < N) (hv : el g v) : Ct G Rel yJ14_add cJ14_add 2 (some .boolean) (2) (0) [.ref id, .ref v] n (g) (fun r n' g' => r = some (zI ((1 : Nat) : Int)) ∧ ALP n g id N ow (l ++ [v]) n' g') := by
  refine ct_intro [some (.ref id), some (.ref v)] hR rfl (Nat.le_of_ble_eq_true rfl) ?_
  intro K hG hRel hK hRt hnm
  have hXK : GX (kG K) := by rw [hG]; exact hX
  obtain ⟨mc, hL⟩ := hL
  rcases hL with ⟨e, -⟩ | ⟨arr, h, how, hne, h1, h2, h3, h4, h5, h6⟩
  · omega
  refine r_aload_0 hK dJ14_add_0 ?_
  refine r_dup hK dJ14_add_1 ?_
  refine r_get hK fl_J14_63 dJ14_add_2 (by assumption) rfl ?_
  refine r_iconstN (c := 1) hK dJ14_add_5 ?_
  first | refine r_iaddN hK dJ14_add_6 ?_ | refine r_iadd hK dJ14_add_6 ?_
  refine r_put hK fl_J14_63 dJ14_add_7 (by assumption) (by simp) ?_
  refine r_aload_0 hK dJ14_add_10 ?_
  refine r_aload_1 hK dJ14_add_11 ?_
  refine r_aload_0 hK dJ14_add_12 ?_
  refine r_get hK fl_J14_9 dJ14_add_13 (up_s _ _ _) rfl ?_
  refine r_aload_0 hK dJ14_add_16 ?_
  refine r_get hK fl_J14_48 dJ14_add_17 (up_s _ _ _) rfl ?_
  refine r_vV3 hK (al_add2F hK.rel hXK (s := l.length) (up_s _ _ _) (by rw [up_n hne]; exact h2) hne h5 hl (hv.up (fun e0 h0 => by rw [h1] at h0; cases h0; rfl))) lk_J14_131 (Rcv.ups (ci := 15) hK.rel rfl) dJ14_add_20 ?_
  refine r_iconstN (c := 1) hK dJ14_add_23 ?_
  refine r_zret hK hRt dJ14_add_24 rfl ⟨rfl, Nat.le_refl _, [arr], ?_, fun x hx => Or.inl (by rw [how]; exact hx), fun x a b _ => ?_⟩
  · refine al_set (mc := mc + 1) (h := h) hne h4 h5 hl h6 ?_ ?_
    · rw [up_s]; rfl
    · rw [up_n hne, up_s]
  · rw [how] at b
    rw [up_n a, up_n (fun q => b (by rw [q]; simp)), up_n a]
set_option maxHeartbeats 4000000 in
theorem al_addA {G : GT} {Rel : Nat → Hp → Hp → Prop} (hR : RelOK Rel) (hX : GX G) {n : Nat} {g : Hp} {id v : Nat} {l ow : List Nat} (hL : ALs g id 0 l ow) (hid : id < n) (hv : el g v) : Ct G Rel yJ14_add cJ14_add 2 (some .boolean) (6) (1) [.ref id, .ref v] n (g) (fun r n' g' => r = some (zI ((1 : Nat) : Int)) ∧ ALP n g id 10 ow (l ++ [v]) n' g') := by
  refine ct_intro [some (.ref id), some (.ref v)] hR rfl (Nat.le_of_ble_eq_true rfl) ?_
  intro K hG hRel hK hRt hnm
  have hXK : GX (kG K) := by rw [hG]; exact hX
  obtain ⟨mc, hL⟩ := hL
  rcases hL with ⟨-, e1, e2, h1⟩ | ⟨arr, h, how, hne, h1, h2, h3, h4, h5, h6⟩
  case inr => omega
  subst e1 e2
  have hne : n ≠ id := by omega
  refine r_aload_0 hK dJ14_add_0 ?_
  refine r_dup hK dJ14_add_1 ?_
  refine r_get hK fl_J14_63 dJ14_add_2 (by assumption) rfl ?_
  refine r_iconstN (c := 1) hK dJ14_add_5 ?_
  first | refine r_iaddN hK dJ14_add_6 ?_ | refine r_iadd hK dJ14_add_6 ?_
  refine r_put hK fl_J14_63 dJ14_add_7 (by assumption) (by simp) ?_
  refine r_aload_0 hK dJ14_add_10 ?_
  refine r_aload_1 hK dJ14_add_11 ?_
  refine r_aload_0 hK dJ14_add_12 ?_
  refine r_get hK fl_J14_9 dJ14_add_13 (up_s _ _ _) rfl ?_
  refine r_aload_0 hK dJ14_add_16 ?_
  refine r_get hK fl_J14_48 dJ14_add_17 (up_s _ _ _) rfl ?_
  refine r_callV3 hK (al_add2A hK.rel hXK (up_s _ _ _) hid (hv.up (fun e0 h0 => by rw [h1] at h0; cases h0; rfl))) lk_J14_131 (Rcv.ups (ci := 15) hK.rel rfl) dJ14_add_20 (fun r n1 f1 hp => ?_) (hu := by omega)
  obtain ⟨rfl, rfl, rfl⟩ := hp
  refine r_iconstN (c := 1) hK dJ14_add_23 ?_
  refine r_zret hK hRt dJ14_add_24 rfl ⟨rfl, by omega, [n], ?_, fun x hx => Or.inr ?_, fun x a b c => ?_⟩
  · refine al_set (l := []) (mc := mc + 1) (h := fun _ => .null) hne (by decide) (by decide) (by decide) (fun j hj => absurd hj (Nat.not_lt_zero _)) ?_ ?_
    · rw [up_s]; rfl
    · rw [up_n hne, up_s]; rfl
  · have := List.mem_singleton.mp hx; omega
  · have hxn : x ≠ n := by omega
    rw [up_n a, up_n hxn, up_n a, up_n hxn, up_n a]
set_option maxHeartbeats 4000000 in
theorem al_addB {G : GT} {Rel : Nat → Hp → Hp → Prop} (hR : RelOK Rel) (hX : GX G) {n : Nat} {g : Hp} {id N v : Nat} {l ow : List Nat} (hL : ALs g id N l ow) (hl : l.length = N) (h0 : 0 < N) (hN : N < 600000) (hid : id < n) (how0 : ∀ x ∈ ow, x < n) (hel : ∀ x ∈ l, el g x) (hv : el g v) : Ct G Rel yJ14_add cJ14_add 2 (some .boolean) (7) ((gwC N / 12 + 1)) [.ref id, .ref v] n (g) (fun r n' g' => r = some (zI ((1 : Nat) : Int)) ∧ ALP n g id (gwC N) ow (l ++ [v]) n' g') := by
  refine ct_intro [some (.ref id), some (.ref v)] hR rfl (Nat.le_of_ble_eq_true rfl) ?_
  intro K hG hRel hK hRt hnm
  have hXK : GX (kG K) := by rw [hG]; exact hX
  obtain ⟨mc, hL⟩ := hL
  rcases hL with ⟨e, -⟩ | ⟨arr, h, how, hne, h1, h2, h3, h4, h5, h6⟩
  · omega
  have hgw := gwC_lt (N := N) (by omega) (by omega)
  have harr : arr < n := how0 arr (by rw [how]; simp)
  have hnn : n ≠ id := by omega
  rw [hl] at h1
  have hk0 : ∀ e0, g id = some e0 → elE e0 = false := fun e0 q => by rw [h1] at q; cases q; rfl
  refine r_aload_0 hK dJ14_add_0 ?_
  refine r_dup hK dJ14_add_1 ?_
  refine r_get hK fl_J14_63 dJ14_add_2 (by assumption) rfl ?_
  refine r_iconstN (c := 1) hK dJ14_add_5 ?_
  first | refine r_iaddN hK dJ14_add_6 ?_ | refine r_iadd hK dJ14_add_6 ?_
  refine r_put hK fl_J14_63 dJ14_add_7 (by assumption) (by simp) ?_
  refine r_aload_0 hK dJ14_add_10 ?_
  refine r_aload_1 hK dJ14_add_11 ?_
  refine r_aload_0 hK dJ14_add_12 ?_
  refine r_get hK fl_J14_9 dJ14_add_13 (up_s _ _ _) rfl ?_
  refine r_aload_0 hK dJ14_add_16 ?_
  refine r_get hK fl_J14_48 dJ14_add_17 (up_s _ _ _) rfl ?_
  refine r_callV3 hK (al_add2B hK.rel hXK (up_s _ _ _) (by rw [up_n hne]; exact h2) hid harr ⟨h4, hN⟩ (fun j hj => Or.inr ⟨_, h6 j (by omega), (hel _ (by rw [List.getD_eq_getElem?_getD, List.getElem?_eq_getElem (by omega)]; exact List.getElem_mem _)).up hk0⟩) (hv.up hk0)) lk_J14_131 (Rcv.ups (ci := 15) hK.rel rfl) dJ14_add_20 (fun r n1 f1 hp => ?_) (hu := by omega)
  obtain ⟨rfl, rfl, rfl⟩ := hp
  refine r_iconstN (c := 1) hK dJ14_add_23 ?_
  refine r_zret hK hRt dJ14_add_24 rfl ⟨rfl, by omega, [n], ?_, fun x hx => Or.inr ?_, fun x a b c => ?_⟩ (Nat.le_of_eq (Nat.zero_add _))
  · refine al_set (mc := mc + 1) (h := va_cpy h (fun _ => .null) 0 0 N) hnn hgw.2.1 hgw.1 (by omega) (fun j hj => ?_) ?_ ?_
    · unfold va_cpy; rw [if_pos (by omega), Nat.zero_add, Nat.sub_zero]; exact h6 j hj
    · rw [up_s, hl]; rfl
    · rw [up_n hnn, up_s, hl]
  · have := List.mem_singleton.mp hx; omega
  · have hxn : x ≠ n := by omega
    rw [up_n a, up_n hxn, up_n a, up_n hxn, up_n a]
set_option maxHeartbeats 4000000 in
theorem al_clear {G : GT} {Rel : Nat → Hp → Hp → Prop} (hR : RelOK Rel) {n : Nat} {g : Hp} {id N : Nat} {l ow : List Nat} (hL : ALs g id N l ow) : Ct G Rel yJ14_clear cJ14_clear 4 none (1) (0) [.ref id] n (g) (fun r n' g' => r = none ∧ n' = n ∧ ALs g' id N [] ow ∧ ∀ x, x ≠ id → x ∉ ow → g' x = g x) := by
  refine ct_intro [some (.ref id), none, none, none] hR rfl (Nat.le_of_ble_eq_true rfl) ?_
  intro K hG hRel hK hRt hnm
  obtain ⟨mc, hL⟩ := hL
  rcases hL with ⟨e0, e1, e2, h1⟩ | ⟨arr, h, how, hne, h1, h2, h3, h4, h5, h6⟩
  · subst e0 e1 e2
    refine r_aload_0 hK dJ14_clear_0 ?_
    refine r_dup hK dJ14_clear_1 ?_
    refine r_get hK fl_J14_63 dJ14_clear_2 (by assumption) rfl ?_
    refine r_iconstN (c := 1) hK dJ14_clear_5 ?_
    first | refine r_iaddN hK dJ14_clear_6 ?_ | refine r_iadd hK dJ14_clear_6 ?_
    refine r_put hK fl_J14_63 dJ14_clear_7 (by assumption) (by simp) ?_
    refine r_aload_0 hK dJ14_clear_10 ?_
    refine r_get hK fl_J14_9 dJ14_clear_11 (up_s _ _ _) rfl ?_
    refine r_astore_1 hK dJ14_clear_14 ?_
    refine r_aload_0 hK dJ14_clear_15 ?_
    refine r_get hK fl_J14_48 dJ14_clear_16 (up_s _ _ _) rfl ?_
    refine r_istore_2 hK dJ14_clear_19 ?_
    refine r_aload_0 hK dJ14_clear_20 ?_
    refine r_iconstN (c := 0) hK dJ14_clear_21 ?_
    refine r_dup_x1 hK dJ14_clear_22 ?_
    refine r_put hK fl_J14_48 dJ14_clear_23 (up_s _ _ _) (by simp) ?_
    refine r_istore_3 hK dJ14_clear_26 ?_
    refine r_iload_3 hK dJ14_clear_27 ?_
    refine r_iload_2 hK dJ14_clear_28 ?_
    refine r_icmp_ge 42 hK dJ14_clear_29 (by omega) (by omega) (fun h29 => ?_) (fun h29 => ?_)
    · refine r_vret hK hRt dJ14_clear_42 ⟨rfl, rfl, ⟨mc + 1, Or.inl ⟨rfl, rfl, rfl, ?_⟩⟩, fun x a _ => ?_⟩
      · rw [up_s]; rfl
      · rw [up_n a, up_n a]
    · omega --!
  have lp : ∀ (m j : Nat) (h' : Nat → Value) (g' : Hp), m = l.length - j → j ≤ l.length → g' id = some (.inl (15, [zI (mc + 1), .ref arr, zI ((0 : Nat) : Int)])) → g' arr = some (.inr (5, N, h')) → (∀ x, x ≠ id → x ≠ arr → g' x = g x) → Wx K 27 [some (.ref id), some (.ref arr), some (zI ((l.length : Nat) : Int)), some (zI (j : Int))] [] n g' 0 := by
    intro m
    induction m using Nat.strongRecOn with
    | _ m ih =>
      intro j h' g' hm hj k1 k2 k3
      refine r_iload_3 hK dJ14_clear_27 ?_
      refine r_iload_2 hK dJ14_clear_28 ?_
      refine r_icmp_ge 42 hK dJ14_clear_29 (by omega) (by omega) (fun h29 => ?_) (fun h29 => ?_)
      · exact r_vret hK hRt dJ14_clear_42 ⟨rfl, rfl, ⟨mc + 1, Or.inr ⟨arr, h', how, hne, k1, k2, Nat.zero_le _, h4, h5, fun q hq => absurd hq (Nat.not_lt_zero _)⟩⟩, fun x a b => k3 x a (fun q => b (by rw [how, q]; simp))⟩
      · refine r_aload_1 hK dJ14_clear_32 ?_
        refine r_iload_3 hK dJ14_clear_33 ?_
        refine r_null hK dJ14_clear_34 ?_
        refine r_aastN hK dJ14_clear_35 k2 (by omega) ?_ (hN := by omega)
        first | refine r_incN_3 hK dJ14_clear_36 ?_ | refine r_iinc_3 hK dJ14_clear_36 ?_
        refine r_goto 27 hK dJ14_clear_39 ?_
        exact ih (l.length - (j + 1)) (by omega) (j + 1) _ _ rfl (by omega) (by rw [up_n hne.symm]; exact k1) (up_s _ _ _) (fun x a b => by rw [up_n b]; exact k3 x a b)
  refine r_aload_0 hK dJ14_clear_0 ?_
  refine r_dup hK dJ14_clear_1 ?_
  refine r_get hK fl_J14_63 dJ14_clear_2 (by assumption) rfl ?_
  refine r_iconstN (c := 1) hK dJ14_clear_5 ?_
  first | refine r_iaddN hK dJ14_clear_6 ?_ | refine r_iadd hK dJ14_clear_6 ?_
  refine r_put hK fl_J14_63 dJ14_clear_7 (by assumption) (by simp) ?_
  refine r_aload_0 hK dJ14_clear_10 ?_
  refine r_get hK fl_J14_9 dJ14_clear_11 (up_s _ _ _) rfl ?_
  refine r_astore_1 hK dJ14_clear_14 ?_
  refine r_aload_0 hK dJ14_clear_15 ?_
  refine r_get hK fl_J14_48 dJ14_clear_16 (up_s _ _ _) rfl ?_
  refine r_istore_2 hK dJ14_clear_19 ?_
  refine r_aload_0 hK dJ14_clear_20 ?_
  refine r_iconstN (c := 0) hK dJ14_clear_21 ?_
  refine r_dup_x1 hK dJ14_clear_22 ?_
  refine r_put hK fl_J14_48 dJ14_clear_23 (up_s _ _ _) (by simp) ?_
  refine r_istore_3 hK dJ14_clear_26 ?_
  exact lp l.length 0 h _ rfl (Nat.zero_le _) (by rw [up_s]; rfl) (by rw [up_n hne, up_n hne]; exact h2) (fun x a b => by rw [up_n a, up_n a])
