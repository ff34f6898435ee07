set_option maxRecDepth 100000
/-! ===== the reference: cascades found ===== -/
def kF (F F' : Nat → Nat) : Prop := ∀ k, k ≠ 38 → k ≠ 41 → k ≠ 42 → F' k = F k
def kA (A A' : Nat → Nat → Nat) : Prop := ∀ a, a ≠ 16 → a ≠ 19 → a ≠ 20 → a ≠ 21 → a ≠ 22 → a ≠ 23 → a ≠ 24 → a ≠ 25 → A' a = A a
theorem kF.t {F F1 F2 : Nat → Nat} (h : kF F F1) (h' : kF F1 F2) : kF F F2 := fun k a b c => (h' k a b c).trans (h k a b c)
theorem kA.t {A A1 A2 : Nat → Nat → Nat} (h : kA A A1) (h' : kA A1 A2) : kA A A2 := fun k a b c d e f g i => (h' k a b c d e f g i).trans (h k a b c d e f g i)
def FR (R : Nat) (F : Nat → Nat) (A : Nat → Nat → Nat) (s : FS) : Prop := (∀ r, r < R → A 16 r = s.1 r) ∧ F 41 = s.2.1.length ∧ F 42 = s.2.2.length ∧ (∀ i, i < s.2.1.length → s.2.1[i]? = some (A 21 i, A 22 i)) ∧ ∀ i, i < s.2.2.length → s.2.2.reverse[i]? = some (A 23 i, A 24 i)
set_option maxHeartbeats 4000000 in
theorem ct_foundGate {G : GT} {Rel : Nat → Hp → Hp → Prop} (hR : RelOK Rel) {n : Nat} {f0 : Hp} {F : Nat → Nat} {A : Nat → Nat → Nat} {t on : Nat} (h : F 38 < 800) : Ct G Rel yX9_foundGate cX9_foundGate 3 none (1) (0) [.ref 358, zI (t : Int), zI (on : Int)] n (tw f0 F A) (Pv n (tw f0 (upF F 38 (F 38 + 1)) (upA (upA A 19 (F 38) t) 20 (F 38) on))) := by
  refine ct_intro [some (.ref 358), some (zI (t : Int)), some (zI (on : Int))] hR rfl (Nat.le_of_ble_eq_true rfl) ?_
  intro K hG hRel hK hRt hnm
  refine r_aload_0 hK dX9_foundGate_0 ?_
  refine r_get hK fl_X9_77 dX9_foundGate_1 tw_obj rfl ?_
  refine r_aload_0 hK dX9_foundGate_4 ?_
  refine r_get hK fl_X9_296 dX9_foundGate_5 tw_obj rfl ?_
  refine r_iload_1 hK dX9_foundGate_8 ?_
  refine t_ist hK dX9_foundGate_9 (show _ < 800 by omega) ?_
  refine r_aload_0 hK dX9_foundGate_10 ?_
  refine r_get hK fl_X9_80 dX9_foundGate_11 tw_obj rfl ?_
  refine r_aload_0 hK dX9_foundGate_14 ?_
  refine r_get hK fl_X9_296 dX9_foundGate_15 tw_obj rfl ?_
  refine r_iload_2 hK dX9_foundGate_18 ?_
  refine t_ist hK dX9_foundGate_19 (show _ < 800 by omega) ?_
  refine r_aload_0 hK dX9_foundGate_20 ?_
  refine r_dup hK dX9_foundGate_21 ?_
  refine r_get hK fl_X9_296 dX9_foundGate_22 tw_obj rfl ?_
  refine r_iconstN (c := 1) hK dX9_foundGate_25 ?_
  first | refine r_iaddN hK dX9_foundGate_26 ?_ | refine r_iadd hK dX9_foundGate_26 ?_
  refine t_put hK fl_X9_296 dX9_foundGate_27 ?_
  exact r_vret hK hRt dX9_foundGate_30 ⟨rfl, rfl, rfl⟩
set_option maxHeartbeats 4000000 in
theorem ct_notesGate {G : GT} {Rel : Nat → Hp → Hp → Prop} (hR : RelOK Rel) {n : Nat} {f0 : Hp} {F : Nat → Nat} {A : Nat → Nat → Nat} {L t on row : Nat} {b : Bool} {s : FS} (hL : L ≤ 6) (hg : fok L t on) (hrow : row < 64) (hs : FR (rN L) F A s) (hp : onto (rN L) s.1) (hl1 : s.2.1.length < 400) (hl2 : s.2.2.length < 400) : Ct G Rel yX9_notesGate cX9_notesGate 7 (some .int) (2) (0) [.ref 358, zI (if b then 1 else 0), zI ((rN L : Nat) : Int), zI (t : Int), zI (on : Int), zI (row : Int)] n (tw f0 F A) (Ti n f0 (fun z F' A' => z = ((mk (t, on, 0) row : Nat) : Int) ∧ FR (rN L) F' A' (note b t on s) ∧ kF F F' ∧ kA A A')) := by
  refine ct_intro [some (.ref 358), some (zI (if b then 1 else 0)), some (zI ((rN L : Nat) : Int)), some (zI (t : Int)), some (zI (on : Int)), some (zI (row : Int)), none] hR rfl (Nat.le_of_ble_eq_true rfl) ?_
  intro K hG hRel hK hRt hnm
  have hr6 : rN L ≤ 64 := rN_le hL
  obtain ⟨s1, s2, s3, s4, s5⟩ := hs
  obtain ⟨g1, g2, g3⟩ := hg
  have mlt : ∀ x, x < rN L → mk (t, on, 0) x < rN L := fun x hx => mk_lt g1 hx
  have olt : ∀ r, r < rN L → A 16 r < rN L := fun r hr => by rw [s1 r hr]; exact hp.1 r hr
  cases b with
  | true =>
    have lp2 : ∀ m r A', m = rN L - r → r ≤ rN L → (∀ a, a ≠ 16 → a ≠ 25 → A' a = A a) → (∀ q, q < r → A' 16 q = A 16 (mk (t, on, 0) q)) → (∀ q, q < rN L → A' 25 q = A 16 (mk (t, on, 0) q)) → Wx K 43 [some (.ref 358), some (zI 1), some (zI ((rN L : Nat) : Int)), some (zI (t : Int)), some (zI (on : Int)), some (zI (row : Int)), some (zI (r : Int))] [] n (tw f0 F A') 0 := by
      intro m
      induction m using Nat.strongRecOn with
      | _ m ih =>
        intro r A' hm hr q1 q2 q3
        refine r_iload_6 hK dX9_notesGate_43 ?_
        refine r_iload_2 hK dX9_notesGate_45 ?_
        refine r_icmp_ge 69 hK dX9_notesGate_46 (by omega) (by omega) (fun h46 => ?_) (fun h46 => ?_)
        · refine r_aload_0 hK dX9_notesGate_69 ?_
          refine r_get hK fl_X9_83 dX9_notesGate_70 tw_obj rfl ?_
          refine r_aload_0 hK dX9_notesGate_73 ?_
          refine r_get hK fl_X9_347 dX9_notesGate_74 tw_obj rfl ?_
          refine r_iload_3 hK dX9_notesGate_77 ?_
          refine t_ist hK dX9_notesGate_78 (show _ < 400 by omega) ?_
          refine r_aload_0 hK dX9_notesGate_79 ?_
          refine r_get hK fl_X9_86 dX9_notesGate_80 tw_obj rfl ?_
          refine r_aload_0 hK dX9_notesGate_83 ?_
          refine r_get hK fl_X9_347 dX9_notesGate_84 tw_obj rfl ?_
          refine r_iload_4 hK dX9_notesGate_87 ?_
          refine t_ist hK dX9_notesGate_89 (show _ < 400 by omega) ?_
          refine r_aload_0 hK dX9_notesGate_90 ?_
          refine r_dup hK dX9_notesGate_91 ?_
          refine r_get hK fl_X9_347 dX9_notesGate_92 tw_obj rfl ?_
          refine r_iconstN (c := 1) hK dX9_notesGate_95 ?_
          first | refine r_iaddN hK dX9_notesGate_96 ?_ | refine r_iadd hK dX9_notesGate_96 ?_
          refine t_put hK fl_X9_347 dX9_notesGate_97 ?_
          refine r_goto 170 hK dX9_notesGate_100 ?_
          refine r_iload_5 hK dX9_notesGate_170 ?_
          refine r_iload_3 hK dX9_notesGate_172 ?_
          refine r_iload_4 hK dX9_notesGate_173 ?_
          refine r_iconstN (c := 0) hK dX9_notesGate_175 ?_
          refine r_pS4 hK (ct_turned hK.rel (by omega) (by omega) (by omega) (by omega)) lk_X9_299 dX9_notesGate_176 ?_
          refine r_iret hK hRt dX9_notesGate_179 ⟨_, rfl, rfl, _, _, rfl, rfl, ⟨fun q hq => ?_, ?_, ?_, fun i hi => ?_, fun i hi => ?_⟩, fun k k1 k2 k3 => upF_n k2, fun a a1 a2 a3 a4 a5 a6 a7 a8 => ?_⟩
          · rw [upA_j (by decide), upA_j (by decide), q2 q (by omega), s1 _ (mlt q hq)]; rfl
          · rw [upF_s, s2]; show _ = (s.2.1 ++ [(t, on)]).length; simp
          · rw [upF_n (by decide), s3]; rfl
          · have hi' : i < s.2.1.length + 1 := by have : (note true t on s).2.1.length = s.2.1.length + 1 := by show (s.2.1 ++ [(t, on)]).length = _; simp
                                                  omega
            show (s.2.1 ++ [(t, on)])[i]? = _
            by_cases e : i = s.2.1.length
            · subst e
              rw [← s2, upA_s, upA_j (by decide), upA_s, s2]; simp
            · rw [List.getElem?_append_left (by omega), show upA (upA A' 21 (F 41) t) 22 (F 41) on 21 i = A 21 i by rw [upA_j (by decide), upA_n (by omega), q1 21 (by decide) (by decide)], show upA (upA A' 21 (F 41) t) 22 (F 41) on 22 i = A 22 i by rw [upA_n (by omega), upA_j (by decide), q1 22 (by decide) (by decide)]]
              exact s4 i (by omega)
          · rw [upA_j (by decide), upA_j (by decide), upA_j (by decide), upA_j (by decide), q1 23 (by decide) (by decide), q1 24 (by decide) (by decide)]
            exact s5 i hi
          · rw [upA_j a5, upA_j a4, q1 a a1 a8]
        · refine r_aload_0 hK dX9_notesGate_49 ?_
          refine r_get hK fl_X9_68 dX9_notesGate_50 tw_obj rfl ?_
          refine r_iload_6 hK dX9_notesGate_53 ?_
          refine r_aload_0 hK dX9_notesGate_55 ?_
          refine r_get hK fl_X9_95 dX9_notesGate_56 tw_obj rfl ?_
          refine r_iload_6 hK dX9_notesGate_59 ?_
          refine t_ild hK dX9_notesGate_61 (show _ < 64 by omega) ?_
          rw [q3 r (by omega)]
          refine t_ist hK dX9_notesGate_62 (show _ < 64 by omega) ?_
          first | refine r_incN_6 hK dX9_notesGate_63 ?_ | refine r_iinc_6 hK dX9_notesGate_63 ?_
          refine r_goto 43 hK dX9_notesGate_66 ?_
          refine ih (rN L - (r + 1)) (by omega) (r + 1) _ rfl (by omega) (fun a a1 a2 => by rw [upA_j a1]; exact q1 a a1 a2) (fun q hq => ?_) (fun q hq => by rw [upA_j (by decide)]; exact q3 q hq)
          by_cases e : q = r
          · subst e; rw [upA_s]
          · rw [upA_n e]; exact q2 q (by omega)
    have lp : ∀ m r A', m = rN L - r → r ≤ rN L → (∀ a, a ≠ 25 → A' a = A a) → (∀ q, q < r → A' 25 q = A 16 (mk (t, on, 0) q)) → Wx K 7 [some (.ref 358), some (zI 1), some (zI ((rN L : Nat) : Int)), some (zI (t : Int)), some (zI (on : Int)), some (zI (row : Int)), some (zI (r : Int))] [] n (tw f0 F A') 0 := by
      intro m
      induction m using Nat.strongRecOn with
      | _ m ih =>
        intro r A' hm hr q1 q2
        have mr := mlt r
        refine r_iload_6 hK dX9_notesGate_7 ?_
        refine r_iload_2 hK dX9_notesGate_9 ?_
        refine r_icmp_ge 40 hK dX9_notesGate_10 (by omega) (by omega) (fun h10 => ?_) (fun h10 => ?_)
        · refine r_iconstN (c := 0) hK dX9_notesGate_40 ?_
          refine r_istore_6 hK dX9_notesGate_41 ?_
          exact lp2 (rN L) 0 A' rfl (by omega) (fun a a1 a2 => q1 a a2) (fun q hq => by omega) (fun q hq => q2 q (by omega))
        · refine r_aload_0 hK dX9_notesGate_13 ?_
          refine r_get hK fl_X9_95 dX9_notesGate_14 tw_obj rfl ?_
          refine r_iload_6 hK dX9_notesGate_17 ?_
          refine r_aload_0 hK dX9_notesGate_19 ?_
          refine r_get hK fl_X9_68 dX9_notesGate_20 tw_obj rfl ?_
          refine r_iload_6 hK dX9_notesGate_23 ?_
          refine r_iload_3 hK dX9_notesGate_25 ?_
          refine r_iload_4 hK dX9_notesGate_26 ?_
          refine r_iconstN (c := 0) hK dX9_notesGate_28 ?_
          refine r_pS4 hK (ct_turned hK.rel (by omega) (by omega) (by omega) (by omega)) lk_X9_299 dX9_notesGate_29 ?_
          have mr2 := mr (by omega)
          refine t_ild hK dX9_notesGate_32 (show _ < 64 by omega) ?_
          rw [q1 16 (by decide)]
          refine t_ist hK dX9_notesGate_33 (show _ < 64 by omega) ?_
          first | refine r_incN_6 hK dX9_notesGate_34 ?_ | refine r_iinc_6 hK dX9_notesGate_34 ?_
          refine r_goto 7 hK dX9_notesGate_37 ?_
          refine ih (rN L - (r + 1)) (by omega) (r + 1) _ rfl (by omega) (fun a a1 => by rw [upA_j a1]; exact q1 a a1) (fun q hq => ?_)
          by_cases e : q = r
          · subst e; rw [upA_s]
          · rw [upA_n e]; exact q2 q (by omega)
    show Wx K 0 [some (.ref 358), some (zI 1), _, _, _, _, _] [] n _ 0
    refine r_iload_1 hK dX9_notesGate_0 ?_
    refine r_if_eq 103 hK dX9_notesGate_1 (by decide) (fun h1 => ?_) (fun h1 => ?_)
    · exact absurd h1 (by decide) --!
    · refine r_iconstN (c := 0) hK dX9_notesGate_4 ?_
      refine r_istore_6 hK dX9_notesGate_5 ?_
      exact lp (rN L) 0 A rfl (by omega) (fun _ _ => rfl) (fun q hq => by omega)
  | false =>
    have lp : ∀ m r A', m = rN L - r → r ≤ rN L → (∀ a, a ≠ 16 → A' a = A a) → (∀ q, q < r → A' 16 q = mk (t, on, 0) (A 16 q)) → (∀ q, r ≤ q → A' 16 q = A 16 q) → Wx K 106 [some (.ref 358), some (zI 0), some (zI ((rN L : Nat) : Int)), some (zI (t : Int)), some (zI (on : Int)), some (zI (row : Int)), some (zI (r : Int))] [] n (tw f0 F A') 0 := by
      intro m
      induction m using Nat.strongRecOn with
      | _ m ih =>
        intro r A' hm hr q1 q2 q3
        have o1 := olt r
        refine r_iload_6 hK dX9_notesGate_106 ?_
        refine r_iload_2 hK dX9_notesGate_108 ?_
        refine r_icmp_ge 139 hK dX9_notesGate_109 (by omega) (by omega) (fun h109 => ?_) (fun h109 => ?_)
        · refine r_aload_0 hK dX9_notesGate_139 ?_
          refine r_get hK fl_X9_89 dX9_notesGate_140 tw_obj rfl ?_
          refine r_aload_0 hK dX9_notesGate_143 ?_
          refine r_get hK fl_X9_350 dX9_notesGate_144 tw_obj rfl ?_
          refine r_iload_3 hK dX9_notesGate_147 ?_
          refine t_ist hK dX9_notesGate_148 (show _ < 400 by omega) ?_
          refine r_aload_0 hK dX9_notesGate_149 ?_
          refine r_get hK fl_X9_92 dX9_notesGate_150 tw_obj rfl ?_
          refine r_aload_0 hK dX9_notesGate_153 ?_
          refine r_get hK fl_X9_350 dX9_notesGate_154 tw_obj rfl ?_
          refine r_iload_4 hK dX9_notesGate_157 ?_
          refine t_ist hK dX9_notesGate_159 (show _ < 400 by omega) ?_
          refine r_aload_0 hK dX9_notesGate_160 ?_
          refine r_dup hK dX9_notesGate_161 ?_
          refine r_get hK fl_X9_350 dX9_notesGate_162 tw_obj rfl ?_
          refine r_iconstN (c := 1) hK dX9_notesGate_165 ?_
          first | refine r_iaddN hK dX9_notesGate_166 ?_ | refine r_iadd hK dX9_notesGate_166 ?_
          refine t_put hK fl_X9_350 dX9_notesGate_167 ?_
          refine r_iload_5 hK dX9_notesGate_170 ?_
          refine r_iload_3 hK dX9_notesGate_172 ?_
          refine r_iload_4 hK dX9_notesGate_173 ?_
          refine r_iconstN (c := 0) hK dX9_notesGate_175 ?_
          refine r_pS4 hK (ct_turned hK.rel (by omega) (by omega) (by omega) (by omega)) lk_X9_299 dX9_notesGate_176 ?_
          refine r_iret hK hRt dX9_notesGate_179 ⟨_, rfl, rfl, _, _, rfl, rfl, ⟨fun q hq => ?_, ?_, ?_, fun i hi => ?_, fun i hi => ?_⟩, fun k k1 k2 k3 => upF_n k3, fun a a1 a2 a3 a4 a5 a6 a7 a8 => ?_⟩
          · rw [upA_j (by decide), upA_j (by decide), q2 q (by omega), s1 q hq]; rfl
          · rw [upF_n (by decide), s2]; rfl
          · rw [upF_s, s3]; rfl
          · rw [upA_j (by decide), upA_j (by decide), upA_j (by decide), upA_j (by decide), q1 21 (by decide), q1 22 (by decide)]
            exact s4 i hi
          · have hi' : i < s.2.2.length + 1 := hi
            show ((t, on) :: s.2.2).reverse[i]? = _
            rw [List.reverse_cons]
            by_cases e : i = s.2.2.length
            · subst e
              rw [← s3, upA_s, upA_j (by decide), upA_s, s3]; simp
            · rw [List.getElem?_append_left (by simp; omega), show upA (upA A' 23 (F 42) t) 24 (F 42) on 23 i = A 23 i by rw [upA_j (by decide), upA_n (by omega), q1 23 (by decide)], show upA (upA A' 23 (F 42) t) 24 (F 42) on 24 i = A 24 i by rw [upA_n (by omega), upA_j (by decide), q1 24 (by decide)]]
              exact s5 i (by omega)
          · rw [upA_j a7, upA_j a6, q1 a a1]
        · refine r_aload_0 hK dX9_notesGate_112 ?_
          refine r_get hK fl_X9_68 dX9_notesGate_113 tw_obj rfl ?_
          refine r_iload_6 hK dX9_notesGate_116 ?_
          refine r_aload_0 hK dX9_notesGate_118 ?_
          refine r_get hK fl_X9_68 dX9_notesGate_119 tw_obj rfl ?_
          refine r_iload_6 hK dX9_notesGate_122 ?_
          refine t_ild hK dX9_notesGate_124 (show _ < 64 by omega) ?_
          rw [q3 r (Nat.le_refl _)]
          have o2 := o1 (by omega)
          refine r_iload_3 hK dX9_notesGate_125 ?_
          refine r_iload_4 hK dX9_notesGate_126 ?_
          refine r_iconstN (c := 0) hK dX9_notesGate_128 ?_
          refine r_pS4 hK (ct_turned hK.rel (by omega) (by omega) (by omega) (by omega)) lk_X9_299 dX9_notesGate_129 ?_
          refine t_ist hK dX9_notesGate_132 (show _ < 64 by omega) ?_
          first | refine r_incN_6 hK dX9_notesGate_133 ?_ | refine r_iinc_6 hK dX9_notesGate_133 ?_
          refine r_goto 106 hK dX9_notesGate_136 ?_
          refine ih (rN L - (r + 1)) (by omega) (r + 1) _ rfl (by omega) (fun a a1 => by rw [upA_j a1]; exact q1 a a1) (fun q hq => ?_) (fun q hq => by rw [upA_n (by omega)]; exact q3 q (by omega))
          by_cases e : q = r
          · subst e; rw [upA_s]
          · rw [upA_n e]; exact q2 q (by omega)
    show Wx K 0 [some (.ref 358), some (zI 0), _, _, _, _, _] [] n _ 0
    refine r_iload_1 hK dX9_notesGate_0 ?_
    refine r_if_eq 103 hK dX9_notesGate_1 (by decide) (fun h1 => ?_) (fun h1 => ?_)
    · refine r_iconstN (c := 0) hK dX9_notesGate_103 ?_
      refine r_istore_6 hK dX9_notesGate_104 ?_
      exact lp (rN L) 0 A rfl (by omega) (fun _ _ => rfl) (fun q hq => by omega) (fun _ _ => rfl)
    · exact absurd rfl h1
/-- room for what is found: each row adds at most L -/
def FB (B : Nat) (s : FS) : Prop := s.2.1.length + s.2.2.length ≤ B
theorem FB_note {B t on : Nat} {b : Bool} {s : FS} (h : FB B s) : FB (B + 1) (note b t on s) := by
  unfold FB note at *
  cases b
  · show s.2.1.length + (s.2.2.length + 1) ≤ B + 1; omega
  · show (s.2.1 ++ [(t, on)]).length + s.2.2.length ≤ B + 1; simp; omega
theorem tb_ltN {x k w : Nat} (hx : x < rN w) (h : x.testBit k = true) : k < w := by
  rw [rN_pow] at hx
  rcases Nat.lt_or_ge k w with q | q
  · exact q
  · exact absurd h (by rw [Nat.testBit_lt_two_pow (Nat.lt_of_lt_of_le hx (Nat.pow_le_pow_right (by decide) q))]; decide)
theorem clr_bit (x k : Nat) : (clr x (1 <<< k)).testBit k = false := by rw [tb_clr, Nat.one_shiftLeft, Nat.testBit_two_pow]; simp
theorem invF_le {p : Nat → Nat} {x : Nat} : ∀ m z y, z ≤ y → y < z + m → p y = x → invF p x m z ≤ y
  | 0, z, y, h1, h2, _ => by omega
  | m + 1, z, y, h1, h2, h3 => by
    unfold invF
    by_cases c : p z = x
    · rw [if_pos c]; exact h1
    · rw [if_neg c]
      have : y ≠ z := fun e => c (e ▸ h3)
      exact invF_le m (z + 1) y (by omega) (by omega) h3
theorem fst1_lt {R : Nat} {p : Nat → Nat} {x : Nat} (hR : R ≤ 64) (h : onto R p) (hx : x < R) : fst1 p x < R := by
  obtain ⟨z, hz, e⟩ := h.2 x hx
  exact Nat.lt_of_le_of_lt (invF_le 64 0 z (by omega) (by omega) e) hz
/-- bits of x below k -/
def c1 (x : Nat) : Nat → Nat
  | 0 => 0
  | k + 1 => c1 x k + (if x.testBit k then 1 else 0)
theorem c1_le (x : Nat) : ∀ k, c1 x k ≤ k
  | 0 => Nat.le_refl _
  | k + 1 => by have := c1_le x k; unfold c1; split <;> omega
theorem c1_step (x k : Nat) : c1 x k ≤ c1 x (k + 1) ∧ c1 x (k + 1) ≤ c1 x k + 1 := by
  show c1 x k ≤ c1 x k + _ ∧ c1 x k + _ ≤ _
  split <;> omega
theorem c1_far (x : Nat) : ∀ d k, c1 x (k + d) ≤ c1 x k + d
  | 0, k => Nat.le_refl _
  | d + 1, k => by have := c1_far x d k; have := (c1_step x (k + d)).2; rw [show k + (d + 1) = k + d + 1 by omega]; omega
theorem FB_mono {B C : Nat} {s : FS} (h : FB B s) (hc : B ≤ C) : FB C s := Nat.le_trans h hc
set_option maxHeartbeats 4000000 in
theorem ct_laysFound {G : GT} {Rel : Nat → Hp → Hp → Prop} (hR : RelOK Rel) {n : Nat} {f0 : Hp} {F : Nat → Nat} {A : Nat → Nat → Nat} {L : Nat} {both : Bool} {p : Nat → Nat} (hL : L ≤ 6) (hp : onto (rN L) p) (hA : ∀ r, r < rN L → A 16 r = p r) : Ct G Rel yX9_laysFound cX9_laysFound 10 none (3) (0) [.ref 358, zI (L : Int), zI (if both then 1 else 0)] n (tw f0 F A) (Tv n f0 (fun F' A' => F' 38 = (fdL (fdAll L both p)).length ∧ (fdL (fdAll L both p)).length ≤ 384 ∧ (∀ i, i < (fdL (fdAll L both p)).length → (fdL (fdAll L both p))[i]? = some (A' 19 i, A' 20 i)) ∧ kF F F' ∧ kA A A')) := by
  refine ct_intro [some (.ref 358), some (zI (L : Int)), some (zI (if both then 1 else 0)), none, none, none, none, none, none, none] hR rfl (Nat.le_of_ble_eq_true rfl) ?_
  intro K hG hRel hK hRt hnm
  have hr6 : rN L ≤ 64 := rN_le hL
  have hr1 := rN_pos L
  -- behind the rows: what was found is written in one row
  have e288 : ∀ (s : FS), FB 384 s → fdAll L both p = s → ∀ (F1 : Nat → Nat) (A1 : Nat → Nat → Nat) a5 a6 a7 a8 a9, FR (rN L) F1 A1 s → kF F F1 → kA A A1 → Wx K 210 [some (.ref 358), some (zI (L : Int)), some (zI (if both then 1 else 0)), some (zI ((rN L : Nat) : Int)), some (zI ((rN L : Nat) : Int)), a5, a6, a7, a8, a9] [] n (tw f0 F1 A1) 0 := by
    intro s hB hs F1 A1 a5 a6 a7 a8 a9 hFR q1 q2
    unfold FB at hB
    obtain ⟨s1, s2, s3, s4, s5⟩ := hFR
    have hlen : (fdL s).length = s.2.1.length + s.2.2.length := by unfold fdL; simp
    have lpB : ∀ i (F2 : Nat → Nat) (A2 : Nat → Nat → Nat), i ≤ s.2.2.length → F2 38 = s.2.1.length + (s.2.2.length - i) → (∀ k, k ≠ 38 → F2 k = F1 k) → (∀ a, a ≠ 19 → a ≠ 20 → A2 a = A1 a) → (∀ j, j < s.2.1.length + (s.2.2.length - i) → (fdL s)[j]? = some (A2 19 j, A2 20 j)) → Wx K 259 [some (.ref 358), some (zI (L : Int)), some (zI (if both then 1 else 0)), some (zI ((rN L : Nat) : Int)), some (zI ((i : Int) - 1)), a5, a6, a7, a8, a9] [] n (tw f0 F2 A2) 0 := by
      intro i
      induction i with
      | zero =>
        intro F2 A2 hi g1 g2 g3 g4
        refine r_iload_4 hK dX9_laysFound_259 ?_
        refine r_if_lt 288 hK dX9_laysFound_261 (by omega) (fun h261 => ?_) (fun h261 => ?_)
        · exact r_vret hK hRt dX9_laysFound_288 ⟨rfl, rfl, _, _, rfl, by rw [hs, hlen, g1]; omega, by rw [hs, hlen]; omega, fun j hj => by rw [hs] at hj ⊢; exact g4 j (by omega), fun k k1 k2 k3 => by rw [g2 k k1]; exact q1 k k1 k2 k3, fun a a1 a2 a3 a4 a5 a6 a7 a8 => by rw [g3 a a2 a3]; exact q2 a a1 a2 a3 a4 a5 a6 a7 a8⟩
        · exact absurd h261 (by omega)
      | succ i ih =>
        intro F2 A2 hi g1 g2 g3 g4
        rw [show ((i + 1 : Nat) : Int) - 1 = (i : Int) by omega]
        refine r_iload_4 hK dX9_laysFound_259 ?_
        refine r_if_lt 288 hK dX9_laysFound_261 (by omega) (fun h261 => ?_) (fun h261 => ?_)
        · exact absurd h261 (by omega)
        · refine r_aload_0 hK dX9_laysFound_264 ?_
          refine r_aload_0 hK dX9_laysFound_265 ?_
          refine r_get hK fl_X9_89 dX9_laysFound_266 tw_obj rfl ?_
          refine r_iload_4 hK dX9_laysFound_269 ?_
          refine t_ild hK dX9_laysFound_271 (show _ < 400 by omega) ?_
          refine r_aload_0 hK dX9_laysFound_272 ?_
          refine r_get hK fl_X9_92 dX9_laysFound_273 tw_obj rfl ?_
          refine r_iload_4 hK dX9_laysFound_276 ?_
          refine t_ild hK dX9_laysFound_278 (show _ < 400 by omega) ?_
          refine r_vV2 hK (ct_foundGate hK.rel (by omega)) lk_X9_357 (tw_rcv hK) dX9_laysFound_279 ?_
          first | refine r_decN_4 hK dX9_laysFound_282 ?_ | refine r_iinc_4 hK dX9_laysFound_282 ?_
          refine r_goto 259 hK dX9_laysFound_285 ?_
          refine ih _ _ (by omega) (by rw [upF_s, g1]; omega) (fun k hk => by rw [upF_n hk]; exact g2 k hk) (fun a a1 a2 => by rw [upA_j a2, upA_j a1]; exact g3 a a1 a2) (fun j hj => ?_)
          by_cases e : j = s.2.1.length + (s.2.2.length - (i + 1))
          · rw [show upA (upA A2 19 (F2 38) (A2 23 i)) 20 (F2 38) (A2 24 i) 19 j = A1 23 i by rw [upA_j (by decide), e, ← g1, upA_s, g3 23 (by decide) (by decide)], show upA (upA A2 19 (F2 38) (A2 23 i)) 20 (F2 38) (A2 24 i) 20 j = A1 24 i by rw [e, ← g1, upA_s, g3 24 (by decide) (by decide)], ← s5 i (by omega)]
            unfold fdL
            rw [List.getElem?_append_right (by omega), List.getElem?_reverse (by omega)]
            congr 1
            omega
          · rw [show upA (upA A2 19 (F2 38) (A2 23 i)) 20 (F2 38) (A2 24 i) 19 j = A2 19 j by rw [upA_j (by decide), upA_n (by omega)], show upA (upA A2 19 (F2 38) (A2 23 i)) 20 (F2 38) (A2 24 i) 20 j = A2 20 j by rw [upA_n (by omega), upA_j (by decide)]]
            exact g4 j (by omega)
    have lpA : ∀ m i (F2 : Nat → Nat) (A2 : Nat → Nat → Nat), m = s.2.1.length - i → i ≤ s.2.1.length → F2 38 = i → (∀ k, k ≠ 38 → F2 k = F1 k) → (∀ a, a ≠ 19 → a ≠ 20 → A2 a = A1 a) → (∀ j, j < i → (fdL s)[j]? = some (A2 19 j, A2 20 j)) → Wx K 218 [some (.ref 358), some (zI (L : Int)), some (zI (if both then 1 else 0)), some (zI ((rN L : Nat) : Int)), some (zI (i : Int)), a5, a6, a7, a8, a9] [] n (tw f0 F2 A2) 0 := by
      intro m
      induction m using Nat.strongRecOn with
      | _ m ih =>
        intro i F2 A2 hm hi g1 g2 g3 g4
        refine r_iload_4 hK dX9_laysFound_218 ?_
        refine r_aload_0 hK dX9_laysFound_220 ?_
        refine r_get hK fl_X9_347 dX9_laysFound_221 tw_obj rfl ?_
        rw [g2 41 (by decide), s2]
        refine r_icmp_ge 251 hK dX9_laysFound_224 (by omega) (by omega) (fun h224 => ?_) (fun h224 => ?_)
        · refine r_aload_0 hK dX9_laysFound_251 ?_
          refine r_get hK fl_X9_350 dX9_laysFound_252 tw_obj rfl ?_
          rw [g2 42 (by decide), s3]
          refine r_iconstN (c := 1) hK dX9_laysFound_255 ?_
          refine r_isub hK dX9_laysFound_256 ?_
          refine r_istore_4 hK dX9_laysFound_257 ?_
          exact lpB s.2.2.length F2 A2 (Nat.le_refl _) (by omega) g2 g3 (fun j hj => g4 j (by omega))
        · refine r_aload_0 hK dX9_laysFound_227 ?_
          refine r_aload_0 hK dX9_laysFound_228 ?_
          refine r_get hK fl_X9_83 dX9_laysFound_229 tw_obj rfl ?_
          refine r_iload_4 hK dX9_laysFound_232 ?_
          refine t_ild hK dX9_laysFound_234 (show _ < 400 by omega) ?_
          refine r_aload_0 hK dX9_laysFound_235 ?_
          refine r_get hK fl_X9_86 dX9_laysFound_236 tw_obj rfl ?_
          refine r_iload_4 hK dX9_laysFound_239 ?_
          refine t_ild hK dX9_laysFound_241 (show _ < 400 by omega) ?_
          refine r_vV2 hK (ct_foundGate hK.rel (by omega)) lk_X9_357 (tw_rcv hK) dX9_laysFound_242 ?_
          first | refine r_incN_4 hK dX9_laysFound_245 ?_ | refine r_iinc_4 hK dX9_laysFound_245 ?_
          refine r_goto 218 hK dX9_laysFound_248 ?_
          refine ih (s.2.1.length - (i + 1)) (by omega) (i + 1) _ _ rfl (by omega) (by rw [upF_s, g1]) (fun k hk => by rw [upF_n hk]; exact g2 k hk) (fun a a1 a2 => by rw [upA_j a2, upA_j a1]; exact g3 a a1 a2) (fun j hj => ?_)
          by_cases e : j = i
          · subst e
            rw [show upA (upA A2 19 (F2 38) (A2 21 j)) 20 (F2 38) (A2 22 j) 19 j = A1 21 j by rw [upA_j (by decide), g1, upA_s, g3 21 (by decide) (by decide)], show upA (upA A2 19 (F2 38) (A2 21 j)) 20 (F2 38) (A2 22 j) 20 j = A1 22 j by rw [g1, upA_s, g3 22 (by decide) (by decide)], ← s4 j (by omega)]
            unfold fdL
            rw [List.getElem?_append_left (by omega)]
          · rw [show upA (upA A2 19 (F2 38) (A2 21 i)) 20 (F2 38) (A2 22 i) 19 j = A2 19 j by rw [upA_j (by decide), upA_n (by omega)], show upA (upA A2 19 (F2 38) (A2 21 i)) 20 (F2 38) (A2 22 i) 20 j = A2 20 j by rw [upA_n (by omega), upA_j (by decide)]]
            exact g4 j (by omega)
    refine r_aload_0 hK dX9_laysFound_210 ?_
    refine r_iconstN (c := 0) hK dX9_laysFound_211 ?_
    refine t_put hK fl_X9_296 dX9_laysFound_212 ?_
    refine r_iconstN (c := 0) hK dX9_laysFound_215 ?_
    refine r_istore_4 hK dX9_laysFound_216 ?_
    exact lpA s.2.1.length 0 _ A1 rfl (by omega) (upF_s _ _ _) (fun k hk => upF_n hk) (fun _ _ _ => rfl) (fun j hj => by omega)
  have lp : ∀ m x (s : FS) (F1 : Nat → Nat) (A1 : Nat → Nat → Nat) a5 a6 a7 a8 a9, x + m = rN L → fdAll L both p = fdF L both m s → FB (6 * x) s → onto (rN L) s.1 → FR (rN L) F1 A1 s → kF F F1 → kA A A1 → Wx K 17 [some (.ref 358), some (zI (L : Int)), some (zI (if both then 1 else 0)), some (zI ((rN L : Nat) : Int)), some (zI (x : Int)), a5, a6, a7, a8, a9] [] n (tw f0 F1 A1) 0 := by
    intro m
    induction m with
    | zero =>
      intro x s F1 A1 a5 a6 a7 a8 a9 hx hs hB ho hFR q1 q2
      refine r_iload_4 hK dX9_laysFound_17 ?_
      refine r_iload_3 hK dX9_laysFound_19 ?_
      refine r_icmp_ge 210 hK dX9_laysFound_20 (by omega) (by omega) (fun h20 => ?_) (fun h20 => ?_)
      · rw [show x = rN L by omega]
        exact e288 s (FB_mono hB (by omega)) hs F1 A1 _ _ _ _ _ hFR q1 q2
      · exact absurd h20 (by omega)
    | succ m ih =>
      intro x s F1 A1 a5 a6 a7 a8 a9 hx hs hB ho hFR q1 q2
      have hxR : x < rN L := by omega
      have hfl := fst1_lt hr6 ho hxR
      have hfs := (fst1_spec hr6 ho hxR).1
      have hyl := ho.1 x hxR
      have hs1 : fdF L both (m + 1) s = fdF L both m (fdRow L both x s) := by show fdF L both m (fdRow L both (rN L - (m + 1)) s) = _; rw [show rN L - (m + 1) = x by omega]
      rw [hs1] at hs
      obtain ⟨bb, hbb⟩ : ∃ bb, bb = isAh both s.1 x := ⟨_, rfl⟩
      have hrow : fdRow L both x s = (ld2 L bb x L (ld1 L bb x L (if bb then fst1 s.1 x else s.1 x, s))).2 := by rw [hbb]; rfl
      have c1l := c1_le x L
      -- the second loop
      have lpD : ∀ dd k y (s' : FS) (F2 : Nat → Nat) (A2 : Nat → Nat → Nat) a5 a6, k + dd = L → y < rN L → ld2 L bb x dd (y, s') = ld2 L bb x L (ld1 L bb x L (if bb then fst1 s.1 x else s.1 x, s)) → FB (6 * x + c1 x L + (k - c1 x k)) s' → onto (rN L) s'.1 → FR (rN L) F2 A2 s' → kF F F2 → kA A A2 → Wx K 150 [some (.ref 358), some (zI (L : Int)), some (zI (if both then 1 else 0)), some (zI ((rN L : Nat) : Int)), some (zI (x : Int)), a5, a6, some (zI (if bb then 1 else 0)), some (zI (y : Int)), some (zI (k : Int))] [] n (tw f0 F2 A2) 0 := by
        intro dd
        induction dd with
        | zero =>
          intro k y s' F2 A2 a5 a6 hk hy hld hB' ho' hFR' r1 r2
          refine r_iload_9 hK dX9_laysFound_150 ?_
          refine r_iload_1 hK dX9_laysFound_152 ?_
          refine r_icmp_ge 204 hK dX9_laysFound_153 (by omega) (by omega) (fun h153 => ?_) (fun h153 => ?_)
          · first | refine r_incN_4 hK dX9_laysFound_204 ?_ | refine r_iinc_4 hK dX9_laysFound_204 ?_
            refine r_goto 17 hK dX9_laysFound_207 ?_
            refine ih (x + 1) s' F2 A2 _ _ _ _ _ (by omega) ?_ (FB_mono hB' ?_) ho' hFR' r1 r2
            · rw [hs, hrow, ← hld]; rfl
            · have : k = L := by omega
              subst this
              omega
          · exact absurd h153 (by omega)
        | succ dd ih2 =>
          intro k y s' F2 A2 a5 a6 hk hy hld hB' ho' hFR' r1 r2
          have eL : L - (dd + 1) = k := by omega
          have e : ld2 L bb x (dd + 1) (y, s') = ld2 L bb x dd (if x.testBit k = false ∧ y.testBit k = true then (mk (k, clr y (1 <<< k), 0) y, note bb k (clr y (1 <<< k)) s') else (y, s')) := by
            show ld2 L bb x dd (if x.testBit (L - (dd + 1)) = false ∧ y.testBit (L - (dd + 1)) = true then (mk (L - (dd + 1), clr y (1 <<< (L - (dd + 1))), 0) y, note bb (L - (dd + 1)) (clr y (1 <<< (L - (dd + 1)))) s') else (y, s')) = _
            rw [eL]
          rw [e] at hld
          have ck := c1_le x k
          have cs := c1_step x k
          have cf := c1_far x (dd + 1) k
          rw [hk] at cf
          unfold FB at hB'
          have nx : ¬ (x.testBit k = false ∧ y.testBit k = true) → Wx K 198 [some (.ref 358), some (zI (L : Int)), some (zI (if both then 1 else 0)), some (zI ((rN L : Nat) : Int)), some (zI (x : Int)), a5, a6, some (zI (if bb then 1 else 0)), some (zI (y : Int)), some (zI (k : Int))] [] n (tw f0 F2 A2) 0 := by
            intro hn
            rw [if_neg hn] at hld
            first | refine r_incN_9 hK dX9_laysFound_198 ?_ | refine r_iinc_9 hK dX9_laysFound_198 ?_
            refine r_goto 150 hK dX9_laysFound_201 ?_
            exact ih2 (k + 1) y s' F2 A2 _ _ (by omega) hy hld (by unfold FB; omega) ho' hFR' r1 r2
          refine r_iload_9 hK dX9_laysFound_150 ?_
          refine r_iload_1 hK dX9_laysFound_152 ?_
          refine r_icmp_ge 204 hK dX9_laysFound_153 (by omega) (by omega) (fun h153 => ?_) (fun h153 => ?_)
          · exact absurd h153 (by omega)
          · refine r_iload_4 hK dX9_laysFound_156 ?_
            refine r_iload_9 hK dX9_laysFound_158 ?_
            refine r_pS2 hK (ct_has hK.rel (by omega) (by omega)) lk_X9_261 dX9_laysFound_160 ?_
            refine r_ifB_ne 198 hK dX9_laysFound_163 (fun h163 => ?_) (fun h163 => ?_)
            · exact nx (fun h => by rw [h163] at h; exact absurd h.1 (by decide)) --!
            · refine r_iload_8 hK dX9_laysFound_166 ?_
              refine r_iload_9 hK dX9_laysFound_168 ?_
              refine r_pS2 hK (ct_has hK.rel (by omega) (by omega)) lk_X9_261 dX9_laysFound_170 ?_
              refine r_ifB_eq 198 hK dX9_laysFound_173 (fun h173 => ?_) (fun h173 => ?_)
              · exact nx (fun h => h173 h.2) --!
              · refine r_aload_0 hK dX9_laysFound_176 ?_
                refine r_iload_7 hK dX9_laysFound_177 ?_
                refine r_iload_3 hK dX9_laysFound_179 ?_
                refine r_iload_9 hK dX9_laysFound_180 ?_
                refine r_iload_8 hK dX9_laysFound_182 ?_
                refine r_iconstN (c := 1) hK dX9_laysFound_184 ?_
                refine r_iload_9 hK dX9_laysFound_185 ?_
                refine r_ishl hK dX9_laysFound_187 (by omega) (by first | exact sh1 (by omega) | omega) ?_
                refine r_iconst hK dX9_laysFound_188 ?_
                first | refine r_ixor hK dX9_laysFound_189 ?_ | refine r_not hK dX9_laysFound_189 ?_
                first | refine r_iand hK dX9_laysFound_190 ?_ | refine r_andnot hK dX9_laysFound_190 (by omega) ?_
                refine r_iload_8 hK dX9_laysFound_191 ?_
                refine r_tiV5 hK (ct_notesGate (b := bb) (s := s') hK.rel hL ⟨by omega, clr_lt hy, clr_bit _ _⟩ (by omega) hFR' ho' (by omega) (by omega)) lk_X9_353 (tw_rcv hK) dX9_laysFound_193 (fun z3 F3 A3 t1 => ?_)
                obtain ⟨rfl, t2, t3, t4⟩ := t1
                rw [if_pos ⟨Bool.eq_false_iff.mpr h163, h173⟩] at hld
                have cz : c1 x (k + 1) = c1 x k := by show c1 x k + (if x.testBit k then 1 else 0) = _; rw [if_neg h163]; rfl
                refine r_istore_8 hK dX9_laysFound_196 ?_
                first | refine r_incN_9 hK dX9_laysFound_198 ?_ | refine r_iinc_9 hK dX9_laysFound_198 ?_
                refine r_goto 150 hK dX9_laysFound_201 ?_
                exact ih2 (k + 1) _ _ F3 A3 _ _ (by omega) (mk_lt (by show k < L; omega) hy) hld (FB_mono (FB_note (B := 6 * x + c1 x L + (k - c1 x k)) hB') (by omega)) (onto_note ho' ⟨by omega, clr_lt hy, clr_bit _ _⟩) t2 (r1.t t3) (r2.t t4)
      -- the first loop
      have lpC : ∀ dd k y (s' : FS) (F2 : Nat → Nat) (A2 : Nat → Nat → Nat) a5 a6, k + dd = L → y < rN L → ld1 L bb x dd (y, s') = ld1 L bb x L (if bb then fst1 s.1 x else s.1 x, s) → FB (6 * x + c1 x k) s' → onto (rN L) s'.1 → FR (rN L) F2 A2 s' → kF F F2 → kA A A2 → Wx K 100 [some (.ref 358), some (zI (L : Int)), some (zI (if both then 1 else 0)), some (zI ((rN L : Nat) : Int)), some (zI (x : Int)), a5, a6, some (zI (if bb then 1 else 0)), some (zI (y : Int)), some (zI (k : Int))] [] n (tw f0 F2 A2) 0 := by
        intro dd
        induction dd with
        | zero =>
          intro k y s' F2 A2 a5 a6 hk hy hld hB' ho' hFR' r1 r2
          refine r_iload_9 hK dX9_laysFound_100 ?_
          refine r_iload_1 hK dX9_laysFound_102 ?_
          refine r_icmp_ge 147 hK dX9_laysFound_103 (by omega) (by omega) (fun h103 => ?_) (fun h103 => ?_)
          · refine r_iconstN (c := 0) hK dX9_laysFound_147 ?_
            refine r_istore_9 hK dX9_laysFound_148 ?_
            have hkL : k = L := by omega
            subst hkL
            exact lpD k 0 y s' F2 A2 _ _ (by omega) hy (by rw [← hld]; rfl) (FB_mono hB' (by omega)) ho' hFR' r1 r2
          · exact absurd h103 (by omega)
        | succ dd ih2 =>
          intro k y s' F2 A2 a5 a6 hk hy hld hB' ho' hFR' r1 r2
          have eL : L - (dd + 1) = k := by omega
          have e : ld1 L bb x (dd + 1) (y, s') = ld1 L bb x dd (if x.testBit k = true ∧ y.testBit k = false then (mk (k, y, 0) y, note bb k y s') else (y, s')) := by
            show ld1 L bb x dd (if x.testBit (L - (dd + 1)) = true ∧ y.testBit (L - (dd + 1)) = false then (mk (L - (dd + 1), y, 0) y, note bb (L - (dd + 1)) y s') else (y, s')) = _
            rw [eL]
          rw [e] at hld
          have ck := c1_le x k
          have cs := c1_step x k
          have hB0 := hB'
          unfold FB at hB'
          have nx : ¬ (x.testBit k = true ∧ y.testBit k = false) → Wx K 141 [some (.ref 358), some (zI (L : Int)), some (zI (if both then 1 else 0)), some (zI ((rN L : Nat) : Int)), some (zI (x : Int)), a5, a6, some (zI (if bb then 1 else 0)), some (zI (y : Int)), some (zI (k : Int))] [] n (tw f0 F2 A2) 0 := by
            intro hn
            rw [if_neg hn] at hld
            first | refine r_incN_9 hK dX9_laysFound_141 ?_ | refine r_iinc_9 hK dX9_laysFound_141 ?_
            refine r_goto 100 hK dX9_laysFound_144 ?_
            exact ih2 (k + 1) y s' F2 A2 _ _ (by omega) hy hld (by unfold FB; omega) ho' hFR' r1 r2
          refine r_iload_9 hK dX9_laysFound_100 ?_
          refine r_iload_1 hK dX9_laysFound_102 ?_
          refine r_icmp_ge 147 hK dX9_laysFound_103 (by omega) (by omega) (fun h103 => ?_) (fun h103 => ?_)
          · exact absurd h103 (by omega)
          · refine r_iload_4 hK dX9_laysFound_106 ?_
            refine r_iload_9 hK dX9_laysFound_108 ?_
            refine r_pS2 hK (ct_has hK.rel (by omega) (by omega)) lk_X9_261 dX9_laysFound_110 ?_
            refine r_ifB_eq 141 hK dX9_laysFound_113 (fun h113 => ?_) (fun h113 => ?_)
            · exact nx (fun h => h113 h.1) --!
            · refine r_iload_8 hK dX9_laysFound_116 ?_
              refine r_iload_9 hK dX9_laysFound_118 ?_
              refine r_pS2 hK (ct_has hK.rel (by omega) (by omega)) lk_X9_261 dX9_laysFound_120 ?_
              refine r_ifB_ne 141 hK dX9_laysFound_123 (fun h123 => ?_) (fun h123 => ?_)
              · exact nx (fun h => by rw [h123] at h; exact absurd h.2 (by decide)) --!
              · refine r_aload_0 hK dX9_laysFound_126 ?_
                refine r_iload_7 hK dX9_laysFound_127 ?_
                refine r_iload_3 hK dX9_laysFound_129 ?_
                refine r_iload_9 hK dX9_laysFound_130 ?_
                refine r_iload_8 hK dX9_laysFound_132 ?_
                refine r_iload_8 hK dX9_laysFound_134 ?_
                refine r_tiV5 hK (ct_notesGate (b := bb) (s := s') hK.rel hL ⟨by omega, hy, Bool.eq_false_iff.mpr h123⟩ (by omega) hFR' ho' (by omega) (by omega)) lk_X9_353 (tw_rcv hK) dX9_laysFound_136 (fun z3 F3 A3 t1 => ?_)
                obtain ⟨rfl, t2, t3, t4⟩ := t1
                rw [if_pos ⟨h113, Bool.eq_false_iff.mpr h123⟩] at hld
                have cz : c1 x (k + 1) = c1 x k + 1 := by show c1 x k + (if x.testBit k then 1 else 0) = _; rw [if_pos h113]
                refine r_istore_8 hK dX9_laysFound_139 ?_
                first | refine r_incN_9 hK dX9_laysFound_141 ?_ | refine r_iinc_9 hK dX9_laysFound_141 ?_
                refine r_goto 100 hK dX9_laysFound_144 ?_
                exact ih2 (k + 1) _ _ F3 A3 _ _ (by omega) (mk_lt (by show k < L; omega) hy) hld (FB_mono (FB_note hB0) (by omega)) (onto_note ho' ⟨by omega, hy, Bool.eq_false_iff.mpr h123⟩) t2 (r1.t t3) (r2.t t4)
      have j81 : Wx K 81 [some (.ref 358), some (zI (L : Int)), some (zI (if both then 1 else 0)), some (zI ((rN L : Nat) : Int)), some (zI (x : Int)), some (zI ((s.1 x : Nat) : Int)), some (zI ((fst1 s.1 x : Nat) : Int)), a7, a8, a9] [zI (if bb then 1 else 0)] n (tw f0 F1 A1) 0 := by
        cases bb with
        | true =>
          show Wx K 81 _ [zI 1] n _ 0
          refine r_istore_7 hK dX9_laysFound_81 ?_
          refine r_iload_7 hK dX9_laysFound_83 ?_
          refine r_if_eq 93 hK dX9_laysFound_85 (by decide) (fun h85 => ?_) (fun h85 => ?_)
          · exact absurd h85 (by decide)
          · refine r_iload_6 hK dX9_laysFound_88 ?_
            refine r_goto 95 hK dX9_laysFound_90 ?_
            refine r_istore_8 hK dX9_laysFound_95 ?_
            refine r_iconstN (c := 0) hK dX9_laysFound_97 ?_
            refine r_istore_9 hK dX9_laysFound_98 ?_
            exact lpC L 0 _ s F1 A1 _ _ (by omega) hfl (by rw [if_pos rfl]) hB ho hFR q1 q2
        | false =>
          show Wx K 81 _ [zI 0] n _ 0
          refine r_istore_7 hK dX9_laysFound_81 ?_
          refine r_iload_7 hK dX9_laysFound_83 ?_
          refine r_if_eq 93 hK dX9_laysFound_85 (by decide) (fun h85 => ?_) (fun h85 => ?_)
          · refine r_iload_5 hK dX9_laysFound_93 ?_
            refine r_istore_8 hK dX9_laysFound_95 ?_
            refine r_iconstN (c := 0) hK dX9_laysFound_97 ?_
            refine r_istore_9 hK dX9_laysFound_98 ?_
            exact lpC L 0 _ s F1 A1 _ _ (by omega) hyl (by rw [if_neg (by decide)]) hB ho hFR q1 q2
          · exact absurd rfl h85
      have bl1 := bits_le (x ^^^ fst1 s.1 x)
      have bl2 := bits_le (x ^^^ s.1 x)
      have xl1 : x ^^^ fst1 s.1 x < rN L := xor_lt hxR hfl
      have xl2 : x ^^^ s.1 x < rN L := xor_lt hxR hyl
      have hbi : isAh both s.1 x = (both && decide (bits (x ^^^ fst1 s.1 x) < bits (x ^^^ s.1 x))) := rfl
      have j53 : Wx K 53 [some (.ref 358), some (zI (L : Int)), some (zI (if both then 1 else 0)), some (zI ((rN L : Nat) : Int)), some (zI (x : Int)), some (zI ((s.1 x : Nat) : Int)), some (zI ((fst1 s.1 x : Nat) : Int)), a7, a8, a9] [] n (tw f0 F1 A1) 0 := by
        cases both with
        | true =>
          show Wx K 53 [some (.ref 358), some (zI (L : Int)), some (zI 1), _, _, _, _, _, _, _] [] n _ 0
          refine r_iload_2 hK dX9_laysFound_53 ?_
          refine r_if_eq 80 hK dX9_laysFound_54 (by decide) (fun h54 => ?_) (fun h54 => ?_)
          · exact absurd h54 (by decide) --!
          · refine r_iload_4 hK dX9_laysFound_57 ?_
            refine r_iload_6 hK dX9_laysFound_59 ?_
            first | refine r_ixor hK dX9_laysFound_61 ?_ | refine r_not hK dX9_laysFound_61 ?_
            refine r_pS1 hK (ct_bitsOf hK.rel (by omega)) lk_X9_322 dX9_laysFound_62 ?_
            refine r_iload_4 hK dX9_laysFound_65 ?_
            refine r_iload_5 hK dX9_laysFound_67 ?_
            first | refine r_ixor hK dX9_laysFound_69 ?_ | refine r_not hK dX9_laysFound_69 ?_
            refine r_pS1 hK (ct_bitsOf hK.rel (by omega)) lk_X9_322 dX9_laysFound_70 ?_
            refine r_icmp_ge 80 hK dX9_laysFound_73 (by omega) (by omega) (fun h73 => ?_) (fun h73 => ?_)
            · refine r_iconstN (c := 0) hK dX9_laysFound_80 ?_
              rw [hbb, hbi, decide_eq_false (by omega)] at j81
              exact j81
            · refine r_iconstN (c := 1) hK dX9_laysFound_76 ?_
              refine r_goto 81 hK dX9_laysFound_77 ?_
              rw [hbb, hbi, decide_eq_true (by omega)] at j81
              exact j81
        | false =>
          show Wx K 53 [some (.ref 358), some (zI (L : Int)), some (zI 0), _, _, _, _, _, _, _] [] n _ 0
          refine r_iload_2 hK dX9_laysFound_53 ?_
          refine r_if_eq 80 hK dX9_laysFound_54 (by decide) (fun h54 => ?_) (fun h54 => ?_)
          · refine r_iconstN (c := 0) hK dX9_laysFound_80 ?_
            rw [hbb, hbi] at j81
            exact j81
          · exact absurd rfl h54
      have lpZ : ∀ dd z : Nat, dd = fst1 s.1 x - z → z ≤ fst1 s.1 x → fst1 s.1 x = invF s.1 x (64 - z) z → Wx K 35 [some (.ref 358), some (zI (L : Int)), some (zI (if both then 1 else 0)), some (zI ((rN L : Nat) : Int)), some (zI (x : Int)), some (zI ((s.1 x : Nat) : Int)), some (zI (z : Int)), a7, a8, a9] [] n (tw f0 F1 A1) 0 := by
        intro dd
        induction dd using Nat.strongRecOn with
        | _ dd ih2 =>
          intro z hdd hz hi
          have hzR : z < rN L := by omega
          have hpz := ho.1 z hzR
          rw [show 64 - z = (63 - z) + 1 by omega] at hi
          refine r_aload_0 hK dX9_laysFound_35 ?_
          refine r_get hK fl_X9_68 dX9_laysFound_36 tw_obj rfl ?_
          refine r_iload_6 hK dX9_laysFound_39 ?_
          refine t_ild hK dX9_laysFound_41 (show _ < 64 by omega) ?_
          rw [hFR.1 z hzR]
          refine r_iload_4 hK dX9_laysFound_42 ?_
          refine r_icmp_eq 53 hK dX9_laysFound_44 (by omega) (by omega) (fun h44 => ?_) (fun h44 => ?_)
          · rw [invF_at (by omega)] at hi
            rw [hi] at j53
            exact j53
          · first | refine r_incN_6 hK dX9_laysFound_47 ?_ | refine r_iinc_6 hK dX9_laysFound_47 ?_
            refine r_goto 35 hK dX9_laysFound_50 ?_
            have hne : s.1 z ≠ x := by omega
            have hzl : z < fst1 s.1 x := by
              rcases Nat.lt_or_ge z (fst1 s.1 x) with q | q
              · exact q
              · exact absurd (show s.1 z = x by rw [show z = fst1 s.1 x by omega]; exact hfs) hne
            exact ih2 (fst1 s.1 x - (z + 1)) (by omega) (z + 1) rfl (by omega) (by rw [invF_step hne] at hi; rw [show 64 - (z + 1) = 63 - z by omega]; exact hi)
      refine r_iload_4 hK dX9_laysFound_17 ?_
      refine r_iload_3 hK dX9_laysFound_19 ?_
      refine r_icmp_ge 210 hK dX9_laysFound_20 (by omega) (by omega) (fun h20 => ?_) (fun h20 => ?_)
      · exact absurd h20 (by omega)
      · refine r_aload_0 hK dX9_laysFound_23 ?_
        refine r_get hK fl_X9_68 dX9_laysFound_24 tw_obj rfl ?_
        refine r_iload_4 hK dX9_laysFound_27 ?_
        refine t_ild hK dX9_laysFound_29 (show _ < 64 by omega) ?_
        rw [hFR.1 x hxR]
        refine r_istore_5 hK dX9_laysFound_30 ?_
        refine r_iconstN (c := 0) hK dX9_laysFound_32 ?_
        refine r_istore_6 hK dX9_laysFound_33 ?_
        exact lpZ (fst1 s.1 x) 0 rfl (by omega) rfl
  refine r_iconstN (c := 1) hK dX9_laysFound_0 ?_
  refine r_iload_1 hK dX9_laysFound_1 ?_
  refine r_ishl hK dX9_laysFound_2 (by omega) (sh1 (by omega)) ?_
  refine r_istore_3 hK dX9_laysFound_3 ?_
  refine r_aload_0 hK dX9_laysFound_4 ?_
  refine r_iconstN (c := 0) hK dX9_laysFound_5 ?_
  refine t_put hK fl_X9_347 dX9_laysFound_6 ?_
  refine r_aload_0 hK dX9_laysFound_9 ?_
  refine r_iconstN (c := 0) hK dX9_laysFound_10 ?_
  refine t_put hK fl_X9_350 dX9_laysFound_11 ?_
  refine r_iconstN (c := 0) hK dX9_laysFound_14 ?_
  refine r_istore_4 hK dX9_laysFound_15 ?_
  exact lp (rN L) 0 (p, [], []) _ A _ _ _ _ _ (by omega) rfl (by unfold FB; simp) hp ⟨hA, by rw [upF_n (by decide), upF_s]; rfl, upF_s _ _ _, fun i hi => by simp at hi, fun i hi => by simp at hi⟩ (fun k k1 k2 k3 => by rw [upF_n k3, upF_n k2]) (fun a _ _ _ _ _ _ _ _ => rfl)
