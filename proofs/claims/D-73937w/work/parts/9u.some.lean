set_option maxRecDepth 100000
/-! ===== Shortest.some ===== -/
set_option maxHeartbeats 4000000 in
theorem ct_iSome {G : GT} {Rel : Nat → Hp → Hp → Prop} (hR : RelOK Rel) (hP : Rel = RelP) (hX : GX G) {n : Nat} {f : Hp} : Ct G Rel yX7_some cX7_some 2 (some (.array (.object "java/util/BitSet"))) (5) (271) [] n (f) (fun r n' f' => r = some (.ref n) ∧ n' = n + 11 ∧ f' n = some (.inr (6, 5, fun k => .ref (n + 1 + 2 * k))) ∧ (∀ k, k < 5 → f' (n + 1 + 2 * k) = some (cBS 630 (fun _ => false))) ∧ ∀ id, id < n → f' id = f id) := by
  refine ct_intro [none, none] hR rfl (Nat.le_of_ble_eq_true rfl) ?_
  intro K hG hRel hK hRt hnm
  have hQ : kRel K = RelP := by rw [hRel]; exact hP
  have hXK : GX (kG K) := by rw [hG]; exact hX
  have lp : ∀ (d k u : Nat) (g : Hp) (h : Nat → Value), k + d = 5 → u ≤ 1 + 54 * k → g n = some (.inr (6, 5, h)) → (∀ j, j < k → h j = .ref (n + 1 + 2 * j) ∧ g (n + 1 + 2 * j) = some (cBS 630 (fun _ => false))) → (∀ id, id < n → g id = f id) → Wx K 7 [some (.ref n), some (zI (k : Int))] [] (n + 1 + 2 * k) g u := by
    intro d
    induction d with
    | zero =>
      intro k u g h hk hu hg hj hid
      have ek : k = 5 := hk
      subst ek
      refine r_arr (g1 := fun k => .ref (n + 1 + 2 * k)) hK hg (by decide) (fun j hj' => (hj j hj').1) ?_
      refine r_iload_1 hK dX7_some_7 ?_
      refine r_iconstN (c := 4) hK dX7_some_8 ?_
      refine r_icmp_gt 30 hK dX7_some_9 (by omega) (by omega) (fun h9 => ?_) (fun h9 => ?_)
      · refine r_aload_0 hK dX7_some_30 ?_
        refine r_aret hK hRt dX7_some_31 ⟨rfl, by omega, up_s _ _ _, fun k hk => ?_, fun id hid' => ?_⟩ (by omega)
        · rw [up_n (by omega)]; exact (hj k hk).2
        · rw [up_n (by omega)]; exact hid id hid'
      · exact absurd h9 (by decide) --!
    | succ d ih =>
      intro k u g h hk hu hg hj hid
      refine r_iload_1 hK dX7_some_7 ?_
      refine r_iconstN (c := 4) hK dX7_some_8 ?_
      refine r_icmp_gt 30 hK dX7_some_9 (by omega) (by omega) (fun h9 => ?_) (fun h9 => ?_)
      · omega --!
      · refine r_aload_0 hK dX7_some_12 ?_
        refine r_iload_1 hK dX7_some_13 ?_
        refine r_new (fs := [.null, zI 0, zI 0]) 1 hK nw_X7_42 dX7_some_14 (by omega) ?_ (hw := new16)
        refine r_dup hK dX7_some_17 ?_
        refine r_ldcN (c := 40320) hK q566 dX7_some_18 (by decide +kernel) ?_
        refine r_callI1 hK (pb_init hQ (N := 630) (m := 40320) (up_s _ _ _) (by omega) (by decide) (by decide) (by decide) (by decide)) lk_X7_45 dX7_some_20 (fun r n1 f1 hp => ?_) (hu := by omega)
        obtain ⟨rfl, rfl, rfl⟩ := hp
        rw [up_up]
        have hgn : up g (n + 1 + 2 * k) (cBS 630 (fun _ => false)) n = some (.inr (6, 5, h)) := (up_n (by omega)).trans hg
        refine r_aastR (E := "java/util/BitSet") hK ⟨rfl, by decide, by decide⟩ dX7_some_23 hgn (by omega) (rcv_bs hQ (up_s _ _ _)) ?_
        first | refine r_incN_1 hK dX7_some_24 ?_ | refine r_iinc_1 hK dX7_some_24 ?_
        refine r_goto 7 hK dX7_some_27 ?_
        refine ih (k + 1) _ _ _ (by omega) (by omega) (up_s _ _ _) (fun j hj' => ?_) (fun id hid' => ?_)
        · rw [up_n (by omega)]
          unfold updV
          by_cases c : j = k
          · rw [if_pos c, c]; exact ⟨rfl, up_s _ _ _⟩
          · rw [if_neg c, up_n (by omega)]; exact hj j (by omega)
        · rw [up_n (by omega), up_n (by omega)]; exact hid id hid'
  refine r_iconstN (c := 5) hK dX7_some_0 ?_
  refine r_anew (N := 5) 1 6 hK ⟨rfl, by decide, by decide⟩ cl_X7_42 q564 dX7_some_1 (by decide) ?_
  refine r_astore_0 hK dX7_some_4 ?_
  refine r_iconstN (c := 0) hK dX7_some_5 ?_
  refine r_istore_1 hK dX7_some_6 ?_
  exact lp 5 0 1 _ _ rfl (by decide) (up_s _ _ _) (fun j hj => absurd hj (Nat.not_lt_zero _)) (fun id hid => up_n (by omega))
