set_option maxRecDepth 100000
/-! ===== growing the orders by one gate: plain words, then Shortest.grows ===== -/
/-- how many, the orders, how far each is, their numbers, the table, the list's room -/
abbrev GSt : Type := Nat × (Nat → Nat → Nat) × (Nat → Nat) × (Nat → Nat) × (Nat → Nat) × Nat
def gwQ (k : Nat) (g : Gt) (s : GSt) : Nat → Nat := fun x => mk g (s.2.1 k x)
def gw1 (w k : Nat) (g : Gt) (s : GSt) : GSt := if s.2.2.2.2.1 (plc (gwQ k g s) (rN w)) < 99 then s else (s.1 + 1, fun j => if j = s.1 then gwQ k g s else s.2.1 j, fun j => if j = s.1 then s.2.2.1 k + 1 else s.2.2.1 j, fun j => if j = s.1 then plc (gwQ k g s) (rN w) else s.2.2.2.1 j, fun c => if c = plc (gwQ k g s) (rN w) then s.2.2.1 k + 1 else s.2.2.2.2.1 c, if s.1 < s.2.2.2.2.2 then s.2.2.2.2.2 else gwC s.2.2.2.2.2)
def gwc1 (w k : Nat) (g : Gt) (s : GSt) : Nat := if s.2.2.2.2.1 (plc (gwQ k g s) (rN w)) < 99 then 0 else if s.1 < s.2.2.2.2.2 then 1 else 1 + (gwC s.2.2.2.2.2 / 12 + 1)
def gwL (w k : Nat) : List Gt → GSt → GSt
  | [], s => s
  | g :: gs, s => gwL w k gs (gw1 w k g s)
def gwcL (w k : Nat) : List Gt → GSt → Nat
  | [], _ => 0
  | g :: gs, s => gwc1 w k g s + gwcL w k gs (gw1 w k g s)
def BQs (w : Nat) (s : GSt) : Prop := BQ w s.1 s.2.1 s.2.2.1 s.2.2.2.1 s.2.2.2.2.1
def GI (w k : Nat) (s : GSt) : Prop := BQs w s ∧ k < s.1 ∧ (∀ j g, j < k → gq w g → nbQ w s.1 s.2.1 j g) ∧ (∀ j, j < s.1 → s.2.2.1 j ≤ s.2.2.1 k + 1) ∧ s.2.2.1 k < 4 ∧ 10 ≤ s.2.2.2.2.2 ∧ s.1 ≤ s.2.2.2.2.2 ∧ s.2.2.2.2.2 ≤ 5300
theorem GI.le {w k : Nat} {s : GSt} (hw : w ≤ 3) (h : GI w k s) : s.1 ≤ 3520 := cn4_le hw h.1 (fun j hj => by have := h.2.2.2.1 j hj; have := h.2.2.2.2.1; omega)
/-- what growing keeps -/
def gwR (w k : Nat) (s s' : GSt) : Prop := s.1 ≤ s'.1 ∧ (∀ j, j < s.1 → s'.2.1 j = s.2.1 j ∧ s'.2.2.1 j = s.2.2.1 j) ∧ (∀ j, s.1 ≤ j → j < s'.1 → s'.2.2.1 j = s.2.2.1 k + 1) ∧ ∀ j g, j < s.1 → nbQ w s.1 s.2.1 j g → nbQ w s'.1 s'.2.1 j g
theorem gwR.rf (w k : Nat) (s : GSt) : gwR w k s s := ⟨Nat.le_refl _, fun _ _ => ⟨rfl, rfl⟩, fun j h1 h2 => by omega, fun _ _ _ h => h⟩
theorem gwR.tr {w k : Nat} {s s' s'' : GSt} (hk : k < s.1) (h : gwR w k s s') (h' : gwR w k s' s'') : gwR w k s s'' := by
  obtain ⟨a1, a2, a3, a4⟩ := h
  obtain ⟨b1, b2, b3, b4⟩ := h'
  refine ⟨by omega, fun j hj => ⟨by rw [(b2 j (by omega)).1, (a2 j hj).1], by rw [(b2 j (by omega)).2, (a2 j hj).2]⟩, fun j h1 h2 => ?_, fun j g hj hn => b4 j g (by omega) (a4 j g hj hn)⟩
  by_cases c : j < s'.1
  · rw [(b2 j c).2]; exact a3 j h1 c
  · rw [b3 j (by omega) h2, (a2 k hk).2]
theorem gw_pos {w k : Nat} {g : Gt} {s : GSt} (c : s.2.2.2.2.1 (plc (gwQ k g s) (rN w)) < 99) : gw1 w k g s = s ∧ gwc1 w k g s = 0 := ⟨if_pos c, if_pos c⟩
theorem BQ.hit {w m : Nat} {ps : Nat → Nat → Nat} {e W T : Nat → Nat} (hw : w ≤ 3) (h : BQ w m ps e W T) {q : Nat → Nat} (hq : Pm (rN w) q) (c : T (plc q (rN w)) ≠ 99) : ∃ j, j < m ∧ T (plc q (rN w)) = e j ∧ ∀ x, x < rN w → ps j x = q x := by
  by_cases z : ∃ j, j < m ∧ plc q (rN w) = W j
  · obtain ⟨j, j1, j2⟩ := z
    have hj := h.2.2.1 j j1
    refine ⟨j, j1, by rw [j2, hj.2.1], ?_⟩
    rw [hj.1] at j2
    exact fun x hx => (plc_inj hq hj.2.2.1.pm j2 x hx).symm
  · exact absurd (h.2.2.2.2.2 _ (plc_b (rN_le (k := 3) hw) q) (fun j hj q2 => z ⟨j, hj, q2⟩)) c
theorem GI.T4 {w k : Nat} {s : GSt} (hw : w ≤ 3) (h : GI w k s) {q : Nat → Nat} (hq : Pm (rN w) q) : s.2.2.2.2.1 (plc q (rN w)) ≤ 4 ∨ s.2.2.2.2.1 (plc q (rN w)) = 99 := by
  by_cases c : s.2.2.2.2.1 (plc q (rN w)) = 99
  · exact Or.inr c
  · obtain ⟨j, j1, j2, -⟩ := BQ.hit hw h.1 hq c
    left
    have := h.2.2.2.1 j j1
    have := h.2.2.2.2.1
    omega
theorem gwC_b {N : Nat} (h : 10 ≤ N) : gwC N = N + N / 2 := by
  unfold gwC
  rw [if_neg (by omega)]
  omega
theorem GI.pm {w k : Nat} {s : GSt} (h : GI w k s) {g : Gt} (hg : gq w g) : Pm (rN w) (gwQ k g s) := (h.1.2.2.1 k h.2.1).2.2.1.pm.post hg.ok
theorem gw1_ok {w k : Nat} {g : Gt} {s : GSt} (hw : w ≤ 3) (hD : D8 w) (h : GI w k s) (hg : gq w g) : GI w k (gw1 w k g s) ∧ gwR w k s (gw1 w k g s) ∧ nbQ w (gw1 w k g s).1 (gw1 w k g s).2.1 k g ∧ 2 * gwc1 w k g s + 2 * s.1 + s.2.2.2.2.2 ≤ 2 * (gw1 w k g s).1 + (gw1 w k g s).2.2.2.2.2 := by
  have hpm := h.pm hg
  by_cases c : s.2.2.2.2.1 (plc (gwQ k g s) (rN w)) < 99
  · rw [(gw_pos c).1, (gw_pos c).2]
    obtain ⟨j, j1, -, j3⟩ := BQ.hit hw h.1 hpm (by omega)
    exact ⟨h, gwR.rf _ _ _, ⟨j, j1, j3⟩, by omega⟩
  · obtain ⟨h1, h2, h3, h4, h5, h6, h7, h8⟩ := id h
    obtain ⟨m1, m2⟩ := BQ.add hw hD (g := g) (q := gwQ k g s) h1 h2 h3 h4 hg (fun x hx => rfl) c
    have e1 : gw1 w k g s = (s.1 + 1, fun j => if j = s.1 then gwQ k g s else s.2.1 j, fun j => if j = s.1 then s.2.2.1 k + 1 else s.2.2.1 j, fun j => if j = s.1 then plc (gwQ k g s) (rN w) else s.2.2.2.1 j, fun c => if c = plc (gwQ k g s) (rN w) then s.2.2.1 k + 1 else s.2.2.2.2.1 c, if s.1 < s.2.2.2.2.2 then s.2.2.2.2.2 else gwC s.2.2.2.2.2) := if_neg c
    have e2 : gwc1 w k g s = if s.1 < s.2.2.2.2.2 then 1 else 1 + (gwC s.2.2.2.2.2 / 12 + 1) := if_neg c
    have hek : (if k = s.1 then s.2.2.1 k + 1 else s.2.2.1 k) = s.2.2.1 k := if_neg (by omega)
    have hle : s.1 + 1 ≤ 3520 := cn4_le hw m2 (fun j hj => by
      show (if j = s.1 then s.2.2.1 k + 1 else s.2.2.1 j) ≤ 4
      split
      · omega
      · have := h4 j (by omega); omega)
    have hC := gwC_b h6
    rw [e1, e2]
    refine ⟨⟨m2, ?_, fun j g' hj hg' => nbQ.up (by omega) (h3 j g' hj hg'), fun j hj => ?_, ?_, ?_, ?_, ?_⟩, ⟨?_, fun j hj => ⟨?_, ?_⟩, fun j j1 j2 => ?_, fun j g' hj hn => nbQ.up hj hn⟩, ⟨s.1, ?_, fun x hx => ?_⟩, ?_⟩
    · show k < s.1 + 1; omega
    · show (if j = s.1 then s.2.2.1 k + 1 else s.2.2.1 j) ≤ (if k = s.1 then s.2.2.1 k + 1 else s.2.2.1 k) + 1
      rw [hek]
      split
      · omega
      · exact h4 j (by have : j < s.1 + 1 := hj; omega)
    · show (if k = s.1 then s.2.2.1 k + 1 else s.2.2.1 k) < 4
      rw [hek]; exact h5
    · show 10 ≤ (if s.1 < s.2.2.2.2.2 then s.2.2.2.2.2 else gwC s.2.2.2.2.2)
      split <;> omega
    · show s.1 + 1 ≤ (if s.1 < s.2.2.2.2.2 then s.2.2.2.2.2 else gwC s.2.2.2.2.2)
      split <;> omega
    · show (if s.1 < s.2.2.2.2.2 then s.2.2.2.2.2 else gwC s.2.2.2.2.2) ≤ 5300
      split <;> omega
    · show s.1 ≤ s.1 + 1; omega
    · show (if j = s.1 then gwQ k g s else s.2.1 j) = s.2.1 j
      rw [if_neg (by omega)]
    · show (if j = s.1 then s.2.2.1 k + 1 else s.2.2.1 j) = s.2.2.1 j
      rw [if_neg (by omega)]
    · show (if j = s.1 then s.2.2.1 k + 1 else s.2.2.1 j) = s.2.2.1 k + 1
      rw [if_pos (by have : j < s.1 + 1 := j2; omega)]
    · show s.1 < s.1 + 1; omega
    · show (if s.1 = s.1 then gwQ k g s else s.2.1 s.1) x = mk g ((if k = s.1 then gwQ k g s else s.2.1 k) x)
      rw [if_pos rfl, if_neg (by omega)]; rfl
    · show 2 * (if s.1 < s.2.2.2.2.2 then 1 else 1 + (gwC s.2.2.2.2.2 / 12 + 1)) + 2 * s.1 + s.2.2.2.2.2 ≤ 2 * (s.1 + 1) + (if s.1 < s.2.2.2.2.2 then s.2.2.2.2.2 else gwC s.2.2.2.2.2)
      split <;> omega
theorem gwL_ok {w k : Nat} (hw : w ≤ 3) (hD : D8 w) : ∀ (gs : List Gt) (s : GSt), GI w k s → (∀ g ∈ gs, gq w g) → GI w k (gwL w k gs s) ∧ gwR w k s (gwL w k gs s) ∧ (∀ g ∈ gs, nbQ w (gwL w k gs s).1 (gwL w k gs s).2.1 k g) ∧ 2 * gwcL w k gs s + 2 * s.1 + s.2.2.2.2.2 ≤ 2 * (gwL w k gs s).1 + (gwL w k gs s).2.2.2.2.2
  | [], s, h, _ => ⟨h, gwR.rf _ _ _, fun g hg => (by cases hg), by show 2 * 0 + 2 * s.1 + s.2.2.2.2.2 ≤ 2 * s.1 + s.2.2.2.2.2; omega⟩
  | g :: gs, s, h, hg => by
    obtain ⟨a1, a2, a3, a4⟩ := gw1_ok hw hD h (hg g List.mem_cons_self)
    obtain ⟨b1, b2, b3, b4⟩ := gwL_ok hw hD gs (gw1 w k g s) a1 (fun g' h' => hg g' (List.mem_cons_of_mem _ h'))
    refine ⟨b1, gwR.tr h.2.1 a2 b2, fun g' h' => ?_, ?_⟩
    · rcases List.mem_cons.mp h' with z | z
      · rw [z]; exact b2.2.2.2 k g (Nat.lt_of_lt_of_le h.2.1 a2.1) a3
      · exact b3 g' z
    · show 2 * (gwc1 w k g s + gwcL w k gs (gw1 w k g s)) + 2 * s.1 + s.2.2.2.2.2 ≤ 2 * (gwL w k gs (gw1 w k g s)).1 + (gwL w k gs (gw1 w k g s)).2.2.2.2.2
      omega
/-- the orders that lie in the list -/
def SL (f : Hp) (w : Nat) (s : GSt) (l1 : List Nat) : Prop := f 341 = some (cAL s.2.2.2.2.2 l1) ∧ l1.length = s.1 ∧ ∀ j, j < s.1 → 392 ≤ l1.getD j 0 ∧ ∃ h : Nat → Value, f (l1.getD j 0) = some (.inr (0, rN w, h)) ∧ ∀ x, x < rN w → h x = zI ((s.2.1 j x : Nat) : Int)
def SG (f : Hp) (w N3 : Nat) (l3 : List Nat) : Prop := f 346 = some (cAL N3 l3) ∧ N3 ≤ 15 ∧ GL f l3 (gl w) ∧ ∀ i, i < l3.length → 392 ≤ l3.getD i 0
/-- what isn't Shortest's own is kept -/
def KS (n : Nat) (f f' : Hp) : Prop := ∀ id, id < n → (id < 329 ∨ 346 < id ∨ id = 330 ∨ id = 332 ∨ id = 334 ∨ id = 336 ∨ id = 338 ∨ id = 340 ∨ id = 343 ∨ id = 344) → f' id = f id
theorem KS.rf (n : Nat) (f : Hp) : KS n f f := fun _ _ _ => rfl
theorem KS.tr {n n' : Nat} {f f' f'' : Hp} (h : KS n f f') (h' : KS n' f' f'') (hn : n ≤ n') : KS n f f'' := fun id h1 h2 => by rw [h' id (by omega) h2]; exact h id h1 h2
theorem KS.upS {n k : Nat} {f f' : Hp} {e : E_} (h : KS n f f') (hk : ¬ (k < 329 ∨ 346 < k ∨ k = 330 ∨ k = 332 ∨ k = 334 ∨ k = 336 ∨ k = 338 ∨ k = 340 ∨ k = 343 ∨ k = 344) ∨ n ≤ k) : KS n f (up f' k e) := fun id h1 h2 => by
  rw [up_n (fun q => by subst q; rcases hk with z | z; exact z h2; omega)]; exact h id h1 h2
theorem gl_B {w : Nat} (hw : w ≤ 3) {i : Nat} (hi : i < (gl w).length) : gq w (gt (gl w) i) ∧ gB (gt (gl w) i) := by
  have := gl_q (w := w) _ (gt_mem hi)
  exact ⟨this, this.ok.gB (by omega)⟩
theorem SHb.set {f : Hp} {T : Nat → Nat} {c kk : Nat} (h : SHb f T) (hk : kk < 5) (hT : T c = 99) : SHb (up f (331 + 2 * kk) (cBS 630 (fun j => decide (j = c) || decide (T j = kk)))) (fun j => if j = c then kk else T j) := by
  refine ⟨by rw [up_n (by omega)]; exact h.1, fun k hk' => ?_⟩
  by_cases e : k = kk
  · subst e
    rw [up_s]
    congr 2
    funext j
    by_cases q : j = c
    · simp [q]
    · simp [q]
  · rw [up_n (by omega), h.2 k hk']
    congr 2
    funext j
    by_cases q : j = c
    · subst q
      show decide (T j = k) = decide ((if j = j then kk else T j) = k)
      rw [if_pos rfl, hT, decide_eq_false (by omega), decide_eq_false (by omega)]
    · show decide (T j = k) = decide ((if j = c then kk else T j) = k)
      rw [if_neg q]
theorem GL.kp {f f' : Hp} {l : List Nat} {gs : List Gt} (h : GL f l gs) (hk : ∀ i, i < l.length → f' (l.getD i 0) = f (l.getD i 0)) : GL f' l gs := ⟨h.1, fun i hi => by rw [hk i hi]; exact h.2 i hi⟩
theorem el_arr {f : Hp} {v N : Nat} {h : Nat → Value} (hf : f v = some (.inr (0, N, h))) : el f v := Or.inr (Or.inl ⟨N, h, hf⟩)
theorem SHo.up {f : Hp} {w R k : Nat} {e : E_} (h : SHo f w R) (hk : k ≠ 329) : SHo (up f k e) w R := (up_n (Ne.symm hk)).trans h
theorem SHb.up {f : Hp} {T : Nat → Nat} {k : Nat} {e : E_} (h : SHb f T) (hk : k < 330 ∨ 340 < k) : SHb (up f k e) T := ⟨(up_n (by omega)).trans h.1, fun j hj => (up_n (by omega)).trans (h.2 j hj)⟩
theorem SL.up {f : Hp} {w k : Nat} {s : GSt} {l1 : List Nat} {e : E_} (h : SL f w s l1) (hk : k < 392 ∧ k ≠ 341 ∨ f k = none) : SL (up f k e) w s l1 := by
  obtain ⟨h1, h2, h3⟩ := h
  refine ⟨(up_n (fun q => ?_)).trans h1, h2, fun j hj => ⟨(h3 j hj).1, ?_⟩⟩
  · rcases hk with z | z
    · omega
    · rw [← q, h1] at z; cases z
  · obtain ⟨a1, h, a2, a3⟩ := h3 j hj
    refine ⟨h, (up_n (fun q => ?_)).trans a2, a3⟩
    rcases hk with z | z
    · omega
    · rw [← q, a2] at z; cases z
theorem SG.up {f : Hp} {w k N3 : Nat} {l3 : List Nat} {e : E_} (h : SG f w N3 l3) (hk : k < 392 ∧ k ≠ 346 ∨ f k = none) : SG (up f k e) w N3 l3 := by
  obtain ⟨h1, h2, h3, h4⟩ := h
  refine ⟨(up_n (fun q => ?_)).trans h1, h2, h3.kp (fun i hi => up_n (fun q => ?_)), h4⟩
  · rcases hk with z | z
    · omega
    · rw [← q, h1] at z; cases z
  · rcases hk with z | z
    · have := h4 i hi; omega
    · have := h3.2 i hi; rw [q, z] at this; cases this
set_option maxHeartbeats 4000000 in
theorem ct_sGrow {G : GT} {Rel : Nat → Hp → Hp → Prop} (hR : RelOK Rel) (hP : Rel = RelP) (hX : GX G) {n : Nat} {f : Hp} {w k kk N3 oid : Nat} {l1 l3 : List Nat} {hx : Nat → Value} {s : GSt} (hw : w ≤ 3) (hD : D8 w) (hn0 : 392 ≤ n) (hGI : GI w k s) (hO : SHo f w (rN w)) (hB : SHb f s.2.2.2.2.1) (hL : SL f w s l1) (hSG : SG f w N3 l3) (hX5 : f 345 = some (.inr (0, 8, hx))) (hkk : s.2.2.1 k + 1 = kk) (hoid : l1.getD k 0 = oid) : Ct G Rel yX7_grows cX7_grows 5 none (8) (gwcL w k (gl w) s) [.ref 329, .ref oid, zI (kk : Int)] n (f) (fun r n' f' => r = none ∧ n ≤ n' ∧ (∃ l1' hx', SHo f' w (rN w) ∧ SHb f' (gwL w k (gl w) s).2.2.2.2.1 ∧ SL f' w (gwL w k (gl w) s) l1' ∧ SG f' w N3 l3 ∧ f' 345 = some (.inr (0, 8, hx')) ∧ f' 342 = f 342) ∧ KS n f f') := by
  refine ct_intro [some (.ref 329), some (.ref oid), some (zI (kk : Int)), none, none] hR rfl (Nat.le_of_ble_eq_true rfl) ?_
  intro K hG hRel hK hRt hnm
  have hQ : kRel K = RelP := by rw [hRel]; exact hP
  have hXK : GX (kG K) := by rw [hG]; exact hX
  have hr8 : rN w ≤ 8 := rN_le (k := 3) hw
  have hr1 := rN_pos w
  have hgl := gl_len w (by omega)
  have hkk5 : kk < 5 := by have := hGI.2.2.2.2.1; omega
  obtain ⟨sE, hsE⟩ : ∃ sE, sE = gwL w k (gl w) s := ⟨_, rfl⟩
  obtain ⟨UU, hUU⟩ : ∃ UU, UU = gwcL w k (gl w) s := ⟨_, rfl⟩
  rw [← hUU] at hRt hK
  rw [← hsE] at hRt
  have lp : ∀ (gs : List Gt) (i n1 u : Nat) (f1 : Hp) (s1 : GSt) (l1 : List Nat) (hx : Nat → Value) (a4 : Option Value), (gl w).drop i = gs → i + gs.length = (gl w).length → GI w k s1 → SHo f1 w (rN w) → SHb f1 s1.2.2.2.2.1 → SL f1 w s1 l1 → SG f1 w N3 l3 → f1 345 = some (.inr (0, 8, hx)) → n ≤ n1 → KS n f f1 → gwL w k gs s1 = sE → u + gwcL w k gs s1 ≤ UU → l1.getD k 0 = oid → s1.2.2.1 k + 1 = kk → f1 342 = f 342 → Wx K 2 [some (.ref 329), some (.ref oid), some (zI (kk : Int)), some (zI (i : Int)), a4] [] n1 f1 u := by
    intro gs
    induction gs with
    | nil =>
      intro i n1 u f1 s1 l1 hx a4 hd hi hGI hO hB hL hG hX5 hn1 hKS he hu hoid hkk h342
      have hgl3 : l3.length = (gl w).length := hG.2.2.1.1
      have hi' : i = (gl w).length := hi
      refine r_iload_3 hK dX7_grows_2 ?_
      refine r_aload_0 hK dX7_grows_3 ?_
      refine r_get hK fl_X7_39 dX7_grows_4 (hO) rfl ?_
      refine r_pV0 hK (pa_size hQ (by have := hG.2.1; omega) hG.1) lk_X7_79 (rcv_al hQ (by have := hG.2.1; omega) hG.1) dX7_grows_7 ?_
      refine r_icmp_ge 126 hK dX7_grows_10 (by omega) (by omega) (fun h10 => ?_) (fun h10 => ?_)
      · have hu' : u + 0 ≤ UU := hu
        have he' : s1 = sE := he
        subst he'
        exact r_vret hK hRt dX7_grows_126 ⟨rfl, hn1, ⟨l1, hx, hO, hB, hL, hG, hX5, h342⟩, hKS⟩ (by omega)
      · omega --!
    | cons g gs ih =>
      intro i n1 u f1 s1 l1 hx a4 hd hi hGI hO hB hL hG hX5 hn1 hKS he hu hoid hkk h342
      have hgl3 : l3.length = (gl w).length := hG.2.2.1.1
      have hil : i < (gl w).length := by rw [List.length_cons] at hi; omega
      have hgi : gt (gl w) i = g := by
        have := List.getElem_cons_drop hil
        rw [hd] at this
        rw [gt_at hil]
        exact (List.cons.inj this).1
      have hd' : (gl w).drop (i + 1) = gs := by
        have := List.drop_drop (i := 1) (j := i) (l := gl w)
        rw [hd] at this
        rw [← this]; rfl
      obtain ⟨hgq, hgB⟩ := gl_B hw hil
      rw [hgi] at hgq hgB
      have hcg : f1 (l3.getD i 0) = some (cG g) := by rw [← hgi]; exact hG.2.2.1.2 i (by omega)
      have hg392 := hG.2.2.2 i (by omega)
      have hkm := hGI.2.1
      obtain ⟨ho392, ho, hoA, hoV⟩ := hL.2.2 k hkm
      rw [hoid] at ho392 hoA
      obtain ⟨q, hq⟩ : ∃ q, q = gwQ k g s1 := ⟨_, rfl⟩
      have hqx : ∀ x, mk g (s1.2.1 k x) = q x := fun x => by rw [hq]; rfl
      have hpm := hGI.pm hgq
      rw [← hq] at hpm
      have hpk := (hGI.1.2.2.1 k hkm).2.2.1.pm
      obtain ⟨a1, a2, a3, a4'⟩ := gw1_ok hw hD hGI hgq
      have hek : (gw1 w k g s1).2.2.1 k + 1 = kk := by rw [(a2.2.1 k hkm).2]; exact hkk
      have hu' : u + (gwc1 w k g s1 + gwcL w k gs (gw1 w k g s1)) ≤ UU := hu
      have he' : gwL w k gs (gw1 w k g s1) = sE := he
      -- one gate on all rows
      have li : ∀ (d x : Nat), d = rN w - x → x ≤ rN w → Wx K 56 [some (.ref 329), some (.ref oid), some (zI (kk : Int)), some (zI (i : Int)), some (zI ((rN w : Nat) : Int))] [] n1 (up f1 345 (.inr (0, 8, oA (rN w) q hx))) u → Wx K 16 [some (.ref 329), some (.ref oid), some (zI (kk : Int)), some (zI (i : Int)), some (zI (x : Int))] [] n1 (up f1 345 (.inr (0, 8, oA x q hx))) u := by
        intro d
        induction d using Nat.strongRecOn with
        | _ d ih2 =>
          intro x hd hx2 hk2
          have hO' := hO.up (k := 345) (e := .inr (0, 8, oA x q hx)) (by omega)
          have hG' := hG.up (k := 345) (e := .inr (0, 8, oA x q hx)) (Or.inl (by omega))
          have hcg' : up f1 345 (.inr (0, 8, oA x q hx)) (l3.getD i 0) = some (cG g) := (up_n (by omega)).trans hcg
          refine r_iload_4 hK dX7_grows_16 ?_
          refine r_aload_0 hK dX7_grows_18 ?_
          refine r_get hK fl_X7_52 dX7_grows_19 (hO') rfl ?_
          refine r_icmp_ge 56 hK dX7_grows_22 (by omega) (by omega) (fun h22 => ?_) (fun h22 => ?_)
          · have ex : x = rN w := by omega
            subst ex
            exact hk2 --!
          · refine r_aload_0 hK dX7_grows_25 ?_
            refine r_get hK fl_X7_36 dX7_grows_26 (hO') rfl ?_
            refine r_iload_4 hK dX7_grows_29 ?_
            refine r_aload_0 hK dX7_grows_31 ?_
            refine r_get hK fl_X7_39 dX7_grows_32 (hO') rfl ?_
            refine r_iload_3 hK dX7_grows_35 ?_
            refine r_pV1 hK (pa_get hQ (by have := hG.2.1; omega) hG'.1 (i := i) (by omega)) lk_X7_89 (rcv_al hQ (by have := hG.2.1; omega) hG'.1) dX7_grows_36 ?_
            refine r_cast hK cl_X7_62 (Rcv.raw hK.rel hcg' rfl) dX7_grows_39 ?_
            refine r_aload_1 hK dX7_grows_42 ?_
            refine r_iload_4 hK dX7_grows_43 ?_
            refine r_iald hK dX7_grows_45 ((up_n (by omega)).trans hoA) (by omega) ?_ (by omega)
            rw [hoV x (by omega)]
            have hpkx := hpk.1 x (by omega)
            refine r_pV1 hK (ct_gMade hK.rel hcg' hgB (by omega)) lk_X7_98 (Rcv.raw hK.rel hcg' rfl) dX7_grows_46 ?_
            refine r_iast hK dX7_grows_49 (up_s _ _ _) (by omega) ?_
            rw [up_up, hqx, oA_s]
            first | refine r_incN_4 hK dX7_grows_50 ?_ | refine r_iinc_4 hK dX7_grows_50 ?_
            refine r_goto 16 hK dX7_grows_53 ?_
            exact ih2 (rN w - (x + 1)) (by omega) (x + 1) rfl (by omega) hk2
      obtain ⟨F0, hF0⟩ : ∃ F0, F0 = up f1 345 (.inr (0, 8, oA (rN w) q hx)) := ⟨_, rfl⟩
      have bO : SHo F0 w (rN w) := by rw [hF0]; exact hO.up (by omega)
      have bB : SHb F0 s1.2.2.2.2.1 := by rw [hF0]; exact hB.up (by omega)
      have bL : SL F0 w s1 l1 := by rw [hF0]; exact hL.up (Or.inl (by omega))
      have bG : SG F0 w N3 l3 := by rw [hF0]; exact hG.up (Or.inl (by omega))
      have b5 : F0 345 = some (.inr (0, 8, oA (rN w) q hx)) := by rw [hF0]; exact up_s _ _ _
      have bK : KS n f F0 := by rw [hF0]; exact hKS.upS (Or.inl (by omega))
      have b2 : F0 342 = f 342 := by rw [hF0, up_n (by omega)]; exact h342
      have hqV : ∀ x, x < rN w → oA (rN w) q hx x = zI ((q x : Nat) : Int) := fun x hx => by unfold oA; rw [if_pos hx]
      obtain ⟨c, hc⟩ : ∃ c, c = plc q (rN w) := ⟨_, rfl⟩
      have hcb : c < 40320 := by rw [hc]; exact plc_b hr8 q
      have hT4 := hGI.T4 hw hpm
      rw [← hc] at hT4
      have go : Wx K 56 [some (.ref 329), some (.ref oid), some (zI (kk : Int)), some (zI (i : Int)), some (zI ((rN w : Nat) : Int))] [] n1 F0 u := by
        refine r_aload_0 hK dX7_grows_56 ?_
        refine r_aload_0 hK dX7_grows_57 ?_
        refine r_get hK fl_X7_36 dX7_grows_58 (bO) rfl ?_
        refine r_pV1 hK (ct_sWithin hK.rel hQ hXK bO bB b5 hr8 hr8 (by omega) hpm hqV) lk_X7_102 (Rcv.raw hK.rel bO rfl) dX7_grows_61 ?_
        rw [← hc]
        refine r_if_lt 70 hK dX7_grows_64 (by split <;> omega) (fun h64 => ?_) (fun h64 => ?_)
        · have h99 : s1.2.2.2.2.1 c = 99 := by
            rcases hT4 with z | z
            · rw [if_pos z] at h64; omega
            · exact z
          have hng : ¬ s1.2.2.2.2.1 (plc (gwQ k g s1) (rN w)) < 99 := by rw [← hq, ← hc, h99]; omega
          refine r_aload_0 hK dX7_grows_70 ?_
          refine r_get hK fl_X7_15 dX7_grows_71 (bO) rfl ?_
          refine r_iload_2 hK dX7_grows_74 ?_
          refine r_aald hK dX7_grows_75 bB.1 (by omega) ?_
          refine r_aload_0 hK dX7_grows_76 ?_
          refine r_aload_0 hK dX7_grows_77 ?_
          refine r_get hK fl_X7_36 dX7_grows_78 (bO) rfl ?_
          refine r_pV1 hK (ct_sNum hK.rel bO b5 hr8 hr8 (by omega) hpm hqV) lk_X7_72 (Rcv.raw hK.rel bO rfl) dX7_grows_81 ?_
          rw [← hc]
          refine r_callV1 hK (pb_set hQ hXK (bB.2 kk hkk5) (i := c) (by omega)) lk_X7_76 (rcv_bs hQ (bB.2 kk hkk5)) dX7_grows_84 (fun r m1 g1' hp => ?_) (hu := by omega)
          obtain ⟨rfl, e2, e3⟩ := hp
          rw [e2, e3]
          clear e2 e3
          obtain ⟨F1, hF1⟩ : ∃ F1, F1 = up F0 (331 + 2 * kk) (cBS 630 (fun j => decide (j = c) || decide (s1.2.2.2.2.1 j = kk))) := ⟨_, rfl⟩
          rw [← hF1]
          have cO : SHo F1 w (rN w) := by rw [hF1]; exact bO.up (by omega)
          have cB : SHb F1 (fun j => if j = c then kk else s1.2.2.2.2.1 j) := by rw [hF1]; exact bB.set hkk5 h99
          have cL' : SL F1 w s1 l1 := by rw [hF1]; exact bL.up (Or.inl (by omega))
          have cG' : SG F1 w N3 l3 := by rw [hF1]; exact bG.up (Or.inl (by omega))
          have c5 : F1 345 = some (.inr (0, 8, oA (rN w) q hx)) := by rw [hF1, up_n (by omega)]; exact b5
          have c2 : F1 342 = f 342 := by rw [hF1, up_n (by omega)]; exact b2
          have cK : KS n f F1 := by rw [hF1]; exact bK.upS (Or.inl (by omega))
          refine r_aload_0 hK dX7_grows_87 ?_
          refine r_get hK fl_X7_52 dX7_grows_88 (cO) rfl ?_
          refine r_fact hK (fun _ hno => ?_)
          refine r_newarr (atype := .int) (ty := 0) (v0 := zI 0) 1 hK q463 dX7_grows_91 ?_ ?_ ⟨rfl, rfl, by decide⟩ (by omega) (by omega)
          · have := hng
            have e2 : 1 ≤ gwc1 w k g s1 := by unfold gwc1; rw [if_neg hng]; split <;> omega
            omega
          have hnn : F1 n1 = none := hno n1 (Nat.le_refl _)
          have dO := cO.up (k := n1) (e := .inr (0, rN w, fun _ => zI 0)) (by omega)
          refine r_astore_4 hK dX7_grows_93 ?_
          refine r_aload_0 hK dX7_grows_95 ?_
          refine r_get hK fl_X7_36 dX7_grows_96 (dO) rfl ?_
          refine r_iconstN (c := 0) hK dX7_grows_99 ?_
          refine r_aload_4 hK dX7_grows_100 ?_
          refine r_iconstN (c := 0) hK dX7_grows_102 ?_
          refine r_aload_0 hK dX7_grows_103 ?_
          refine r_get hK fl_X7_52 dX7_grows_104 (dO) rfl ?_
          refine r_acpyI hK q1798 dX7_grows_107 ((up_n (by omega)).trans c5) (up_s _ _ _) (by omega) (by omega) (fun j hj => ⟨_, by rw [Nat.zero_add]; exact hqV j hj⟩) ?_ (by omega)
          rw [up_up]
          obtain ⟨F3, hF3⟩ : ∃ F3, F3 = up F1 n1 (.inr (0, rN w, va_cpy (oA (rN w) q hx) (fun _ => zI 0) 0 0 (rN w))) := ⟨_, rfl⟩
          rw [← hF3]
          have eO : SHo F3 w (rN w) := by rw [hF3]; exact cO.up (by omega)
          have eB : SHb F3 (fun j => if j = c then kk else s1.2.2.2.2.1 j) := by rw [hF3]; exact cB.up (by omega)
          have eL : SL F3 w s1 l1 := by rw [hF3]; exact cL'.up (Or.inr hnn)
          have eG : SG F3 w N3 l3 := by rw [hF3]; exact cG'.up (Or.inr hnn)
          have e5 : F3 345 = some (.inr (0, 8, oA (rN w) q hx)) := by rw [hF3, up_n (by omega)]; exact c5
          have e2 : F3 342 = f 342 := by rw [hF3, up_n (by omega)]; exact c2
          have eK : KS n f F3 := by rw [hF3]; exact cK.upS (Or.inr hn1)
          have en : F3 n1 = some (.inr (0, rN w, va_cpy (oA (rN w) q hx) (fun _ => zI 0) 0 0 (rN w))) := by rw [hF3]; exact up_s _ _ _
          have eel : ∀ x ∈ l1, el F3 x := fun x hx => by
            obtain ⟨j, hj, e⟩ := List.getElem_of_mem hx
            obtain ⟨-, h', z, -⟩ := eL.2.2 j (by rw [← eL.2.1]; exact hj)
            rw [List.getD_eq_getElem?_getD, List.getElem?_eq_getElem hj] at z
            rw [← e]; exact el_arr z
          refine r_aload_0 hK dX7_grows_110 ?_
          refine r_get hK fl_X7_22 dX7_grows_111 (eO) rfl ?_
          refine r_aload_4 hK dX7_grows_114 ?_
          have fin : ∀ (n2 u2 : Nat), n1 + 1 ≤ n2 → u2 + gwcL w k gs (gw1 w k g s1) ≤ UU → Wx K 119 [some (.ref 329), some (.ref oid), some (zI (kk : Int)), some (zI (i : Int)), some (.ref n1)] [zI ((1 : Nat) : Int)] n2 (up F3 341 (cAL (if s1.1 < s1.2.2.2.2.2 then s1.2.2.2.2.2 else gwC s1.2.2.2.2.2) (l1 ++ [n1]))) u2 := by
            intro n2 u2 hn2 hu2
            have e1 : gw1 w k g s1 = (s1.1 + 1, fun j => if j = s1.1 then gwQ k g s1 else s1.2.1 j, fun j => if j = s1.1 then s1.2.2.1 k + 1 else s1.2.2.1 j, fun j => if j = s1.1 then plc (gwQ k g s1) (rN w) else s1.2.2.2.1 j, fun c => if c = plc (gwQ k g s1) (rN w) then s1.2.2.1 k + 1 else s1.2.2.2.2.1 c, if s1.1 < s1.2.2.2.2.2 then s1.2.2.2.2.2 else gwC s1.2.2.2.2.2) := if_neg hng
            refine r_pop hK dX7_grows_119 ?_
            refine r_incN_3 hK dX7_grows_120 ?_
            refine r_goto 2 hK dX7_grows_123 ?_
            refine ih (i + 1) n2 u2 _ (gw1 w k g s1) (l1 ++ [n1]) _ _ hd' (by rw [List.length_cons] at hi; omega) a1 (eO.up (by omega)) ?_ ⟨?_, ?_, fun j hj => ?_⟩ (eG.up (Or.inl (by omega))) ((up_n (by omega)).trans e5) (by omega) (eK.upS (Or.inl (by omega))) he' hu2 ?_ hek ((up_n (by omega)).trans e2)
            · rw [e1]
              show SHb _ (fun c => if c = plc (gwQ k g s1) (rN w) then s1.2.2.1 k + 1 else s1.2.2.2.2.1 c)
              rw [← hq, ← hc, hkk]
              exact eB.up (by omega)
            · rw [e1, up_s]
            · rw [e1, List.length_append, eL.2.1]; rfl
            · rw [e1] at hj ⊢
              have hj : j < s1.1 + 1 := hj
              rw [getD_app (by rw [eL.2.1]; omega), eL.2.1]
              by_cases z : j = s1.1
              · rw [if_pos z]
                refine ⟨by omega, _, (up_n (by omega)).trans en, fun x hx => ?_⟩
                show _ = zI (((if j = s1.1 then gwQ k g s1 else s1.2.1 j) x : Nat) : Int)
                rw [if_pos z, ← hq]
                unfold va_cpy
                rw [if_pos (by omega), Nat.zero_add, Nat.sub_zero]
                exact hqV x hx
              · rw [if_neg z]
                obtain ⟨z1, h', z2, z3⟩ := eL.2.2 j (by omega)
                refine ⟨z1, h', (up_n (by omega)).trans z2, fun x hx => ?_⟩
                show _ = zI (((if j = s1.1 then gwQ k g s1 else s1.2.1 j) x : Nat) : Int)
                rw [if_neg z]; exact z3 x hx
            · rw [getD_app (by rw [eL.2.1]; omega), if_neg (by rw [eL.2.1]; omega)]; exact hoid
          by_cases hN : s1.1 < s1.2.2.2.2.2
          · have ec : gwc1 w k g s1 = 1 := by unfold gwc1; rw [if_neg hng, if_pos hN]
            refine r_callV1 hK (pa_addF hQ hXK (by have := hGI.2.2.2.2.2.2.2; omega) eL.1 (by rw [eL.2.1]; exact hN) (el_arr en)) lk_X7_67 (rcv_al hQ (by have := hGI.2.2.2.2.2.2.2; omega) eL.1) dX7_grows_116 (fun r m2 g2 hp => ?_) (hu := by omega)
            obtain ⟨rfl, hle, rfl⟩ := hp
            have := fin m2 (u + 0 + 1 + 0) hle (by omega)
            rw [if_pos hN] at this
            exact this
          · have ec : gwc1 w k g s1 = 1 + (gwC s1.2.2.2.2.2 / 12 + 1) := by unfold gwc1; rw [if_neg hng, if_neg hN]
            have hNm : s1.1 = s1.2.2.2.2.2 := by have := hGI.2.2.2.2.2.2.1; omega
            refine r_callV1 hK (pa_addB hQ hXK (by have := hGI.2.2.2.2.2.2.2; omega) eL.1 (by rw [eL.2.1]; exact hNm) (by have := hGI.2.2.2.2.2.1; omega) (by have := hGI.2.2.2.2.2.2.2; omega) eel (el_arr en)) lk_X7_67 (rcv_al hQ (by have := hGI.2.2.2.2.2.2.2; omega) eL.1) dX7_grows_116 (fun r m2 g2 hp => ?_) (hu := by omega)
            obtain ⟨rfl, hle, rfl⟩ := hp
            have := fin m2 (u + 0 + 1 + (gwC s1.2.2.2.2.2 / 12 + 1)) hle (by omega)
            rw [if_neg hN] at this
            exact this
        · have hle : s1.2.2.2.2.1 c ≤ 4 := by
            by_cases z : s1.2.2.2.2.1 c ≤ 4
            · exact z
            · rw [if_neg z] at h64; omega
          have hsm : gw1 w k g s1 = s1 ∧ gwc1 w k g s1 = 0 := gw_pos (by rw [← hq, ← hc]; omega)
          rw [hsm.1] at he' hu'
          refine r_goto 120 hK dX7_grows_67 ?_
          refine r_incN_3 hK dX7_grows_120 ?_
          refine r_goto 2 hK dX7_grows_123 ?_
          exact ih (i + 1) n1 u F0 s1 l1 _ _ hd' (by rw [List.length_cons] at hi; omega) hGI bO bB bL bG b5 hn1 bK he' (by omega) hoid hkk b2
      rw [hF0] at go
      refine r_iload_3 hK dX7_grows_2 ?_
      refine r_aload_0 hK dX7_grows_3 ?_
      refine r_get hK fl_X7_39 dX7_grows_4 (hO) rfl ?_
      refine r_pV0 hK (pa_size hQ (by have := hG.2.1; omega) hG.1) lk_X7_79 (rcv_al hQ (by have := hG.2.1; omega) hG.1) dX7_grows_7 ?_
      refine r_icmp_ge 126 hK dX7_grows_10 (by omega) (by omega) (fun h10 => ?_) (fun h10 => ?_)
      · omega --!
      · refine r_iconstN (c := 0) hK dX7_grows_13 ?_
        refine r_istore_4 hK dX7_grows_14 ?_
        have := li (rN w) 0 rfl (Nat.zero_le _) go
        rw [oA_0, up_self hX5] at this
        exact this
  refine r_iconstN (c := 0) hK dX7_grows_0 ?_
  refine r_istore_3 hK dX7_grows_1 ?_
  refine lp (gl w) 0 n 0 f s l1 hx _ rfl (by omega) hGI hO hB hL hSG hX5 (Nat.le_refl _) (KS.rf _ _) hsE.symm (by rw [hUU]; omega) hoid hkk rfl
