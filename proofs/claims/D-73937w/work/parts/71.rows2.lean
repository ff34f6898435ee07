set_option maxRecDepth 100000
/-! ===== rows: statics, strings, class objects, copies, arrays of references, what was there before ===== -/
/-- what may be put into an array of objects -/
def el (f : Hp) (v : Nat) : Prop := (∃ ci fs, f v = some (.inl (ci, fs)) ∧ (ci = 4 ∨ ci = 10 ∨ ci = 11 ∨ ci = 20)) ∨ (∃ N h, f v = some (.inr (0, N, h))) ∨ (6 ≤ v ∧ v < 10) ∨ (20 ≤ v ∧ v < 276)
/-- a value of an array of objects -/
def elV (f : Hp) (w : Value) : Prop := w = .null ∨ ∃ v, w = .ref v ∧ el f v
theorem cvcp (G : GT) (g0 g1 : Nat → Value) (sp dp m : Nat) : (fun j => cv G (va_cpy g0 g1 sp dp m j)) = va_cpy (fun j => cv G (g0 j)) (fun j => cv G (g1 j)) sp dp m := by
  funext j
  unfold va_cpy
  split <;> rfl
theorem ad_pre {G : GT} {k : Nat} (h : k < 300) : ad G k = g_p G k := by unfold ad; rw [if_pos h]
section R2
variable {K : KT} {own : String} {cc : ByteArray} {nL d U pc : Nat} {L : List (Option Value)} {st rest : List Value} {n : Nat} {f : Hp} {u : Nat} {P : Pt_}
theorem r_gets {C nm ds : String} {v : Value} {idx : Nat} (hK : Gd K own cc nL d U) (hX : GX (kG K)) (hq : (C, nm, ds, v) ∈ stT) (hl : Cond.fieldLink own idx C nm ds ∈ lw_all) (hd : decode cc pc = .ok (.getstatic idx, 3)) (kk : Wx K (pc + 3) L (v :: st) n f u) : Wx K pc L st n f u := by
  intro H locs ls hH hS hl'
  obtain ⟨cf, kf, fi, fl, a, cell, h1, h2, h3, h4, h5, h6, h7, h8⟩ := (hK.px hX).2.2.1 _ hq
  exact W.gets hK.1 hK.2.1 hK.2.2.2.1 (hK.2.2.2.2.1 _ hl) h1 h2 h3 h4 (by rw [hH.2.1 a (Nat.lt_of_not_le h8)]; exact h5) (fun e => by rw [e] at h6; cases h6) h7 rfl hd (kk H locs ls hH hS hl')
theorem r_getsQ {C nm ds : String} {k idx : Nat} (hK : Gd K own cc nL d U) (hX : GX (kG K)) (hq : (C, nm, ds, k) ∈ sfT) (hl : Cond.fieldLink own idx C nm ds ∈ lw_all) (hd : decode cc pc = .ok (.getstatic idx, 3)) (kn : Wx K (pc + 3) L (.null :: st) n f u) (kr : Wx K (pc + 3) L (.ref k :: st) n f u) (hk : k < 300 := by decide) : Wx K pc L st n f u := by
  intro H locs ls hH hS hl'
  rcases (hK.px hX).2.2.2.2.2.2.2.2.2 _ hq with hz | hz
  · obtain ⟨cf, kf, fi, fl, a, cell, h1, h2, h3, h4, h5, h6, h7, h8⟩ := hz
    exact W.gets hK.1 hK.2.1 hK.2.2.2.1 (hK.2.2.2.2.1 _ hl) h1 h2 h3 h4 (by rw [hH.2.1 a (Nat.lt_of_not_le h8)]; exact h5) (fun e => by rw [e] at h6; cases h6) h7 rfl hd (kn H locs ls hH hS hl')
  · obtain ⟨cf, kf, fi, fl, a, cell, h1, h2, h3, h4, h5, h6, h7, h8⟩ := hz
    have h := kr H locs ls hH hS hl'
    rw [List.map_cons, show cv (kG K) (.ref k) = .ref (g_p (kG K) k) from by show Value.ref (ad (kG K) k) = _; rw [ad_pre hk]] at h
    exact W.gets hK.1 hK.2.1 hK.2.2.2.1 (hK.2.2.2.2.1 _ hl) h1 h2 h3 h4 (by rw [hH.2.1 a (Nat.lt_of_not_le h8)]; exact h5) (fun e => by rw [e] at h6; cases h6) h7 rfl hd h
theorem r_ldcS {tx : String} {idx k : Nat} (hK : Gd K own cc nL d U) (hX : GX (kG K)) (hq : (own, idx, tx, k) ∈ strT) (hd : decode cc pc = .ok (.ldc idx, 2)) (kk : Wx K (pc + 2) L (.ref k :: st) n f u) (hk : k < 300 := by decide) : Wx K pc L st n f u := by
  intro H locs ls hH hS hl'
  refine va_ldcS hK.1 hK.2.1 hK.2.2.2.1 ((hK.px hX).2.2.2.1 _ hq) hd ?_
  have := kk H locs ls hH hS hl'
  rw [List.map_cons, cv, ad_pre hk] at this
  exact this
theorem r_ldcM {idx : Nat} (hK : Gd K own cc nL d U) (hX : GX (kG K)) (hl : Cond.classLink own idx "[Ljava/lang/Object;" ∈ lw_all) (hd : decode cc pc = .ok (.ldc idx, 2)) (kk : Wx K (pc + 2) L (.ref 15 :: st) n f u) : Wx K pc L st n f u := by
  intro H locs ls hH hS hl'
  refine va_ldcM hK.1 hK.2.1 hK.2.2.2.1 (hK.2.2.2.2.1 _ hl) (hK.px hX).2.2.2.2.1 hd ?_
  exact kk H locs ls hH hS hl'
theorem r_getC {id N idx : Nat} {g : Nat → Value} (hK : Gd K own cc nL d U) (hX : GX (kG K)) (hf : f id = some (.inr (5, N, g))) (hl : Cond.methodLink own idx ⟨"java/lang/Object", "getClass", "()Ljava/lang/Class;"⟩ ∈ lw_all) (hd : decode cc pc = .ok (.invokevirtual idx, 3)) (kk : Wx K (pc + 3) L (.ref 15 :: rest) n f u) (hL : L.length = nL := by rfl) (hdp : 1 ≤ d := by decide) (hcat : catS rest ≤ 8 := by exact Nat.le_of_ble_eq_true rfl) : Wx K pc L (.ref id :: rest) n f u := by
  intro H locs ls hH hS hls
  have hts := hK.2.2.2.2.1
  have hr := hK.2.2.2.2.2.2.1
  have hRA := (hK.2.2.2.2.2.1.2.1 5 (by decide)).2
  refine va_getC (rest := rest.map (cv (kG K))) hK.1 hK.2.1 (by rw [hK.2.2.1, hls.1]; exact hL.symm) hK.2.2.2.1 (hts _ hl) (va_Nw.use rfl (hK.2.2.2.2.2.1.2.2.1.2.1 _ q2710)) (hts _ q2709) (hts _ q284) (hts _ q312) (hK.px hX).2.2.2.2.1 ⟨_, hH.at hK.2.2.2.2.2.2.2.2.1 hf rfl, rfl, ?_⟩ (by omega) (by rw [cat_map]; omega) hd ?_
  · exact va_nmO hRA rfl
  · exact kk H locs ls hH hS hls
theorem r_acmpE {k : Nat} {off : Int} (tgt : Nat) (hK : Gd K own cc nL d U) (hd : decode cc pc = .ok (.if_acmp .eq off, 3)) (kk : Wx K tgt L st n f u) (ht : (pc : Int) + off = (tgt : Int) := by rfl) : Wx K pc L (.ref k :: .ref k :: st) n f u := by
  intro H locs ls hH hS hls
  exact lv_acmp_eq (rx := some (ad (kG K) k)) (ry := some (ad (kG K) k)) hK.1 hK.2.1 hd ht (fun _ => kk H locs ls hH hS hls) (fun h => absurd rfl h)
theorem r_acmpN {k : Nat} {off : Int} (tgt : Nat) (hK : Gd K own cc nL d U) (hd : decode cc pc = .ok (.if_acmp .ne off, 3)) (kk : Wx K (pc + 3) L st n f u) (ht : (pc : Int) + off = (tgt : Int) := by rfl) : Wx K pc L (.ref k :: .ref k :: st) n f u := by
  intro H locs ls hH hS hls
  exact lv_acmp_ne (rx := some (ad (kG K) k)) (ry := some (ad (kG K) k)) hK.1 hK.2.1 hd ht (fun h => absurd rfl h) (fun _ => kk H locs ls hH hS hls)
/-- an element's cell, and that it may be stored -/
theorem sto_el {v : Nat} {H : Heap} (hK : Gd K own cc nL d U) (hX : GX (kG K)) (he : el f v) (hH : HP (kG K) (kRel K) n f H) : ∃ (cellV : Cell) (C : String), H[ad (kG K) v]? = some cellV ∧ cellV.vm.isStatics = false ∧ (ks K).vm.findClass C = some cellV.cls ∧ va_Nw (.castable C "java/lang/Object") (ks K) := by
  have hpx := hK.px hX
  rcases he with ⟨ci, fs, hf, hc⟩ | ⟨N, h, hf⟩ | ⟨h1, h2⟩ | ⟨h1, h2⟩
  · have hraw : rawE (.inl (ci, fs)) = true := by simp [rawE]; omega
    obtain ⟨r, g1, cell, g2, g3, g4, -⟩ := hH.at hK.2.2.2.2.2.2.2.2.1 hf hraw
    have hC := (hK.2.2.2.2.2.1.1.1 ci r g1).2.1
    refine ⟨cell, r.1, g2, by rw [g4]; rfl, by rw [g3]; exact hC, hpx.2.1 _ _ ?_⟩
    rcases hc with e | e | e | e <;> subst e <;> cases g1
    · exact q2682
    · exact q2697
    · exact q2698
    · exact q2706
  · exact ⟨_, "[I", hH.at hK.2.2.2.2.2.2.2.2.1 hf rfl, rfl, (hK.2.2.2.2.2.1.2.1 0 (by decide)).2, hpx.2.1 _ _ q2714⟩
  · obtain ⟨cell, g1, g2, g3, g4⟩ := (hpx.2.2.2.2.2.2.2.1.1 (v - 6) (by omega)).1
    have e : 6 + (v - 6) = v := by omega
    simp only [e] at g1 g4
    exact ⟨cell, _, by rw [ad_pre (by omega), hH.2.1 _ (Nat.lt_of_not_le g4)]; exact g1, g2, g3, hpx.2.1 _ _ q2705⟩
  · obtain ⟨cell, g1, g2, g3, g4⟩ := hpx.2.2.2.2.2.1.1 (v - 20) (by omega)
    have e : 20 + (v - 20) = v := by omega
    simp only [e] at g1 g4
    exact ⟨cell, _, by rw [ad_pre (by omega), hH.2.1 _ (Nat.lt_of_not_le g4)]; exact g1, g2, g3, hpx.2.1 _ _ q2706⟩
/-- a reference is put into an array of references -/
theorem r_aast {id i N v ty : Nat} {g : Nat → Value} {E : String} (hK : Gd K own cc nL d U) (hty : tyA ty = .object E ∧ 5 ≤ ty ∧ ty < 8) (hd : decode cc pc = .ok (.aastore, 1)) (hf : f id = some (.inr (ty, N, g))) (hi : i < N) (hv : ∀ H, HP (kG K) (kRel K) n f H → ∃ (cellV : Cell) (C : String), H[ad (kG K) v]? = some cellV ∧ cellV.vm.isStatics = false ∧ (ks K).vm.findClass C = some cellV.cls ∧ ∀ comp c0 : ClassId, (ks K).vm.findClass E = some comp → (ks K).vm.findClass C = some c0 → (ks K).vm.assignable c0 comp = true)
    (kk : Wx K (pc + 1) L st n (up f id (.inr (ty, N, updV g i (.ref v)))) u) (hN : N < 2147483648 := by decide) : Wx K pc L (.ref v :: zI (i : Int) :: .ref id :: st) n f u := by
  intro H locs ls hH hS hl
  have hraw : rawE (.inr (ty, N, g)) = true := by simp [rawE]; omega
  have hraw2 : rawE (.inr (ty, N, updV g i (.ref v))) = true := by simp [rawE]; omega
  have hown := hH.own hK.2.2.2.2.2.2.2.2.1 hf hraw
  obtain ⟨cellV, C, g1, g2, g3, g4⟩ := hv H hH
  have hRA := (hK.2.2.2.2.2.1.2.1 ty (by omega)).2
  rw [hty.1] at hRA
  obtain ⟨kA, comp, k1, k2, k3, -⟩ := hRA
  obtain ⟨kE, hkE, -⟩ := Vm.findClass_spec k3
  obtain ⟨kC, hkC, -⟩ := Vm.findClass_spec g3
  refine W.aast hK.1 hK.2.1 (hH.at hK.2.2.2.2.2.2.2.2.1 hf hraw) (fun q h => by cases h) (fun h => by cases h) k1 k2 rfl hkE ⟨by rw [zn]; exact nI_pos (by omega), by show _ < (arrV _ _ _).slots.size; rw [arrV_size, i_cl (by omega)]; exact hi⟩ g1 (fun q h => by rw [h] at g2; cases g2) hkC (g4 _ _ k3 g3) rfl rfl hd fun H1 e1 z1 o1 => ?_
  refine kk H1 _ ls (hH.put hK.2.2.2.2.2.2.2.2.1 hf hraw hraw2 z1 o1 ?_) (hS.put z1 o1 ?_) hl
  · show H1[ad (kG K) id]? = some (arrV _ _ _)
    rw [e1, arrV_store, i_cl (by omega), cvup] <;> rfl
  · show g_b (kG K) ≤ ad (kG K) id
    rw [ad_own hown.1]; omega
theorem r_aastE {id i N v : Nat} {g : Nat → Value} (hK : Gd K own cc nL d U) (hX : GX (kG K)) (hd : decode cc pc = .ok (.aastore, 1)) (hf : f id = some (.inr (5, N, g))) (hi : i < N) (he : el f v) (kk : Wx K (pc + 1) L st n (up f id (.inr (5, N, updV g i (.ref v)))) u) (hN : N < 2147483648 := by decide) : Wx K pc L (.ref v :: zI (i : Int) :: .ref id :: st) n f u :=
  r_aast hK ⟨rfl, by decide, by decide⟩ hd hf hi (fun H hH => by
    obtain ⟨cellV, C, g1, g2, g3, g4⟩ := sto_el hK hX he hH
    exact ⟨cellV, C, g1, g2, g3, vb_asgC g4⟩) kk hN
theorem r_aastR {id i N v ty : Nat} {g : Nat → Value} {E : String} (hK : Gd K own cc nL d U) (hty : tyA ty = .object E ∧ 5 ≤ ty ∧ ty < 8) (hd : decode cc pc = .ok (.aastore, 1)) (hf : f id = some (.inr (ty, N, g))) (hi : i < N) (hrc : Rcv (kRel K) E n f v) (kk : Wx K (pc + 1) L st n (up f id (.inr (ty, N, updV g i (.ref v)))) u) (hN : N < 2147483648 := by decide) : Wx K pc L (.ref v :: zI (i : Int) :: .ref id :: st) n f u :=
  r_aast hK hty hd hf hi (fun H hH => by
    obtain ⟨cellV, g1, g2, g3⟩ := hrc.cell hK hH
    exact ⟨cellV, E, g1, g2, g3, fun comp c0 => vb_asgS comp c0⟩) kk hN
/-- a new array of references -/
theorem r_anew {N idx : Nat} (w ty : Nat) {E : String} (hK : Gd K own cc nL d U) (hty : tyA ty = .object E ∧ 5 ≤ ty ∧ ty < 8) (hcl : Cond.classLink own idx E ∈ lw_all) (hq : Cond.arrayOver (.object E) ∈ lw_tbl) (hd : decode cc pc = .ok (.anewarray idx, 3)) (hu : u + w ≤ U) (kk : Wx K (pc + 3) L (.ref n :: st) (n + 1) (up f n (.inr (ty, N, fun _ => .null))) (u + w)) (hw : 1 ≤ w ∧ N ≤ 12 * w := by decide) (hN : N < 67108864 := by decide) : Wx K pc L (zI (N : Int) :: st) n f u := by
  intro H locs ls hH hS hl
  have hro := u_room (R := kR K) (m := N) hK.2.2.2.2.2.2.1.2.2 hu hw.1 hw.2
  have hcl' : (Int32.ofInt (N : Int)).toNatClampNeg = N := i_cl (by omega)
  refine W.anew hK.1 hK.2.1 hK.2.2.2.1 (hK.2.2.2.2.1 _ hcl) (hK.2.2.2.2.2.1.2.2.1.2.2 _ hq).use rfl hd rfl (by rw [zn]; exact nI_pos (by omega)) (by rw [hcl']; omega) hro.1 (by rw [hcl']; exact hro.2) fun cA kA comp e1 e2 e3 e4 => ?_
  rw [hcl']
  have hRA := (hK.2.2.2.2.2.1.2.1 ty (by omega)).2
  rw [hty.1] at hRA
  obtain ⟨kA', comp', k1, k2, k3, k4⟩ := hRA
  have hcA : g_A (kG K) ty = cA := Option.some.inj (k4.symm.trans e1)
  have hraw : rawE (.inr (ty, N, fun _ => .null)) = true := by simp [rawE]; omega
  have hsz : ∀ x : Cell, (H.push x).size = H.size + 1 := fun x => Array.size_push ..
  have hold : ∀ (x : Cell) (q : Nat), q < H.size → (H.push x)[q]? = H[q]? := fun x q hq => by rw [Array.getElem?_push, if_neg (by omega)]
  have hH1 : HP (kG K) (kRel K) (n + 1) (up f n (.inr (ty, N, fun _ => .null))) (H.push { cls := cA, slots := Array.replicate N .null, vm := .none }) := by
    refine hH.new hK.2.2.2.2.2.2.2.2.1 hraw (hsz _) (hold _) ?_
    show (H.push _)[ad (kG K) n]? = some (arrV _ _ _)
    rw [← hH.next, Array.getElem?_push, if_pos rfl, hcA]
    simp only [cv]
    congr 1
    unfold arrV
    congr 1
    apply Array.ext_getElem?
    intro i
    simp [Array.getElem?_replicate, Array.getElem?_ofFn]
  refine W.widen (k := u + w) (n := 12 * (u + w)) (by omega) (by omega) ?_
  rw [hH.next]
  have hk := kk _ locs ls hH1 ⟨Nat.le_trans hS.1 (by rw [hsz]; omega), fun x g1 g2 => (hold _ x (Nat.lt_of_lt_of_le g1 hS.1)).trans (hS.2.1 x g1 g2), hS.2.2⟩ hl
  exact hk
/-- a stretch of an array is copied: ints -/
theorem r_acpyI {a0 a1 N0 N1 sp dp m idx : Nat} {g0 g1 : Nat → Value} (hK : Gd K own cc nL d U)  (hl : Cond.methodLink own idx arraycopyName ∈ lw_all) (hd : decode cc pc = .ok (.invokestatic idx, 3)) (h0 : f a0 = some (.inr (0, N0, g0))) (h1 : f a1 = some (.inr (0, N1, g1))) (b0 : sp + m ≤ N0) (b1 : dp + m ≤ N1) (hfit : ∀ i, i < m → ∃ z : Int, g0 (sp + i) = zI z)
    (kk : Wx K (pc + 3) L rest n (up f a1 (.inr (0, N1, va_cpy g0 g1 sp dp m))) u) (hN : N0 < 2147483648 ∧ N1 < 2147483648 := by decide) (hL : L.length = nL := by rfl) (hdp : 1 ≤ d := by decide) (hcat : catS rest ≤ 8 := by exact Nat.le_of_ble_eq_true rfl) : Wx K pc L (zI (m : Int) :: zI (dp : Int) :: .ref a1 :: zI (sp : Int) :: .ref a0 :: rest) n f u := by
  intro H locs ls hH hS hls T hT X
  have hts := hK.2.2.2.2.1
  have hr := hK.2.2.2.2.2.2.1
  have hown := hH.own hK.2.2.2.2.2.2.2.2.1 h1 rfl
  have hc0 : H[ad (kG K) a0]? = some (arrV (g_A (kG K) 0) N0 (fun j => cv (kG K) (g0 j))) := hH.at hK.2.2.2.2.2.2.2.2.1 h0 rfl
  have hc1 : H[ad (kG K) a1]? = some (arrV (g_A (kG K) 0) N1 (fun j => cv (kG K) (g1 j))) := hH.at hK.2.2.2.2.2.2.2.2.1 h1 rfl
  obtain ⟨-, k0, hk0, cm0, hkk0⟩ := (hK.2.2.2.2.2.1.2.1 0 (by decide)).1 N0 (fun j => cv (kG K) (g0 j))
  obtain ⟨-, k1, hk1, cm1, hkk1⟩ := (hK.2.2.2.2.2.1.2.1 0 (by decide)).1 N1 (fun j => cv (kG K) (g1 j))
  have cl : ∀ x : Nat, x < 2147483648 → (Int32.ofInt (x : Int)).toNatClampNeg = x := fun x hx => i_cl hx
  have nn : ∀ x : Nat, x < 2147483648 → ¬ Int32.ofInt (x : Int) < 0 := fun x hx => by rw [zn]; exact nI_pos hx
  have ti : ∀ x : Nat, x < 2147483648 → (Int32.ofInt (x : Int)).toInt = (x : Int) := fun x hx => by rw [zn]; exact nI_toInt hx
  obtain ⟨vm', X', step⟩ := X.arraycopy hK.1 hK.2.2.2.1 (hts _ hl) (hts _ q998) (hts _ q997) (hts _ q165) (src := ad (kG K) a0) (dst := ad (kG K) a1) (cs := arrV (g_A (kG K) 0) N0 (fun j => cv (kG K) (g0 j))) (cd := arrV (g_A (kG K) 0) N1 (fun j => cv (kG K) (g1 j))) (srcPos := Int32.ofInt (sp : Int)) (destPos := Int32.ofInt (dp : Int)) (n := Int32.ofInt (m : Int)) (by rw [hT]; exact hc0) (by rw [hT]; exact hc1)
    (fun _ h => by cases h) (fun _ h => by cases h) (fun h => by cases h) (fun h => by cases h) hk0 hk1 hkk0 hkk1 (by simp [tyA, refKind]) (nn _ (by omega)) (nn _ (by omega)) (nn _ (by omega))
    (by rw [ti _ (by omega), ti _ (by omega), arrV_size]; omega)
    (by rw [ti _ (by omega), ti _ (by omega), arrV_size]; omega)
    (fun vm₁ hal i hi => by
      rw [cl _ (by omega)] at hi
      have e : (arrV (g_A (kG K) 0) N0 (fun j => cv (kG K) (g0 j))).slots.getD ((Int32.ofInt (sp : Int)).toNatClampNeg + i) .null = cv (kG K) (g0 (sp + i)) := by
        rw [cl _ (by omega), Array.getD_eq_getD_getElem?, arrV_read _ _ (by omega)]
        rfl
      rw [e]
      obtain ⟨z, hz⟩ := hfit i hi
      rw [hz]
      exact ⟨rfl, trivial⟩)
    (g := F0 (km K) pc ls (.int (Int32.ofInt (m : Int)) :: .int (Int32.ofInt (dp : Int)) :: .ref (ad (kG K) a1) :: .int (Int32.ofInt (sp : Int)) :: .ref (ad (kG K) a0) :: rest.map (cv (kG K)))) rfl (by rw [hK.2.2.1]; show ls.size = nL; rw [hls.1, hL]) (rest := rest.map (cv (kG K))) rfl (by rw [hK.2.1]; exact hd) (by omega) (by show 2 * 0 + _ + _ ≤ _; rw [cat_map]; have hw : nativeFrameWords "java/lang/System" "arraycopy" 5 ≤ 40 := (by decide); omega)
  have e1 : copied (arrV (g_A (kG K) 0) N0 (fun j => cv (kG K) (g0 j))) (arrV (g_A (kG K) 0) N1 (fun j => cv (kG K) (g1 j))) (Int32.ofInt (sp : Int)) (Int32.ofInt (dp : Int)) (Int32.ofInt (m : Int)) = arrV (g_A (kG K) 0) N1 (fun j => cv (kG K) (va_cpy g0 g1 sp dp m j)) := by
    have := va_copied (cv (kG K)) (g_A (kG K) 0) (g_A (kG K) 0) (n0 := N0) (n1 := N1) (sp := sp) (dp := dp) (n := m) g0 g1 b0
    rw [← this]
    unfold copied
    rw [cl _ (by omega), cl _ (by omega), cl _ (by omega)]
  rw [e1] at X' step
  have hlt : ad (kG K) a1 < H.size := (Array.getElem?_eq_some_iff.mp hc1).1
  have oq : ∀ q : Nat, q ≠ ad (kG K) a1 → (H.setIfInBounds (ad (kG K) a1) (arrV (g_A (kG K) 0) N1 (fun j => cv (kG K) (va_cpy g0 g1 sp dp m j))))[q]? = H[q]? := fun q hq => by simp [Array.getElem?_setIfInBounds, Ne.symm hq]
  have hb1 : g_b (kG K) ≤ ad (kG K) a1 := by rw [ad_own hown.1]; omega
  obtain ⟨t, x1, y1⟩ := kk (H.setIfInBounds (ad (kG K) a1) (arrV (g_A (kG K) 0) N1 (fun j => cv (kG K) (va_cpy g0 g1 sp dp m j)))) _ ls (hH.put hK.2.2.2.2.2.2.2.2.1 h1 rfl rfl (by simp) oq (show (H.setIfInBounds _ _)[_]? = some (arrV _ _ _) by simp [Array.getElem?_setIfInBounds, hlt])) ⟨by simp; exact hS.1, fun q p1 p2 => by
      rw [oq q (fun e => p2 (by rw [e]; exact hb1))]
      exact hS.2.1 q p1 p2, fun q hq => by
      rcases List.mem_append.mp hq with h | h
      · exact hS.2.2 q h
      · obtain ⟨z, -, hz⟩ := List.mem_map.mp h
        rw [← hz]
        exact hb1⟩ hls _ (by rw [← hT]; rfl) X'
  exact ⟨t, step t x1, y1⟩
/-- references -/
theorem r_acpyO {a0 a1 N0 N1 sp dp m idx : Nat} {g0 g1 : Nat → Value} (hK : Gd K own cc nL d U) (hX : GX (kG K)) (hl : Cond.methodLink own idx arraycopyName ∈ lw_all) (hd : decode cc pc = .ok (.invokestatic idx, 3)) (h0 : f a0 = some (.inr (5, N0, g0))) (h1 : f a1 = some (.inr (5, N1, g1))) (b0 : sp + m ≤ N0) (b1 : dp + m ≤ N1) (hfit : ∀ i, i < m → elV f (g0 (sp + i)))
    (kk : Wx K (pc + 3) L rest n (up f a1 (.inr (5, N1, va_cpy g0 g1 sp dp m))) u) (hN : N0 < 2147483648 ∧ N1 < 2147483648 := by decide) (hL : L.length = nL := by rfl) (hdp : 1 ≤ d := by decide) (hcat : catS rest ≤ 8 := by exact Nat.le_of_ble_eq_true rfl) : Wx K pc L (zI (m : Int) :: zI (dp : Int) :: .ref a1 :: zI (sp : Int) :: .ref a0 :: rest) n f u := by
  intro H locs ls hH hS hls T hT X
  have hts := hK.2.2.2.2.1
  have hr := hK.2.2.2.2.2.2.1
  have hown := hH.own hK.2.2.2.2.2.2.2.2.1 h1 rfl
  have hc0 : H[ad (kG K) a0]? = some (arrV (g_A (kG K) 5) N0 (fun j => cv (kG K) (g0 j))) := hH.at hK.2.2.2.2.2.2.2.2.1 h0 rfl
  have hc1 : H[ad (kG K) a1]? = some (arrV (g_A (kG K) 5) N1 (fun j => cv (kG K) (g1 j))) := hH.at hK.2.2.2.2.2.2.2.2.1 h1 rfl
  obtain ⟨-, k0, hk0, cm0, hkk0⟩ := (hK.2.2.2.2.2.1.2.1 5 (by decide)).1 N0 (fun j => cv (kG K) (g0 j))
  obtain ⟨-, k1, hk1, cm1, hkk1⟩ := (hK.2.2.2.2.2.1.2.1 5 (by decide)).1 N1 (fun j => cv (kG K) (g1 j))
  have cl : ∀ x : Nat, x < 2147483648 → (Int32.ofInt (x : Int)).toNatClampNeg = x := fun x hx => i_cl hx
  have nn : ∀ x : Nat, x < 2147483648 → ¬ Int32.ofInt (x : Int) < 0 := fun x hx => by rw [zn]; exact nI_pos hx
  have ti : ∀ x : Nat, x < 2147483648 → (Int32.ofInt (x : Int)).toInt = (x : Int) := fun x hx => by rw [zn]; exact nI_toInt hx
  obtain ⟨vm', X', step⟩ := X.arraycopy hK.1 hK.2.2.2.1 (hts _ hl) (hts _ q998) (hts _ q997) (hts _ q165) (src := ad (kG K) a0) (dst := ad (kG K) a1) (cs := arrV (g_A (kG K) 5) N0 (fun j => cv (kG K) (g0 j))) (cd := arrV (g_A (kG K) 5) N1 (fun j => cv (kG K) (g1 j))) (srcPos := Int32.ofInt (sp : Int)) (destPos := Int32.ofInt (dp : Int)) (n := Int32.ofInt (m : Int)) (by rw [hT]; exact hc0) (by rw [hT]; exact hc1)
    (fun _ h => by cases h) (fun _ h => by cases h) (fun h => by cases h) (fun h => by cases h) hk0 hk1 hkk0 hkk1 rfl (nn _ (by omega)) (nn _ (by omega)) (nn _ (by omega))
    (by rw [ti _ (by omega), ti _ (by omega), arrV_size]; omega)
    (by rw [ti _ (by omega), ti _ (by omega), arrV_size]; omega)
    (fun vm₁ hal i hi => by
      rw [cl _ (by omega)] at hi
      have e : (arrV (g_A (kG K) 5) N0 (fun j => cv (kG K) (g0 j))).slots.getD ((Int32.ofInt (sp : Int)).toNatClampNeg + i) .null = cv (kG K) (g0 (sp + i)) := by
        rw [cl _ (by omega), Array.getD_eq_getD_getElem?, arrV_read _ _ (by omega)]
        rfl
      rw [e]
      rcases hfit i hi with hz | ⟨v, hz, he⟩
      · rw [hz]
        exact ⟨rfl, trivial⟩
      · rw [hz]
        obtain ⟨cellV, C, s1, s2, s3, s4⟩ := sto_el hK hX he hH
        have hRA := (hK.2.2.2.2.2.1.2.1 5 (by decide)).2
        obtain ⟨kA, comp, r1, r2, r3, -⟩ := hRA
        cases hk1.symm.trans r1
        cases hkk1.symm.trans r2
        obtain ⟨kC, hkC, -⟩ := Vm.findClass_spec s3
        obtain ⟨kE, hkE, -⟩ := Vm.findClass_spec r3
        obtain ⟨kC', hkC', -⟩ := hal.2.2 _ _ hkC
        obtain ⟨kE', hkE', -⟩ := hal.2.2 _ _ hkE
        refine ⟨rfl, cellV, (show T.heap[ad (kG K) v]? = some cellV by rw [hT]; exact s1), (fun q h => by rw [h] at s2; cases s2), ⟨kC', hkC'⟩, ⟨kE', hkE'⟩, ?_⟩
        show vm₁.assignable _ _ = true
        rw [hal.assignable]
        exact vb_asgC s4 _ _ r3 s3)
    (g := F0 (km K) pc ls (.int (Int32.ofInt (m : Int)) :: .int (Int32.ofInt (dp : Int)) :: .ref (ad (kG K) a1) :: .int (Int32.ofInt (sp : Int)) :: .ref (ad (kG K) a0) :: rest.map (cv (kG K)))) rfl (by rw [hK.2.2.1]; show ls.size = nL; rw [hls.1, hL]) (rest := rest.map (cv (kG K))) rfl (by rw [hK.2.1]; exact hd) (by omega) (by show 2 * 0 + _ + _ ≤ _; rw [cat_map]; have hw : nativeFrameWords "java/lang/System" "arraycopy" 5 ≤ 40 := (by decide); omega)
  have e1 : copied (arrV (g_A (kG K) 5) N0 (fun j => cv (kG K) (g0 j))) (arrV (g_A (kG K) 5) N1 (fun j => cv (kG K) (g1 j))) (Int32.ofInt (sp : Int)) (Int32.ofInt (dp : Int)) (Int32.ofInt (m : Int)) = arrV (g_A (kG K) 5) N1 (fun j => cv (kG K) (va_cpy g0 g1 sp dp m j)) := by
    have := va_copied (cv (kG K)) (g_A (kG K) 5) (g_A (kG K) 5) (n0 := N0) (n1 := N1) (sp := sp) (dp := dp) (n := m) g0 g1 b0
    rw [← this]
    unfold copied
    rw [cl _ (by omega), cl _ (by omega), cl _ (by omega)]
  rw [e1] at X' step
  have hlt : ad (kG K) a1 < H.size := (Array.getElem?_eq_some_iff.mp hc1).1
  have oq : ∀ q : Nat, q ≠ ad (kG K) a1 → (H.setIfInBounds (ad (kG K) a1) (arrV (g_A (kG K) 5) N1 (fun j => cv (kG K) (va_cpy g0 g1 sp dp m j))))[q]? = H[q]? := fun q hq => by simp [Array.getElem?_setIfInBounds, Ne.symm hq]
  have hb1 : g_b (kG K) ≤ ad (kG K) a1 := by rw [ad_own hown.1]; omega
  obtain ⟨t, x1, y1⟩ := kk (H.setIfInBounds (ad (kG K) a1) (arrV (g_A (kG K) 5) N1 (fun j => cv (kG K) (va_cpy g0 g1 sp dp m j)))) _ ls (hH.put hK.2.2.2.2.2.2.2.2.1 h1 rfl rfl (by simp) oq (show (H.setIfInBounds _ _)[_]? = some (arrV _ _ _) by simp [Array.getElem?_setIfInBounds, hlt])) ⟨by simp; exact hS.1, fun q p1 p2 => by
      rw [oq q (fun e => p2 (by rw [e]; exact hb1))]
      exact hS.2.1 q p1 p2, fun q hq => by
      rcases List.mem_append.mp hq with h | h
      · exact hS.2.2 q h
      · obtain ⟨z, -, hz⟩ := List.mem_map.mp h
        rw [← hz]
        exact hb1⟩ hls _ (by rw [← hT]; rfl) X'
  exact ⟨t, step t x1, y1⟩
/-- what was there before: fields, lengths, elements -/
theorem p_get {o nm ds : String} {k idx : Nat} {v : Value} (hK : Gd K own cc nL d U) (hE : va_OF o nm ds (cv (kG K) v) (g_p (kG K) k) (fun a => g_b (kG K) ≤ a) (ks K) (g_H (kG K))) (hl : Cond.fieldLink own idx o nm ds ∈ lw_all) (hd : decode cc pc = .ok (.getfield idx, 3)) (kk : Wx K (pc + 3) L (v :: st) n f u) (hk : k < 300 := by omega) : Wx K pc L (.ref k :: st) n f u := by
  intro H locs ls hH hS hls
  obtain ⟨cf, kc, fi, fl, cell, h1, h2, h3, h4, h5, h6⟩ := hE
  refine W.getf (a := ad (kG K) k) hK.1 hK.2.1 hK.2.2.2.1 (hK.2.2.2.2.1 _ hl) h1 h2 (by rw [ad_pre hk, hH.2.1 _ (Nat.lt_of_not_le h6)]; exact h3) h4 (v := cv (kG K) v) h5 rfl rfl hd ?_
  exact kk H locs ls hH hS hls
theorem p_alen {ty : FieldType} {k N : Nat} {h : Nat → Value} (hK : Gd K own cc nL d U) (hT : va_T ty (g_p (kG K) k) N h (fun a => g_b (kG K) ≤ a) (ks K) (g_H (kG K))) (hd : decode cc pc = .ok (.arraylength, 1)) (kk : Wx K (pc + 1) L (zI (N : Int) :: st) n f u) (hk : k < 300 := by omega) : Wx K pc L (.ref k :: st) n f u := by
  intro H locs ls hH hS hls
  obtain ⟨cell, h1, h2, h3, h4, h5, h6, h7⟩ := hT
  refine W.alen (a := ad (kG K) k) (n := Int32.ofInt (N : Int)) hK.1 hK.2.1 (by rw [ad_pre hk, hH.2.1 _ (Nat.lt_of_not_le h7)]; exact h1) h2 (by rw [h5, zn]; rfl) rfl rfl hd ?_
  exact kk H locs ls hH hS hls
theorem p_aald {C : String} {k N i : Nat} {h : Nat → Value} {v : Value} (hK : Gd K own cc nL d U) (hT : va_T (.object C) (g_p (kG K) k) N h (fun a => g_b (kG K) ≤ a) (ks K) (g_H (kG K))) (hi : i < N) (hv : h i = cv (kG K) v) (hd : decode cc pc = .ok (.aaload, 1)) (kk : Wx K (pc + 1) L (v :: st) n f u) (hk : k < 300 := by omega) (hN : N < 2147483648 := by decide) : Wx K pc L (zI (i : Int) :: .ref k :: st) n f u := by
  intro H locs ls hH hS hls
  obtain ⟨cell, h1, h2, h3, h4, h5, h6, h7⟩ := hT
  refine W.aald (a := ad (kG K) k) (v := cv (kG K) v) (ty := .object C) hK.1 hK.2.1 (by rw [ad_pre hk, hH.2.1 _ (Nat.lt_of_not_le h7)]; exact h1) h2 rfl h3 (fun q => ?_) (by rw [i_cl (by omega), h6 _ hi, hv]) rfl rfl hd ?_
  · have := i_ix (i := i) (N := N) hi hN
    rcases q with q | q
    · exact this (Or.inl q)
    · rw [i_cl (by omega)] at q; omega
  · exact kk H locs ls hH hS hls
theorem p_bald {k N i : Nat} {h : Nat → Value} {v : Value} (hK : Gd K own cc nL d U) (hT : va_T .byte (g_p (kG K) k) N h (fun a => g_b (kG K) ≤ a) (ks K) (g_H (kG K))) (hi : i < N) (hv : h i = cv (kG K) v) (hd : decode cc pc = .ok (.baload, 1)) (kk : Wx K (pc + 1) L (v :: st) n f u) (hk : k < 300 := by omega) (hN : N < 2147483648 := by decide) : Wx K pc L (zI (i : Int) :: .ref k :: st) n f u := by
  intro H locs ls hH hS hls
  obtain ⟨cell, h1, h2, h3, h4, h5, h6, h7⟩ := hT
  refine W.bald (a := ad (kG K) k) (v := cv (kG K) v) hK.1 hK.2.1 (by rw [ad_pre hk, hH.2.1 _ (Nat.lt_of_not_le h7)]; exact h1) h2 h3 (fun q => ?_) (by rw [i_cl (by omega), h6 _ hi, hv]) rfl rfl hd ?_
  · have := i_ix (i := i) (N := N) hi hN
    rcases q with q | q
    · exact this (Or.inl q)
    · rw [i_cl (by omega)] at q; omega
  · exact kk H locs ls hH hS hls
/-- a receiver by its cell -/
def RcH (K : KT) (C : String) (n : Nat) (f : Hp) (id : Nat) : Prop := ∀ H : Heap, HP (kG K) (kRel K) n f H → ∃ cellB : Cell, H[ad (kG K) id]? = some cellB ∧ cellB.vm.isStatics = false ∧ (ks K).vm.findClass C = some cellB.cls
theorem Rcv.H {C : String} {id : Nat} (hK : Gd K own cc nL d U) (h : Rcv (kRel K) C n f id) : RcH K C n f id := fun H hH => h.cell hK hH
theorem p_rcv {C : String} {k : Nat} (hO : va_O C (g_p (kG K) k) (fun a => g_b (kG K) ≤ a) (ks K) (g_H (kG K))) (hk : k < 300 := by omega) : RcH K C n f k := fun H hH => by
  obtain ⟨cell, h1, h2, h3, h4⟩ := hO
  exact ⟨cell, by rw [ad_pre hk, hH.2.1 _ (Nat.lt_of_not_le h4)]; exact h1, h2, h3⟩
/-- a cast to the very class -/
theorem r_castH {C : String} {idx id : Nat} (hK : Gd K own cc nL d U) (hl : Cond.classLink own idx C ∈ lw_all) (hrc : RcH K C n f id) (hd : decode cc pc = .ok (.checkcast idx, 3)) (kk : Wx K (pc + 3) L (.ref id :: st) n f u) : Wx K pc L (.ref id :: st) n f u := fun H locs ls hH hS hls =>
  va_castE hK.1 hK.2.1 hK.2.2.2.1 (hK.2.2.2.2.1 _ hl) (hrc H hH) hd (kk H locs ls hH hS hls)
variable {y : MethodName} {cc' : ByteArray} {nL' : Nat} {rt' : Option FieldType} {d' U' np idx id : Nat} {As : List Value}
theorem g_callVH (hK : Gd K own cc nL d U) (hC : Ct (kG K) (kRel K) y cc' nL' rt' d' U' (.ref id :: As) n f P) (hl : LkV own idx y cc' nL' rt' np) (hrc : RcH K y.cls n f id) (hd : decode cc pc = .ok (.invokevirtual idx, 3)) (kk : ∀ r n' f', P r n' f' → Wx K (pc + 3) L (r.toList ++ rest) n' f' (u + U')) (hst : st = As.reverse ++ .ref id :: rest) (hn : As.length = np) (hL : L.length = nL) (hdp : d' + 1 ≤ d) (hnl : nL' ≤ 45) (hu : u + U' ≤ U) (hcat : catS rest ≤ 8) : Wx K pc L st n f u := by
  refine r_run (av := ((Value.ref id :: As).map (cv (kG K))).toArray) (fun H locs ls hH hS hls => ?_) kk
  obtain ⟨hy, h1, h2, h3, h4, h5⟩ := hl
  have hro := c_room (R := kR K) hK.2.2.2.2.2.2.1 hdp hnl hu
  have hts := hK.2.2.2.2.1
  exact va_runV (As := As.map (cv (kG K))) (n := np) (C := y.cls) ⟨hK.1, hK.2.1, hK.2.2.1, hK.2.2.2.1, hts⟩ (hC (kl K)) (cwV np hts (lw_V h1 h2 h3 h4 h5) rfl rfl rfl ⟨rfl, hy⟩ hro.1) ⟨pc_blind _ _ _ _ _, hrc H hH, pc_at hK hH⟩ rfl (by simpa using hn) (by show ls.size = nL; rw [hls.1, hL]) (by show st.map _ = _; rw [hst]; simp [cv]) (lv_room (by rw [cat_map]; exact hcat)) hd hro.2
theorem r_callVH0 (hK : Gd K own cc nL d U) (hC : Ct (kG K) (kRel K) y cc' nL' rt' d' U' [.ref id] n f P) (hl : LkV own idx y cc' nL' rt' 0) (hrc : RcH K y.cls n f id) (hd : decode cc pc = .ok (.invokevirtual idx, 3)) (kk : ∀ r n' f', P r n' f' → Wx K (pc + 3) L (r.toList ++ rest) n' f' (u + U')) (hL : L.length = nL := by rfl) (hdp : d' + 1 ≤ d := by decide) (hnl : nL' ≤ 45 := by decide) (hu : u + U' ≤ U := by decide) (hcat : catS rest ≤ 8 := by exact Nat.le_of_ble_eq_true rfl) : Wx K pc L (.ref id :: rest) n f u := g_callVH hK hC hl hrc hd kk rfl rfl hL hdp hnl hu hcat
theorem r_callVH1 {x0 : Value} (hK : Gd K own cc nL d U) (hC : Ct (kG K) (kRel K) y cc' nL' rt' d' U' [.ref id, x0] n f P) (hl : LkV own idx y cc' nL' rt' 1) (hrc : RcH K y.cls n f id) (hd : decode cc pc = .ok (.invokevirtual idx, 3)) (kk : ∀ r n' f', P r n' f' → Wx K (pc + 3) L (r.toList ++ rest) n' f' (u + U')) (hL : L.length = nL := by rfl) (hdp : d' + 1 ≤ d := by decide) (hnl : nL' ≤ 45 := by decide) (hu : u + U' ≤ U := by decide) (hcat : catS rest ≤ 8 := by exact Nat.le_of_ble_eq_true rfl) : Wx K pc L (x0 :: .ref id :: rest) n f u := g_callVH hK hC hl hrc hd kk rfl rfl hL hdp hnl hu hcat
theorem r_mmin {x y : Nat} (hK : Gd K own cc nL d U) (hl : LkS own idx yJ22_min cJ22_min 2 (some .int) 2) (hd : decode cc pc = .ok (.invokestatic idx, 3)) (hx : x < 2147483648) (hy : y < 2147483648) (kk : Wx K (pc + 3) L (zI ((min x y : Nat) : Int) :: rest) n f u) (hL : L.length = nL := by rfl) (hdp : 1 ≤ d := by decide) (hu : u ≤ U := by omega) (hcat : catS rest ≤ 8 := by exact Nat.le_of_ble_eq_true rfl) : Wx K pc L (zI (y : Int) :: zI (x : Int) :: rest) n f u := by
  intro H locs ls hH hS hls
  obtain ⟨-, h1, h2, h3, h4⟩ := hl
  have hts := hK.2.2.2.2.1
  have hr := hK.2.2.2.2.2.2.1
  refine va_mmin (rest := rest.map (cv (kG K))) hK.1 hK.2.1 (by rw [hK.2.2.1, hls.1]; exact hL.symm) hK.2.2.2.1 (hts _ h1) (hts _ h2) (hts _ h3) (hts _ h4) (by omega) (by rw [cat_map]; omega) (by omega) (by omega) hd ?_
  have e : (if Int32.ofInt (y : Int) < Int32.ofInt (x : Int) then Int32.ofInt (y : Int) else Int32.ofInt (x : Int)) = Int32.ofInt ((min x y : Nat) : Int) := by
    have hlt := i_lt (a := (y : Int)) (b := (x : Int)) ⟨by omega, by omega⟩ ⟨by omega, by omega⟩
    by_cases c : y < x
    · rw [if_pos (hlt.mpr (by omega)), Nat.min_eq_right (by omega)]
    · rw [if_neg (fun q => c (by have := hlt.mp q; omega)), Nat.min_eq_left (by omega)]
  first
    | rw [e]; exact kk H locs ls hH hS hls
    | exact trivial
end R2
