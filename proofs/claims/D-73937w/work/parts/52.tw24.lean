set_option maxRecDepth 100000 
/-! ===== the reference: its making ===== -/
section
variable {K : KT} {own : String} {cc : ByteArray} {nL d U pc : Nat} {L : List (Option Value)} {st rest : List Value} {n : Nat} {f : Hp} {u : Nat} {P : Pt_} {y : MethodName} {cc' : ByteArray} {nL' : Nat} {rt' : Option FieldType} {d' U' idx n1 : Nat} {f1 : Hp} {v : Value}
theorem r_callS7 {x0 x1 x2 x3 x4 x5 x6 : Value} (hK : Gd K own cc nL d U) (hC : Ct (kG K) (kRel K) y cc' nL' rt' d' U' [x0, x1, x2, x3, x4, x5, x6] n f P) (hl : LkS own idx y cc' nL' rt' 7) (hd : decode cc pc = .ok (.invokestatic idx, 3)) (kk : ∀ r n' f', P r n' f' → Wx K (pc + 3) L (r.toList ++ rest) n' f' (u + U')) (hL : L.length = nL := by rfl) (hdp : d' + 1 ≤ d := by decide) (hnl : nL' ≤ 45 := by decide) (hu : u + U' ≤ U := by decide) (hcat : catS rest ≤ 8 := by exact Nat.le_of_ble_eq_true rfl) : Wx K pc L (x6 :: x5 :: x4 :: x3 :: x2 :: x1 :: x0 :: rest) n f u := g_callS hK hC hl hd kk rfl rfl hL hdp hnl hu hcat
theorem r_pS7 {x0 x1 x2 x3 x4 x5 x6 : Value} (hK : Gd K own cc nL d U) (hC : Ct (kG K) (kRel K) y cc' nL' rt' d' 0 [x0, x1, x2, x3, x4, x5, x6] n f (Pu v n1 f1)) (hl : LkS own idx y cc' nL' rt' 7) (hd : decode cc pc = .ok (.invokestatic idx, 3)) (kk : Wx K (pc + 3) L (v :: rest) n1 f1 u) (hL : L.length = nL := by rfl) (hdp : d' + 1 ≤ d := by decide) (hnl : nL' ≤ 45 := by decide) (hu : u + 0 ≤ U := by omega) (hcat : catS rest ≤ 8 := by exact Nat.le_of_ble_eq_true rfl) : Wx K pc L (x6 :: x5 :: x4 :: x3 :: x2 :: x1 :: x0 :: rest) n f u := r_callS7 hK hC hl hd (fun r n' f' hp => by obtain ⟨rfl, rfl, rfl⟩ := hp; exact kk) hL hdp hnl hu hcat
/-- all arrays are zeros -/
def A0z : Nat → Nat → Nat := fun _ _ => 0
/-- the reference while it is made: its fields, c arrays -/
def twi (fl : List Value) (c : Nat) (f0 : Hp) : Hp := fun id => if id < 358 then f0 id else if id = 358 then some (.inl (9, fl)) else if id < 359 + c then twC A0z (id - 359) else f0 id
theorem twi_obj {fl : List Value} {c : Nat} {f0 : Hp} : twi fl c f0 358 = some (.inl (9, fl)) := by
  unfold twi; rw [if_neg (by decide), if_pos rfl]
theorem twi_put {fl l : List Value} {c : Nat} {f0 : Hp} : up (twi fl c f0) 358 (.inl (9, l)) = twi l c f0 := by
  funext id
  unfold up twi
  by_cases h : id = 358
  · subst h; rw [if_pos rfl, if_neg (by decide), if_pos rfl]
  · rw [if_neg h, if_neg h, if_neg h]
theorem twi_new {fl : List Value} {c : Nat} {f0 : Hp} {e : E_} (he : twC A0z c = some e) : up (twi fl c f0) (359 + c) e = twi fl (c + 1) f0 := by
  funext id
  unfold up twi
  by_cases h : id = 359 + c
  · subst h
    rw [if_pos rfl, if_neg (by omega), if_neg (by omega), if_pos (by omega), show 359 + c - 359 = c by omega, he]
  · rw [if_neg h]
    by_cases h1 : id < 358
    · rw [if_pos h1, if_pos h1]
    · rw [if_neg h1, if_neg h1]
      by_cases h2 : id = 358
      · rw [if_pos h2, if_pos h2]
      · rw [if_neg h2, if_neg h2]
        by_cases h3 : id < 359 + c
        · rw [if_pos h3, if_pos (by omega)]
        · rw [if_neg h3, if_neg (by omega)]
theorem twi_end {F : Nat → Nat} {f0 : Hp} : twi (twF F) 33 f0 = tw f0 F A0z := by
  funext id
  unfold twi tw
  by_cases h1 : id < 358
  · rw [if_pos h1, if_pos h1]
  · rw [if_neg h1, if_neg h1]
    by_cases h2 : id = 358
    · subst h2; rw [if_pos rfl, if_neg (by decide), if_pos rfl]
    · rw [if_neg h2, if_neg h2]
      by_cases h3 : id < 359 + 33
      · rw [if_pos h3, if_neg (by omega)]
      · rw [if_neg h3, if_pos (by omega)]
theorem i_new {N ty c : Nat} (w : Nat) {atype : ArrayType} {v0 : Value} {fl : List Value} {f0 : Hp} (hK : Gd K own cc nL d U) (hq : Cond.arrayClass (newarray.typeOf atype) ∈ lw_all) (hd : decode cc pc = .ok (.newarray atype, 2)) (hu : u + w ≤ U) (he : twC A0z c = some (.inr (ty, N, fun _ => v0))) (kk : Wx K (pc + 2) L (.ref (359 + c) :: st) (359 + (c + 1)) (twi fl (c + 1) f0) (u + w)) (hty : (newarray.typeOf atype = tyA ty ∧ defaultValue (tyA ty) = v0 ∧ ty < 5) := by exact ⟨rfl, rfl, by decide⟩) (hw : 1 ≤ w ∧ N ≤ 12 * w := by decide) (hN : N < 67108864 := by decide) : Wx K pc L (zI (N : Int) :: st) (359 + c) (twi fl c f0) u :=
  r_newarr w hK hq hd hu (by rw [twi_new he]; exact kk) hty hw hN
theorem i_put {idx k c : Nat} {fl : List Value} {v : Value} {f0 : Hp} (hK : Gd K own cc nL d U) (hF : Fl own idx 9 k) (hd : decode cc pc = .ok (.putfield idx, 3)) (kk : Wx K (pc + 3) L st n (twi (fl.set k v) c f0) u) (hl : k < fl.length) (hfin : (∃ r, cls[9]? = some r ∧ ((r.2.1 k).2.2.2 = false ∨ ((kme K).name = "<init>" ∧ (r.2.1 k).1 = own)))) (hfit : narrow (tyC 9 k) (cv (kG K) v) = cv (kG K) v ∧ fits (tyC 9 k) (cv (kG K) v) = true := by exact ⟨rfl, rfl⟩) : Wx K pc L (v :: .ref 358 :: st) n (twi fl c f0) u :=
  r_put hK hF hd twi_obj hl (by rw [twi_put]; exact kk) hfin hfit
theorem i_end {fl : List Value} {F : Nat → Nat} {f0 : Hp} (h : fl = twF F) (kk : Wx K pc L st 392 (tw f0 F A0z) u) : Wx K pc L st (359 + 33) (twi fl 33 f0) u := by
  rw [h, twi_end]; exact kk
end
set_option maxHeartbeats 4000000 in
theorem ct_letters {G : GT} {Rel : Nat → Hp → Hp → Prop} (hR : RelOK Rel) {n : Nat} {f : Hp} {a b c d e g h : Nat} (ha : a = 0 ∨ isL a) (hb : b = 0 ∨ isL b) (hc : c = 0 ∨ isL c) (hd : d = 0 ∨ isL d) (he : e = 0 ∨ isL e) (hg : g = 0 ∨ isL g) (hh : h = 0 ∨ isL h) : Ct G Rel yX9_letters cX9_letters 7 (some .long) (2) (0) [zI (a : Int), zI (b : Int), zI (c : Int), zI (d : Int), zI (e : Int), zI (g : Int), zI (h : Int)] n (f) (Pu (zL ((apN (apN (apN (apN (apN (apN (apN 0 a) b) c) d) e) g) h : Nat) : Int)) n f) := by
  refine ct_intro [some (zI (a : Int)), some (zI (b : Int)), some (zI (c : Int)), some (zI (d : Int)), some (zI (e : Int)), some (zI (g : Int)), some (zI (h : Int))] hR rfl (Nat.le_of_ble_eq_true rfl) ?_
  intro K hG hRel hK hRt hnm
  refine r_lconst_0 hK dX9_letters_0 ?_
  rw [show zL 0 = zL ((0 : Nat) : Int) from rfl]
  refine r_iload_0 hK dX9_letters_1 ?_
  refine r_pS2 hK (ct_appends hK.rel ha) lk_X9_139 dX9_letters_2 ?_
  refine r_iload_1 hK dX9_letters_5 ?_
  refine r_pS2 hK (ct_appends hK.rel hb) lk_X9_139 dX9_letters_6 ?_
  refine r_iload_2 hK dX9_letters_9 ?_
  refine r_pS2 hK (ct_appends hK.rel hc) lk_X9_139 dX9_letters_10 ?_
  refine r_iload_3 hK dX9_letters_13 ?_
  refine r_pS2 hK (ct_appends hK.rel hd) lk_X9_139 dX9_letters_14 ?_
  refine r_iload_4 hK dX9_letters_17 ?_
  refine r_pS2 hK (ct_appends hK.rel he) lk_X9_139 dX9_letters_19 ?_
  refine r_iload_5 hK dX9_letters_22 ?_
  refine r_pS2 hK (ct_appends hK.rel hg) lk_X9_139 dX9_letters_24 ?_
  refine r_iload_6 hK dX9_letters_27 ?_
  refine r_pS2 hK (ct_appends hK.rel hh) lk_X9_139 dX9_letters_29 ?_
  exact r_lret hK hRt dX9_letters_32 ⟨rfl, rfl, rfl⟩
def F0c : Nat → Nat := fun k => if k = 16 ∨ k = 48 then 999999999 else 0
def fl0 : List Value := [zI 0, .null, zI 0, .null, zI 0, .null, .null, .null, .null, .null, zI 0, zI 0, zI 0, zI 0, zI 0, zI 0, zI 0, zI 0, .null, zI 0, zI 0, .null, zI 0, zI 0, .null, zI 0, zI 0, .null, .null, .null, .null, zI 0, zI 0, .null, .null, .null, .null, .null, zI 0, .null, .null, zI 0, zI 0, .null, .null, .null, .null, .null, zI 0, .null, .null, .null, .null, .null, .null, .null]
set_option maxHeartbeats 4000000 in
theorem ct_init9 {G : GT} {Rel : Nat → Hp → Hp → Prop} (hR : RelOK Rel) {f0 : Hp} : Ct G Rel yX9_init cX9_init 1 none (3) (8000) [.ref 358] 359 (twi fl0 0 f0) (Tv 392 f0 (fun F' A' => F' = F0c ∧ (∀ a, a ≠ 6 → a ≠ 7 → ∀ i, A' a i = 0) ∧ (∀ k, k < 4 → A' 6 k = keyN k) ∧ A' 7 0 = 1 ∧ A' 7 1 = 1 ∧ A' 7 2 = 5 ∧ A' 7 3 = 13)) := by
  refine ct_intro [some (.ref 358)] hR rfl (Nat.le_of_ble_eq_true rfl) ?_
  intro K hG hRel hK hRt hnm
  have j287 : ∀ u, u ≤ 8000 → Wx K 287 [some (.ref 358)] [] 392 (tw f0 F0c A0z) u := by
    intro u hu
    refine r_aload_0 hK dX9_init_287 ?_
    refine r_get hK fl_X9_34 dX9_init_288 tw_obj rfl ?_
    refine r_iconstN (c := 0) hK dX9_init_291 ?_
    refine r_bipushN (c := 119) hK dX9_init_292 ?_
    refine r_bipushN (c := 105) hK dX9_init_294 ?_
    refine r_bipushN (c := 114) hK dX9_init_296 ?_
    refine r_bipushN (c := 101) hK dX9_init_298 ?_
    refine r_iconstN (c := 0) hK dX9_init_300 ?_
    refine r_iconstN (c := 0) hK dX9_init_301 ?_
    refine r_iconstN (c := 0) hK dX9_init_302 ?_
    refine r_pS7 hK (ct_letters hK.rel (by decide) (by decide) (by decide) (by decide) (by decide) (by decide) (by decide)) lk_X9_123 dX9_init_303 ?_
    refine t_lst hK dX9_init_306 (show _ < 4 by omega) ?_
    refine r_aload_0 hK dX9_init_307 ?_
    refine r_get hK fl_X9_34 dX9_init_308 tw_obj rfl ?_
    refine r_iconstN (c := 1) hK dX9_init_311 ?_
    refine r_bipushN (c := 103) hK dX9_init_312 ?_
    refine r_bipushN (c := 97) hK dX9_init_314 ?_
    refine r_bipushN (c := 116) hK dX9_init_316 ?_
    refine r_bipushN (c := 101) hK dX9_init_318 ?_
    refine r_iconstN (c := 0) hK dX9_init_320 ?_
    refine r_iconstN (c := 0) hK dX9_init_321 ?_
    refine r_iconstN (c := 0) hK dX9_init_322 ?_
    refine r_pS7 hK (ct_letters hK.rel (by decide) (by decide) (by decide) (by decide) (by decide) (by decide) (by decide)) lk_X9_123 dX9_init_323 ?_
    refine t_lst hK dX9_init_326 (show _ < 4 by omega) ?_
    refine r_aload_0 hK dX9_init_327 ?_
    refine r_get hK fl_X9_34 dX9_init_328 tw_obj rfl ?_
    refine r_iconstN (c := 2) hK dX9_init_331 ?_
    refine r_bipushN (c := 112) hK dX9_init_332 ?_
    refine r_bipushN (c := 114) hK dX9_init_334 ?_
    refine r_bipushN (c := 105) hK dX9_init_336 ?_
    refine r_bipushN (c := 99) hK dX9_init_338 ?_
    refine r_bipushN (c := 101) hK dX9_init_340 ?_
    refine r_iconstN (c := 0) hK dX9_init_342 ?_
    refine r_iconstN (c := 0) hK dX9_init_343 ?_
    refine r_pS7 hK (ct_letters hK.rel (by decide) (by decide) (by decide) (by decide) (by decide) (by decide) (by decide)) lk_X9_123 dX9_init_344 ?_
    refine t_lst hK dX9_init_347 (show _ < 4 by omega) ?_
    refine r_aload_0 hK dX9_init_348 ?_
    refine r_get hK fl_X9_34 dX9_init_349 tw_obj rfl ?_
    refine r_iconstN (c := 3) hK dX9_init_352 ?_
    refine r_bipushN (c := 116) hK dX9_init_353 ?_
    refine r_bipushN (c := 97) hK dX9_init_355 ?_
    refine r_bipushN (c := 98) hK dX9_init_357 ?_
    refine r_bipushN (c := 108) hK dX9_init_359 ?_
    refine r_bipushN (c := 101) hK dX9_init_361 ?_
    refine r_iconstN (c := 0) hK dX9_init_363 ?_
    refine r_iconstN (c := 0) hK dX9_init_364 ?_
    refine r_pS7 hK (ct_letters hK.rel (by decide) (by decide) (by decide) (by decide) (by decide) (by decide) (by decide)) lk_X9_123 dX9_init_365 ?_
    refine t_lst hK dX9_init_368 (show _ < 4 by omega) ?_
    refine r_aload_0 hK dX9_init_369 ?_
    refine r_get hK fl_X9_40 dX9_init_370 tw_obj rfl ?_
    refine r_iconstN (c := 0) hK dX9_init_373 ?_
    refine r_iconstN (c := 1) hK dX9_init_374 ?_
    refine t_ist hK dX9_init_375 (show _ < 4 by omega) ?_
    refine r_aload_0 hK dX9_init_376 ?_
    refine r_get hK fl_X9_40 dX9_init_377 tw_obj rfl ?_
    refine r_iconstN (c := 1) hK dX9_init_380 ?_
    refine r_iconstN (c := 1) hK dX9_init_381 ?_
    refine t_ist hK dX9_init_382 (show _ < 4 by omega) ?_
    refine r_aload_0 hK dX9_init_383 ?_
    refine r_get hK fl_X9_40 dX9_init_384 tw_obj rfl ?_
    refine r_iconstN (c := 2) hK dX9_init_387 ?_
    refine r_iconstN (c := 5) hK dX9_init_388 ?_
    refine t_ist hK dX9_init_389 (show _ < 4 by omega) ?_
    refine r_aload_0 hK dX9_init_390 ?_
    refine r_get hK fl_X9_40 dX9_init_391 tw_obj rfl ?_
    refine r_iconstN (c := 3) hK dX9_init_394 ?_
    refine r_bipushN (c := 13) hK dX9_init_395 ?_
    refine t_ist hK dX9_init_397 (show _ < 4 by omega) ?_
    refine r_vret hK hRt dX9_init_398 ⟨rfl, rfl, _, _, rfl, rfl, fun a a1 a2 i => ?_, fun k hk => ?_, ?_, ?_, ?_, ?_⟩ hu
    · rw [upA_j a2, upA_j a2, upA_j a2, upA_j a2, upA_j a1, upA_j a1, upA_j a1, upA_j a1]; rfl
    · rw [upA_j (by decide), upA_j (by decide), upA_j (by decide), upA_j (by decide)]
      have h4 : k = 0 ∨ k = 1 ∨ k = 2 ∨ k = 3 := by omega
      rcases h4 with q | q | q | q
      · subst q; rw [upA_n (by decide), upA_n (by decide), upA_n (by decide), upA_s]; decide
      · subst q; rw [upA_n (by decide), upA_n (by decide), upA_s]; decide
      · subst q; rw [upA_n (by decide), upA_s]; decide
      · subst q; rw [upA_s]; decide
    · rw [upA_n (by decide), upA_n (by decide), upA_n (by decide), upA_s]
    · rw [upA_n (by decide), upA_n (by decide), upA_s]
    · rw [upA_n (by decide), upA_s]
    · rw [upA_s]
  refine r_aload_0 hK dX9_init_0 ?_
  refine r_objInit hK oi_X9_7 dX9_init_1 ?_
  refine r_aload_0 hK dX9_init_4 ?_
  refine r_sipushN (c := 2000) hK dX9_init_5 ?_
  refine i_new (c := 0) (N := 2000) (atype := .byte) (ty := 1) 167 hK q262 dX9_init_8 (Nat.le_of_ble_eq_true rfl) rfl ?_
  refine i_put hK fl_X9_13 dX9_init_10 ?_ (by decide) ⟨_, rfl, Or.inr ⟨hnm, rfl⟩⟩
  refine r_aload_0 hK dX9_init_13 ?_
  refine r_sipushN (c := 2000) hK dX9_init_14 ?_
  refine i_new (c := 1) (N := 2000) (atype := .byte) (ty := 1) 167 hK q262 dX9_init_17 (Nat.le_of_ble_eq_true rfl) rfl ?_
  refine i_put hK fl_X9_17 dX9_init_19 ?_ (by decide) ⟨_, rfl, Or.inr ⟨hnm, rfl⟩⟩
  refine r_aload_0 hK dX9_init_22 ?_
  refine r_sipushN (c := 403) hK dX9_init_23 ?_
  refine i_new (c := 2) (N := 403) (atype := .int) (ty := 0) 34 hK q463 dX9_init_26 (Nat.le_of_ble_eq_true rfl) rfl ?_
  refine i_put hK fl_X9_20 dX9_init_28 ?_ (by decide) ⟨_, rfl, Or.inr ⟨hnm, rfl⟩⟩
  refine r_aload_0 hK dX9_init_31 ?_
  refine r_sipushN (c := 403) hK dX9_init_32 ?_
  refine i_new (c := 3) (N := 403) (atype := .int) (ty := 0) 34 hK q463 dX9_init_35 (Nat.le_of_ble_eq_true rfl) rfl ?_
  refine i_put hK fl_X9_24 dX9_init_37 ?_ (by decide) ⟨_, rfl, Or.inr ⟨hnm, rfl⟩⟩
  refine r_aload_0 hK dX9_init_40 ?_
  refine r_sipushN (c := 403) hK dX9_init_41 ?_
  refine i_new (c := 4) (N := 403) (atype := .int) (ty := 0) 34 hK q463 dX9_init_44 (Nat.le_of_ble_eq_true rfl) rfl ?_
  refine i_put hK fl_X9_27 dX9_init_46 ?_ (by decide) ⟨_, rfl, Or.inr ⟨hnm, rfl⟩⟩
  refine r_aload_0 hK dX9_init_49 ?_
  refine r_sipushN (c := 403) hK dX9_init_50 ?_
  refine i_new (c := 5) (N := 403) (atype := .long) (ty := 3) 34 hK q588 dX9_init_53 (Nat.le_of_ble_eq_true rfl) rfl ?_
  refine i_put hK fl_X9_30 dX9_init_55 ?_ (by decide) ⟨_, rfl, Or.inr ⟨hnm, rfl⟩⟩
  refine r_aload_0 hK dX9_init_58 ?_
  refine r_iconstN (c := 4) hK dX9_init_59 ?_
  refine i_new (c := 6) (N := 4) (atype := .long) (ty := 3) 1 hK q588 dX9_init_60 (Nat.le_of_ble_eq_true rfl) rfl ?_
  refine i_put hK fl_X9_34 dX9_init_62 ?_ (by decide) ⟨_, rfl, Or.inr ⟨hnm, rfl⟩⟩
  refine r_aload_0 hK dX9_init_65 ?_
  refine r_iconst hK dX9_init_66 ?_
  refine i_put hK fl_X9_37 dX9_init_67 ?_ (by decide) ⟨_, rfl, Or.inr ⟨hnm, rfl⟩⟩
  refine r_aload_0 hK dX9_init_70 ?_
  refine r_iconstN (c := 4) hK dX9_init_71 ?_
  refine i_new (c := 7) (N := 4) (atype := .int) (ty := 0) 1 hK q463 dX9_init_72 (Nat.le_of_ble_eq_true rfl) rfl ?_
  refine i_put hK fl_X9_40 dX9_init_74 ?_ (by decide) ⟨_, rfl, Or.inr ⟨hnm, rfl⟩⟩
  refine r_aload_0 hK dX9_init_77 ?_
  refine r_bipushN (c := 8) hK dX9_init_78 ?_
  refine i_new (c := 8) (N := 8) (atype := .int) (ty := 0) 1 hK q463 dX9_init_80 (Nat.le_of_ble_eq_true rfl) rfl ?_
  refine i_put hK fl_X9_43 dX9_init_82 ?_ (by decide) ⟨_, rfl, Or.inr ⟨hnm, rfl⟩⟩
  refine r_aload_0 hK dX9_init_85 ?_
  refine r_iconstN (c := 4) hK dX9_init_86 ?_
  refine i_new (c := 9) (N := 4) (atype := .int) (ty := 0) 1 hK q463 dX9_init_87 (Nat.le_of_ble_eq_true rfl) rfl ?_
  refine i_put hK fl_X9_46 dX9_init_89 ?_ (by decide) ⟨_, rfl, Or.inr ⟨hnm, rfl⟩⟩
  refine r_aload_0 hK dX9_init_92 ?_
  refine r_bipushN (c := 8) hK dX9_init_93 ?_
  refine i_new (c := 10) (N := 8) (atype := .int) (ty := 0) 1 hK q463 dX9_init_95 (Nat.le_of_ble_eq_true rfl) rfl ?_
  refine i_put hK fl_X9_49 dX9_init_97 ?_ (by decide) ⟨_, rfl, Or.inr ⟨hnm, rfl⟩⟩
  refine r_aload_0 hK dX9_init_100 ?_
  refine r_bipushN (c := 49) hK dX9_init_101 ?_
  refine i_new (c := 11) (N := 49) (atype := .int) (ty := 0) 5 hK q463 dX9_init_103 (Nat.le_of_ble_eq_true rfl) rfl ?_
  refine i_put hK fl_X9_52 dX9_init_105 ?_ (by decide) ⟨_, rfl, Or.inr ⟨hnm, rfl⟩⟩
  refine r_aload_0 hK dX9_init_108 ?_
  refine r_bipushN (c := 49) hK dX9_init_109 ?_
  refine i_new (c := 12) (N := 49) (atype := .int) (ty := 0) 5 hK q463 dX9_init_111 (Nat.le_of_ble_eq_true rfl) rfl ?_
  refine i_put hK fl_X9_55 dX9_init_113 ?_ (by decide) ⟨_, rfl, Or.inr ⟨hnm, rfl⟩⟩
  refine r_aload_0 hK dX9_init_116 ?_
  refine r_sipushN (c := 1960) hK dX9_init_117 ?_
  refine i_new (c := 13) (N := 1960) (atype := .int) (ty := 0) 164 hK q463 dX9_init_120 (Nat.le_of_ble_eq_true rfl) rfl ?_
  refine i_put hK fl_X9_58 dX9_init_122 ?_ (by decide) ⟨_, rfl, Or.inr ⟨hnm, rfl⟩⟩
  refine r_aload_0 hK dX9_init_125 ?_
  refine r_sipushN (c := 147) hK dX9_init_126 ?_
  refine i_new (c := 14) (N := 147) (atype := .int) (ty := 0) 13 hK q463 dX9_init_129 (Nat.le_of_ble_eq_true rfl) rfl ?_
  refine i_put hK fl_X9_61 dX9_init_131 ?_ (by decide) ⟨_, rfl, Or.inr ⟨hnm, rfl⟩⟩
  refine r_aload_0 hK dX9_init_134 ?_
  refine r_iconstN (c := 3) hK dX9_init_135 ?_
  refine i_new (c := 15) (N := 3) (atype := .boolean) (ty := 4) 1 hK q2274 dX9_init_136 (Nat.le_of_ble_eq_true rfl) rfl ?_
  refine i_put hK fl_X9_64 dX9_init_138 ?_ (by decide) ⟨_, rfl, Or.inr ⟨hnm, rfl⟩⟩
  refine r_aload_0 hK dX9_init_141 ?_
  refine r_bipushN (c := 64) hK dX9_init_142 ?_
  refine i_new (c := 16) (N := 64) (atype := .int) (ty := 0) 6 hK q463 dX9_init_144 (Nat.le_of_ble_eq_true rfl) rfl ?_
  refine i_put hK fl_X9_68 dX9_init_146 ?_ (by decide) ⟨_, rfl, Or.inr ⟨hnm, rfl⟩⟩
  refine r_aload_0 hK dX9_init_149 ?_
  refine r_bipushN (c := 16) hK dX9_init_150 ?_
  refine i_new (c := 17) (N := 16) (atype := .int) (ty := 0) 2 hK q463 dX9_init_152 (Nat.le_of_ble_eq_true rfl) rfl ?_
  refine i_put hK fl_X9_71 dX9_init_154 ?_ (by decide) ⟨_, rfl, Or.inr ⟨hnm, rfl⟩⟩
  refine r_aload_0 hK dX9_init_157 ?_
  refine r_bipushN (c := 49) hK dX9_init_158 ?_
  refine i_new (c := 18) (N := 49) (atype := .int) (ty := 0) 5 hK q463 dX9_init_160 (Nat.le_of_ble_eq_true rfl) rfl ?_
  refine i_put hK fl_X9_74 dX9_init_162 ?_ (by decide) ⟨_, rfl, Or.inr ⟨hnm, rfl⟩⟩
  refine r_aload_0 hK dX9_init_165 ?_
  refine r_sipushN (c := 800) hK dX9_init_166 ?_
  refine i_new (c := 19) (N := 800) (atype := .int) (ty := 0) 67 hK q463 dX9_init_169 (Nat.le_of_ble_eq_true rfl) rfl ?_
  refine i_put hK fl_X9_77 dX9_init_171 ?_ (by decide) ⟨_, rfl, Or.inr ⟨hnm, rfl⟩⟩
  refine r_aload_0 hK dX9_init_174 ?_
  refine r_sipushN (c := 800) hK dX9_init_175 ?_
  refine i_new (c := 20) (N := 800) (atype := .int) (ty := 0) 67 hK q463 dX9_init_178 (Nat.le_of_ble_eq_true rfl) rfl ?_
  refine i_put hK fl_X9_80 dX9_init_180 ?_ (by decide) ⟨_, rfl, Or.inr ⟨hnm, rfl⟩⟩
  refine r_aload_0 hK dX9_init_183 ?_
  refine r_sipushN (c := 400) hK dX9_init_184 ?_
  refine i_new (c := 21) (N := 400) (atype := .int) (ty := 0) 34 hK q463 dX9_init_187 (Nat.le_of_ble_eq_true rfl) rfl ?_
  refine i_put hK fl_X9_83 dX9_init_189 ?_ (by decide) ⟨_, rfl, Or.inr ⟨hnm, rfl⟩⟩
  refine r_aload_0 hK dX9_init_192 ?_
  refine r_sipushN (c := 400) hK dX9_init_193 ?_
  refine i_new (c := 22) (N := 400) (atype := .int) (ty := 0) 34 hK q463 dX9_init_196 (Nat.le_of_ble_eq_true rfl) rfl ?_
  refine i_put hK fl_X9_86 dX9_init_198 ?_ (by decide) ⟨_, rfl, Or.inr ⟨hnm, rfl⟩⟩
  refine r_aload_0 hK dX9_init_201 ?_
  refine r_sipushN (c := 400) hK dX9_init_202 ?_
  refine i_new (c := 23) (N := 400) (atype := .int) (ty := 0) 34 hK q463 dX9_init_205 (Nat.le_of_ble_eq_true rfl) rfl ?_
  refine i_put hK fl_X9_89 dX9_init_207 ?_ (by decide) ⟨_, rfl, Or.inr ⟨hnm, rfl⟩⟩
  refine r_aload_0 hK dX9_init_210 ?_
  refine r_sipushN (c := 400) hK dX9_init_211 ?_
  refine i_new (c := 24) (N := 400) (atype := .int) (ty := 0) 34 hK q463 dX9_init_214 (Nat.le_of_ble_eq_true rfl) rfl ?_
  refine i_put hK fl_X9_92 dX9_init_216 ?_ (by decide) ⟨_, rfl, Or.inr ⟨hnm, rfl⟩⟩
  refine r_aload_0 hK dX9_init_219 ?_
  refine r_bipushN (c := 64) hK dX9_init_220 ?_
  refine i_new (c := 25) (N := 64) (atype := .int) (ty := 0) 6 hK q463 dX9_init_222 (Nat.le_of_ble_eq_true rfl) rfl ?_
  refine i_put hK fl_X9_95 dX9_init_224 ?_ (by decide) ⟨_, rfl, Or.inr ⟨hnm, rfl⟩⟩
  refine r_aload_0 hK dX9_init_227 ?_
  refine r_iconst hK dX9_init_228 ?_
  refine i_put hK fl_X9_98 dX9_init_229 ?_ (by decide) ⟨_, rfl, Or.inr ⟨hnm, rfl⟩⟩
  refine r_aload_0 hK dX9_init_232 ?_
  refine r_ldcN (c := 40320) hK q2098 dX9_init_233 (by decide +kernel) ?_
  refine i_new (c := 26) (N := 40320) (atype := .int) (ty := 0) 3360 hK q463 dX9_init_235 (Nat.le_of_ble_eq_true rfl) rfl ?_
  refine i_put hK fl_X9_102 dX9_init_237 ?_ (by decide) ⟨_, rfl, Or.inr ⟨hnm, rfl⟩⟩
  refine r_aload_0 hK dX9_init_240 ?_
  refine r_ldcN (c := 40320) hK q2098 dX9_init_241 (by decide +kernel) ?_
  refine i_new (c := 27) (N := 40320) (atype := .int) (ty := 0) 3360 hK q463 dX9_init_243 (Nat.le_of_ble_eq_true rfl) rfl ?_
  refine i_put hK fl_X9_105 dX9_init_245 ?_ (by decide) ⟨_, rfl, Or.inr ⟨hnm, rfl⟩⟩
  refine r_aload_0 hK dX9_init_248 ?_
  refine r_bipushN (c := 8) hK dX9_init_249 ?_
  refine i_new (c := 28) (N := 8) (atype := .int) (ty := 0) 1 hK q463 dX9_init_251 (Nat.le_of_ble_eq_true rfl) rfl ?_
  refine i_put hK fl_X9_108 dX9_init_253 ?_ (by decide) ⟨_, rfl, Or.inr ⟨hnm, rfl⟩⟩
  refine r_aload_0 hK dX9_init_256 ?_
  refine r_bipushN (c := 8) hK dX9_init_257 ?_
  refine i_new (c := 29) (N := 8) (atype := .int) (ty := 0) 1 hK q463 dX9_init_259 (Nat.le_of_ble_eq_true rfl) rfl ?_
  refine i_put hK fl_X9_111 dX9_init_261 ?_ (by decide) ⟨_, rfl, Or.inr ⟨hnm, rfl⟩⟩
  refine r_aload_0 hK dX9_init_264 ?_
  refine r_iconstN (c := 4) hK dX9_init_265 ?_
  refine i_new (c := 30) (N := 4) (atype := .int) (ty := 0) 1 hK q463 dX9_init_266 (Nat.le_of_ble_eq_true rfl) rfl ?_
  refine i_put hK fl_X9_114 dX9_init_268 ?_ (by decide) ⟨_, rfl, Or.inr ⟨hnm, rfl⟩⟩
  refine r_aload_0 hK dX9_init_271 ?_
  refine r_bipushN (c := 16) hK dX9_init_272 ?_
  refine i_new (c := 31) (N := 16) (atype := .int) (ty := 0) 2 hK q463 dX9_init_274 (Nat.le_of_ble_eq_true rfl) rfl ?_
  refine i_put hK fl_X9_117 dX9_init_276 ?_ (by decide) ⟨_, rfl, Or.inr ⟨hnm, rfl⟩⟩
  refine r_aload_0 hK dX9_init_279 ?_
  refine r_bipushN (c := 64) hK dX9_init_280 ?_
  refine i_new (c := 32) (N := 64) (atype := .boolean) (ty := 4) 6 hK q2274 dX9_init_282 (Nat.le_of_ble_eq_true rfl) rfl ?_
  refine i_put hK fl_X9_120 dX9_init_284 ?_ (by decide) ⟨_, rfl, Or.inr ⟨hnm, rfl⟩⟩
  exact i_end rfl (j287 _ (Nat.le_of_ble_eq_true rfl))
