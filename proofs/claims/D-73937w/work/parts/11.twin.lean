set_option maxRecDepth 100000
/-! ===== the reference (BackLogicModel) as one object, id 358, and its 33 arrays, ids 359 .. 391: its cells by naturals (fields F, arrays A) ===== -/
/-- a byte as it is read -/
def sx (b : Nat) : Int := if b < 128 then (b : Int) else (b : Int) - 256
/-- a number, or -1 -/
def dz (x : Nat) : Int := if x = 999999999 then -1 else (x : Int)
theorem dz_n {x : Nat} (h : x < 999999999) : dz x = (x : Int) := by unfold dz; rw [if_neg (by omega)]
theorem dz_m : dz 999999999 = -1 := rfl
def twF (F : Nat → Nat) : List Value := [zI (F 0 : Int), .ref 359, zI (F 2 : Int), .ref 360, zI (F 4 : Int), .ref 361, .ref 362, .ref 363, .ref 364, .ref 365, zI (F 10 : Int), zI (F 11 : Int), zI (F 12 : Int), zI (F 13 : Int), zI (F 14 : Int), zI (F 15 : Int), zI (dz (F 16)), zI (F 17 : Int), .ref 366, zI (F 19 : Int), zI (F 20 : Int), .ref 367, zI (F 22 : Int), zI (F 23 : Int), .ref 368, zI (F 25 : Int), zI (F 26 : Int), .ref 369, .ref 370, .ref 371, .ref 372, zI (F 31 : Int), zI (F 32 : Int), .ref 373, .ref 374, .ref 375, .ref 376, .ref 377, zI (F 38 : Int), .ref 378, .ref 379, zI (F 41 : Int), zI (F 42 : Int), .ref 380, .ref 381, .ref 382, .ref 383, .ref 384, zI (dz (F 48)), .ref 385, .ref 386, .ref 387, .ref 388, .ref 389, .ref 390, .ref 391]
def twl : Nat → Nat := fun j => match j with
  | 0 => 2000
  | 1 => 2000
  | 2 => 403
  | 3 => 403
  | 4 => 403
  | 5 => 403
  | 6 => 4
  | 7 => 4
  | 8 => 8
  | 9 => 4
  | 10 => 8
  | 11 => 49
  | 12 => 49
  | 13 => 1960
  | 14 => 147
  | 15 => 3
  | 16 => 64
  | 17 => 16
  | 18 => 49
  | 19 => 800
  | 20 => 800
  | 21 => 400
  | 22 => 400
  | 23 => 400
  | 24 => 400
  | 25 => 64
  | 26 => 40320
  | 27 => 40320
  | 28 => 8
  | 29 => 8
  | 30 => 4
  | 31 => 16
  | 32 => 64
  | _ => 0
def twC (A : Nat → Nat → Nat) : Nat → Option E_ := fun j => match j with
  | 0 => some (.inr (1, 2000, fun i => zI (sx (A 0 i))))
  | 1 => some (.inr (1, 2000, fun i => zI (sx (A 1 i))))
  | 2 => some (.inr (0, 403, fun i => zI (A 2 i : Int)))
  | 3 => some (.inr (0, 403, fun i => zI (A 3 i : Int)))
  | 4 => some (.inr (0, 403, fun i => zI (A 4 i : Int)))
  | 5 => some (.inr (3, 403, fun i => zL (A 5 i : Int)))
  | 6 => some (.inr (3, 4, fun i => zL (A 6 i : Int)))
  | 7 => some (.inr (0, 4, fun i => zI (A 7 i : Int)))
  | 8 => some (.inr (0, 8, fun i => zI (A 8 i : Int)))
  | 9 => some (.inr (0, 4, fun i => zI (A 9 i : Int)))
  | 10 => some (.inr (0, 8, fun i => zI (A 10 i : Int)))
  | 11 => some (.inr (0, 49, fun i => zI (A 11 i : Int)))
  | 12 => some (.inr (0, 49, fun i => zI (dz (A 12 i))))
  | 13 => some (.inr (0, 1960, fun i => zI (A 13 i : Int)))
  | 14 => some (.inr (0, 147, fun i => zI (A 14 i : Int)))
  | 15 => some (.inr (4, 3, fun i => zI (A 15 i : Int)))
  | 16 => some (.inr (0, 64, fun i => zI (A 16 i : Int)))
  | 17 => some (.inr (0, 16, fun i => zI (A 17 i : Int)))
  | 18 => some (.inr (0, 49, fun i => zI (A 18 i : Int)))
  | 19 => some (.inr (0, 800, fun i => zI (A 19 i : Int)))
  | 20 => some (.inr (0, 800, fun i => zI (A 20 i : Int)))
  | 21 => some (.inr (0, 400, fun i => zI (A 21 i : Int)))
  | 22 => some (.inr (0, 400, fun i => zI (A 22 i : Int)))
  | 23 => some (.inr (0, 400, fun i => zI (A 23 i : Int)))
  | 24 => some (.inr (0, 400, fun i => zI (A 24 i : Int)))
  | 25 => some (.inr (0, 64, fun i => zI (A 25 i : Int)))
  | 26 => some (.inr (0, 40320, fun i => zI (A 26 i : Int)))
  | 27 => some (.inr (0, 40320, fun i => zI (A 27 i : Int)))
  | 28 => some (.inr (0, 8, fun i => zI (A 28 i : Int)))
  | 29 => some (.inr (0, 8, fun i => zI (A 29 i : Int)))
  | 30 => some (.inr (0, 4, fun i => zI (A 30 i : Int)))
  | 31 => some (.inr (0, 16, fun i => zI (A 31 i : Int)))
  | 32 => some (.inr (4, 64, fun i => zI (A 32 i : Int)))
  | _ => none
def tw (f0 : Hp) (F : Nat → Nat) (A : Nat → Nat → Nat) : Hp := fun id => if id < 358 then f0 id else if 392 ≤ id then f0 id else if id = 358 then some (.inl (9, twF F)) else twC A (id - 359)
def upF (F : Nat → Nat) (k x : Nat) : Nat → Nat := fun j => if j = k then x else F j
def upA (A : Nat → Nat → Nat) (j i x : Nat) : Nat → Nat → Nat := fun a b => if a = j then (if b = i then x else A a b) else A a b
theorem upF_s (F : Nat → Nat) (k x : Nat) : upF F k x k = x := by simp [upF]
theorem upF_n {F : Nat → Nat} {k x j : Nat} (h : j ≠ k) : upF F k x j = F j := by simp [upF, h]
theorem upA_s (A : Nat → Nat → Nat) (j i x : Nat) : upA A j i x j i = x := by simp [upA]
theorem upA_n {A : Nat → Nat → Nat} {j i x b : Nat} (h : b ≠ i) : upA A j i x j b = A j b := by simp [upA, h]
theorem upA_j {A : Nat → Nat → Nat} {j i x a : Nat} (h : a ≠ j) : upA A j i x a = A a := by funext b; simp [upA, h]
def isNf : Nat → Bool := fun k => match k with
  | 0 => true
  | 2 => true
  | 4 => true
  | 10 => true
  | 11 => true
  | 12 => true
  | 13 => true
  | 14 => true
  | 15 => true
  | 17 => true
  | 19 => true
  | 20 => true
  | 22 => true
  | 23 => true
  | 25 => true
  | 26 => true
  | 31 => true
  | 32 => true
  | 38 => true
  | 41 => true
  | 42 => true
  | _ => false
theorem twF_set (F : Nat → Nat) (x : Nat) : ∀ k, isNf k = true → (twF F).set k (zI (x : Int)) = twF (upF F k x) := by
  intro k hk
  match k, hk with
  | 0, _ => rfl
  | 1, h => exact absurd h (by simp [isNf])
  | 2, _ => rfl
  | 3, h => exact absurd h (by simp [isNf])
  | 4, _ => rfl
  | 5, h => exact absurd h (by simp [isNf])
  | 6, h => exact absurd h (by simp [isNf])
  | 7, h => exact absurd h (by simp [isNf])
  | 8, h => exact absurd h (by simp [isNf])
  | 9, h => exact absurd h (by simp [isNf])
  | 10, _ => rfl
  | 11, _ => rfl
  | 12, _ => rfl
  | 13, _ => rfl
  | 14, _ => rfl
  | 15, _ => rfl
  | 16, h => exact absurd h (by simp [isNf])
  | 17, _ => rfl
  | 18, h => exact absurd h (by simp [isNf])
  | 19, _ => rfl
  | 20, _ => rfl
  | 21, h => exact absurd h (by simp [isNf])
  | 22, _ => rfl
  | 23, _ => rfl
  | 24, h => exact absurd h (by simp [isNf])
  | 25, _ => rfl
  | 26, _ => rfl
  | 27, h => exact absurd h (by simp [isNf])
  | 28, h => exact absurd h (by simp [isNf])
  | 29, h => exact absurd h (by simp [isNf])
  | 30, h => exact absurd h (by simp [isNf])
  | 31, _ => rfl
  | 32, _ => rfl
  | 33, h => exact absurd h (by simp [isNf])
  | 34, h => exact absurd h (by simp [isNf])
  | 35, h => exact absurd h (by simp [isNf])
  | 36, h => exact absurd h (by simp [isNf])
  | 37, h => exact absurd h (by simp [isNf])
  | 38, _ => rfl
  | 39, h => exact absurd h (by simp [isNf])
  | 40, h => exact absurd h (by simp [isNf])
  | 41, _ => rfl
  | 42, _ => rfl
  | 43, h => exact absurd h (by simp [isNf])
  | 44, h => exact absurd h (by simp [isNf])
  | 45, h => exact absurd h (by simp [isNf])
  | 46, h => exact absurd h (by simp [isNf])
  | 47, h => exact absurd h (by simp [isNf])
  | 48, h => exact absurd h (by simp [isNf])
  | 49, h => exact absurd h (by simp [isNf])
  | 50, h => exact absurd h (by simp [isNf])
  | 51, h => exact absurd h (by simp [isNf])
  | 52, h => exact absurd h (by simp [isNf])
  | 53, h => exact absurd h (by simp [isNf])
  | 54, h => exact absurd h (by simp [isNf])
  | 55, h => exact absurd h (by simp [isNf])
  | k + 56, h => exact absurd h (by simp [isNf])
theorem twF_set16 (F : Nat → Nat) (x : Nat) : (twF F).set 16 (zI (dz x)) = twF (upF F 16 x) := rfl
theorem twF_set48 (F : Nat → Nat) (x : Nat) : (twF F).set 48 (zI (dz x)) = twF (upF F 48 x) := rfl
theorem tw_obj {f0 : Hp} {F : Nat → Nat} {A : Nat → Nat → Nat} : tw f0 F A 358 = some (.inl (9, twF F)) := rfl
theorem tw_putF {f0 : Hp} {F F' : Nat → Nat} {A : Nat → Nat → Nat} {l : List Value} (h : twF F' = l) : up (tw f0 F A) 358 (.inl (9, l)) = tw f0 F' A := by
  funext id
  unfold up tw
  by_cases h1 : id = 358
  · subst h1; simp [h]
  · rw [if_neg h1]
    by_cases h2 : id < 358
    · simp [h2]
    · by_cases h3 : 392 ≤ id
      · simp [h2, h3]
      · simp [h2, h3, h1]
theorem tw_putA {f0 : Hp} {F : Nat → Nat} {A A' : Nat → Nat → Nat} {j : Nat} {e : E_} (hj : j < 33) (h : twC A' j = some e) (ho : ∀ a, a ≠ j → twC A' a = twC A a) : up (tw f0 F A) (j + 359) e = tw f0 F A' := by
  funext id
  unfold up tw
  by_cases h1 : id = j + 359
  · subst h1
    rw [if_pos rfl, if_neg (by omega), if_neg (by omega), if_neg (by omega), show j + 359 - 359 = j by omega, h]
  · rw [if_neg h1]
    by_cases h2 : id < 358
    · simp [h2]
    · by_cases h3 : 392 ≤ id
      · simp [h2, h3]
      · by_cases h4 : id = 358
        · simp [h4]
        · simp only [h2, h3, h4, if_false]
          exact (ho (id - 359) (by omega)).symm
theorem twC_other {A : Nat → Nat → Nat} {j i x : Nat} : ∀ a, a ≠ j → twC (upA A j i x) a = twC A a := by
  intro a ha
  have e : (upA A j i x) a = A a := upA_j ha
  match a, ha, e with
  | 0, _, e => simp only [twC, e]
  | 1, _, e => simp only [twC, e]
  | 2, _, e => simp only [twC, e]
  | 3, _, e => simp only [twC, e]
  | 4, _, e => simp only [twC, e]
  | 5, _, e => simp only [twC, e]
  | 6, _, e => simp only [twC, e]
  | 7, _, e => simp only [twC, e]
  | 8, _, e => simp only [twC, e]
  | 9, _, e => simp only [twC, e]
  | 10, _, e => simp only [twC, e]
  | 11, _, e => simp only [twC, e]
  | 12, _, e => simp only [twC, e]
  | 13, _, e => simp only [twC, e]
  | 14, _, e => simp only [twC, e]
  | 15, _, e => simp only [twC, e]
  | 16, _, e => simp only [twC, e]
  | 17, _, e => simp only [twC, e]
  | 18, _, e => simp only [twC, e]
  | 19, _, e => simp only [twC, e]
  | 20, _, e => simp only [twC, e]
  | 21, _, e => simp only [twC, e]
  | 22, _, e => simp only [twC, e]
  | 23, _, e => simp only [twC, e]
  | 24, _, e => simp only [twC, e]
  | 25, _, e => simp only [twC, e]
  | 26, _, e => simp only [twC, e]
  | 27, _, e => simp only [twC, e]
  | 28, _, e => simp only [twC, e]
  | 29, _, e => simp only [twC, e]
  | 30, _, e => simp only [twC, e]
  | 31, _, e => simp only [twC, e]
  | 32, _, e => simp only [twC, e]
  | k + 33, _, _ => rfl
def isIa : Nat → Bool := fun j => decide (j ∈ [2, 3, 4, 7, 8, 9, 10, 11, 13, 14, 16, 17, 18, 19, 20, 21, 22, 23, 24, 25, 26, 27, 28, 29, 30, 31])
theorem twC_ld (A : Nat → Nat → Nat) : ∀ j, isIa j = true → twC A j = some (.inr (0, twl j, fun i => zI (A j i : Int))) ∧ j < 33 ∧ twl j < 2147483648 := by
  intro j hj
  match j, hj with
  | 0, h => exact absurd h (by simp [isIa])
  | 1, h => exact absurd h (by simp [isIa])
  | 2, _ => exact ⟨rfl, by decide, by decide⟩
  | 3, _ => exact ⟨rfl, by decide, by decide⟩
  | 4, _ => exact ⟨rfl, by decide, by decide⟩
  | 5, h => exact absurd h (by simp [isIa])
  | 6, h => exact absurd h (by simp [isIa])
  | 7, _ => exact ⟨rfl, by decide, by decide⟩
  | 8, _ => exact ⟨rfl, by decide, by decide⟩
  | 9, _ => exact ⟨rfl, by decide, by decide⟩
  | 10, _ => exact ⟨rfl, by decide, by decide⟩
  | 11, _ => exact ⟨rfl, by decide, by decide⟩
  | 12, h => exact absurd h (by simp [isIa])
  | 13, _ => exact ⟨rfl, by decide, by decide⟩
  | 14, _ => exact ⟨rfl, by decide, by decide⟩
  | 15, h => exact absurd h (by simp [isIa])
  | 16, _ => exact ⟨rfl, by decide, by decide⟩
  | 17, _ => exact ⟨rfl, by decide, by decide⟩
  | 18, _ => exact ⟨rfl, by decide, by decide⟩
  | 19, _ => exact ⟨rfl, by decide, by decide⟩
  | 20, _ => exact ⟨rfl, by decide, by decide⟩
  | 21, _ => exact ⟨rfl, by decide, by decide⟩
  | 22, _ => exact ⟨rfl, by decide, by decide⟩
  | 23, _ => exact ⟨rfl, by decide, by decide⟩
  | 24, _ => exact ⟨rfl, by decide, by decide⟩
  | 25, _ => exact ⟨rfl, by decide, by decide⟩
  | 26, _ => exact ⟨rfl, by decide, by decide⟩
  | 27, _ => exact ⟨rfl, by decide, by decide⟩
  | 28, _ => exact ⟨rfl, by decide, by decide⟩
  | 29, _ => exact ⟨rfl, by decide, by decide⟩
  | 30, _ => exact ⟨rfl, by decide, by decide⟩
  | 31, _ => exact ⟨rfl, by decide, by decide⟩
  | 32, h => exact absurd h (by simp [isIa])
  | k + 33, h => exact absurd h (by simp [isIa])
theorem tw_arr {f0 : Hp} {F : Nat → Nat} {A : Nat → Nat → Nat} {j : Nat} (hj : j < 33) : tw f0 F A (j + 359) = twC A j := by
  unfold tw
  rw [if_neg (by omega), if_neg (by omega), if_neg (by omega), show j + 359 - 359 = j by omega]
theorem updV_zI (g : Nat → Nat) (i x : Nat) : updV (fun b => zI (g b : Int)) i (zI (x : Int)) = fun b => zI ((if b = i then x else g b : Nat) : Int) := by
  funext b
  by_cases h : b = i
  · subst h; simp [updV]
  · simp [updV, h]
section TWR
variable {K : KT} {own : String} {cc : ByteArray} {nL d U pc : Nat} {L : List (Option Value)} {st : List Value} {n : Nat} {f0 : Hp} {F : Nat → Nat} {A : Nat → Nat → Nat} {u : Nat}
theorem t_put {idx k x : Nat} (hK : Gd K own cc nL d U) (hF : Fl own idx 9 k) (hd : decode cc pc = .ok (.putfield idx, 3)) (kk : Wx K (pc + 3) L st n (tw f0 (upF F k x) A) u) (hk : isNf k = true := by rfl) (hl : k < 56 := by decide) (hfin : (∃ r, cls[9]? = some r ∧ ((r.2.1 k).2.2.2 = false ∨ ((kme K).name = "<init>" ∧ (r.2.1 k).1 = own))) := by exact ⟨_, rfl, Or.inl rfl⟩) (hfit : narrow (tyC 9 k) (cv (kG K) (zI (x : Int))) = cv (kG K) (zI (x : Int)) ∧ fits (tyC 9 k) (cv (kG K) (zI (x : Int))) = true := by exact ⟨rfl, rfl⟩) : Wx K pc L (zI (x : Int) :: .ref 358 :: st) n (tw f0 F A) u :=
  r_put hK hF hd tw_obj hl (by rw [tw_putF (twF_set F x k hk).symm]; exact kk) hfin hfit
theorem t_putz {idx k x : Nat} (hK : Gd K own cc nL d U) (hF : Fl own idx 9 k) (hd : decode cc pc = .ok (.putfield idx, 3)) (kk : Wx K (pc + 3) L st n (tw f0 (upF F k x) A) u) (hk : k = 16 ∨ k = 48 := by decide) (hfin : (∃ r, cls[9]? = some r ∧ ((r.2.1 k).2.2.2 = false ∨ ((kme K).name = "<init>" ∧ (r.2.1 k).1 = own))) := by exact ⟨_, rfl, Or.inl rfl⟩) (hfit : narrow (tyC 9 k) (cv (kG K) (zI (dz x))) = cv (kG K) (zI (dz x)) ∧ fits (tyC 9 k) (cv (kG K) (zI (dz x))) = true := by exact ⟨rfl, rfl⟩) : Wx K pc L (zI (dz x) :: .ref 358 :: st) n (tw f0 F A) u := by
  rcases hk with rfl | rfl
  · exact r_put hK hF hd tw_obj (by show 16 < (twF F).length; exact Nat.le_of_ble_eq_true rfl) (by rw [tw_putF (twF_set16 F x).symm]; exact kk) hfin hfit
  · exact r_put hK hF hd tw_obj (by show 48 < (twF F).length; exact Nat.le_of_ble_eq_true rfl) (by rw [tw_putF (twF_set48 F x).symm]; exact kk) hfin hfit
theorem t_ild {j i : Nat} (hK : Gd K own cc nL d U) (hd : decode cc pc = .ok (.iaload, 1)) (hi : i < twl j) (kk : Wx K (pc + 1) L (zI (A j i : Int) :: st) n (tw f0 F A) u) (hj : isIa j = true := by rfl) : Wx K pc L (zI (i : Int) :: .ref (j + 359) :: st) n (tw f0 F A) u := by
  obtain ⟨h1, h2, h3⟩ := twC_ld A j hj
  exact r_iald hK hd ((tw_arr h2).trans h1) hi kk h3
theorem t_ist {j i x : Nat} (hK : Gd K own cc nL d U) (hd : decode cc pc = .ok (.iastore, 1)) (hi : i < twl j) (kk : Wx K (pc + 1) L st n (tw f0 F (upA A j i x)) u) (hj : isIa j = true := by rfl) : Wx K pc L (zI (x : Int) :: zI (i : Int) :: .ref (j + 359) :: st) n (tw f0 F A) u := by
  obtain ⟨h1, h2, h3⟩ := twC_ld A j hj
  refine r_iast hK hd ((tw_arr h2).trans h1) hi ?_ h3
  rw [tw_putA h2 (A' := upA A j i x) ?_ twC_other]
  · exact kk
  · rw [(twC_ld (upA A j i x) j hj).1, updV_zI]
    congr 4
    funext b
    unfold upA
    rw [if_pos rfl]
/-- the row of 49 numbers in which a -1 may stand -/
theorem t_ildb {j i : Nat} (hK : Gd K own cc nL d U) (hd : decode cc pc = .ok (.iaload, 1)) (hi : i < twl j) (hj : isIa j = true ∨ (j = 12 ∧ A 12 i < 999999999)) (kk : Wx K (pc + 1) L (zI (A j i : Int) :: st) n (tw f0 F A) u) : Wx K pc L (zI (i : Int) :: .ref (j + 359) :: st) n (tw f0 F A) u := by
  rcases hj with hj | ⟨rfl, hs⟩
  · exact t_ild hK hd hi kk hj
  · exact r_iald hK hd ((tw_arr (j := 12) (by decide)).trans (by rfl : twC A 12 = some (.inr (0, 49, fun i => zI (dz (A 12 i)))))) hi (r_top (by rw [dz_n hs]) kk) (by decide)
theorem t_fld {i : Nat} (hK : Gd K own cc nL d U) (hd : decode cc pc = .ok (.iaload, 1)) (hi : i < 49) (kk : Wx K (pc + 1) L (zI (dz (A 12 i)) :: st) n (tw f0 F A) u) : Wx K pc L (zI (i : Int) :: .ref 371 :: st) n (tw f0 F A) u :=
  r_iald hK hd (f := tw f0 F A) (id := 371) (N := 49) (g := fun i => zI (dz (A 12 i))) rfl hi kk (by decide)
theorem t_fst {i x : Nat} (hK : Gd K own cc nL d U) (hd : decode cc pc = .ok (.iastore, 1)) (hi : i < 49) (kk : Wx K (pc + 1) L st n (tw f0 F (upA A 12 i x)) u) : Wx K pc L (zI (dz x) :: zI (i : Int) :: .ref 371 :: st) n (tw f0 F A) u := by
  refine r_iast hK hd (f := tw f0 F A) (id := 371) (N := 49) (g := fun i => zI (dz (A 12 i))) rfl hi ?_ (by decide)
  rw [show (371 : Nat) = 12 + 359 from rfl, tw_putA (by decide) (A' := upA A 12 i x) ?_ twC_other]
  · exact kk
  · show some (Sum.inr (0, 49, fun b => zI (dz (upA A 12 i x 12 b)))) = _
    congr 4
    funext b
    by_cases h : b = i
    · subst h; simp [updV, upA]
    · simp [updV, upA, h]
theorem t_istb {j i x : Nat} (hK : Gd K own cc nL d U) (hd : decode cc pc = .ok (.iastore, 1)) (hi : i < twl j) (hj : isIa j = true ∨ (j = 12 ∧ x < 999999999)) (kk : Wx K (pc + 1) L st n (tw f0 F (upA A j i x)) u) : Wx K pc L (zI (x : Int) :: zI (i : Int) :: .ref (j + 359) :: st) n (tw f0 F A) u := by
  rcases hj with hj | ⟨rfl, hs⟩
  · exact t_ist hK hd hi kk hj
  · exact r_top (by rw [dz_n hs]) (t_fst hK hd hi kk)
theorem sx_r {b : Nat} (h : b < 256) : -128 ≤ sx b ∧ sx b ≤ 127 := by unfold sx; split <;> omega
theorem nar_b : ∀ b, b < 256 → narrow .byte (zI (sx b)) = zI (sx b) := by decide +kernel
theorem nar_z : ∀ b : Nat, b < 2 → narrow .boolean (zI (b : Int)) = zI (b : Int) := by decide +kernel
theorem t_bld {j i : Nat} (hK : Gd K own cc nL d U) (hd : decode cc pc = .ok (.baload, 1)) (hi : i < 2000) (kk : Wx K (pc + 1) L (zI (sx (A j i)) :: st) n (tw f0 F A) u) (hj : j = 0 ∨ j = 1 := by decide) : Wx K pc L (zI (i : Int) :: .ref (j + 359) :: st) n (tw f0 F A) u := by
  rcases hj with rfl | rfl
  · exact r_bald hK hd (f := tw f0 F A) (N := 2000) (g := fun i => zI (sx (A 0 i))) rfl hi kk (by decide)
  · exact r_bald hK hd (f := tw f0 F A) (N := 2000) (g := fun i => zI (sx (A 1 i))) rfl hi kk (by decide)
theorem t_bst {j i x : Nat} (hK : Gd K own cc nL d U) (hd : decode cc pc = .ok (.bastore, 1)) (hi : i < 2000) (hx : x < 256) (kk : Wx K (pc + 1) L st n (tw f0 F (upA A j i x)) u) (hj : j = 0 ∨ j = 1 := by decide) : Wx K pc L (zI (sx x) :: zI (i : Int) :: .ref (j + 359) :: st) n (tw f0 F A) u := by
  rcases hj with rfl | rfl
  · refine r_bast hK hd (f := tw f0 F A) (N := 2000) (g := fun i => zI (sx (A 0 i))) rfl hi (nar_b x hx) ?_ (by decide)
    rw [tw_putA (by decide) (A' := upA A 0 i x) ?_ twC_other]
    · exact kk
    · show some (Sum.inr (1, 2000, fun b => zI (sx (upA A 0 i x 0 b)))) = _
      congr 4
      funext b
      by_cases h : b = i
      · subst h; simp [updV, upA]
      · simp [updV, upA, h]
  · refine r_bast hK hd (f := tw f0 F A) (N := 2000) (g := fun i => zI (sx (A 1 i))) rfl hi (nar_b x hx) ?_ (by decide)
    rw [tw_putA (by decide) (A' := upA A 1 i x) ?_ twC_other]
    · exact kk
    · show some (Sum.inr (1, 2000, fun b => zI (sx (upA A 1 i x 1 b)))) = _
      congr 4
      funext b
      by_cases h : b = i
      · subst h; simp [updV, upA]
      · simp [updV, upA, h]
theorem t_zld {j i : Nat} (hK : Gd K own cc nL d U) (hd : decode cc pc = .ok (.baload, 1)) (hi : i < twl j) (kk : Wx K (pc + 1) L (zI (A j i : Int) :: st) n (tw f0 F A) u) (hj : j = 15 ∨ j = 32 := by decide) : Wx K pc L (zI (i : Int) :: .ref (j + 359) :: st) n (tw f0 F A) u := by
  rcases hj with rfl | rfl
  · exact r_zald hK hd (f := tw f0 F A) (N := 3) (g := fun i => zI (A 15 i : Int)) rfl hi kk (by decide)
  · exact r_zald hK hd (f := tw f0 F A) (N := 64) (g := fun i => zI (A 32 i : Int)) rfl hi kk (by decide)
theorem t_zst {j i x : Nat} (hK : Gd K own cc nL d U) (hd : decode cc pc = .ok (.bastore, 1)) (hi : i < twl j) (hx : x < 2) (kk : Wx K (pc + 1) L st n (tw f0 F (upA A j i x)) u) (hj : j = 15 ∨ j = 32 := by decide) : Wx K pc L (zI (x : Int) :: zI (i : Int) :: .ref (j + 359) :: st) n (tw f0 F A) u := by
  rcases hj with rfl | rfl
  · refine r_zast hK hd (f := tw f0 F A) (N := 3) (g := fun i => zI (A 15 i : Int)) rfl hi (nar_z x hx) ?_ (by decide)
    rw [tw_putA (by decide) (A' := upA A 15 i x) ?_ twC_other]
    · exact kk
    · rw [updV_zI]; rfl
  · refine r_zast hK hd (f := tw f0 F A) (N := 64) (g := fun i => zI (A 32 i : Int)) rfl hi (nar_z x hx) ?_ (by decide)
    rw [tw_putA (by decide) (A' := upA A 32 i x) ?_ twC_other]
    · exact kk
    · rw [updV_zI]; rfl
theorem t_lld {j i : Nat} (hK : Gd K own cc nL d U) (hd : decode cc pc = .ok (.laload, 1)) (hi : i < twl j) (kk : Wx K (pc + 1) L (zL (A j i : Int) :: st) n (tw f0 F A) u) (hj : j = 5 ∨ j = 6 := by decide) : Wx K pc L (zI (i : Int) :: .ref (j + 359) :: st) n (tw f0 F A) u := by
  rcases hj with rfl | rfl
  · exact r_lald hK hd (f := tw f0 F A) (N := 403) (g := fun i => zL (A 5 i : Int)) rfl hi kk (by decide)
  · exact r_lald hK hd (f := tw f0 F A) (N := 4) (g := fun i => zL (A 6 i : Int)) rfl hi kk (by decide)
theorem t_lst {j i x : Nat} (hK : Gd K own cc nL d U) (hd : decode cc pc = .ok (.lastore, 1)) (hi : i < twl j) (kk : Wx K (pc + 1) L st n (tw f0 F (upA A j i x)) u) (hj : j = 5 ∨ j = 6 := by decide) : Wx K pc L (zL (x : Int) :: zI (i : Int) :: .ref (j + 359) :: st) n (tw f0 F A) u := by
  rcases hj with rfl | rfl
  · refine r_last hK hd (f := tw f0 F A) (N := 403) (g := fun i => zL (A 5 i : Int)) rfl hi ?_ (by decide)
    rw [tw_putA (by decide) (A' := upA A 5 i x) ?_ twC_other]
    · exact kk
    · show some (Sum.inr (3, 403, fun b => zL ((upA A 5 i x 5 b : Nat) : Int))) = _
      congr 4
      funext b
      by_cases h : b = i
      · subst h; simp [updV, upA]
      · simp [updV, upA, h]
  · refine r_last hK hd (f := tw f0 F A) (N := 4) (g := fun i => zL (A 6 i : Int)) rfl hi ?_ (by decide)
    rw [tw_putA (by decide) (A' := upA A 6 i x) ?_ twC_other]
    · exact kk
    · show some (Sum.inr (3, 4, fun b => zL ((upA A 6 i x 6 b : Nat) : Int))) = _
      congr 4
      funext b
      by_cases h : b = i
      · subst h; simp [updV, upA]
      · simp [updV, upA, h]
end TWR
