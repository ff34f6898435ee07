set_option maxRecDepth 100000
/-! ===== an array's picture above its length is free ===== -/
theorem arr_ext {a : ClassId} {N : Nat} {g g' : Nat → Value} (h : ∀ j, j < N → g j = g' j) : arrV a N g = arrV a N g' := by
  unfold arrV
  congr 1
  apply Array.ext
  · simp
  · intro i h1 h2
    simp at h1 h2 ⊢
    exact h i (by omega)
theorem r_arr {K : KT} {own : String} {cc : ByteArray} {nL d U pc : Nat} {L : List (Option Value)} {st : List Value} {n : Nat} {f : Hp} {u id ty N : Nat} {g0 g1 : Nat → Value} (hK : Gd K own cc nL d U) (hf : f id = some (.inr (ty, N, g0))) (hty : ty < 100) (hg : ∀ j, j < N → g0 j = g1 j) (k : Wx K pc L st n (up f id (.inr (ty, N, g1))) u) : Wx K pc L st n f u := by
  intro H locs ls hH hS hl
  obtain ⟨h1, h2, g, h3, h4, h5, h6⟩ := hH
  have hr : ∀ x : Nat → Value, rawE (.inr (ty, N, x)) = true := fun x => decide_eq_true hty
  have hgi := hK.rel.1 n f g id _ h3 hf (hr _)
  refine k H locs ls ⟨h1, h2, up g id (.inr (ty, N, g1)), hK.rel.2.1 n f g id _ _ h3 hf (hr _) (hr _), fun j hj => ?_, fun j hj => ?_, fun j e hj => ?_⟩ hS hl
  · rw [up_n (fun q => by rw [q] at hj; rw [h4 id hj] at hgi; cases hgi)]; exact h4 j hj
  · rw [up_n (fun q => by rw [q] at hj; rw [h5 id hj] at hgi; cases hgi)]; exact h5 j hj
  · by_cases c : j = id
    · rw [c, up_s] at hj
      cases hj
      have := h6 id _ hgi
      rw [c]
      show H[ad (kG K) id]? = _
      rw [show H[ad (kG K) id]? = some (arrV (g_A (kG K) ty) N (fun j => cv (kG K) (g0 j))) from this]
      exact congrArg some (arr_ext (fun j hj => by rw [hg j hj]))
    · rw [up_n c] at hj; exact h6 j e hj
