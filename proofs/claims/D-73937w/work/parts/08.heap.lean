set_option maxRecDepth 100000
/-! ===== rows over Wx: naturals, fields, arrays, new cells ===== -/
section RN
variable {K : KT} {own : String} {cc : ByteArray} {nL d U pc : Nat} {L : List (Option Value)} {st : List Value} {n : Nat} {f : Hp} {u : Nat}
theorem r_iaddN {x y : Nat} (hK : Gd K own cc nL d U) (hd : decode cc pc = .ok (.iadd, 1)) (k : Wx K (pc + 1) L (zI ((x + y : Nat) : Int) :: st) n f u) : Wx K pc L (zI (y : Int) :: zI (x : Int) :: st) n f u := r_iadd hK hd (r_top (by rw [Int.natCast_add]) k)
theorem r_isubN {x y : Nat} (hK : Gd K own cc nL d U) (hd : decode cc pc = .ok (.isub, 1)) (h : y ≤ x) (k : Wx K (pc + 1) L (zI ((x - y : Nat) : Int) :: st) n f u) : Wx K pc L (zI (y : Int) :: zI (x : Int) :: st) n f u := r_isub hK hd (r_top (by rw [Int.natCast_sub h]) k)
theorem r_imulN {x y : Nat} (hK : Gd K own cc nL d U) (hd : decode cc pc = .ok (.imul, 1)) (k : Wx K (pc + 1) L (zI ((x * y : Nat) : Int) :: st) n f u) : Wx K pc L (zI (y : Int) :: zI (x : Int) :: st) n f u := r_imul hK hd (r_top (by rw [Int.natCast_mul]) k)
theorem r_iconstN {c : Nat} (hK : Gd K own cc nL d U) (hd : decode cc pc = .ok (.iconst (c : Int), 1)) (k : Wx K (pc + 1) L (zI (c : Int) :: st) n f u) : Wx K pc L st n f u := r_iconst hK hd k
theorem r_bipushN {c : Nat} (hK : Gd K own cc nL d U) (hd : decode cc pc = .ok (.bipush (c : Int), 2)) (k : Wx K (pc + 2) L (zI (c : Int) :: st) n f u) (hc : (Int8.ofInt (c : Int)).toInt32 = Int32.ofInt (c : Int) := by decide +kernel) : Wx K pc L st n f u := r_bipush hK hd k hc
theorem r_sipushN {c : Nat} (hK : Gd K own cc nL d U) (hd : decode cc pc = .ok (.sipush (c : Int), 3)) (k : Wx K (pc + 3) L (zI (c : Int) :: st) n f u) (hc : (Int16.ofInt (c : Int)).toInt32 = Int32.ofInt (c : Int) := by decide +kernel) : Wx K pc L st n f u := r_sipush hK hd k hc
theorem r_incN_0 {r : List (Option Value)} {z : Nat} (hK : Gd K own cc nL d U) (hd : decode cc pc = .ok (.iinc 0 1, 3)) (k : Wx K (pc + 3) (some (zI ((z + 1 : Nat) : Int)) :: r) st n f u) : Wx K pc (some (zI (z : Int)) :: r) st n f u := r_iinc_0 hK hd k
theorem r_incN_1 {a0 : Option Value} {r : List (Option Value)} {z : Nat} (hK : Gd K own cc nL d U) (hd : decode cc pc = .ok (.iinc 1 1, 3)) (k : Wx K (pc + 3) (a0 :: some (zI ((z + 1 : Nat) : Int)) :: r) st n f u) (hp : nl a0 = true := by rfl) : Wx K pc (a0 :: some (zI (z : Int)) :: r) st n f u := r_iinc_1 hK hd k hp
theorem r_incN_2 {a0 a1 : Option Value} {r : List (Option Value)} {z : Nat} (hK : Gd K own cc nL d U) (hd : decode cc pc = .ok (.iinc 2 1, 3)) (k : Wx K (pc + 3) (a0 :: a1 :: some (zI ((z + 1 : Nat) : Int)) :: r) st n f u) (hp : nl a1 = true := by rfl) : Wx K pc (a0 :: a1 :: some (zI (z : Int)) :: r) st n f u := r_iinc_2 hK hd k hp
theorem r_incN_3 {a0 a1 a2 : Option Value} {r : List (Option Value)} {z : Nat} (hK : Gd K own cc nL d U) (hd : decode cc pc = .ok (.iinc 3 1, 3)) (k : Wx K (pc + 3) (a0 :: a1 :: a2 :: some (zI ((z + 1 : Nat) : Int)) :: r) st n f u) (hp : nl a2 = true := by rfl) : Wx K pc (a0 :: a1 :: a2 :: some (zI (z : Int)) :: r) st n f u := r_iinc_3 hK hd k hp
theorem r_incN_4 {a0 a1 a2 a3 : Option Value} {r : List (Option Value)} {z : Nat} (hK : Gd K own cc nL d U) (hd : decode cc pc = .ok (.iinc 4 1, 3)) (k : Wx K (pc + 3) (a0 :: a1 :: a2 :: a3 :: some (zI ((z + 1 : Nat) : Int)) :: r) st n f u) (hp : nl a3 = true := by rfl) : Wx K pc (a0 :: a1 :: a2 :: a3 :: some (zI (z : Int)) :: r) st n f u := r_iinc_4 hK hd k hp
theorem r_incN_5 {a0 a1 a2 a3 a4 : Option Value} {r : List (Option Value)} {z : Nat} (hK : Gd K own cc nL d U) (hd : decode cc pc = .ok (.iinc 5 1, 3)) (k : Wx K (pc + 3) (a0 :: a1 :: a2 :: a3 :: a4 :: some (zI ((z + 1 : Nat) : Int)) :: r) st n f u) (hp : nl a4 = true := by rfl) : Wx K pc (a0 :: a1 :: a2 :: a3 :: a4 :: some (zI (z : Int)) :: r) st n f u := r_iinc_5 hK hd k hp
theorem r_incN_6 {a0 a1 a2 a3 a4 a5 : Option Value} {r : List (Option Value)} {z : Nat} (hK : Gd K own cc nL d U) (hd : decode cc pc = .ok (.iinc 6 1, 3)) (k : Wx K (pc + 3) (a0 :: a1 :: a2 :: a3 :: a4 :: a5 :: some (zI ((z + 1 : Nat) : Int)) :: r) st n f u) (hp : nl a5 = true := by rfl) : Wx K pc (a0 :: a1 :: a2 :: a3 :: a4 :: a5 :: some (zI (z : Int)) :: r) st n f u := r_iinc_6 hK hd k hp
theorem r_incN_7 {a0 a1 a2 a3 a4 a5 a6 : Option Value} {r : List (Option Value)} {z : Nat} (hK : Gd K own cc nL d U) (hd : decode cc pc = .ok (.iinc 7 1, 3)) (k : Wx K (pc + 3) (a0 :: a1 :: a2 :: a3 :: a4 :: a5 :: a6 :: some (zI ((z + 1 : Nat) : Int)) :: r) st n f u) (hp : nl a6 = true := by rfl) : Wx K pc (a0 :: a1 :: a2 :: a3 :: a4 :: a5 :: a6 :: some (zI (z : Int)) :: r) st n f u := r_iinc_7 hK hd k hp
theorem r_incN_8 {a0 a1 a2 a3 a4 a5 a6 a7 : Option Value} {r : List (Option Value)} {z : Nat} (hK : Gd K own cc nL d U) (hd : decode cc pc = .ok (.iinc 8 1, 3)) (k : Wx K (pc + 3) (a0 :: a1 :: a2 :: a3 :: a4 :: a5 :: a6 :: a7 :: some (zI ((z + 1 : Nat) : Int)) :: r) st n f u) (hp : nl a7 = true := by rfl) : Wx K pc (a0 :: a1 :: a2 :: a3 :: a4 :: a5 :: a6 :: a7 :: some (zI (z : Int)) :: r) st n f u := r_iinc_8 hK hd k hp
theorem r_incN_9 {a0 a1 a2 a3 a4 a5 a6 a7 a8 : Option Value} {r : List (Option Value)} {z : Nat} (hK : Gd K own cc nL d U) (hd : decode cc pc = .ok (.iinc 9 1, 3)) (k : Wx K (pc + 3) (a0 :: a1 :: a2 :: a3 :: a4 :: a5 :: a6 :: a7 :: a8 :: some (zI ((z + 1 : Nat) : Int)) :: r) st n f u) (hp : nl a8 = true := by rfl) : Wx K pc (a0 :: a1 :: a2 :: a3 :: a4 :: a5 :: a6 :: a7 :: a8 :: some (zI (z : Int)) :: r) st n f u := r_iinc_9 hK hd k hp
theorem r_incN_10 {a0 a1 a2 a3 a4 a5 a6 a7 a8 a9 : Option Value} {r : List (Option Value)} {z : Nat} (hK : Gd K own cc nL d U) (hd : decode cc pc = .ok (.iinc 10 1, 3)) (k : Wx K (pc + 3) (a0 :: a1 :: a2 :: a3 :: a4 :: a5 :: a6 :: a7 :: a8 :: a9 :: some (zI ((z + 1 : Nat) : Int)) :: r) st n f u) (hp : nl a9 = true := by rfl) : Wx K pc (a0 :: a1 :: a2 :: a3 :: a4 :: a5 :: a6 :: a7 :: a8 :: a9 :: some (zI (z : Int)) :: r) st n f u := r_iinc_10 hK hd k hp
theorem r_incN_11 {a0 a1 a2 a3 a4 a5 a6 a7 a8 a9 a10 : Option Value} {r : List (Option Value)} {z : Nat} (hK : Gd K own cc nL d U) (hd : decode cc pc = .ok (.iinc 11 1, 3)) (k : Wx K (pc + 3) (a0 :: a1 :: a2 :: a3 :: a4 :: a5 :: a6 :: a7 :: a8 :: a9 :: a10 :: some (zI ((z + 1 : Nat) : Int)) :: r) st n f u) (hp : nl a10 = true := by rfl) : Wx K pc (a0 :: a1 :: a2 :: a3 :: a4 :: a5 :: a6 :: a7 :: a8 :: a9 :: a10 :: some (zI (z : Int)) :: r) st n f u := r_iinc_11 hK hd k hp
theorem r_incN_12 {a0 a1 a2 a3 a4 a5 a6 a7 a8 a9 a10 a11 : Option Value} {r : List (Option Value)} {z : Nat} (hK : Gd K own cc nL d U) (hd : decode cc pc = .ok (.iinc 12 1, 3)) (k : Wx K (pc + 3) (a0 :: a1 :: a2 :: a3 :: a4 :: a5 :: a6 :: a7 :: a8 :: a9 :: a10 :: a11 :: some (zI ((z + 1 : Nat) : Int)) :: r) st n f u) (hp : nl a11 = true := by rfl) : Wx K pc (a0 :: a1 :: a2 :: a3 :: a4 :: a5 :: a6 :: a7 :: a8 :: a9 :: a10 :: a11 :: some (zI (z : Int)) :: r) st n f u := r_iinc_12 hK hd k hp
theorem r_incN_13 {a0 a1 a2 a3 a4 a5 a6 a7 a8 a9 a10 a11 a12 : Option Value} {r : List (Option Value)} {z : Nat} (hK : Gd K own cc nL d U) (hd : decode cc pc = .ok (.iinc 13 1, 3)) (k : Wx K (pc + 3) (a0 :: a1 :: a2 :: a3 :: a4 :: a5 :: a6 :: a7 :: a8 :: a9 :: a10 :: a11 :: a12 :: some (zI ((z + 1 : Nat) : Int)) :: r) st n f u) (hp : nl a12 = true := by rfl) : Wx K pc (a0 :: a1 :: a2 :: a3 :: a4 :: a5 :: a6 :: a7 :: a8 :: a9 :: a10 :: a11 :: a12 :: some (zI (z : Int)) :: r) st n f u := r_iinc_13 hK hd k hp
theorem r_incN_14 {a0 a1 a2 a3 a4 a5 a6 a7 a8 a9 a10 a11 a12 a13 : Option Value} {r : List (Option Value)} {z : Nat} (hK : Gd K own cc nL d U) (hd : decode cc pc = .ok (.iinc 14 1, 3)) (k : Wx K (pc + 3) (a0 :: a1 :: a2 :: a3 :: a4 :: a5 :: a6 :: a7 :: a8 :: a9 :: a10 :: a11 :: a12 :: a13 :: some (zI ((z + 1 : Nat) : Int)) :: r) st n f u) (hp : nl a13 = true := by rfl) : Wx K pc (a0 :: a1 :: a2 :: a3 :: a4 :: a5 :: a6 :: a7 :: a8 :: a9 :: a10 :: a11 :: a12 :: a13 :: some (zI (z : Int)) :: r) st n f u := r_iinc_14 hK hd k hp
theorem r_incN_15 {a0 a1 a2 a3 a4 a5 a6 a7 a8 a9 a10 a11 a12 a13 a14 : Option Value} {r : List (Option Value)} {z : Nat} (hK : Gd K own cc nL d U) (hd : decode cc pc = .ok (.iinc 15 1, 3)) (k : Wx K (pc + 3) (a0 :: a1 :: a2 :: a3 :: a4 :: a5 :: a6 :: a7 :: a8 :: a9 :: a10 :: a11 :: a12 :: a13 :: a14 :: some (zI ((z + 1 : Nat) : Int)) :: r) st n f u) (hp : nl a14 = true := by rfl) : Wx K pc (a0 :: a1 :: a2 :: a3 :: a4 :: a5 :: a6 :: a7 :: a8 :: a9 :: a10 :: a11 :: a12 :: a13 :: a14 :: some (zI (z : Int)) :: r) st n f u := r_iinc_15 hK hd k hp
theorem r_incN_16 {a0 a1 a2 a3 a4 a5 a6 a7 a8 a9 a10 a11 a12 a13 a14 a15 : Option Value} {r : List (Option Value)} {z : Nat} (hK : Gd K own cc nL d U) (hd : decode cc pc = .ok (.iinc 16 1, 3)) (k : Wx K (pc + 3) (a0 :: a1 :: a2 :: a3 :: a4 :: a5 :: a6 :: a7 :: a8 :: a9 :: a10 :: a11 :: a12 :: a13 :: a14 :: a15 :: some (zI ((z + 1 : Nat) : Int)) :: r) st n f u) (hp : nl a15 = true := by rfl) : Wx K pc (a0 :: a1 :: a2 :: a3 :: a4 :: a5 :: a6 :: a7 :: a8 :: a9 :: a10 :: a11 :: a12 :: a13 :: a14 :: a15 :: some (zI (z : Int)) :: r) st n f u := r_iinc_16 hK hd k hp
theorem r_incN_17 {a0 a1 a2 a3 a4 a5 a6 a7 a8 a9 a10 a11 a12 a13 a14 a15 a16 : Option Value} {r : List (Option Value)} {z : Nat} (hK : Gd K own cc nL d U) (hd : decode cc pc = .ok (.iinc 17 1, 3)) (k : Wx K (pc + 3) (a0 :: a1 :: a2 :: a3 :: a4 :: a5 :: a6 :: a7 :: a8 :: a9 :: a10 :: a11 :: a12 :: a13 :: a14 :: a15 :: a16 :: some (zI ((z + 1 : Nat) : Int)) :: r) st n f u) (hp : nl a16 = true := by rfl) : Wx K pc (a0 :: a1 :: a2 :: a3 :: a4 :: a5 :: a6 :: a7 :: a8 :: a9 :: a10 :: a11 :: a12 :: a13 :: a14 :: a15 :: a16 :: some (zI (z : Int)) :: r) st n f u := r_iinc_17 hK hd k hp
theorem r_incN_18 {a0 a1 a2 a3 a4 a5 a6 a7 a8 a9 a10 a11 a12 a13 a14 a15 a16 a17 : Option Value} {r : List (Option Value)} {z : Nat} (hK : Gd K own cc nL d U) (hd : decode cc pc = .ok (.iinc 18 1, 3)) (k : Wx K (pc + 3) (a0 :: a1 :: a2 :: a3 :: a4 :: a5 :: a6 :: a7 :: a8 :: a9 :: a10 :: a11 :: a12 :: a13 :: a14 :: a15 :: a16 :: a17 :: some (zI ((z + 1 : Nat) : Int)) :: r) st n f u) (hp : nl a17 = true := by rfl) : Wx K pc (a0 :: a1 :: a2 :: a3 :: a4 :: a5 :: a6 :: a7 :: a8 :: a9 :: a10 :: a11 :: a12 :: a13 :: a14 :: a15 :: a16 :: a17 :: some (zI (z : Int)) :: r) st n f u := r_iinc_18 hK hd k hp
theorem r_incN_19 {a0 a1 a2 a3 a4 a5 a6 a7 a8 a9 a10 a11 a12 a13 a14 a15 a16 a17 a18 : Option Value} {r : List (Option Value)} {z : Nat} (hK : Gd K own cc nL d U) (hd : decode cc pc = .ok (.iinc 19 1, 3)) (k : Wx K (pc + 3) (a0 :: a1 :: a2 :: a3 :: a4 :: a5 :: a6 :: a7 :: a8 :: a9 :: a10 :: a11 :: a12 :: a13 :: a14 :: a15 :: a16 :: a17 :: a18 :: some (zI ((z + 1 : Nat) : Int)) :: r) st n f u) (hp : nl a18 = true := by rfl) : Wx K pc (a0 :: a1 :: a2 :: a3 :: a4 :: a5 :: a6 :: a7 :: a8 :: a9 :: a10 :: a11 :: a12 :: a13 :: a14 :: a15 :: a16 :: a17 :: a18 :: some (zI (z : Int)) :: r) st n f u := r_iinc_19 hK hd k hp
theorem r_incN_20 {a0 a1 a2 a3 a4 a5 a6 a7 a8 a9 a10 a11 a12 a13 a14 a15 a16 a17 a18 a19 : Option Value} {r : List (Option Value)} {z : Nat} (hK : Gd K own cc nL d U) (hd : decode cc pc = .ok (.iinc 20 1, 3)) (k : Wx K (pc + 3) (a0 :: a1 :: a2 :: a3 :: a4 :: a5 :: a6 :: a7 :: a8 :: a9 :: a10 :: a11 :: a12 :: a13 :: a14 :: a15 :: a16 :: a17 :: a18 :: a19 :: some (zI ((z + 1 : Nat) : Int)) :: r) st n f u) (hp : nl a19 = true := by rfl) : Wx K pc (a0 :: a1 :: a2 :: a3 :: a4 :: a5 :: a6 :: a7 :: a8 :: a9 :: a10 :: a11 :: a12 :: a13 :: a14 :: a15 :: a16 :: a17 :: a18 :: a19 :: some (zI (z : Int)) :: r) st n f u := r_iinc_20 hK hd k hp
theorem r_incN_21 {a0 a1 a2 a3 a4 a5 a6 a7 a8 a9 a10 a11 a12 a13 a14 a15 a16 a17 a18 a19 a20 : Option Value} {r : List (Option Value)} {z : Nat} (hK : Gd K own cc nL d U) (hd : decode cc pc = .ok (.iinc 21 1, 3)) (k : Wx K (pc + 3) (a0 :: a1 :: a2 :: a3 :: a4 :: a5 :: a6 :: a7 :: a8 :: a9 :: a10 :: a11 :: a12 :: a13 :: a14 :: a15 :: a16 :: a17 :: a18 :: a19 :: a20 :: some (zI ((z + 1 : Nat) : Int)) :: r) st n f u) (hp : nl a20 = true := by rfl) : Wx K pc (a0 :: a1 :: a2 :: a3 :: a4 :: a5 :: a6 :: a7 :: a8 :: a9 :: a10 :: a11 :: a12 :: a13 :: a14 :: a15 :: a16 :: a17 :: a18 :: a19 :: a20 :: some (zI (z : Int)) :: r) st n f u := r_iinc_21 hK hd k hp
theorem r_incN_22 {a0 a1 a2 a3 a4 a5 a6 a7 a8 a9 a10 a11 a12 a13 a14 a15 a16 a17 a18 a19 a20 a21 : Option Value} {r : List (Option Value)} {z : Nat} (hK : Gd K own cc nL d U) (hd : decode cc pc = .ok (.iinc 22 1, 3)) (k : Wx K (pc + 3) (a0 :: a1 :: a2 :: a3 :: a4 :: a5 :: a6 :: a7 :: a8 :: a9 :: a10 :: a11 :: a12 :: a13 :: a14 :: a15 :: a16 :: a17 :: a18 :: a19 :: a20 :: a21 :: some (zI ((z + 1 : Nat) : Int)) :: r) st n f u) (hp : nl a21 = true := by rfl) : Wx K pc (a0 :: a1 :: a2 :: a3 :: a4 :: a5 :: a6 :: a7 :: a8 :: a9 :: a10 :: a11 :: a12 :: a13 :: a14 :: a15 :: a16 :: a17 :: a18 :: a19 :: a20 :: a21 :: some (zI (z : Int)) :: r) st n f u := r_iinc_22 hK hd k hp
theorem r_incN_23 {a0 a1 a2 a3 a4 a5 a6 a7 a8 a9 a10 a11 a12 a13 a14 a15 a16 a17 a18 a19 a20 a21 a22 : Option Value} {r : List (Option Value)} {z : Nat} (hK : Gd K own cc nL d U) (hd : decode cc pc = .ok (.iinc 23 1, 3)) (k : Wx K (pc + 3) (a0 :: a1 :: a2 :: a3 :: a4 :: a5 :: a6 :: a7 :: a8 :: a9 :: a10 :: a11 :: a12 :: a13 :: a14 :: a15 :: a16 :: a17 :: a18 :: a19 :: a20 :: a21 :: a22 :: some (zI ((z + 1 : Nat) : Int)) :: r) st n f u) (hp : nl a22 = true := by rfl) : Wx K pc (a0 :: a1 :: a2 :: a3 :: a4 :: a5 :: a6 :: a7 :: a8 :: a9 :: a10 :: a11 :: a12 :: a13 :: a14 :: a15 :: a16 :: a17 :: a18 :: a19 :: a20 :: a21 :: a22 :: some (zI (z : Int)) :: r) st n f u := r_iinc_23 hK hd k hp
theorem r_incN_24 {a0 a1 a2 a3 a4 a5 a6 a7 a8 a9 a10 a11 a12 a13 a14 a15 a16 a17 a18 a19 a20 a21 a22 a23 : Option Value} {r : List (Option Value)} {z : Nat} (hK : Gd K own cc nL d U) (hd : decode cc pc = .ok (.iinc 24 1, 3)) (k : Wx K (pc + 3) (a0 :: a1 :: a2 :: a3 :: a4 :: a5 :: a6 :: a7 :: a8 :: a9 :: a10 :: a11 :: a12 :: a13 :: a14 :: a15 :: a16 :: a17 :: a18 :: a19 :: a20 :: a21 :: a22 :: a23 :: some (zI ((z + 1 : Nat) : Int)) :: r) st n f u) (hp : nl a23 = true := by rfl) : Wx K pc (a0 :: a1 :: a2 :: a3 :: a4 :: a5 :: a6 :: a7 :: a8 :: a9 :: a10 :: a11 :: a12 :: a13 :: a14 :: a15 :: a16 :: a17 :: a18 :: a19 :: a20 :: a21 :: a22 :: a23 :: some (zI (z : Int)) :: r) st n f u := r_iinc_24 hK hd k hp
theorem r_incN_25 {a0 a1 a2 a3 a4 a5 a6 a7 a8 a9 a10 a11 a12 a13 a14 a15 a16 a17 a18 a19 a20 a21 a22 a23 a24 : Option Value} {r : List (Option Value)} {z : Nat} (hK : Gd K own cc nL d U) (hd : decode cc pc = .ok (.iinc 25 1, 3)) (k : Wx K (pc + 3) (a0 :: a1 :: a2 :: a3 :: a4 :: a5 :: a6 :: a7 :: a8 :: a9 :: a10 :: a11 :: a12 :: a13 :: a14 :: a15 :: a16 :: a17 :: a18 :: a19 :: a20 :: a21 :: a22 :: a23 :: a24 :: some (zI ((z + 1 : Nat) : Int)) :: r) st n f u) (hp : nl a24 = true := by rfl) : Wx K pc (a0 :: a1 :: a2 :: a3 :: a4 :: a5 :: a6 :: a7 :: a8 :: a9 :: a10 :: a11 :: a12 :: a13 :: a14 :: a15 :: a16 :: a17 :: a18 :: a19 :: a20 :: a21 :: a22 :: a23 :: a24 :: some (zI (z : Int)) :: r) st n f u := r_iinc_25 hK hd k hp
theorem r_decN_0 {r : List (Option Value)} {z : Nat} (hK : Gd K own cc nL d U) (hd : decode cc pc = .ok (.iinc 0 (-1), 3)) (k : Wx K (pc + 3) (some (zI (z : Int)) :: r) st n f u) : Wx K pc (some (zI ((z + 1 : Nat) : Int)) :: r) st n f u := r_iinc_0 hK hd (by rw [show ((z + 1 : Nat) : Int) + -1 = (z : Int) by omega]; exact k)
theorem r_decN_1 {a0 : Option Value} {r : List (Option Value)} {z : Nat} (hK : Gd K own cc nL d U) (hd : decode cc pc = .ok (.iinc 1 (-1), 3)) (k : Wx K (pc + 3) (a0 :: some (zI (z : Int)) :: r) st n f u) (hp : nl a0 = true := by rfl) : Wx K pc (a0 :: some (zI ((z + 1 : Nat) : Int)) :: r) st n f u := r_iinc_1 hK hd (by rw [show ((z + 1 : Nat) : Int) + -1 = (z : Int) by omega]; exact k) hp
theorem r_decN_2 {a0 a1 : Option Value} {r : List (Option Value)} {z : Nat} (hK : Gd K own cc nL d U) (hd : decode cc pc = .ok (.iinc 2 (-1), 3)) (k : Wx K (pc + 3) (a0 :: a1 :: some (zI (z : Int)) :: r) st n f u) (hp : nl a1 = true := by rfl) : Wx K pc (a0 :: a1 :: some (zI ((z + 1 : Nat) : Int)) :: r) st n f u := r_iinc_2 hK hd (by rw [show ((z + 1 : Nat) : Int) + -1 = (z : Int) by omega]; exact k) hp
theorem r_decN_3 {a0 a1 a2 : Option Value} {r : List (Option Value)} {z : Nat} (hK : Gd K own cc nL d U) (hd : decode cc pc = .ok (.iinc 3 (-1), 3)) (k : Wx K (pc + 3) (a0 :: a1 :: a2 :: some (zI (z : Int)) :: r) st n f u) (hp : nl a2 = true := by rfl) : Wx K pc (a0 :: a1 :: a2 :: some (zI ((z + 1 : Nat) : Int)) :: r) st n f u := r_iinc_3 hK hd (by rw [show ((z + 1 : Nat) : Int) + -1 = (z : Int) by omega]; exact k) hp
theorem r_decN_4 {a0 a1 a2 a3 : Option Value} {r : List (Option Value)} {z : Nat} (hK : Gd K own cc nL d U) (hd : decode cc pc = .ok (.iinc 4 (-1), 3)) (k : Wx K (pc + 3) (a0 :: a1 :: a2 :: a3 :: some (zI (z : Int)) :: r) st n f u) (hp : nl a3 = true := by rfl) : Wx K pc (a0 :: a1 :: a2 :: a3 :: some (zI ((z + 1 : Nat) : Int)) :: r) st n f u := r_iinc_4 hK hd (by rw [show ((z + 1 : Nat) : Int) + -1 = (z : Int) by omega]; exact k) hp
theorem r_decN_5 {a0 a1 a2 a3 a4 : Option Value} {r : List (Option Value)} {z : Nat} (hK : Gd K own cc nL d U) (hd : decode cc pc = .ok (.iinc 5 (-1), 3)) (k : Wx K (pc + 3) (a0 :: a1 :: a2 :: a3 :: a4 :: some (zI (z : Int)) :: r) st n f u) (hp : nl a4 = true := by rfl) : Wx K pc (a0 :: a1 :: a2 :: a3 :: a4 :: some (zI ((z + 1 : Nat) : Int)) :: r) st n f u := r_iinc_5 hK hd (by rw [show ((z + 1 : Nat) : Int) + -1 = (z : Int) by omega]; exact k) hp
theorem r_decN_6 {a0 a1 a2 a3 a4 a5 : Option Value} {r : List (Option Value)} {z : Nat} (hK : Gd K own cc nL d U) (hd : decode cc pc = .ok (.iinc 6 (-1), 3)) (k : Wx K (pc + 3) (a0 :: a1 :: a2 :: a3 :: a4 :: a5 :: some (zI (z : Int)) :: r) st n f u) (hp : nl a5 = true := by rfl) : Wx K pc (a0 :: a1 :: a2 :: a3 :: a4 :: a5 :: some (zI ((z + 1 : Nat) : Int)) :: r) st n f u := r_iinc_6 hK hd (by rw [show ((z + 1 : Nat) : Int) + -1 = (z : Int) by omega]; exact k) hp
theorem r_decN_7 {a0 a1 a2 a3 a4 a5 a6 : Option Value} {r : List (Option Value)} {z : Nat} (hK : Gd K own cc nL d U) (hd : decode cc pc = .ok (.iinc 7 (-1), 3)) (k : Wx K (pc + 3) (a0 :: a1 :: a2 :: a3 :: a4 :: a5 :: a6 :: some (zI (z : Int)) :: r) st n f u) (hp : nl a6 = true := by rfl) : Wx K pc (a0 :: a1 :: a2 :: a3 :: a4 :: a5 :: a6 :: some (zI ((z + 1 : Nat) : Int)) :: r) st n f u := r_iinc_7 hK hd (by rw [show ((z + 1 : Nat) : Int) + -1 = (z : Int) by omega]; exact k) hp
theorem r_decN_8 {a0 a1 a2 a3 a4 a5 a6 a7 : Option Value} {r : List (Option Value)} {z : Nat} (hK : Gd K own cc nL d U) (hd : decode cc pc = .ok (.iinc 8 (-1), 3)) (k : Wx K (pc + 3) (a0 :: a1 :: a2 :: a3 :: a4 :: a5 :: a6 :: a7 :: some (zI (z : Int)) :: r) st n f u) (hp : nl a7 = true := by rfl) : Wx K pc (a0 :: a1 :: a2 :: a3 :: a4 :: a5 :: a6 :: a7 :: some (zI ((z + 1 : Nat) : Int)) :: r) st n f u := r_iinc_8 hK hd (by rw [show ((z + 1 : Nat) : Int) + -1 = (z : Int) by omega]; exact k) hp
theorem r_decN_9 {a0 a1 a2 a3 a4 a5 a6 a7 a8 : Option Value} {r : List (Option Value)} {z : Nat} (hK : Gd K own cc nL d U) (hd : decode cc pc = .ok (.iinc 9 (-1), 3)) (k : Wx K (pc + 3) (a0 :: a1 :: a2 :: a3 :: a4 :: a5 :: a6 :: a7 :: a8 :: some (zI (z : Int)) :: r) st n f u) (hp : nl a8 = true := by rfl) : Wx K pc (a0 :: a1 :: a2 :: a3 :: a4 :: a5 :: a6 :: a7 :: a8 :: some (zI ((z + 1 : Nat) : Int)) :: r) st n f u := r_iinc_9 hK hd (by rw [show ((z + 1 : Nat) : Int) + -1 = (z : Int) by omega]; exact k) hp
theorem r_decN_10 {a0 a1 a2 a3 a4 a5 a6 a7 a8 a9 : Option Value} {r : List (Option Value)} {z : Nat} (hK : Gd K own cc nL d U) (hd : decode cc pc = .ok (.iinc 10 (-1), 3)) (k : Wx K (pc + 3) (a0 :: a1 :: a2 :: a3 :: a4 :: a5 :: a6 :: a7 :: a8 :: a9 :: some (zI (z : Int)) :: r) st n f u) (hp : nl a9 = true := by rfl) : Wx K pc (a0 :: a1 :: a2 :: a3 :: a4 :: a5 :: a6 :: a7 :: a8 :: a9 :: some (zI ((z + 1 : Nat) : Int)) :: r) st n f u := r_iinc_10 hK hd (by rw [show ((z + 1 : Nat) : Int) + -1 = (z : Int) by omega]; exact k) hp
theorem r_decN_11 {a0 a1 a2 a3 a4 a5 a6 a7 a8 a9 a10 : Option Value} {r : List (Option Value)} {z : Nat} (hK : Gd K own cc nL d U) (hd : decode cc pc = .ok (.iinc 11 (-1), 3)) (k : Wx K (pc + 3) (a0 :: a1 :: a2 :: a3 :: a4 :: a5 :: a6 :: a7 :: a8 :: a9 :: a10 :: some (zI (z : Int)) :: r) st n f u) (hp : nl a10 = true := by rfl) : Wx K pc (a0 :: a1 :: a2 :: a3 :: a4 :: a5 :: a6 :: a7 :: a8 :: a9 :: a10 :: some (zI ((z + 1 : Nat) : Int)) :: r) st n f u := r_iinc_11 hK hd (by rw [show ((z + 1 : Nat) : Int) + -1 = (z : Int) by omega]; exact k) hp
theorem r_decN_12 {a0 a1 a2 a3 a4 a5 a6 a7 a8 a9 a10 a11 : Option Value} {r : List (Option Value)} {z : Nat} (hK : Gd K own cc nL d U) (hd : decode cc pc = .ok (.iinc 12 (-1), 3)) (k : Wx K (pc + 3) (a0 :: a1 :: a2 :: a3 :: a4 :: a5 :: a6 :: a7 :: a8 :: a9 :: a10 :: a11 :: some (zI (z : Int)) :: r) st n f u) (hp : nl a11 = true := by rfl) : Wx K pc (a0 :: a1 :: a2 :: a3 :: a4 :: a5 :: a6 :: a7 :: a8 :: a9 :: a10 :: a11 :: some (zI ((z + 1 : Nat) : Int)) :: r) st n f u := r_iinc_12 hK hd (by rw [show ((z + 1 : Nat) : Int) + -1 = (z : Int) by omega]; exact k) hp
theorem r_decN_13 {a0 a1 a2 a3 a4 a5 a6 a7 a8 a9 a10 a11 a12 : Option Value} {r : List (Option Value)} {z : Nat} (hK : Gd K own cc nL d U) (hd : decode cc pc = .ok (.iinc 13 (-1), 3)) (k : Wx K (pc + 3) (a0 :: a1 :: a2 :: a3 :: a4 :: a5 :: a6 :: a7 :: a8 :: a9 :: a10 :: a11 :: a12 :: some (zI (z : Int)) :: r) st n f u) (hp : nl a12 = true := by rfl) : Wx K pc (a0 :: a1 :: a2 :: a3 :: a4 :: a5 :: a6 :: a7 :: a8 :: a9 :: a10 :: a11 :: a12 :: some (zI ((z + 1 : Nat) : Int)) :: r) st n f u := r_iinc_13 hK hd (by rw [show ((z + 1 : Nat) : Int) + -1 = (z : Int) by omega]; exact k) hp
theorem r_decN_14 {a0 a1 a2 a3 a4 a5 a6 a7 a8 a9 a10 a11 a12 a13 : Option Value} {r : List (Option Value)} {z : Nat} (hK : Gd K own cc nL d U) (hd : decode cc pc = .ok (.iinc 14 (-1), 3)) (k : Wx K (pc + 3) (a0 :: a1 :: a2 :: a3 :: a4 :: a5 :: a6 :: a7 :: a8 :: a9 :: a10 :: a11 :: a12 :: a13 :: some (zI (z : Int)) :: r) st n f u) (hp : nl a13 = true := by rfl) : Wx K pc (a0 :: a1 :: a2 :: a3 :: a4 :: a5 :: a6 :: a7 :: a8 :: a9 :: a10 :: a11 :: a12 :: a13 :: some (zI ((z + 1 : Nat) : Int)) :: r) st n f u := r_iinc_14 hK hd (by rw [show ((z + 1 : Nat) : Int) + -1 = (z : Int) by omega]; exact k) hp
theorem r_decN_15 {a0 a1 a2 a3 a4 a5 a6 a7 a8 a9 a10 a11 a12 a13 a14 : Option Value} {r : List (Option Value)} {z : Nat} (hK : Gd K own cc nL d U) (hd : decode cc pc = .ok (.iinc 15 (-1), 3)) (k : Wx K (pc + 3) (a0 :: a1 :: a2 :: a3 :: a4 :: a5 :: a6 :: a7 :: a8 :: a9 :: a10 :: a11 :: a12 :: a13 :: a14 :: some (zI (z : Int)) :: r) st n f u) (hp : nl a14 = true := by rfl) : Wx K pc (a0 :: a1 :: a2 :: a3 :: a4 :: a5 :: a6 :: a7 :: a8 :: a9 :: a10 :: a11 :: a12 :: a13 :: a14 :: some (zI ((z + 1 : Nat) : Int)) :: r) st n f u := r_iinc_15 hK hd (by rw [show ((z + 1 : Nat) : Int) + -1 = (z : Int) by omega]; exact k) hp
theorem r_decN_16 {a0 a1 a2 a3 a4 a5 a6 a7 a8 a9 a10 a11 a12 a13 a14 a15 : Option Value} {r : List (Option Value)} {z : Nat} (hK : Gd K own cc nL d U) (hd : decode cc pc = .ok (.iinc 16 (-1), 3)) (k : Wx K (pc + 3) (a0 :: a1 :: a2 :: a3 :: a4 :: a5 :: a6 :: a7 :: a8 :: a9 :: a10 :: a11 :: a12 :: a13 :: a14 :: a15 :: some (zI (z : Int)) :: r) st n f u) (hp : nl a15 = true := by rfl) : Wx K pc (a0 :: a1 :: a2 :: a3 :: a4 :: a5 :: a6 :: a7 :: a8 :: a9 :: a10 :: a11 :: a12 :: a13 :: a14 :: a15 :: some (zI ((z + 1 : Nat) : Int)) :: r) st n f u := r_iinc_16 hK hd (by rw [show ((z + 1 : Nat) : Int) + -1 = (z : Int) by omega]; exact k) hp
theorem r_decN_17 {a0 a1 a2 a3 a4 a5 a6 a7 a8 a9 a10 a11 a12 a13 a14 a15 a16 : Option Value} {r : List (Option Value)} {z : Nat} (hK : Gd K own cc nL d U) (hd : decode cc pc = .ok (.iinc 17 (-1), 3)) (k : Wx K (pc + 3) (a0 :: a1 :: a2 :: a3 :: a4 :: a5 :: a6 :: a7 :: a8 :: a9 :: a10 :: a11 :: a12 :: a13 :: a14 :: a15 :: a16 :: some (zI (z : Int)) :: r) st n f u) (hp : nl a16 = true := by rfl) : Wx K pc (a0 :: a1 :: a2 :: a3 :: a4 :: a5 :: a6 :: a7 :: a8 :: a9 :: a10 :: a11 :: a12 :: a13 :: a14 :: a15 :: a16 :: some (zI ((z + 1 : Nat) : Int)) :: r) st n f u := r_iinc_17 hK hd (by rw [show ((z + 1 : Nat) : Int) + -1 = (z : Int) by omega]; exact k) hp
theorem r_decN_18 {a0 a1 a2 a3 a4 a5 a6 a7 a8 a9 a10 a11 a12 a13 a14 a15 a16 a17 : Option Value} {r : List (Option Value)} {z : Nat} (hK : Gd K own cc nL d U) (hd : decode cc pc = .ok (.iinc 18 (-1), 3)) (k : Wx K (pc + 3) (a0 :: a1 :: a2 :: a3 :: a4 :: a5 :: a6 :: a7 :: a8 :: a9 :: a10 :: a11 :: a12 :: a13 :: a14 :: a15 :: a16 :: a17 :: some (zI (z : Int)) :: r) st n f u) (hp : nl a17 = true := by rfl) : Wx K pc (a0 :: a1 :: a2 :: a3 :: a4 :: a5 :: a6 :: a7 :: a8 :: a9 :: a10 :: a11 :: a12 :: a13 :: a14 :: a15 :: a16 :: a17 :: some (zI ((z + 1 : Nat) : Int)) :: r) st n f u := r_iinc_18 hK hd (by rw [show ((z + 1 : Nat) : Int) + -1 = (z : Int) by omega]; exact k) hp
theorem r_decN_19 {a0 a1 a2 a3 a4 a5 a6 a7 a8 a9 a10 a11 a12 a13 a14 a15 a16 a17 a18 : Option Value} {r : List (Option Value)} {z : Nat} (hK : Gd K own cc nL d U) (hd : decode cc pc = .ok (.iinc 19 (-1), 3)) (k : Wx K (pc + 3) (a0 :: a1 :: a2 :: a3 :: a4 :: a5 :: a6 :: a7 :: a8 :: a9 :: a10 :: a11 :: a12 :: a13 :: a14 :: a15 :: a16 :: a17 :: a18 :: some (zI (z : Int)) :: r) st n f u) (hp : nl a18 = true := by rfl) : Wx K pc (a0 :: a1 :: a2 :: a3 :: a4 :: a5 :: a6 :: a7 :: a8 :: a9 :: a10 :: a11 :: a12 :: a13 :: a14 :: a15 :: a16 :: a17 :: a18 :: some (zI ((z + 1 : Nat) : Int)) :: r) st n f u := r_iinc_19 hK hd (by rw [show ((z + 1 : Nat) : Int) + -1 = (z : Int) by omega]; exact k) hp
theorem r_decN_20 {a0 a1 a2 a3 a4 a5 a6 a7 a8 a9 a10 a11 a12 a13 a14 a15 a16 a17 a18 a19 : Option Value} {r : List (Option Value)} {z : Nat} (hK : Gd K own cc nL d U) (hd : decode cc pc = .ok (.iinc 20 (-1), 3)) (k : Wx K (pc + 3) (a0 :: a1 :: a2 :: a3 :: a4 :: a5 :: a6 :: a7 :: a8 :: a9 :: a10 :: a11 :: a12 :: a13 :: a14 :: a15 :: a16 :: a17 :: a18 :: a19 :: some (zI (z : Int)) :: r) st n f u) (hp : nl a19 = true := by rfl) : Wx K pc (a0 :: a1 :: a2 :: a3 :: a4 :: a5 :: a6 :: a7 :: a8 :: a9 :: a10 :: a11 :: a12 :: a13 :: a14 :: a15 :: a16 :: a17 :: a18 :: a19 :: some (zI ((z + 1 : Nat) : Int)) :: r) st n f u := r_iinc_20 hK hd (by rw [show ((z + 1 : Nat) : Int) + -1 = (z : Int) by omega]; exact k) hp
theorem r_decN_21 {a0 a1 a2 a3 a4 a5 a6 a7 a8 a9 a10 a11 a12 a13 a14 a15 a16 a17 a18 a19 a20 : Option Value} {r : List (Option Value)} {z : Nat} (hK : Gd K own cc nL d U) (hd : decode cc pc = .ok (.iinc 21 (-1), 3)) (k : Wx K (pc + 3) (a0 :: a1 :: a2 :: a3 :: a4 :: a5 :: a6 :: a7 :: a8 :: a9 :: a10 :: a11 :: a12 :: a13 :: a14 :: a15 :: a16 :: a17 :: a18 :: a19 :: a20 :: some (zI (z : Int)) :: r) st n f u) (hp : nl a20 = true := by rfl) : Wx K pc (a0 :: a1 :: a2 :: a3 :: a4 :: a5 :: a6 :: a7 :: a8 :: a9 :: a10 :: a11 :: a12 :: a13 :: a14 :: a15 :: a16 :: a17 :: a18 :: a19 :: a20 :: some (zI ((z + 1 : Nat) : Int)) :: r) st n f u := r_iinc_21 hK hd (by rw [show ((z + 1 : Nat) : Int) + -1 = (z : Int) by omega]; exact k) hp
theorem r_decN_22 {a0 a1 a2 a3 a4 a5 a6 a7 a8 a9 a10 a11 a12 a13 a14 a15 a16 a17 a18 a19 a20 a21 : Option Value} {r : List (Option Value)} {z : Nat} (hK : Gd K own cc nL d U) (hd : decode cc pc = .ok (.iinc 22 (-1), 3)) (k : Wx K (pc + 3) (a0 :: a1 :: a2 :: a3 :: a4 :: a5 :: a6 :: a7 :: a8 :: a9 :: a10 :: a11 :: a12 :: a13 :: a14 :: a15 :: a16 :: a17 :: a18 :: a19 :: a20 :: a21 :: some (zI (z : Int)) :: r) st n f u) (hp : nl a21 = true := by rfl) : Wx K pc (a0 :: a1 :: a2 :: a3 :: a4 :: a5 :: a6 :: a7 :: a8 :: a9 :: a10 :: a11 :: a12 :: a13 :: a14 :: a15 :: a16 :: a17 :: a18 :: a19 :: a20 :: a21 :: some (zI ((z + 1 : Nat) : Int)) :: r) st n f u := r_iinc_22 hK hd (by rw [show ((z + 1 : Nat) : Int) + -1 = (z : Int) by omega]; exact k) hp
theorem r_decN_23 {a0 a1 a2 a3 a4 a5 a6 a7 a8 a9 a10 a11 a12 a13 a14 a15 a16 a17 a18 a19 a20 a21 a22 : Option Value} {r : List (Option Value)} {z : Nat} (hK : Gd K own cc nL d U) (hd : decode cc pc = .ok (.iinc 23 (-1), 3)) (k : Wx K (pc + 3) (a0 :: a1 :: a2 :: a3 :: a4 :: a5 :: a6 :: a7 :: a8 :: a9 :: a10 :: a11 :: a12 :: a13 :: a14 :: a15 :: a16 :: a17 :: a18 :: a19 :: a20 :: a21 :: a22 :: some (zI (z : Int)) :: r) st n f u) (hp : nl a22 = true := by rfl) : Wx K pc (a0 :: a1 :: a2 :: a3 :: a4 :: a5 :: a6 :: a7 :: a8 :: a9 :: a10 :: a11 :: a12 :: a13 :: a14 :: a15 :: a16 :: a17 :: a18 :: a19 :: a20 :: a21 :: a22 :: some (zI ((z + 1 : Nat) : Int)) :: r) st n f u := r_iinc_23 hK hd (by rw [show ((z + 1 : Nat) : Int) + -1 = (z : Int) by omega]; exact k) hp
theorem r_decN_24 {a0 a1 a2 a3 a4 a5 a6 a7 a8 a9 a10 a11 a12 a13 a14 a15 a16 a17 a18 a19 a20 a21 a22 a23 : Option Value} {r : List (Option Value)} {z : Nat} (hK : Gd K own cc nL d U) (hd : decode cc pc = .ok (.iinc 24 (-1), 3)) (k : Wx K (pc + 3) (a0 :: a1 :: a2 :: a3 :: a4 :: a5 :: a6 :: a7 :: a8 :: a9 :: a10 :: a11 :: a12 :: a13 :: a14 :: a15 :: a16 :: a17 :: a18 :: a19 :: a20 :: a21 :: a22 :: a23 :: some (zI (z : Int)) :: r) st n f u) (hp : nl a23 = true := by rfl) : Wx K pc (a0 :: a1 :: a2 :: a3 :: a4 :: a5 :: a6 :: a7 :: a8 :: a9 :: a10 :: a11 :: a12 :: a13 :: a14 :: a15 :: a16 :: a17 :: a18 :: a19 :: a20 :: a21 :: a22 :: a23 :: some (zI ((z + 1 : Nat) : Int)) :: r) st n f u := r_iinc_24 hK hd (by rw [show ((z + 1 : Nat) : Int) + -1 = (z : Int) by omega]; exact k) hp
theorem r_decN_25 {a0 a1 a2 a3 a4 a5 a6 a7 a8 a9 a10 a11 a12 a13 a14 a15 a16 a17 a18 a19 a20 a21 a22 a23 a24 : Option Value} {r : List (Option Value)} {z : Nat} (hK : Gd K own cc nL d U) (hd : decode cc pc = .ok (.iinc 25 (-1), 3)) (k : Wx K (pc + 3) (a0 :: a1 :: a2 :: a3 :: a4 :: a5 :: a6 :: a7 :: a8 :: a9 :: a10 :: a11 :: a12 :: a13 :: a14 :: a15 :: a16 :: a17 :: a18 :: a19 :: a20 :: a21 :: a22 :: a23 :: a24 :: some (zI (z : Int)) :: r) st n f u) (hp : nl a24 = true := by rfl) : Wx K pc (a0 :: a1 :: a2 :: a3 :: a4 :: a5 :: a6 :: a7 :: a8 :: a9 :: a10 :: a11 :: a12 :: a13 :: a14 :: a15 :: a16 :: a17 :: a18 :: a19 :: a20 :: a21 :: a22 :: a23 :: a24 :: some (zI ((z + 1 : Nat) : Int)) :: r) st n f u := r_iinc_25 hK hd (by rw [show ((z + 1 : Nat) : Int) + -1 = (z : Int) by omega]; exact k) hp
theorem i_cl {i : Nat} (h : i < 2147483648) : (Int32.ofInt (i : Int)).toNatClampNeg = i := by rw [zn]; exact nI_clamp h
theorem i_ix {i N : Nat} (h : i < N) (hN : N < 2147483648) : ¬ (Int32.ofInt (i : Int) < 0 ∨ N ≤ (Int32.ofInt (i : Int)).toNatClampNeg) := by
  rw [zn]; exact nI_in h hN
/-- a field's link: the class own's entry idx is field k of class number ci -/
def Fl (own : String) (idx ci k : Nat) : Prop := ∃ (C : String) (T : u_T) (N : Nat) (ref : String), cls[ci]? = some (C, T, N) ∧ k < N ∧ Cond.fieldLink own idx ref (T k).2.1 (T k).2.2.1 ∈ lw_all ∧ (ref = (T k).1 ∨ Cond.sameField ref (T k).1 (T k).2.1 (T k).2.2.1 ∈ lw_all)
theorem r_get {id idx ci k : Nat} {fs : List Value} {v : Value} (hK : Gd K own cc nL d U) (hF : Fl own idx ci k) (hd : decode cc pc = .ok (.getfield idx, 3)) (hf : f id = some (.inl (ci, fs))) (hv : fs[k]? = some v) (kk : Wx K (pc + 3) L (v :: st) n f u) (hr : rawE (.inl (ci, fs)) = true := by rfl) : Wx K pc L (.ref id :: st) n f u := by
  intro H locs ls hH hS hl
  obtain ⟨C, T, N, ref, hc, hk, hlk, hsm⟩ := hF
  obtain ⟨hin, -, -⟩ := cls_ok hc
  have hts := hK.2.2.2.2.1
  obtain ⟨r, h1, cell, q1, q2, q3, q4⟩ := hH.at hK.2.2.2.2.2.2.2.2.1 hf hr
  have hrr : r = (C, T, N) := Option.some.inj (h1.symm.trans hc)
  subst hrr
  obtain ⟨hSl, hfc, kC, hkC, hkind⟩ := hK.2.2.2.2.2.1.1.1 ci _ hc
  obtain ⟨cf, kf, fi, fd, hi, hsl⟩ := hSl k hk
  have hi2 : (ks K).fieldFound? ref (T k).2.1 (T k).2.2.1 = some (cf, kf, fi, fd) := by
    rcases hsm with e | e
    · rw [e]; exact hi
    · exact u_same (hts _ e) _ hi
  refine W.getf hK.1 hK.2.1 hK.2.2.2.1 (hts _ hlk) hi2 (u_facts hfc hkC (u_lays hts hin hk) hi).1 q1 (by rw [q3]; exact fun h => by cases h) (v := cv (kG K) v) ?_ rfl rfl hd (kk H locs ls hH hS hl)
  rw [hsl, q4 k hk]
  simp [vp_V, hv]
theorem r_put {id idx ci k : Nat} {fs : List Value} {v : Value} (hK : Gd K own cc nL d U) (hF : Fl own idx ci k) (hd : decode cc pc = .ok (.putfield idx, 3)) (hf : f id = some (.inl (ci, fs))) (hl : k < fs.length) (kk : Wx K (pc + 3) L st n (up f id (.inl (ci, fs.set k v))) u) (hfin : (∃ r, cls[ci]? = some r ∧ ((r.2.1 k).2.2.2 = false ∨ ((kme K).name = "<init>" ∧ (r.2.1 k).1 = own))) := by exact ⟨_, rfl, Or.inl rfl⟩) (hfit : narrow (tyC ci k) (cv (kG K) v) = cv (kG K) v ∧ fits (tyC ci k) (cv (kG K) v) = true := by exact ⟨rfl, rfl⟩) (hr : rawE (.inl (ci, fs)) = true := by rfl) : Wx K pc L (v :: .ref id :: st) n f u := by
  intro H locs ls hH hS hls
  obtain ⟨C, T, N, ref, hc, hk, hlk, hsm⟩ := hF
  obtain ⟨hin, hty, hnm⟩ := cls_ok hc
  have hts := hK.2.2.2.2.1
  have hap := va_apart (own := own) hts hin (tyC ci) hty hnm hK.2.2.2.2.2.1.1 hc
  obtain ⟨r, h1, cell, q1, q2, q3, q4⟩ := hH.at hK.2.2.2.2.2.2.2.2.1 hf hr
  have hrr : r = (C, T, N) := Option.some.inj (h1.symm.trans hc)
  subst hrr
  obtain ⟨hSl, hfc, kC, hkC, hkind⟩ := hK.2.2.2.2.2.1.1.1 ci _ hc
  obtain ⟨cf, kf, fi, fd, hi, hsl⟩ := hSl k hk
  have hi2 : (ks K).fieldFound? ref (T k).2.1 (T k).2.2.1 = some (cf, kf, fi, fd) := by
    rcases hsm with e | e
    · rw [e]; exact hi
    · exact u_same (hts _ e) _ hi
  have hst := (u_facts hfc hkC (u_lays hts hin hk) hi).1
  have hlay := hts _ (hin _ (u_in_lay hk))
  have hown := hH.own hK.2.2.2.2.2.2.2.2.1 hf hr
  have fin : ∀ H' : Heap, H'[ad (kG K) id]? = some (cell.setSlot fd.slot (cv (kG K) v)) → H'.size = H.size → (∀ q, q ≠ ad (kG K) id → H'[q]? = H[q]?) → W (kp K) (kl K) (ke K) (kR K) (ks K) (km K) (ka K) (kb K) (kme K) (kc K) H' (locs ++ [⟨ad (kG K) id, fd.slot⟩]) u (12 * u) (kQ K) (F0 (km K) (pc + 3) ls (st.map (cv (kG K)))) := by
    intro H' e1 e2 e3
    rw [hsl] at e1
    refine kk H' _ ls (hH.put hK.2.2.2.2.2.2.2.2.1 hf hr hr e2 e3 ⟨_, hc, t_OB.to (V := updV (vp_V (fs.map (cv (kG K)))) k (cv (kG K) v)) ⟨_, e1, q2, q3, t_set q4 hap hk _⟩ (fun j _ => ?_)⟩) (hS.put e2 e3 ?_) hls
    · rw [vp_updV_set (by simpa using hl) _ j, ← List.map_set]
    · show g_b (kG K) ≤ ad (kG K) id
      rw [ad_own hown.1]; omega
  obtain ⟨r, hr1, hr2⟩ := hfin
  cases hc.symm.trans hr1
  rcases hr2 with hfin | ⟨hini, hdecl⟩
  · unfold u_lay at hlay
    rw [if_neg (by rw [hfin]; decide)] at hlay
    have h6 := u_store hfc hkC hkind hlay hi (hty k hk) hfit.1 hfit.2
    exact W.putK hK.1 hK.2.1 (f := fd) ⟨hK.2.2.2.1, hts _ hlk, ⟨_, _, _, hi2⟩, hst⟩ (by rw [q2]; exact h6) q1 q3 (by rw [hsl]; exact k2_hasslot (q4 k hk)) rfl rfl hd fin
  · by_cases hfin : (T k).2.2.2 = true
    · unfold u_lay at hlay
      rw [if_pos hfin] at hlay
      have hcf : (km K).cls = cf := by
        obtain ⟨_, _, c', _, _, _, -, -, hf', -, -, -, hown2, -⟩ := Cond.laysFinal_spec hlay
        have e1 : c' = cf := by have := hi.symm.trans hf'; simp at this; exact this.1.symm
        have hdecl' : (T k).1 = own := hdecl
        rw [hdecl'] at hown2
        rw [← e1]; exact Option.some.inj (hK.2.2.2.1.symm.trans hown2)
      have h6 := u_fits hfc hkC hkind (Or.inr hlay) hi (hty k hk) hfit.1 hfit.2
      exact W.putFinK hK.1 hK.2.1 hK.2.2.2.1 (hts _ hlk) hi2 hst hcf hini (by rw [q2]; exact h6) q1 q3 (by rw [hsl]; exact k2_hasslot (q4 k hk)) rfl rfl hd fin
    · unfold u_lay at hlay
      rw [if_neg hfin] at hlay
      have h6 := u_store hfc hkC hkind hlay hi (hty k hk) hfit.1 hfit.2
      exact W.putK hK.1 hK.2.1 (f := fd) ⟨hK.2.2.2.1, hts _ hlk, ⟨_, _, _, hi2⟩, hst⟩ (by rw [q2]; exact h6) q1 q3 (by rw [hsl]; exact k2_hasslot (q4 k hk)) rfl rfl hd fin
/-- a class that can be made: its entry idx in own's pool -/
def Nw (own : String) (idx ci : Nat) : Prop := ∃ (C : String) (T : u_T) (N : Nat), cls[ci]? = some (C, T, N) ∧ Cond.classLink own idx C ∈ lw_all ∧ Cond.instantiable C N ∈ lw_all ∧ Cond.initialized C ∈ lw_all
theorem u_room {R : Room} {u m U w : Nat} (hR : U ≤ R.cells ∧ 12 * U ≤ R.slots) (hu : u + w ≤ U) (hw : 1 ≤ w) (hm : m ≤ 12 * w) : u + 1 ≤ R.cells ∧ 12 * u + m ≤ R.slots := by omega
theorem r_new {idx ci : Nat} {fs : List Value} (w : Nat) (hK : Gd K own cc nL d U) (hN : Nw own idx ci) (hd : decode cc pc = .ok (.new idx, 3)) (hu : u + w ≤ U) (kk : Wx K (pc + 3) L (.ref n :: st) (n + 1) (up f n (.inl (ci, fs))) (u + w)) (hw : (∃ r, cls[ci]? = some r ∧ r.2.2 ≤ 12 * w ∧ 1 ≤ w ∧ ∀ j, j < r.2.2 → defaultValue (tyC ci j) = cv (kG K) (vp_V fs j)) := by exact ⟨_, rfl, by decide, by decide, fun j hj => by revert j; decide +kernel⟩) (hr : rawE (.inl (ci, fs)) = true := by rfl) : Wx K pc L st n f u := by
  intro H locs ls hH hS hl
  obtain ⟨C, T, N, hc, h1, h2, h3⟩ := hN
  obtain ⟨r, hr1, hw1, hw2, hfs⟩ := hw
  cases hc.symm.trans hr1
  have hts := hK.2.2.2.2.1
  obtain ⟨hin, hty, hnm⟩ := cls_ok hc
  have hKn := hK.2.2.2.2.2.1.1.1 ci _ hc
  have hro := u_room (R := kR K) hK.2.2.2.2.2.2.1.2.2 hu hw2 hw1
  refine W.newcK hK.1 hK.2.1 hK.2.2.2.1 (hts _ h1) (hts _ h2) (hts _ h3) rfl hd hro.1 hro.2 hKn.2.1 rfl fun H1 kC hkC e1 z1 o1 => ?_
  have hH1 : HP (kG K) (kRel K) (n + 1) (up f n (.inl (ci, fs))) H1 := by
    refine hH.new hK.2.2.2.2.2.2.2.2.1 hr z1 o1 ⟨_, hc, ?_⟩
    have hb := u_born (tyC ci) hts hin hKn hkC e1 hty
    rw [hH.next] at hb
    refine hb.to (fun j hj => ?_)
    rw [hfs j hj]
    simp only [vp_V, List.getD_eq_getElem?_getD, List.getElem?_map]
    cases fs[j]? <;> rfl
  have hlt : W (kp K) (kl K) (ke K) (kR K) (ks K) (km K) (ka K) (kb K) (kme K) (kc K) H1 locs (u + 1) (12 * u + N) (kQ K) (F0 (km K) (pc + 3) ls (.ref H.size :: st.map (cv (kG K)))) := by
    refine W.widen (k := u + w) (n := 12 * (u + w)) (by omega) (by simp only at hw1; omega) ?_
    rw [hH.next]
    exact kk H1 locs ls hH1 ⟨Nat.le_trans hS.1 (by omega), fun x g1 g2 => (o1 x (Nat.lt_of_lt_of_le g1 hS.1)).trans (hS.2.1 x g1 g2), hS.2.2⟩ hl
  exact hlt
theorem cvup (G : GT) (g : Nat → Value) (i : Nat) (v : Value) : (fun j => cv G (updV g i v j)) = updV (fun j => cv G (g j)) i (cv G v) := by
  funext j
  by_cases h : j = i
  · subst h; simp [updV]
  · simp [updV, h]
theorem r_iald {id i N : Nat} {g : Nat → Value} (hK : Gd K own cc nL d U) (hd : decode cc pc = .ok (.iaload, 1)) (hf : f id = some (.inr (0, N, g))) (hi : i < N) (kk : Wx K (pc + 1) L (g i :: st) n f u) (hN : N < 2147483648 := by decide) : Wx K pc L (zI (i : Int) :: .ref id :: st) n f u := by
  intro H locs ls hH hS hl
  refine W.iald (v := cv (kG K) (g i)) hK.1 hK.2.1 (hH.at hK.2.2.2.2.2.2.2.2.1 hf rfl) ((hK.2.2.2.2.2.1.2.1 0 (by decide)).1 N _) (fun q => by cases q) (by show ¬ (_ ∨ (arrV _ _ _).slots.size ≤ _); rw [arrV_size]; exact i_ix hi hN) (by show (arrV _ _ _).slots[_]? = _; rw [i_cl (by omega), arrV_read _ _ hi]) rfl rfl hd (kk H locs ls hH hS hl)
theorem r_bald {id i N : Nat} {g : Nat → Value} (hK : Gd K own cc nL d U) (hd : decode cc pc = .ok (.baload, 1)) (hf : f id = some (.inr (1, N, g))) (hi : i < N) (kk : Wx K (pc + 1) L (g i :: st) n f u) (hN : N < 2147483648 := by decide) : Wx K pc L (zI (i : Int) :: .ref id :: st) n f u := by
  intro H locs ls hH hS hl
  refine W.bald (v := cv (kG K) (g i)) hK.1 hK.2.1 (hH.at hK.2.2.2.2.2.2.2.2.1 hf rfl) ((hK.2.2.2.2.2.1.2.1 1 (by decide)).1 N _) (fun q => by cases q) (by show ¬ (_ ∨ (arrV _ _ _).slots.size ≤ _); rw [arrV_size]; exact i_ix hi hN) (by show (arrV _ _ _).slots[_]? = _; rw [i_cl (by omega), arrV_read _ _ hi]) rfl rfl hd (kk H locs ls hH hS hl)
theorem r_sald {id i N : Nat} {g : Nat → Value} (hK : Gd K own cc nL d U) (hd : decode cc pc = .ok (.saload, 1)) (hf : f id = some (.inr (2, N, g))) (hi : i < N) (kk : Wx K (pc + 1) L (g i :: st) n f u) (hN : N < 2147483648 := by decide) : Wx K pc L (zI (i : Int) :: .ref id :: st) n f u := by
  intro H locs ls hH hS hl
  refine W.sald (v := cv (kG K) (g i)) hK.1 hK.2.1 (hH.at hK.2.2.2.2.2.2.2.2.1 hf rfl) ((hK.2.2.2.2.2.1.2.1 2 (by decide)).1 N _) (fun q => by cases q) (by show ¬ (_ ∨ (arrV _ _ _).slots.size ≤ _); rw [arrV_size]; exact i_ix hi hN) (by show (arrV _ _ _).slots[_]? = _; rw [i_cl (by omega), arrV_read _ _ hi]) rfl rfl hd (kk H locs ls hH hS hl)
theorem r_lald {id i N : Nat} {g : Nat → Value} (hK : Gd K own cc nL d U) (hd : decode cc pc = .ok (.laload, 1)) (hf : f id = some (.inr (3, N, g))) (hi : i < N) (kk : Wx K (pc + 1) L (g i :: st) n f u) (hN : N < 2147483648 := by decide) : Wx K pc L (zI (i : Int) :: .ref id :: st) n f u := by
  intro H locs ls hH hS hl
  refine W.lald (v := cv (kG K) (g i)) hK.1 hK.2.1 (hH.at hK.2.2.2.2.2.2.2.2.1 hf rfl) ((hK.2.2.2.2.2.1.2.1 3 (by decide)).1 N _) (fun q => by cases q) (by show ¬ (_ ∨ (arrV _ _ _).slots.size ≤ _); rw [arrV_size]; exact i_ix hi hN) (by show (arrV _ _ _).slots[_]? = _; rw [i_cl (by omega), arrV_read _ _ hi]) rfl rfl hd (kk H locs ls hH hS hl)
theorem r_zald {id i N : Nat} {g : Nat → Value} (hK : Gd K own cc nL d U) (hd : decode cc pc = .ok (.baload, 1)) (hf : f id = some (.inr (4, N, g))) (hi : i < N) (kk : Wx K (pc + 1) L (g i :: st) n f u) (hN : N < 2147483648 := by decide) : Wx K pc L (zI (i : Int) :: .ref id :: st) n f u := by
  intro H locs ls hH hS hl
  refine W.zald (v := cv (kG K) (g i)) hK.1 hK.2.1 (hH.at hK.2.2.2.2.2.2.2.2.1 hf rfl) ((hK.2.2.2.2.2.1.2.1 4 (by decide)).1 N _) (fun q => by cases q) (by show ¬ (_ ∨ (arrV _ _ _).slots.size ≤ _); rw [arrV_size]; exact i_ix hi hN) (by show (arrV _ _ _).slots[_]? = _; rw [i_cl (by omega), arrV_read _ _ hi]) rfl rfl hd (kk H locs ls hH hS hl)
theorem r_aald {id i N ty : Nat} {g : Nat → Value} (hK : Gd K own cc nL d U) (hd : decode cc pc = .ok (.aaload, 1)) (hf : f id = some (.inr (ty, N, g))) (hi : i < N) (kk : Wx K (pc + 1) L (g i :: st) n f u) (hN : N < 2147483648 := by decide) (hty : 5 ≤ ty ∧ ty < 8 := by decide) : Wx K pc L (zI (i : Int) :: .ref id :: st) n f u := by
  intro H locs ls hH hS hl
  have hrf : (tyA ty).isReference = true := by
    have : ty = 5 ∨ ty = 6 ∨ ty = 7 := by omega
    rcases this with e | e | e <;> subst e <;> rfl
  refine W.aald (v := cv (kG K) (g i)) hK.1 hK.2.1 (hH.at hK.2.2.2.2.2.2.2.2.1 hf (by simp [rawE]; omega)) ((hK.2.2.2.2.2.1.2.1 ty (by omega)).1 N _) hrf (fun q => by cases q) (by show ¬ (_ ∨ (arrV _ _ _).slots.size ≤ _); rw [arrV_size]; exact i_ix hi hN) (by show (arrV _ _ _).slots[_]? = _; rw [i_cl (by omega), arrV_read _ _ hi]) rfl rfl hd (kk H locs ls hH hS hl)
theorem r_alen {id N ty : Nat} {g : Nat → Value} (hK : Gd K own cc nL d U) (hd : decode cc pc = .ok (.arraylength, 1)) (hf : f id = some (.inr (ty, N, g))) (kk : Wx K (pc + 1) L (zI (N : Int) :: st) n f u) (hty : ty < 8 := by decide) : Wx K pc L (.ref id :: st) n f u := by
  intro H locs ls hH hS hl
  exact W.alen (n := Int32.ofInt (N : Int)) hK.1 hK.2.1 (hH.at hK.2.2.2.2.2.2.2.2.1 hf (by simp [rawE]; omega)) ((hK.2.2.2.2.2.1.2.1 ty hty).1 N _) (by rw [arrV_size, zn] <;> rfl) rfl rfl hd (kk H locs ls hH hS hl)
theorem r_iast {id i N : Nat} {g : Nat → Value} {z : Int} (hK : Gd K own cc nL d U) (hd : decode cc pc = .ok (.iastore, 1)) (hf : f id = some (.inr (0, N, g))) (hi : i < N) (kk : Wx K (pc + 1) L st n (up f id (.inr (0, N, updV g i (zI z)))) u) (hN : N < 2147483648 := by decide) : Wx K pc L (zI z :: zI (i : Int) :: .ref id :: st) n f u := by
  intro H locs ls hH hS hl
  have hown := hH.own hK.2.2.2.2.2.2.2.2.1 hf rfl
  refine W.iast hK.1 hK.2.1 (hH.at hK.2.2.2.2.2.2.2.2.1 hf rfl) ((hK.2.2.2.2.2.1.2.1 0 (by decide)).1 N _) (fun q => by cases q) (by show ¬ (_ ∨ (arrV _ _ _).slots.size ≤ _); rw [arrV_size]; exact i_ix hi hN) rfl rfl hd fun H1 e1 z1 o1 => ?_
  refine kk H1 _ ls (hH.put hK.2.2.2.2.2.2.2.2.1 hf rfl rfl z1 o1 ?_) (hS.put z1 o1 ?_) hl
  · show H1[ad (kG K) id]? = some (arrV _ _ _)
    rw [e1, arrV_store, i_cl (by omega), cvup] <;> rfl
  · show g_b (kG K) ≤ ad (kG K) id
    rw [ad_own hown.1]; omega
theorem r_bast {id i N : Nat} {g : Nat → Value} {z : Int} (hK : Gd K own cc nL d U) (hd : decode cc pc = .ok (.bastore, 1)) (hf : f id = some (.inr (1, N, g))) (hi : i < N) (hn : narrow .byte (zI z) = zI z) (kk : Wx K (pc + 1) L st n (up f id (.inr (1, N, updV g i (zI z)))) u) (hN : N < 2147483648 := by decide) : Wx K pc L (zI z :: zI (i : Int) :: .ref id :: st) n f u := by
  intro H locs ls hH hS hl
  have hown := hH.own hK.2.2.2.2.2.2.2.2.1 hf rfl
  refine W.bast hK.1 hK.2.1 (hH.at hK.2.2.2.2.2.2.2.2.1 hf rfl) ((hK.2.2.2.2.2.1.2.1 1 (by decide)).1 N _) (fun q => by cases q) (by show ¬ (_ ∨ (arrV _ _ _).slots.size ≤ _); rw [arrV_size]; exact i_ix hi hN) rfl rfl hd fun H1 e1 z1 o1 => ?_
  have e1' : H1[ad (kG K) id]? = some ((arrV (g_A (kG K) 1) N (fun j => cv (kG K) (g j))).setSlot (Int32.ofInt (i : Int)).toNatClampNeg (zI z)) := by rw [e1]; exact congrArg some (congrArg _ hn)
  refine kk H1 _ ls (hH.put hK.2.2.2.2.2.2.2.2.1 hf rfl rfl z1 o1 ?_) (hS.put z1 o1 ?_) hl
  · show H1[ad (kG K) id]? = some (arrV _ _ _)
    rw [e1', arrV_store, i_cl (by omega), cvup] <;> rfl
  · show g_b (kG K) ≤ ad (kG K) id
    rw [ad_own hown.1]; omega
theorem r_sast {id i N : Nat} {g : Nat → Value} {z : Int} (hK : Gd K own cc nL d U) (hd : decode cc pc = .ok (.sastore, 1)) (hf : f id = some (.inr (2, N, g))) (hi : i < N) (hn : narrow .short (zI z) = zI z) (kk : Wx K (pc + 1) L st n (up f id (.inr (2, N, updV g i (zI z)))) u) (hN : N < 2147483648 := by decide) : Wx K pc L (zI z :: zI (i : Int) :: .ref id :: st) n f u := by
  intro H locs ls hH hS hl
  have hown := hH.own hK.2.2.2.2.2.2.2.2.1 hf rfl
  refine W.sast hK.1 hK.2.1 (hH.at hK.2.2.2.2.2.2.2.2.1 hf rfl) ((hK.2.2.2.2.2.1.2.1 2 (by decide)).1 N _) (fun q => by cases q) (by show ¬ (_ ∨ (arrV _ _ _).slots.size ≤ _); rw [arrV_size]; exact i_ix hi hN) rfl rfl hd fun H1 e1 z1 o1 => ?_
  have e1' : H1[ad (kG K) id]? = some ((arrV (g_A (kG K) 2) N (fun j => cv (kG K) (g j))).setSlot (Int32.ofInt (i : Int)).toNatClampNeg (zI z)) := by rw [e1]; exact congrArg some (congrArg _ hn)
  refine kk H1 _ ls (hH.put hK.2.2.2.2.2.2.2.2.1 hf rfl rfl z1 o1 ?_) (hS.put z1 o1 ?_) hl
  · show H1[ad (kG K) id]? = some (arrV _ _ _)
    rw [e1', arrV_store, i_cl (by omega), cvup] <;> rfl
  · show g_b (kG K) ≤ ad (kG K) id
    rw [ad_own hown.1]; omega
theorem r_zast {id i N : Nat} {g : Nat → Value} {z : Int} (hK : Gd K own cc nL d U) (hd : decode cc pc = .ok (.bastore, 1)) (hf : f id = some (.inr (4, N, g))) (hi : i < N) (hn : narrow .boolean (zI z) = zI z) (kk : Wx K (pc + 1) L st n (up f id (.inr (4, N, updV g i (zI z)))) u) (hN : N < 2147483648 := by decide) : Wx K pc L (zI z :: zI (i : Int) :: .ref id :: st) n f u := by
  intro H locs ls hH hS hl
  have hown := hH.own hK.2.2.2.2.2.2.2.2.1 hf rfl
  refine W.zast hK.1 hK.2.1 (hH.at hK.2.2.2.2.2.2.2.2.1 hf rfl) ((hK.2.2.2.2.2.1.2.1 4 (by decide)).1 N _) (fun q => by cases q) (by show ¬ (_ ∨ (arrV _ _ _).slots.size ≤ _); rw [arrV_size]; exact i_ix hi hN) rfl rfl hd fun H1 e1 z1 o1 => ?_
  have e1' : H1[ad (kG K) id]? = some ((arrV (g_A (kG K) 4) N (fun j => cv (kG K) (g j))).setSlot (Int32.ofInt (i : Int)).toNatClampNeg (zI z)) := by rw [e1]; exact congrArg some (congrArg _ hn)
  refine kk H1 _ ls (hH.put hK.2.2.2.2.2.2.2.2.1 hf rfl rfl z1 o1 ?_) (hS.put z1 o1 ?_) hl
  · show H1[ad (kG K) id]? = some (arrV _ _ _)
    rw [e1', arrV_store, i_cl (by omega), cvup] <;> rfl
  · show g_b (kG K) ≤ ad (kG K) id
    rw [ad_own hown.1]; omega
theorem r_last {id i N : Nat} {g : Nat → Value} {z : Int} (hK : Gd K own cc nL d U) (hd : decode cc pc = .ok (.lastore, 1)) (hf : f id = some (.inr (3, N, g))) (hi : i < N) (kk : Wx K (pc + 1) L st n (up f id (.inr (3, N, updV g i (zL z)))) u) (hN : N < 2147483648 := by decide) : Wx K pc L (zL z :: zI (i : Int) :: .ref id :: st) n f u := by
  intro H locs ls hH hS hl
  have hown := hH.own hK.2.2.2.2.2.2.2.2.1 hf rfl
  refine W.last hK.1 hK.2.1 (hH.at hK.2.2.2.2.2.2.2.2.1 hf rfl) ((hK.2.2.2.2.2.1.2.1 3 (by decide)).1 N _) (fun q => by cases q) (by show ¬ (_ ∨ (arrV _ _ _).slots.size ≤ _); rw [arrV_size]; exact i_ix hi hN) rfl rfl hd fun H1 e1 z1 o1 => ?_
  refine kk H1 _ ls (hH.put hK.2.2.2.2.2.2.2.2.1 hf rfl rfl z1 o1 ?_) (hS.put z1 o1 ?_) hl
  · show H1[ad (kG K) id]? = some (arrV _ _ _)
    rw [e1, arrV_store, i_cl (by omega), cvup] <;> rfl
  · show g_b (kG K) ≤ ad (kG K) id
    rw [ad_own hown.1]; omega
theorem r_aastN {id i N ty : Nat} {g : Nat → Value} (hK : Gd K own cc nL d U) (hd : decode cc pc = .ok (.aastore, 1)) (hf : f id = some (.inr (ty, N, g))) (hi : i < N) (kk : Wx K (pc + 1) L st n (up f id (.inr (ty, N, updV g i .null))) u) (hN : N < 2147483648 := by decide) (hty : ty = 5 ∨ ty = 6 ∨ ty = 7 := by decide) : Wx K pc L (.null :: zI (i : Int) :: .ref id :: st) n f u := by
  intro H locs ls hH hS hl
  have hraw : rawE (.inr (ty, N, g)) = true := by rcases hty with e | e | e <;> subst e <;> rfl
  have hraw2 : rawE (.inr (ty, N, updV g i .null)) = true := by rcases hty with e | e | e <;> subst e <;> rfl
  have hown := hH.own hK.2.2.2.2.2.2.2.2.1 hf hraw
  have hob : ∃ C, tyA ty = .object C := by rcases hty with e | e | e <;> subst e <;> exact ⟨_, rfl⟩
  obtain ⟨C, hC⟩ := hob
  refine va_WaastN (C := C) hK.1 hK.2.1 (hH.at hK.2.2.2.2.2.2.2.2.1 hf hraw) (hC ▸ (hK.2.2.2.2.2.1.2.1 ty (by omega)).1 N _) (fun q => by cases q) (by show ¬ (_ ∨ (arrV _ _ _).slots.size ≤ _); rw [arrV_size]; exact i_ix hi hN) rfl rfl hd fun H1 e1 z1 o1 => ?_
  refine kk H1 _ ls (hH.put hK.2.2.2.2.2.2.2.2.1 hf hraw hraw2 z1 o1 ?_) (hS.put z1 o1 ?_) hl
  · show H1[ad (kG K) id]? = some (arrV _ _ _)
    rw [e1, arrV_store, i_cl (by omega), cvup] <;> rfl
  · show g_b (kG K) ≤ ad (kG K) id
    rw [ad_own hown.1]; omega
/-- a new array of numbers -/
theorem r_newarr {N ty : Nat} (w : Nat) {atype : ArrayType} {v0 : Value} (hK : Gd K own cc nL d U) (hq : Cond.arrayClass (newarray.typeOf atype) ∈ lw_all) (hd : decode cc pc = .ok (.newarray atype, 2)) (hu : u + w ≤ U) (kk : Wx K (pc + 2) L (.ref n :: st) (n + 1) (up f n (.inr (ty, N, fun _ => v0))) (u + w)) (hty : (newarray.typeOf atype = tyA ty ∧ defaultValue (tyA ty) = v0 ∧ ty < 5) := by exact ⟨rfl, rfl, by decide⟩) (hw : 1 ≤ w ∧ N ≤ 12 * w := by decide) (hN : N < 67108864 := by decide) : Wx K pc L (zI (N : Int) :: st) n f u := by
  intro H locs ls hH hS hl
  obtain ⟨ht1, ht2, ht3⟩ := hty
  have hro := u_room (R := kR K) (m := N) hK.2.2.2.2.2.2.1.2.2 hu hw.1 hw.2
  have hcv : cv (kG K) v0 = v0 := by
    have : ty = 0 ∨ ty = 1 ∨ ty = 2 ∨ ty = 3 ∨ ty = 4 := by omega
    rcases this with e | e | e | e | e <;> subst e <;> rw [← ht2] <;> rfl
  have hby : N * componentBytes (newarray.typeOf atype) ≤ 536870912 := by
    have : componentBytes (newarray.typeOf atype) ≤ 8 := by cases atype <;> decide
    calc N * componentBytes (newarray.typeOf atype) ≤ N * 8 := Nat.mul_le_mul_left _ this
      _ ≤ 536870912 := by omega
  refine va_newaK hK.1 hK.2.1 (hK.2.2.2.2.1 _ hq) rfl hd rfl (by rw [zn]; exact nI_pos (by omega)) (i_cl (by omega)) hby hro.1 hro.2 rfl fun H1 cA e1 z1 o1 hAr hNm => ?_
  have hraw : rawE (.inr (ty, N, fun _ => v0)) = true := by simp [rawE]; omega
  have hcA : g_A (kG K) ty = cA := by
    have h := (hK.2.2.2.2.2.1.2.1 ty (by omega)).2
    rw [ht1] at hNm
    have : ty = 0 ∨ ty = 1 ∨ ty = 2 ∨ ty = 3 ∨ ty = 4 := by omega
    rcases this with e | e | e | e | e <;> subst e <;> exact Option.some.inj (h.symm.trans hNm)
  have hH1 : HP (kG K) (kRel K) (n + 1) (up f n (.inr (ty, N, fun _ => v0))) H1 := by
    refine hH.new hK.2.2.2.2.2.2.2.2.1 hraw z1 o1 ?_
    show H1[ad (kG K) n]? = some (arrV _ _ _)
    rw [← hH.next, e1, ht1, ht2, hcA]
    simp only [hcv]
  refine W.widen (k := u + w) (n := 12 * (u + w)) (by omega) (by omega) ?_
  rw [hH.next]
  exact kk H1 locs ls hH1 ⟨Nat.le_trans hS.1 (by omega), fun x g1 g2 => (o1 x (Nat.lt_of_lt_of_le g1 hS.1)).trans (hS.2.1 x g1 g2), hS.2.2⟩ hl
end RN
