/-! THE PURE LAYER: numbers with a sign as Int32. -/
def nZ (x : Int) : Int32 := Int32.ofInt x
def iB (x : Int) : Prop := -2147483648 ≤ x ∧ x < 2147483648
theorem nZ_to {x : Int} (h : iB x) : (nZ x).toInt = x := Int32.toInt_ofInt_of_le (by have := h.1; omega) (by have := h.2; omega)
theorem nZ_add (x y : Int) : nZ x + nZ y = nZ (x + y) := (Int32.ofInt_add x y).symm
theorem nZ_sub (x y : Int) : nZ x - nZ y = nZ (x - y) := (Int32.ofInt_sub x y).symm
theorem nZ_mul (x y : Int) : nZ x * nZ y = nZ (x * y) := (Int32.ofInt_mul x y).symm
theorem nZ_nat (n : Nat) : nI n = nZ n := rfl
theorem nZ_lt {x y : Int} (hx : iB x) (hy : iB y) : nZ x < nZ y ↔ x < y := by rw [Int32.lt_iff_toInt_lt, nZ_to hx, nZ_to hy]
theorem nZ_le {x y : Int} (hx : iB x) (hy : iB y) : nZ x ≤ nZ y ↔ x ≤ y := by rw [Int32.le_iff_toInt_le, nZ_to hx, nZ_to hy]
theorem nZ_inj {x y : Int} (hx : iB x) (hy : iB y) : nZ x = nZ y ↔ x = y := ⟨fun h => by rw [← nZ_to hx, ← nZ_to hy, h], fun h => by rw [h]⟩
theorem nZ_clamp {n : Nat} (h : n < 2 ^ 31) : (nZ n).toNatClampNeg = n := pI_clamp h
