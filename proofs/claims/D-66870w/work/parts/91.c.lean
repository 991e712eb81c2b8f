/-! THE PURE LAYER: decimal numbers: sums, differences, products, quotients digit by digit. -/
section DIG
variable {A B D N P c k : Nat}
theorem tp (k : Nat) : 0 < 10 ^ k := Nat.pow_pos (by decide)
theorem dg_lt : A / 10 ^ k % 10 < 10 := Nat.mod_lt _ (by decide)
theorem dg_up : A / 10 ^ k = 10 * (A / 10 ^ (k + 1)) + A / 10 ^ k % 10 := by
  rw [Nat.pow_succ, ← Nat.div_div_eq_div_mul]; omega
theorem md_up : A % 10 ^ (k + 1) = A % 10 ^ k + 10 ^ k * (A / 10 ^ k % 10) := by rw [Nat.pow_succ, Nat.mod_mul]
/-- the carry of a sum -/
def cry (A B k : Nat) : Nat := (A % 10 ^ k + B % 10 ^ k) / 10 ^ k
theorem cry_0 : cry A B 0 = 0 := by unfold cry; rw [Nat.pow_zero, Nat.mod_one, Nat.mod_one]
theorem cry_le : cry A B k ≤ 1 := by
  have h1 := Nat.mod_lt A (tp k)
  have h2 := Nat.mod_lt B (tp k)
  unfold cry
  have : (A % 10 ^ k + B % 10 ^ k) / 10 ^ k < 2 := (Nat.div_lt_iff_lt_mul (tp k)).mpr (by omega)
  omega
theorem cry_s : A / 10 ^ k % 10 + B / 10 ^ k % 10 + cry A B k = (A + B) / 10 ^ k % 10 + 10 * cry A B (k + 1) := by
  have hP := tp k
  have e1 : (A + B) / 10 ^ k = A / 10 ^ k + B / 10 ^ k + cry A B k := by
    have hA := Nat.div_add_mod A (10 ^ k)
    have hB := Nat.div_add_mod B (10 ^ k)
    have : A + B = 10 ^ k * (A / 10 ^ k + B / 10 ^ k) + (A % 10 ^ k + B % 10 ^ k) := by rw [Nat.mul_add]; omega
    unfold cry
    conv => lhs; rw [this]
    rw [Nat.mul_add_div hP]
  have e2 : cry A B (k + 1) = (A / 10 ^ k % 10 + B / 10 ^ k % 10 + cry A B k) / 10 := by
    show (A % 10 ^ (k + 1) + B % 10 ^ (k + 1)) / 10 ^ (k + 1) = _
    rw [md_up, md_up, Nat.pow_succ, ← Nat.div_div_eq_div_mul]
    congr 1
    have : A % 10 ^ k + 10 ^ k * (A / 10 ^ k % 10) + (B % 10 ^ k + 10 ^ k * (B / 10 ^ k % 10)) = 10 ^ k * (A / 10 ^ k % 10 + B / 10 ^ k % 10) + (A % 10 ^ k + B % 10 ^ k) := by rw [Nat.mul_add]; omega
    rw [this, Nat.mul_add_div hP]
    rfl
  rw [e1, e2]
  omega
/-- of a difference: what is taken is the carry of the way back -/
theorem bor_s (h : B ≤ A) : ((A / 10 ^ k % 10 : Nat) : Int) - (B / 10 ^ k % 10 : Nat) - cry B (A - B) k = ((A - B) / 10 ^ k % 10 : Nat) - 10 * cry B (A - B) (k + 1) := by
  have := cry_s (A := B) (B := A - B) (k := k)
  rw [Nat.add_sub_cancel' h] at this
  omega
/-- which is greater, from the top -/
theorem ord_s (h : A / 10 ^ (k + 1) = B / 10 ^ (k + 1)) (h2 : A / 10 ^ k % 10 = B / 10 ^ k % 10) : A / 10 ^ k = B / 10 ^ k := by
  rw [dg_up (A := A), dg_up (A := B), h, h2]
theorem ord_lt (h : A / 10 ^ (k + 1) = B / 10 ^ (k + 1)) (h2 : A / 10 ^ k % 10 < B / 10 ^ k % 10) : A < B := by
  have e1 := dg_up (A := A) (k := k)
  have e2 := dg_up (A := B) (k := k)
  have : A / 10 ^ k < B / 10 ^ k := by omega
  exact Nat.lt_of_not_le fun z => absurd (Nat.div_le_div_right (c := 10 ^ k) z) (by omega)
/-- a quotient, one digit more -/
theorem quo_s (hB : 0 < B) : N / 10 ^ k / B = 10 * (N / 10 ^ (k + 1) / B) + (10 * (N / 10 ^ (k + 1) % B) + N / 10 ^ k % 10) / B ∧ N / 10 ^ k % B = (10 * (N / 10 ^ (k + 1) % B) + N / 10 ^ k % 10) % B := by
  have h := Nat.div_add_mod (N / 10 ^ (k + 1)) B
  have e : N / 10 ^ k = B * (10 * (N / 10 ^ (k + 1) / B)) + (10 * (N / 10 ^ (k + 1) % B) + N / 10 ^ k % 10) := by
    have e1 := dg_up (A := N) (k := k)
    have : B * (10 * (N / 10 ^ (k + 1) / B)) = 10 * (B * (N / 10 ^ (k + 1) / B)) := by rw [← Nat.mul_assoc, Nat.mul_comm B 10, Nat.mul_assoc]
    omega
  have q1 : N / 10 ^ k / B = (B * (10 * (N / 10 ^ (k + 1) / B)) + (10 * (N / 10 ^ (k + 1) % B) + N / 10 ^ k % 10)) / B := congrArg (· / B) e
  have q2 : N / 10 ^ k % B = (B * (10 * (N / 10 ^ (k + 1) / B)) + (10 * (N / 10 ^ (k + 1) % B) + N / 10 ^ k % 10)) % B := congrArg (· % B) e
  exact ⟨by rw [q1, Nat.mul_add_div hB], by rw [q2, Nat.mul_add_mod]⟩
theorem quo_dig (hB : 0 < B) : (10 * (N / 10 ^ (k + 1) % B) + N / 10 ^ k % 10) / B = N / 10 ^ k / B % 10 := by
  have h1 := (quo_s (N := N) (k := k) hB).1
  have h2 : (10 * (N / 10 ^ (k + 1) % B) + N / 10 ^ k % 10) / B < 10 := by
    rw [Nat.div_lt_iff_lt_mul hB]
    have := Nat.mod_lt (N / 10 ^ (k + 1)) hB
    have := dg_lt (A := N) (k := k)
    omega
  rw [h1]
  generalize (10 * (N / 10 ^ (k + 1) % B) + N / 10 ^ k % 10) / B = x at *
  generalize N / 10 ^ (k + 1) / B = y
  omega
theorem div_comm10 : N / 10 ^ k / B = N / B / 10 ^ k := by rw [Nat.div_div_eq_div_mul, Nat.div_div_eq_div_mul, Nat.mul_comm]
/-- a product, one digit of the second factor more (V: what is there) -/
theorem mul_s {V a b i : Nat} : (V + a * b * 10 ^ i) / 10 ^ i = V / 10 ^ i + a * b := by rw [Nat.add_mul_div_right _ _ (tp i)]
theorem mul_lo {V a i j : Nat} (h : j < i) : (V + a * 10 ^ i) / 10 ^ j % 10 = V / 10 ^ j % 10 := by
  obtain ⟨d, rfl⟩ : ∃ d, i = j + (d + 1) := ⟨i - j - 1, by omega⟩
  rw [Nat.pow_add, ← Nat.mul_assoc, Nat.mul_right_comm, Nat.add_mul_div_right _ _ (tp j), Nat.pow_succ, ← Nat.mul_assoc, Nat.add_mul_mod_self_right]
end DIG
