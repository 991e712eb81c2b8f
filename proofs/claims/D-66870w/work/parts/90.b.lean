/-! THE PURE LAYER: decimal numbers: how many digits, zeros off, cut to 31 digits. -/
def dlen (c : Nat) : Nat := if h : c = 0 then 0 else dlen (c / 10) + 1
termination_by c
decreasing_by omega
theorem dlen_0 : dlen 0 = 0 := by rw [dlen]; rfl
theorem dlen_s {c : Nat} (h : c ≠ 0) : dlen c = dlen (c / 10) + 1 := by rw [dlen, dif_neg h]
theorem dlen_lt (c : Nat) : c < 10 ^ dlen c := by
  induction c using Nat.strongRecOn with
  | ind c ih =>
    by_cases h : c = 0
    · subst h; rw [dlen_0]; decide
    · rw [dlen_s h, Nat.pow_succ]
      have := ih (c / 10) (by omega)
      omega
theorem dlen_ge {c : Nat} (h : c ≠ 0) : 10 ^ (dlen c - 1) ≤ c := by
  induction c using Nat.strongRecOn with
  | ind c ih =>
    rw [dlen_s h, Nat.add_sub_cancel]
    by_cases h1 : c / 10 = 0
    · rw [h1, dlen_0]; show 1 ≤ c; omega
    · have := ih (c / 10) (by omega) h1
      rw [dlen_s h1, Nat.add_sub_cancel] at this
      rw [dlen_s h1, Nat.pow_succ]
      omega
theorem dlen_eq {c n : Nat} (h1 : 10 ^ n ≤ c) (h2 : c < 10 ^ (n + 1)) : dlen c = n + 1 := by
  have hc : c ≠ 0 := by have := Nat.pow_pos (n := n) (show 0 < 10 by decide); omega
  have a := dlen_lt c
  have b := dlen_ge hc
  have e : dlen c = dlen (c / 10) + 1 := dlen_s hc
  have l1 : n < dlen c := (Nat.pow_lt_pow_iff_right (by decide)).mp (Nat.lt_of_le_of_lt h1 a)
  have l2 : dlen c - 1 < n + 1 := (Nat.pow_lt_pow_iff_right (a := 10) (by decide)).mp (Nat.lt_of_le_of_lt b h2)
  omega
/-- a row whose top digit isn't 0 -/
theorem dlen_rv {d : Nat → Nat} {n : Nat} (h : ∀ k, k < n → d k < 10) (ht : n = 0 ∨ d (n - 1) ≠ 0) : dlen (rv d n) = n := by
  cases n with
  | zero => exact dlen_0
  | succ n =>
    refine dlen_eq ?_ (rv_lt h)
    have : 1 ≤ d n := by rcases ht with w | w; (· omega); have w : d n ≠ 0 := w; omega
    have h2 : 1 * 10 ^ n ≤ d n * 10 ^ n := Nat.mul_le_mul_right _ this
    show 10 ^ n ≤ rv d n + d n * 10 ^ n
    omega
/-- zeros off: the number, how many -/
def stz (c : Nat) : Nat × Nat := if h : c ≠ 0 ∧ c % 10 = 0 then ((stz (c / 10)).1, (stz (c / 10)).2 + 1) else (c, 0)
termination_by c
decreasing_by all_goals omega
theorem stz_n {c : Nat} (h : c = 0 ∨ c % 10 ≠ 0) : stz c = (c, 0) := by rw [stz, dif_neg (by omega)]
theorem stz_s {c : Nat} (h : c ≠ 0) : stz (c * 10) = ((stz c).1, (stz c).2 + 1) := by
  rw [stz, dif_pos (by omega), Nat.mul_div_cancel _ (by decide)]
theorem stz_pow {c k : Nat} (h : c % 10 ≠ 0) : stz (c * 10 ^ k) = (c, k) := by
  induction k with
  | zero => rw [Nat.pow_zero, Nat.mul_one]; exact stz_n (Or.inr h)
  | succ k ih =>
    have : c * 10 ^ k ≠ 0 := Nat.mul_ne_zero (by omega) (Nat.pos_iff_ne_zero.mp (Nat.pow_pos (by decide)))
    rw [Nat.pow_succ, ← Nat.mul_assoc, stz_s this, ih]
theorem stz_ok (c : Nat) : c = (stz c).1 * 10 ^ (stz c).2 ∧ (c ≠ 0 → (stz c).1 % 10 ≠ 0) := by
  induction c using Nat.strongRecOn with
  | ind c ih =>
    by_cases h : c ≠ 0 ∧ c % 10 = 0
    · obtain ⟨i1, i2⟩ := ih (c / 10) (by omega)
      have e : c = c / 10 * 10 := by omega
      have hs := stz_s (c := c / 10) (by omega)
      rw [← e] at hs
      rw [hs]
      refine ⟨?_, fun _ => i2 (by omega)⟩
      show c = (stz (c / 10)).1 * 10 ^ ((stz (c / 10)).2 + 1)
      rw [Nat.pow_succ, ← Nat.mul_assoc, ← i1]; exact e
    · rw [stz_n (by omega)]
      exact ⟨by show c = c * 10 ^ 0; omega, fun hc => by show c % 10 ≠ 0; omega⟩
/-- a node: what is raised, sign, number, exponent -/
abbrev Dn : Type := Nat × Int × Nat × Int
/-- cut to 31 digits; zeros off; too small: nothing; too great: raised -/
def dcut (sg : Int) (c : Nat) (e : Int) : Dn :=
  let n := dlen c
  let z := stz (c / 10 ^ (n - 31))
  if c = 0 ∨ (n : Int) + e < -98 then (0, 0, 0, 0) else if 99 < (n : Int) + e then (1, sg, z.1, e + (n - 31 : Nat) + z.2) else (0, sg, z.1, e + (n - 31 : Nat) + z.2)
