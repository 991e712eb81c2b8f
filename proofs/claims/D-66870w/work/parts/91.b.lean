/-! THE PURE LAYER: decimal numbers: cut is of the leading digits alone. -/
theorem dlen_pos {c : Nat} (h : c ≠ 0) : 0 < dlen c := by rw [dlen_s h]; omega
theorem dlen_mul {c : Nat} (h : c ≠ 0) : ∀ k, dlen (c * 10 ^ k) = dlen c + k
  | 0 => by rw [Nat.pow_zero, Nat.mul_one]; rfl
  | k + 1 => by
    have hk : c * 10 ^ k ≠ 0 := Nat.mul_ne_zero h (Nat.pos_iff_ne_zero.mp (Nat.pow_pos (by decide)))
    have h1 : c * 10 ^ (k + 1) = c * 10 ^ k * 10 := by rw [Nat.pow_succ, Nat.mul_assoc]
    rw [h1, dlen_s (by omega), Nat.mul_div_cancel _ (by decide), dlen_mul h k]; omega
theorem dlen_div {c : Nat} : ∀ k, dlen (c / 10 ^ k) = dlen c - k
  | 0 => by rw [Nat.pow_zero, Nat.div_one]; omega
  | k + 1 => by
    rw [Nat.pow_succ, ← Nat.div_div_eq_div_mul]
    have := dlen_div (c := c) k
    by_cases h : c / 10 ^ k = 0
    · rw [h, dlen_0] at this
      rw [h, Nat.zero_div, dlen_0]; omega
    · rw [dlen_s h] at this; omega
theorem stz_mul {c : Nat} (h : c ≠ 0) : ∀ k, stz (c * 10 ^ k) = ((stz c).1, (stz c).2 + k)
  | 0 => by rw [Nat.pow_zero, Nat.mul_one]; rfl
  | k + 1 => by
    have hk : c * 10 ^ k ≠ 0 := Nat.mul_ne_zero h (Nat.pos_iff_ne_zero.mp (Nat.pow_pos (by decide)))
    rw [Nat.pow_succ, ← Nat.mul_assoc, stz_s hk, stz_mul h k]; rfl
theorem dcut_0 {g e : Int} : dcut g 0 e = (0, 0, 0, 0) := by unfold dcut; rw [if_pos (Or.inl rfl)]
/-- zeros behind don't count -/
theorem dcut_mul {g e : Int} {c k : Nat} : dcut g (c * 10 ^ k) (e - k) = dcut g c e := by
  by_cases h : c = 0
  · rw [h, Nat.zero_mul, dcut_0, dcut_0]
  have hk : c * 10 ^ k ≠ 0 := Nat.mul_ne_zero h (Nat.pos_iff_ne_zero.mp (Nat.pow_pos (by decide)))
  have hl := dlen_mul h k
  have key : ∃ z, stz (c * 10 ^ k / 10 ^ (dlen (c * 10 ^ k) - 31)) = ((stz (c / 10 ^ (dlen c - 31))).1, z) ∧ (e - k + (dlen (c * 10 ^ k) - 31 : Nat) + z : Int) = e + (dlen c - 31 : Nat) + (stz (c / 10 ^ (dlen c - 31))).2 := by
    rw [hl]
    by_cases h1 : 31 ≤ dlen c
    · have e1 : dlen c + k - 31 = (dlen c - 31) + k := by omega
      rw [e1, Nat.pow_add, Nat.mul_div_mul_right _ _ (Nat.pow_pos (by decide))]
      exact ⟨_, rfl, by omega⟩
    · have e0 : dlen c - 31 = 0 := by omega
      rw [e0, Nat.pow_zero, Nat.div_one]
      by_cases h2 : dlen c + k ≤ 31
      · have e1 : dlen c + k - 31 = 0 := by omega
        rw [e1, Nat.pow_zero, Nat.div_one, stz_mul h]
        exact ⟨_, rfl, by omega⟩
      · have e1 : k = (31 - dlen c) + (dlen c + k - 31) := by omega
        have e2 : c * 10 ^ k / 10 ^ (dlen c + k - 31) = c * 10 ^ (31 - dlen c) := by
          have : c * 10 ^ k = c * 10 ^ (31 - dlen c) * 10 ^ (dlen c + k - 31) := by
            rw [Nat.mul_assoc, ← Nat.pow_add, ← e1]
          rw [this, Nat.mul_div_cancel _ (Nat.pow_pos (by decide))]
        rw [e2, stz_mul h]
        exact ⟨_, rfl, by omega⟩
  obtain ⟨z, k1, k2⟩ := key
  have hs : ((dlen (c * 10 ^ k) : Nat) : Int) + (e - k) = dlen c + e := by rw [hl]; omega
  unfold dcut
  simp only [hs, k1, k2, h, hk, false_or]
/-- digits behind the 31st don't count -/
theorem dcut_div {g e : Int} {c M : Nat} (h : 31 ≤ dlen (c / 10 ^ M)) : dcut g c e = dcut g (c / 10 ^ M) (e + M) := by
  have hl := dlen_div (c := c) M
  have h0 : c / 10 ^ M ≠ 0 := fun z => by rw [z, dlen_0] at h; omega
  have hc : c ≠ 0 := fun z => by rw [z, Nat.zero_div] at h0; exact h0 rfl
  have hs : ((dlen (c / 10 ^ M) : Nat) : Int) + (e + M) = dlen c + e := by rw [hl]; omega
  have hd : c / 10 ^ M / 10 ^ (dlen (c / 10 ^ M) - 31) = c / 10 ^ (dlen c - 31) := by
    rw [Nat.div_div_eq_div_mul, ← Nat.pow_add]; congr 2; omega
  have he : (e + M + (dlen (c / 10 ^ M) - 31 : Nat) : Int) = e + (dlen c - 31 : Nat) := by omega
  unfold dcut
  simp only [hs, hd, he, h0, hc, false_or]
theorem dcut_eq {g e e' : Int} {c c' k : Nat} (h : c' = c * 10 ^ k) (h2 : e' = e - k) : dcut g c' e' = dcut g c e := by rw [h, h2, dcut_mul]
/-- exact results -/
def dadd (a b : Dn) : Dn :=
  if a.1 ≠ 0 then (a.1, 0, 0, 0) else if b.1 ≠ 0 then (b.1, 0, 0, 0) else
  let e := min a.2.2.2 b.2.2.2
  let t := a.2.1 * (a.2.2.1 * 10 ^ (a.2.2.2 - e).toNat : Nat) + b.2.1 * (b.2.2.1 * 10 ^ (b.2.2.2 - e).toNat : Nat)
  dcut (if t < 0 then -1 else 1) t.natAbs e
def dneg (a : Dn) : Dn := (a.1, -a.2.1, a.2.2.1, a.2.2.2)
def dmul (a b : Dn) : Dn :=
  if a.1 ≠ 0 then (a.1, 0, 0, 0) else if b.1 ≠ 0 then (b.1, 0, 0, 0) else dcut (a.2.1 * b.2.1) (a.2.2.1 * b.2.2.1) (a.2.2.2 + b.2.2.2)
def ddiv (a b : Dn) : Dn :=
  if a.1 ≠ 0 then (a.1, 0, 0, 0) else if b.1 ≠ 0 then (b.1, 0, 0, 0) else if b.2.2.1 = 0 then (2, 0, 0, 0) else
  dcut (a.2.1 * b.2.1) (a.2.2.1 * 10 ^ (31 + dlen b.2.2.1) / b.2.2.1) (a.2.2.2 - b.2.2.2 - (31 + dlen b.2.2.1 : Nat))
def dval (v : Int) (scale : Nat) : Dn := dcut (if v < 0 then -1 else 1) v.natAbs (-scale)
/-- what a number is at a scale: its whole part there -/
def dat (a : Dn) (scale : Nat) : Nat := if a.2.2.2 < -scale then a.2.2.1 / 10 ^ (-scale - a.2.2.2).toNat else a.2.2.1 * 10 ^ (a.2.2.2 + scale).toNat
/-- what a receiver of so many digits gets: whether it failed, and what it holds then -/
def dgive (a : Dn) (v : Int) (many scale : Nat) (phrase : Bool) : Bool × Int :=
  if a.1 ≠ 0 then (true, v) else
  let t := dat a scale
  if 10 ^ many ≤ t ∧ phrase then (true, v) else (decide (10 ^ many ≤ t), (if a.2.1 < 0 then -1 else 1) * (t % 10 ^ many : Nat))
