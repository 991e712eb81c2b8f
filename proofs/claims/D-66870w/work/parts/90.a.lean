/-! THE PURE LAYER: decimal rows: what a row of digits is worth (lowest first). -/
def rv (d : Nat → Nat) : Nat → Nat
  | 0 => 0
  | n + 1 => rv d n + d n * 10 ^ n
theorem rv_ext {d e : Nat → Nat} : ∀ {n : Nat}, (∀ k, k < n → d k = e k) → rv d n = rv e n
  | 0, _ => rfl
  | n + 1, h => by unfold rv; rw [rv_ext (fun k hk => h k (by omega)), h n (by omega)]
theorem rv_lt {d : Nat → Nat} : ∀ {n : Nat}, (∀ k, k < n → d k < 10) → rv d n < 10 ^ n
  | 0, _ => Nat.zero_lt_one
  | n + 1, h => by
    have h1 := rv_lt (d := d) (n := n) (fun k hk => h k (by omega))
    have h2 := h n (by omega)
    have h3 : d n * 10 ^ n ≤ 9 * 10 ^ n := Nat.mul_le_mul_right _ (by omega)
    show rv d n + d n * 10 ^ n < 10 ^ n * 10
    omega
/-- the low part and the high part -/
theorem rv_add {d : Nat → Nat} {k : Nat} : ∀ {n : Nat}, rv d (k + n) = rv d k + rv (fun i => d (k + i)) n * 10 ^ k
  | 0 => by show rv d k = rv d k + 0 * 10 ^ k; omega
  | n + 1 => by
    show rv d (k + n) + d (k + n) * 10 ^ (k + n) = rv d k + (rv (fun i => d (k + i)) n + d (k + n) * 10 ^ n) * 10 ^ k
    rw [rv_add (n := n), Nat.add_mul, Nat.pow_add, Nat.mul_assoc, Nat.mul_comm (10 ^ n) (10 ^ k)]
    omega
theorem rv_div {d : Nat → Nat} {k n : Nat} (h : ∀ i, i < k → d i < 10) : rv d (k + n) / 10 ^ k = rv (fun i => d (k + i)) n := by
  rw [rv_add, Nat.add_mul_div_right _ _ (Nat.pow_pos (by decide)), Nat.div_eq_of_lt (rv_lt h), Nat.zero_add]
theorem rv_mod {d : Nat → Nat} {k n : Nat} (h : ∀ i, i < k → d i < 10) : rv d (k + n) % 10 ^ k = rv d k := by
  rw [rv_add, Nat.add_mul_mod_self_right, Nat.mod_eq_of_lt (rv_lt h)]
/-- a digit out of the number -/
theorem rv_dig {d : Nat → Nat} {k n : Nat} (h : ∀ i, i < n → d i < 10) (hk : k < n) : rv d n / 10 ^ k % 10 = d k := by
  obtain ⟨m, rfl⟩ : ∃ m, n = k + (m + 1) := ⟨n - k - 1, by omega⟩
  rw [rv_div (fun i hi => h i (by omega))]
  have e : rv (fun i => d (k + i)) (m + 1) = d k + rv (fun i => d (k + (1 + i))) m * 10 := by
    rw [Nat.add_comm m 1, rv_add (k := 1)]
    show (0 + d (k + 0) * 10 ^ 0) + _ * 10 ^ 1 = _
    simp
  rw [e, Nat.add_mul_mod_self_right, Nat.mod_eq_of_lt (h k (by omega))]
/-- the row of a number -/
theorem rv_of (c : Nat) : ∀ n, rv (fun k => c / 10 ^ k % 10) n = c % 10 ^ n
  | 0 => by rw [Nat.pow_zero, Nat.mod_one]; rfl
  | n + 1 => by
    show rv _ n + c / 10 ^ n % 10 * 10 ^ n = c % 10 ^ (n + 1)
    rw [rv_of c n, Nat.pow_succ, Nat.mod_mul, Nat.mul_comm (10 ^ n) (c / 10 ^ n % 10)]
theorem rv_zero {d : Nat → Nat} {n : Nat} (h : ∀ k, k < n → d k = 0) : rv d n = 0 := by
  induction n with
  | zero => rfl
  | succ n ih => unfold rv; rw [ih (fun k hk => h k (by omega)), h n (by omega)]; simp
theorem rv_inj {d e : Nat → Nat} {n : Nat} (hd : ∀ k, k < n → d k < 10) (he : ∀ k, k < n → e k < 10) (h : rv d n = rv e n) : ∀ k, k < n → d k = e k := fun k hk => by
  rw [← rv_dig hd hk, ← rv_dig he hk, h]
/-- a row with something added from a place on -/
theorem rv_carry {f d : Nat → Nat} {c : Nat → Nat} : ∀ {n : Nat}, (∀ k, k < n → f k + c k = d k + 10 * c (k + 1)) → rv f n + c 0 = rv d n + c n * 10 ^ n
  | 0, _ => by show 0 + c 0 = 0 + c 0 * 1; omega
  | n + 1, h => by
    have ih := rv_carry (f := f) (d := d) (c := c) (n := n) (fun k hk => h k (by omega))
    have e := h n (by omega)
    show rv f n + f n * 10 ^ n + c 0 = rv d n + d n * 10 ^ n + c (n + 1) * (10 ^ n * 10)
    have e2 : (f n + c n) * 10 ^ n = (d n + 10 * c (n + 1)) * 10 ^ n := by rw [e]
    rw [Nat.add_mul, Nat.add_mul] at e2
    have e3 : c (n + 1) * (10 ^ n * 10) = 10 * c (n + 1) * 10 ^ n := by rw [Nat.mul_comm (10 ^ n) 10, ← Nat.mul_assoc, Nat.mul_comm (c (n + 1)) 10]
    omega
theorem rv_sum {a b : Nat → Nat} : ∀ {n : Nat}, rv (fun k => a k + b k) n = rv a n + rv b n
  | 0 => rfl
  | n + 1 => by
    show rv _ n + (a n + b n) * 10 ^ n = rv a n + a n * 10 ^ n + (rv b n + b n * 10 ^ n)
    rw [rv_sum (n := n), Nat.add_mul]; omega
theorem rv_scale {a : Nat → Nat} {m : Nat} : ∀ {n : Nat}, rv (fun k => a k * m) n = rv a n * m
  | 0 => by show 0 = 0 * m; omega
  | n + 1 => by
    show rv _ n + a n * m * 10 ^ n = (rv a n + a n * 10 ^ n) * m
    rw [rv_scale (n := n), Nat.add_mul, Nat.mul_assoc, Nat.mul_comm m (10 ^ n), ← Nat.mul_assoc]
/-- which of two rows is greater: the first difference from the top -/
theorem rv_gt {a b : Nat → Nat} {k n : Nat} (ha : ∀ i, i < n → a i < 10) (hb : ∀ i, i < n → b i < 10) (hk : k < n) (h : b k < a k) (hs : ∀ i, k < i → i < n → a i = b i) : rv b n < rv a n := by
  obtain ⟨m, rfl⟩ : ∃ m, n = (k + 1) + m := ⟨n - k - 1, by omega⟩
  rw [rv_add (d := b) (k := k + 1), rv_add (d := a) (k := k + 1), show rv (fun i => b (k + 1 + i)) m = rv (fun i => a (k + 1 + i)) m from rv_ext fun i hi => (hs _ (by omega) (by omega)).symm]
  have h1 := rv_lt (d := b) (n := k) (fun i hi => hb i (by omega))
  have h2 : (b k + 1) * 10 ^ k ≤ a k * 10 ^ k := Nat.mul_le_mul_right _ (by omega)
  rw [Nat.add_mul] at h2
  show rv b k + b k * 10 ^ k + _ < rv a k + a k * 10 ^ k + _
  omega
