/-! THE PURE LAYER, 1d: sums. -/
def nsum (f : Nat → Nat) : Nat → Nat
  | 0 => 0
  | n + 1 => nsum f n + f n
section NSUM
variable {f g : Nat → Nat} {n k c : Nat}
theorem nsum_ext (h : ∀ i, i < n → f i = g i) : nsum f n = nsum g n := by
  induction n with
  | zero => rfl
  | succ n ih => show nsum f n + f n = nsum g n + g n; rw [ih (fun i hi => h i (by omega)), h n (by omega)]
theorem nsum_zero (h : ∀ i, i < n → f i = 0) : nsum f n = 0 := by
  induction n with
  | zero => rfl
  | succ n ih => show nsum f n + f n = 0; rw [ih (fun i hi => h i (by omega)), h n (by omega)]
theorem nsum_add : nsum (fun i => f i + g i) n = nsum f n + nsum g n := by
  induction n with
  | zero => rfl
  | succ n ih => show nsum (fun i => f i + g i) n + (f n + g n) = nsum f n + f n + (nsum g n + g n); rw [ih]; omega
theorem nsum_le (h : ∀ i, i < n → f i ≤ g i) : nsum f n ≤ nsum g n := by
  induction n with
  | zero => exact Nat.le_refl _
  | succ n ih => have := ih (fun i hi => h i (by omega)); have := h n (by omega); show nsum f n + f n ≤ nsum g n + g n; omega
theorem nsum_le_mul (h : ∀ i, i < n → f i ≤ c) : nsum f n ≤ n * c := by
  induction n with
  | zero => exact Nat.zero_le _
  | succ n ih => have := ih (fun i hi => h i (by omega)); have := h n (by omega); show nsum f n + f n ≤ (n + 1) * c; rw [Nat.succ_mul]; omega
theorem nsum_one : nsum (fun i => if i = k then c else 0) n = if k < n then c else 0 := by
  induction n with
  | zero => rfl
  | succ n ih =>
    show nsum (fun i => if i = k then c else 0) n + (if n = k then c else 0) = _
    rw [ih]
    by_cases h1 : k < n
    · rw [if_pos h1, if_neg (by omega), if_pos (by omega)]; rfl
    · by_cases h2 : n = k
      · rw [if_neg h1, if_pos h2, if_pos (by omega)]; omega
      · rw [if_neg h1, if_neg h2, if_neg (by omega)]
/-- sums over two rows that are named by one another -/
theorem nsum_swap {p q g : Nat → Nat} {D S : Nat} (h1 : ∀ d, d < D → p d ≤ S ∧ (p d ≠ 0 → q (p d) = d)) (h2 : ∀ s, 1 ≤ s → s ≤ S → q s < D) : ∀ K, K ≤ S → nsum (fun d => if p d = 0 then 0 else if p d ≤ K then g (p d) else 0) D = nsum (fun i => if p (q (i + 1)) = i + 1 then g (i + 1) else 0) K := by
  intro K
  induction K with
  | zero =>
    intro _
    refine nsum_zero fun i _ => ?_
    show (if p i = 0 then 0 else if p i ≤ 0 then g (p i) else 0) = 0
    split
    · rfl
    · rw [if_neg (by omega)]
  | succ K ih =>
    intro hK
    show _ = nsum _ K + (if p (q (K + 1)) = K + 1 then g (K + 1) else 0)
    rw [← ih (by omega)]
    have e : ∀ d, d < D → (if p d = 0 then 0 else if p d ≤ K + 1 then g (p d) else 0) = (if p d = 0 then 0 else if p d ≤ K then g (p d) else 0) + (if d = q (K + 1) then (if p (q (K + 1)) = K + 1 then g (K + 1) else 0) else 0) := by
      intro d hd
      have w := h1 d hd
      by_cases z : p d = 0
      · rw [if_pos z, if_pos z]
        split
        · rename_i e; rw [← e, z, if_neg (by omega)]
        · rfl
      · rw [if_neg z, if_neg z]
        by_cases y : p d = K + 1
        · have := w.2 z
          rw [y] at this
          rw [if_pos (by omega), if_neg (by omega), if_pos this.symm, this, if_pos y, y]; omega
        · by_cases e : d = q (K + 1)
          · rw [if_pos e, ← e, if_neg y]
            split <;> split <;> omega
          · rw [if_neg e]
            split <;> split <;> omega
    rw [nsum_ext e, nsum_add, nsum_one, if_pos (h2 (K + 1) (by omega) hK)]
end NSUM
