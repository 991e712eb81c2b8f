/-! THE PURE LAYER: decimal numbers: a row cut. -/
theorem dcut_rv {d : Nat → Nat} {n n' x : Nat} {e g : Int} (hd : ∀ k, k < n → d k < 10) (h1 : n' ≤ n) (h2 : ∀ k, n' ≤ k → k < n → d k = 0) (h3 : n' = 0 ∨ d (n' - 1) ≠ 0) (x1 : x ≤ n' - (n' - 31)) (x2 : ∀ k, k < x → d (k + (n' - 31)) = 0) (x3 : x = n' - (n' - 31) ∨ d (x + (n' - 31)) ≠ 0) : dcut g (rv d n) e = if n' - (n' - 31) - x = 0 ∨ n' + e < -98 then (0, 0, 0, 0) else (if 99 < n' + e then 1 else 0, g, rv (fun k => d (k + x + (n' - 31))) (n' - (n' - 31) - x), e + (n' - 31 : Nat) + x) := by
  have e1 : rv d n = rv d n' := by
    obtain ⟨q, rfl⟩ : ∃ q, n = n' + q := ⟨n - n', by omega⟩
    rw [rv_add, rv_zero (fun k hk => h2 (n' + k) (by omega) (by omega))]; omega
  have hd' : ∀ k, k < n' → d k < 10 := fun k hk => hd k (by omega)
  have e2 : dlen (rv d n') = n' := dlen_rv hd' h3
  rw [e1]
  unfold dcut
  rw [e2]
  by_cases z : n' = 0
  · subst z
    have r0 : rv d 0 = 0 := rfl
    show (if rv d 0 = 0 ∨ ((0 : Nat) : Int) + e < -98 then _ else _) = _
    rw [if_pos (Or.inl r0), if_pos (Or.inl (by omega))]
  · have ht := h3.resolve_left z
    have c0 : rv d n' ≠ 0 := fun w => by rw [w, dlen_0] at e2; omega
    have xl : x < n' - (n' - 31) := by
      by_cases w : x = n' - (n' - 31)
      · exact absurd (x2 (n' - 1 - (n' - 31)) (by omega)) (by rw [show n' - 1 - (n' - 31) + (n' - 31) = n' - 1 by omega]; exact ht)
      · omega
    have e3 : rv d n' / 10 ^ (n' - 31) = rv (fun i => d ((n' - 31) + i)) (n' - (n' - 31)) := by
      conv => lhs; rw [show n' = (n' - 31) + (n' - (n' - 31)) by omega]
      rw [show n' - 31 + (n' - (n' - 31)) - 31 = n' - 31 by omega]
      exact rv_div (fun i hi => hd' i (by omega))
    have e4 : rv (fun i => d ((n' - 31) + i)) (n' - (n' - 31)) = rv (fun k => d (k + x + (n' - 31))) (n' - (n' - 31) - x) * 10 ^ x := by
      have : n' - (n' - 31) = x + (n' - (n' - 31) - x) := by omega
      rw [this, rv_add, rv_zero (fun k hk => by show d (n' - 31 + k) = 0; rw [Nat.add_comm]; exact x2 k hk), Nat.zero_add, show x + (n' - (n' - 31) - x) - x = n' - (n' - 31) - x by omega]
      refine congrArg (· * 10 ^ x) (rv_ext fun k _ => ?_)
      show d (n' - 31 + (x + k)) = d (k + x + (n' - 31))
      congr 1; omega
    have e5 : rv (fun k => d (k + x + (n' - 31))) (n' - (n' - 31) - x) % 10 ≠ 0 := by
      have hdg := rv_dig (d := fun k => d (k + x + (n' - 31))) (n := n' - (n' - 31) - x) (k := 0) (fun i hi => hd' _ (by omega)) (by omega)
      rw [Nat.pow_zero, Nat.div_one] at hdg
      rw [hdg]
      have := x3.resolve_left (by omega)
      rw [Nat.zero_add]; exact this
    show (if rv d n' = 0 ∨ (n' : Int) + e < -98 then (0, 0, 0, 0) else if 99 < (n' : Int) + e then (1, g, (stz (rv d n' / 10 ^ (n' - 31))).1, e + (n' - 31 : Nat) + (stz (rv d n' / 10 ^ (n' - 31))).2) else (0, g, (stz (rv d n' / 10 ^ (n' - 31))).1, e + (n' - 31 : Nat) + (stz (rv d n' / 10 ^ (n' - 31))).2)) = _
    rw [e3, e4, stz_pow e5]
    by_cases w : n' + e < -98
    · rw [if_pos (Or.inr w), if_pos (Or.inr w)]
    · have q1 : ¬ (rv d n' = 0 ∨ (n' : Int) + e < -98) := fun y => y.elim c0 w
      have q2 : ¬ (n' - (n' - 31) - x = 0 ∨ (n' : Int) + e < -98) := fun y => y.elim (fun y => by omega) w
      rw [if_neg q1, if_neg q2]
      by_cases v : 99 < n' + e
      · rw [if_pos v, if_pos v]
      · rw [if_neg v, if_neg v]
