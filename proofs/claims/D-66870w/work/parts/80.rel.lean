/-! THE PURE LAYER, 1c: two loops side by side; writes that change nothing. -/
section PLR
/-- two loops that go on side by side -/
theorem zloop_rel {ρ β σ γ : Type} {bx : ρ → zS → zF (ρ ⊕ β)} {bm : σ → zS → zF (σ ⊕ γ)} {I : Nat → ρ → zS → σ → zS → Prop} {Q : β → zS → γ → zS → Prop} : ∀ {n f g : Nat} {a : ρ} {α : zS} {b : σ} {κ : zS}, (∀ k a α b κ, k < n → I k a α b κ → (∃ a' α' b' κ', bx a α = some (.inl a', α') ∧ bm b κ = some (.inl b', κ') ∧ I (k + 1) a' α' b' κ') ∨ ∃ r α' s κ', bx a α = some (.inr r, α') ∧ bm b κ = some (.inr s, κ') ∧ Q r α' s κ') → (∀ a α b κ, I n a α b κ → ∃ r α' s κ', bx a α = some (.inr r, α') ∧ bm b κ = some (.inr s, κ') ∧ Q r α' s κ') → n < f → n < g → I 0 a α b κ → ∃ r α' s κ', zloop bx f a α = some (r, α') ∧ zloop bm g b κ = some (s, κ') ∧ Q r α' s κ' := by
  intro n
  induction n generalizing I with
  | zero =>
    intro f g a α b κ h1 h2 h3 h4 h0
    obtain ⟨q, rfl⟩ : ∃ q, f = q + 1 := ⟨f - 1, by omega⟩
    obtain ⟨q', rfl⟩ : ∃ q, g = q + 1 := ⟨g - 1, by omega⟩
    obtain ⟨r, α', s, κ', e1, e2, hq⟩ := h2 a α b κ h0
    exact ⟨r, α', s, κ', zloop_done e1, zloop_done e2, hq⟩
  | succ n ih =>
    intro f g a α b κ h1 h2 h3 h4 h0
    obtain ⟨q, rfl⟩ : ∃ q, f = q + 1 := ⟨f - 1, by omega⟩
    obtain ⟨q', rfl⟩ : ∃ q, g = q + 1 := ⟨g - 1, by omega⟩
    rcases h1 0 a α b κ (by omega) h0 with ⟨a', α', b', κ', e1, e2, hi⟩ | ⟨r, α', s, κ', e1, e2, hq⟩
    · rw [zloop_step e1, zloop_step e2]
      exact ih (I := fun k => I (k + 1)) (fun k a α b κ hk => h1 (k + 1) a α b κ (by omega)) h2 (by omega) (by omega) hi
    · exact ⟨r, α', s, κ', zloop_done e1, zloop_done e2, hq⟩
/-- the same, of loops that change nothing: what goes along is told of the places -/
theorem zloop_scan {ρ β σ γ : Type} {bx : ρ → zS → zF (ρ ⊕ β)} {bm : σ → zS → zF (σ ⊕ γ)} {α κ : zS} {I : Nat → ρ → σ → Prop} {Q : β → γ → Prop} {n f g : Nat} {a : ρ} {b : σ} (h1 : ∀ k a b, k < n → I k a b → (∃ a' b', bx a α = some (.inl a', α) ∧ bm b κ = some (.inl b', κ) ∧ I (k + 1) a' b') ∨ ∃ r s, bx a α = some (.inr r, α) ∧ bm b κ = some (.inr s, κ) ∧ Q r s) (h2 : ∀ a b, I n a b → ∃ r s, bx a α = some (.inr r, α) ∧ bm b κ = some (.inr s, κ) ∧ Q r s) (h3 : n < f) (h4 : n < g) (h0 : I 0 a b) : ∃ r s, zloop bx f a α = some (r, α) ∧ zloop bm g b κ = some (s, κ) ∧ Q r s := by
  obtain ⟨r, α', s, κ', e1, e2, r1, r2, hq⟩ := zloop_rel (bx := bx) (bm := bm) (α := α) (κ := κ) (I := fun k a α' b κ' => α' = α ∧ κ' = κ ∧ I k a b) (Q := fun r α' s κ' => α' = α ∧ κ' = κ ∧ Q r s) (n := n) (f := f) (g := g) (a := a) (b := b) (fun k a α' b κ' hk hi => by
    obtain ⟨r1, r2, hi⟩ := hi
    subst r1; subst r2
    rcases h1 k a b hk hi with ⟨a', b', e1, e2, hi'⟩ | ⟨r, s, e1, e2, hq⟩
    · exact Or.inl ⟨a', _, b', _, e1, e2, rfl, rfl, hi'⟩
    · exact Or.inr ⟨r, _, s, _, e1, e2, rfl, rfl, hq⟩) (fun a α' b κ' hi => by
    obtain ⟨r1, r2, hi⟩ := hi
    subst r1; subst r2
    obtain ⟨r, s, e1, e2, hq⟩ := h2 a b hi
    exact ⟨r, _, s, _, e1, e2, rfl, rfl, hq⟩) h3 h4 ⟨rfl, rfl, h0⟩
  subst r1; subst r2
  exact ⟨r, s, e1, e2, hq⟩
/-- one loop that changes nothing -/
theorem zloop_one {ρ β : Type} {bx : ρ → zS → zF (ρ ⊕ β)} {α : zS} {I : Nat → ρ → Prop} {Q : β → Prop} {n f : Nat} {a : ρ} (h1 : ∀ k a, k < n → I k a → (∃ a', bx a α = some (.inl a', α) ∧ I (k + 1) a') ∨ ∃ r, bx a α = some (.inr r, α) ∧ Q r) (h2 : ∀ a, I n a → ∃ r, bx a α = some (.inr r, α) ∧ Q r) (h3 : n < f) (h0 : I 0 a) : ∃ r, zloop bx f a α = some (r, α) ∧ Q r := by
  obtain ⟨r, α', e1, r1, hq⟩ := zloop_inv (body := bx) (α := α) (I := fun k a α' => α' = α ∧ I k a) (Q := fun r α' => α' = α ∧ Q r) (n := n) (fuel := f) (a := a) (fun k a α' hk hi => by
    obtain ⟨r1, hi⟩ := hi
    subst r1
    rcases h1 k a hk hi with ⟨a', e1, hi'⟩ | ⟨r, e1, hq⟩
    · exact Or.inl ⟨a', _, e1, rfl, hi'⟩
    · exact Or.inr ⟨r, _, e1, rfl, hq⟩) (fun a α' hi => by
    obtain ⟨r1, hi⟩ := hi
    subst r1
    obtain ⟨r, e1, hq⟩ := h2 a hi
    exact ⟨r, _, e1, rfl, hq⟩) h3 ⟨rfl, h0⟩
  subst r1
  exact ⟨r, e1, hq⟩
theorem zup_self {f : Nat → zLoc} {a : Nat} : va_up f a (f a) = f := by
  funext q; unfold va_up; split <;> simp_all
theorem zsI_self {α : zS} {a : Nat} : zsI α a (zaI α a) = α := by
  show (α.1, va_up α.2 a (α.2 a)) = α
  rw [zup_self]
theorem zsI_sI {α : zS} {a : Nat} {f g : Nat → Int32} : zsI (zsI α a f) a g = zsI α a g := by
  unfold zsI
  refine congrArg (Prod.mk α.1) ?_
  funext q
  show va_up (va_up α.2 a (zqI (α.2 a) f)) a (zqI (va_up α.2 a (zqI (α.2 a) f) a) g) q = va_up α.2 a (zqI (α.2 a) g) q
  unfold va_up
  by_cases h : q = a
  · simp [h, zqI]
  · simp [h]
theorem pI_ne0 {k : Nat} (h : k < 2 ^ 31) : (nI k = 0) ↔ k = 0 := by
  rw [pI_zero]; exact pI_inj h (by omega)
theorem pI_le0 {k : Nat} (h : k < 2 ^ 31) : (nI k ≤ 0) ↔ k = 0 := by
  rw [pI_zero, pI_le h (by omega)]; omega
theorem pI_lt0 {k : Nat} (h : k < 2 ^ 31) : (0 < nI k) ↔ k ≠ 0 := by
  rw [pI_zero, pI_lt (by omega) h]; omega
theorem pI_eq {k c : Nat} {x : Int32} (hx : nI c = x) (h : k < 2 ^ 31) (hc : c < 2 ^ 31) : (nI k = x) ↔ k = c := by
  subst hx; exact pI_inj h hc
theorem pI_lec {k c : Nat} {x : Int32} (hx : nI c = x) (h : k < 2 ^ 31) (hc : c < 2 ^ 31) : (x ≤ nI k) ↔ c ≤ k := by
  subst hx; exact pI_le hc h
theorem pI_le' {k c : Nat} {x : Int32} (hx : nI c = x) (h : k < 2 ^ 31) (hc : c < 2 ^ 31) : (nI k ≤ x) ↔ k ≤ c := by
  subst hx; exact pI_le h hc
theorem pite_ne {P : Prop} [Decidable P] : ((if P then (1 : Int32) else 0) ≠ 0) ↔ P := by by_cases h : P <;> simp [h]
theorem pif_le {γ : Type} {a b : Int32} {X Y : γ} : (if a ≤ b then X else Y) = if b < a then Y else X := by
  by_cases h : a ≤ b
  · rw [if_pos h, if_neg (Int32.not_lt.mpr h)]
  · rw [if_neg h, if_pos (Int32.not_le.mp h)]
end PLR
