/-! THE PURE LAYER, 1e: constants. -/
/-- the constants of a class are apart; their numbers -/
def zEn (G : xQ) : Prop := ((∀ i j, i < 4 → j < 4 → zen G i = zen G j → i = j) ∧ (∀ i j, 4 ≤ i → i < 10 → 4 ≤ j → j < 10 → zen G i = zen G j → i = j) ∧ (∀ i j, 10 ≤ i → i < 29 → 10 ≤ j → j < 29 → zen G i = zen G j → i = j) ∧ ∀ i j, 29 ≤ i → i < 41 → 29 ≤ j → j < 41 → zen G i = zen G j → i = j) ∧ (∀ i, i < 4 → zord G (some (zen G i)) = some (nI i)) ∧ (∀ i, i < 6 → zord G (some (zen G (4 + i))) = some (nI i)) ∧ (∀ i, i < 19 → zord G (some (zen G (10 + i))) = some (nI i)) ∧ (∀ i, i < 12 → zord G (some (zen G (29 + i))) = some (nI i))
theorem pnar {x : Int32} (h : x = 0 ∨ x = 1) : (narrow .boolean (.int x) = .int x) = True := by rcases h with rfl | rfl <;> exact eq_true rfl
theorem pfit {x : Int32} (h : x = 0 ∨ x = 1) : fits .boolean (.int x) = true := by rcases h with rfl | rfl <;> rfl
