/-! THE PURE LAYER, 1f: long numbers. -/
def nJ (k : Nat) : Int64 := Int64.ofNat k
section PLJ
variable {a b k : Nat} {x y : Int64}
theorem pJ_toInt (h : k < 2 ^ 63) : (nJ k).toInt = (k : Int) := Int64.toInt_ofNat_of_lt h
theorem pJ_add : nJ a + nJ b = nJ (a + b) := by unfold nJ; rw [Int64.ofNat_add]
theorem pJ_lt (ha : a < 2 ^ 63) (hb : b < 2 ^ 63) : (nJ a < nJ b) ↔ a < b := by
  rw [Int64.lt_iff_toInt_lt, pJ_toInt ha, pJ_toInt hb]; omega
theorem pJ_le (ha : a < 2 ^ 63) (hb : b < 2 ^ 63) : (nJ a ≤ nJ b) ↔ a ≤ b := by
  rw [Int64.le_iff_toInt_le, pJ_toInt ha, pJ_toInt hb]; omega
theorem pJ_inj (ha : a < 2 ^ 63) (hb : b < 2 ^ 63) : (nJ a = nJ b) ↔ a = b := by
  constructor
  · intro h; have := congrArg Int64.toInt h; rw [pJ_toInt ha, pJ_toInt hb] at this; omega
  · intro h; rw [h]
theorem pJ_of {o : Int32} (h : 0 ≤ o) : o.toInt64 = nJ o.toNatClampNeg := by
  apply Int64.toInt_inj.mp
  have h1 := Int32.le_iff_toInt_le.mp h
  have h2 := Int32.toInt_lt o
  rw [Int32.toInt_zero] at h1
  rw [Int32.toInt_toInt64, pJ_toInt (by rw [pclamp]; omega), pclamp]
  omega
theorem pJ_to (h : k < 2 ^ 31) : (nJ k).toInt32 = nI k := by
  apply Int32.toInt_inj.mp
  rw [Int64.toInt_toInt32, pJ_toInt (by omega), pI_toInt h]
  apply Int.bmod_eq_of_le <;> omega
theorem pJ_nat (h : 0 ≤ x) : nJ x.toNatClampNeg = x := by
  apply Int64.toInt_inj.mp
  have h1 := Int64.le_iff_toInt_le.mp h
  have h2 := Int64.toInt_lt x
  have e0 : (0 : Int64).toInt = 0 := rfl
  rw [e0] at h1
  have hc : x.toNatClampNeg = x.toInt.toNat := rfl
  rw [pJ_toInt (by rw [hc]; omega), hc]
  omega
theorem pJ_clamp (h : k < 2 ^ 63) : (nJ k).toNatClampNeg = k := by
  have hc : (nJ k).toNatClampNeg = (nJ k).toInt.toNat := rfl
  rw [hc, pJ_toInt h]; omega
theorem pJ_to15 (h0 : 0 ≤ x) (h : x ≤ 15) : ∃ k, x = nJ k ∧ k ≤ 15 := by
  refine ⟨x.toNatClampNeg, (pJ_nat h0).symm, ?_⟩
  have h1 := Int64.le_iff_toInt_le.mp h0
  have h2 := Int64.le_iff_toInt_le.mp h
  have e0 : (0 : Int64).toInt = 0 := rfl
  have e15 : (15 : Int64).toInt = 15 := rfl
  have hc : x.toNatClampNeg = x.toInt.toNat := rfl
  rw [hc]; omega
theorem pJ_sub0 (h0 : 0 ≤ y) (h : y ≤ x) : 0 ≤ x - y := by
  rw [Int64.le_iff_toInt_le, Int64.toInt_sub_of_le _ _ h0 h]
  have e0 : (0 : Int64).toInt = 0 := rfl
  have := Int64.le_iff_toInt_le.mp h
  rw [e0]; omega
theorem pJ_div0 (h0 : 0 ≤ x) (h : 0 < y) : 0 ≤ x / y := by
  have e0 : (0 : Int64).toInt = 0 := rfl
  have h1 := Int64.le_iff_toInt_le.mp h0
  have h2 := Int64.lt_iff_toInt_lt.mp h
  rw [e0] at h1 h2
  have hne : y ≠ -1 := fun z => by rw [z] at h2; exact absurd h2 (by decide)
  rw [Int64.le_iff_toInt_le, Int64.toInt_div_of_ne_right _ _ hne, e0]
  exact Int.tdiv_nonneg h1 (by omega)
end PLJ
