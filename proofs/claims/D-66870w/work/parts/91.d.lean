/-! THE PURE LAYER: what is so, by numbers. -/
section TR
variable {a b : Nat} {p q : Int}
theorem tn_le (h : a ≤ b) : (a ≤ b) = True := eq_true h
theorem tn_nle (h : b < a) : (a ≤ b) = False := eq_false (by omega)
theorem tn_lt (h : a < b) : (a < b) = True := eq_true h
theorem tn_nlt (h : b ≤ a) : (a < b) = False := eq_false (by omega)
theorem tn_eq (h : a = b) : (a = b) = True := eq_true h
theorem tn_ne (h : ¬ a = b) : (a = b) = False := eq_false h
theorem tz_le (h : p ≤ q) : (p ≤ q) = True := eq_true h
theorem tz_nle (h : q < p) : (p ≤ q) = False := eq_false (by omega)
theorem tz_lt (h : p < q) : (p < q) = True := eq_true h
theorem tz_nlt (h : q ≤ p) : (p < q) = False := eq_false (by omega)
theorem tz_eq (h : p = q) : (p = q) = True := eq_true h
theorem tz_ne (h : ¬ p = q) : (p = q) = False := eq_false h
end TR
