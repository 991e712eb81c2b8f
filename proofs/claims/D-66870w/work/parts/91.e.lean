/-! THE PURE LAYER: words of clear forms, by kinds. -/
section XR
variable {G : xQ} {α : zS} {a c k j q : Nat} {x : Int32} {r : Option Nat}
theorem kfI (h : zkd α a = c + 1) : zfI α (some a) c k = some (zI α c k a) := if_pos h
theorem kfJ (h : zkd α a = c + 1) : zfJ α (some a) c k = some (zJ α c k a) := if_pos h
theorem kfA (h : zkd α a = c + 1) : zfA α (some a) c k = some (zA α c k a) := if_pos h
theorem kpI (h : zkd α a = c + 1) : zpI α (some a) c k x = some (zwI α c k a x) := if_pos h
theorem kpA (h : zkd α a = c + 1) : zpA α (some a) c k r = some (zwA α c k a r) := if_pos h
theorem kis (h : zkd α a = k) (h0 : 0 < k) : (zis G α (some a) k = true) = True := by
  refine eq_true ?_
  show (zk G α a == k) = true
  unfold zk
  rw [if_neg (by omega), h]
  exact beq_self_eq_true k
theorem kal (h1 : 1001 ≤ zkd α a) (h2 : zkd α a < 1024) : zal α (some a) = some (nI (zln α a)) := if_pos ⟨h1, h2⟩
theorem kald (h : zkd α a = 1001) (hj : j < zln α a) (hb : zln α a < 2 ^ 31) : ziald α (some a) (nI j) = some (zaI α a j) := by
  show (if _ then some (zaI α a (nI j).toNatClampNeg) else none) = _
  rw [if_pos ⟨h, pI_in hj hb⟩, pI_clamp (by omega)]
theorem kcald (h : zkd α a = 1004) (hj : j < zln α a) (hb : zln α a < 2 ^ 31) : zcald α (some a) (nI j) = some (zaI α a j) := by
  show (if _ then some (zaI α a (nI j).toNatClampNeg) else none) = _
  rw [if_pos ⟨h, pI_in hj hb⟩, pI_clamp (by omega)]
theorem kaald (h1 : 1007 ≤ zkd α a) (h2 : zkd α a < 1024) (hj : j < zln α a) (hb : zln α a < 2 ^ 31) : zaald α (some a) (nI j) = some (zaA α a j) := by
  show (if _ then some (zaA α a (nI j).toNatClampNeg) else none) = _
  rw [if_pos ⟨⟨h1, h2⟩, pI_in hj hb⟩, pI_clamp (by omega)]
end XR
