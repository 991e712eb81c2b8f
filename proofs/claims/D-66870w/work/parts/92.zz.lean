/-! THE PURE LAYER: more words of clear forms: truth values as numbers, loops that end in a tail, frames of high cells. -/
def b2n (b : Bool) : Nat := if b = true then 1 else 0
theorem zloop_in {ρ β : Type} {body : ρ → zS → zF (ρ ⊕ β)} {n : Nat} {a : ρ} {α : zS} {r : zF β} (h : body a α = zinr r) : zloop body (n + 1) a α = r := by
  have e : zloop body (n + 1) a α = zfin (body a α) (zloop body n) := by
    simp only [zloop, zfin]
    rcases body a α with _ | ⟨_ | _, _⟩ <;> rfl
  rw [e, h, zfin_inr]
/-- old cells aren't seen in a clear store -/
def zHi (α : zS) : Prop := ∀ a, 1000000000 ≤ a → zkd α a = 0
theorem zFr.hi {α α' : zS} {A : Nat → Prop} (h : zFr α α' A) (hA : ∀ a, A a → a < 1000000000) (hn : zn α' ≤ 1000000000) (hi : zHi α) : zHi α' := fun a ha => by
  rw [zkd_eq (h.2 a (Or.inr (by omega)) (fun z => by have := hA a z; omega))]; exact hi a ha
section XF9
variable {G : xQ} {α : zS} {a q : Nat} {x : Int32} {be e : Bool}
theorem kaast {j : Nat} {v : Option Nat} (h1 : 1007 ≤ zkd α a) (h2 : zkd α a < 1024) (hj : j < zln α a) (hb : zln α a < 2 ^ 31) (hv : zav G α (zkd α a) v = true) : zaast G α (some a) (nI j) v = some (zsA α a (va_up (zaA α a) j v)) := by
  show (if _ then some (zsA α a (va_up (zaA α a) (nI j).toNatClampNeg v)) else none) = _
  rw [if_pos ⟨⟨h1, h2⟩, pI_in hj hb, hv⟩, pI_clamp (by omega)]
theorem kav {K k : Nat} (h : zkd α q = k) (h0 : 0 < k) (hc : zOkL0.contains (K, k) = true) : zav G α K (some q) = true := by
  show zOkL0.contains (K, zk G α q) = true
  unfold zk
  rw [if_neg (by omega), h]; exact hc
theorem kpN {ty : FieldType} {c k : Nat} (h : zkd α a = c + 1) (h1 : narrow ty (.int x) = .int x ∧ fits ty (.int x) = true) : zpN α (some a) c k ty x = some (zwI α c k a x) := by
  unfold zpN
  rw [if_pos h1]; exact kpI h
theorem b2n_ne : (¬ nI (b2n e) = 0) = (e = true) := by cases e <;> simp [b2n] <;> decide
theorem b2n_e0 : (nI (b2n e) = 0) = (e = false) := by cases e <;> simp [b2n] <;> decide
theorem b2n_or : nI (b2n be) ||| nI (b2n e) = nI (b2n (be || e)) := by cases be <;> cases e <;> rfl
theorem b2n_and : nI (b2n be) &&& nI (b2n e) = nI (b2n (be && e)) := by cases be <;> cases e <;> rfl
end XF9
section XL9
variable {α : zS} {a r more : Nat} {xs : List (Option Nat)} {mm : Int32}
theorem zlset_n : zn α ≤ zn (zlset α a more xs mm) ∧ zn (zlset α a more xs mm) ≤ zn α + 1 ∧ zc (zlset α a more xs mm) = zc α + more ∧ zw (zlset α a more xs mm) = zw α + 7 * more := by
  unfold zlset; split
  · exact ⟨Nat.le_refl _, by show zn α + 0 ≤ _; omega, rfl, rfl⟩
  · exact ⟨by show zn α ≤ zn α + 1; omega, Nat.le_refl _, rfl, rfl⟩
theorem zLadd_at {x : Option Nat} (h : zkd α a = 3) (hl : (zL α a).length < 1000000) : ∃ β, zLadd α (some a) x = some (1, β) ∧ zkd β a = 3 ∧ zL β a = zL α a ++ [x] ∧ (∀ r, r ≠ a → β.2 r = α.2 r) ∧ zn α ≤ zn β ∧ zn β ≤ zn α + 1 ∧ zc β = zc α + 1 ∧ zw β = zw α + 7 := by
  obtain ⟨n1, n2, n3, n4⟩ := zlset_n (α := α) (a := a) (more := 1) (xs := zL α a ++ [x]) (mm := zm α a + 1)
  refine ⟨zlset α a 1 (zL α a ++ [x]) (zm α a + 1), if_pos ⟨h, hl⟩, ?_, ?_, fun r hr => zlset_ne hr, n1, n2, n3, n4⟩
  · rw [← h]; simp (decide := true) only [zn_zwI, zc_zwI, zw_zwI, zkd_zwI, zln_zwI, zB_zwI, zC_zwI, zI_zwI, zJ_zwI, zA_zwI, zaI_zwI, zaJ_zwI, zaA_zwI, zL_zwI, zT_zwI, zm_zwI, zn_zwJ, zc_zwJ, zw_zwJ, zkd_zwJ, zln_zwJ, zB_zwJ, zC_zwJ, zI_zwJ, zJ_zwJ, zA_zwJ, zaI_zwJ, zaJ_zwJ, zaA_zwJ, zL_zwJ, zT_zwJ, zm_zwJ, zn_zwA, zc_zwA, zw_zwA, zkd_zwA, zln_zwA, zB_zwA, zC_zwA, zI_zwA, zJ_zwA, zA_zwA, zaI_zwA, zaJ_zwA, zaA_zwA, zL_zwA, zT_zwA, zm_zwA, zn_zsI, zc_zsI, zw_zsI, zkd_zsI, zln_zsI, zB_zsI, zC_zsI, zI_zsI, zJ_zsI, zA_zsI, zaI_zsI, zaJ_zsI, zaA_zsI, zL_zsI, zT_zsI, zm_zsI, zn_zsJ, zc_zsJ, zw_zsJ, zkd_zsJ, zln_zsJ, zB_zsJ, zC_zsJ, zI_zsJ, zJ_zsJ, zA_zsJ, zaI_zsJ, zaJ_zsJ, zaA_zsJ, zL_zsJ, zT_zsJ, zm_zsJ, zn_zsA, zc_zsA, zw_zsA, zkd_zsA, zln_zsA, zB_zsA, zC_zsA, zI_zsA, zJ_zsA, zA_zsA, zaI_zsA, zaJ_zsA, zaA_zsA, zL_zsA, zT_zsA, zm_zsA, zn_zsL, zc_zsL, zw_zsL, zkd_zsL, zln_zsL, zB_zsL, zC_zsL, zI_zsL, zJ_zsL, zA_zsL, zaI_zsL, zaJ_zsL, zaA_zsL, zL_zsL, zT_zsL, zm_zsL, zn_zsT, zc_zsT, zw_zsT, zkd_zsT, zln_zsT, zB_zsT, zC_zsT, zI_zsT, zJ_zsT, zA_zsT, zaI_zsT, zaJ_zsT, zaA_zsT, zL_zsT, zT_zsT, zm_zsT, zn_zmT, zc_zmT, zw_zmT, zkd_zmT, zln_zmT, zB_zmT, zC_zmT, zI_zmT, zJ_zmT, zA_zmT, zaI_zmT, zaJ_zmT, zaA_zmT, zL_zmT, zT_zmT, zm_zmT, zaI_zsIf, zaJ_zsJf, zaA_zsAf, zaI_zwIf, zaJ_zwIf, zaA_zwIf, zaI_zwJf, zaJ_zwJf, zaA_zwJf, zaI_zwAf, zaJ_zwAf, zaA_zwAf, zaJ_zsIf, zaA_zsIf, zaI_zsJf, zaA_zsJf, zaI_zsAf, zaJ_zsAf, zaI_zsLf, zaJ_zsLf, zaA_zsLf, zaI_zsTf, zaJ_zsTf, zaA_zsTf, zI_mk, zJ_mk, zA_mk, zL_mk, zT_mk, zm_mk, zB_mk, zC_mk, zaI_mk, zaJ_mk, zaA_mk, zn_zmk, zc_zmk, zw_zmk, zkd_zmk, zln_zmk, zn_raw, zc_raw, zw_raw, zkd_raw, zln_raw, zL_raw, zT_raw, zI_raw, zJ_raw, zA_raw, zaI_raw, zaJ_raw, zaA_raw, zc_lset, zw_lset, zkd_lset, zln_lset, zI_lset, zJ_lset, zA_lset, zT_lset, zaI_lset, zaJ_lset, zaA_lset, zL_lset, Nat.reduceEqDiff, Nat.add_eq_left, Nat.left_eq_add, Nat.reduceAdd, if_true, if_false, reduceIte, true_and, and_true, false_and, and_false, and_self]
  · simp (decide := true) only [zn_zwI, zc_zwI, zw_zwI, zkd_zwI, zln_zwI, zB_zwI, zC_zwI, zI_zwI, zJ_zwI, zA_zwI, zaI_zwI, zaJ_zwI, zaA_zwI, zL_zwI, zT_zwI, zm_zwI, zn_zwJ, zc_zwJ, zw_zwJ, zkd_zwJ, zln_zwJ, zB_zwJ, zC_zwJ, zI_zwJ, zJ_zwJ, zA_zwJ, zaI_zwJ, zaJ_zwJ, zaA_zwJ, zL_zwJ, zT_zwJ, zm_zwJ, zn_zwA, zc_zwA, zw_zwA, zkd_zwA, zln_zwA, zB_zwA, zC_zwA, zI_zwA, zJ_zwA, zA_zwA, zaI_zwA, zaJ_zwA, zaA_zwA, zL_zwA, zT_zwA, zm_zwA, zn_zsI, zc_zsI, zw_zsI, zkd_zsI, zln_zsI, zB_zsI, zC_zsI, zI_zsI, zJ_zsI, zA_zsI, zaI_zsI, zaJ_zsI, zaA_zsI, zL_zsI, zT_zsI, zm_zsI, zn_zsJ, zc_zsJ, zw_zsJ, zkd_zsJ, zln_zsJ, zB_zsJ, zC_zsJ, zI_zsJ, zJ_zsJ, zA_zsJ, zaI_zsJ, zaJ_zsJ, zaA_zsJ, zL_zsJ, zT_zsJ, zm_zsJ, zn_zsA, zc_zsA, zw_zsA, zkd_zsA, zln_zsA, zB_zsA, zC_zsA, zI_zsA, zJ_zsA, zA_zsA, zaI_zsA, zaJ_zsA, zaA_zsA, zL_zsA, zT_zsA, zm_zsA, zn_zsL, zc_zsL, zw_zsL, zkd_zsL, zln_zsL, zB_zsL, zC_zsL, zI_zsL, zJ_zsL, zA_zsL, zaI_zsL, zaJ_zsL, zaA_zsL, zL_zsL, zT_zsL, zm_zsL, zn_zsT, zc_zsT, zw_zsT, zkd_zsT, zln_zsT, zB_zsT, zC_zsT, zI_zsT, zJ_zsT, zA_zsT, zaI_zsT, zaJ_zsT, zaA_zsT, zL_zsT, zT_zsT, zm_zsT, zn_zmT, zc_zmT, zw_zmT, zkd_zmT, zln_zmT, zB_zmT, zC_zmT, zI_zmT, zJ_zmT, zA_zmT, zaI_zmT, zaJ_zmT, zaA_zmT, zL_zmT, zT_zmT, zm_zmT, zaI_zsIf, zaJ_zsJf, zaA_zsAf, zaI_zwIf, zaJ_zwIf, zaA_zwIf, zaI_zwJf, zaJ_zwJf, zaA_zwJf, zaI_zwAf, zaJ_zwAf, zaA_zwAf, zaJ_zsIf, zaA_zsIf, zaI_zsJf, zaA_zsJf, zaI_zsAf, zaJ_zsAf, zaI_zsLf, zaJ_zsLf, zaA_zsLf, zaI_zsTf, zaJ_zsTf, zaA_zsTf, zI_mk, zJ_mk, zA_mk, zL_mk, zT_mk, zm_mk, zB_mk, zC_mk, zaI_mk, zaJ_mk, zaA_mk, zn_zmk, zc_zmk, zw_zmk, zkd_zmk, zln_zmk, zn_raw, zc_raw, zw_raw, zkd_raw, zln_raw, zL_raw, zT_raw, zI_raw, zJ_raw, zA_raw, zaI_raw, zaJ_raw, zaA_raw, zc_lset, zw_lset, zkd_lset, zln_lset, zI_lset, zJ_lset, zA_lset, zT_lset, zaI_lset, zaJ_lset, zaA_lset, zL_lset, Nat.reduceEqDiff, Nat.add_eq_left, Nat.left_eq_add, Nat.reduceAdd, if_true, if_false, reduceIte, true_and, and_true, false_and, and_false, and_self]
end XL9
