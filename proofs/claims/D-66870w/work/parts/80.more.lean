/-! THE PURE LAYER, 1b: new cells and lists. -/
section PLM
variable {α : zS} {a q k l w n c bk cap : Nat} {xs : List (Option Nat)} {t : List Int32} {m : Int32}
theorem zI_mk (c k : Nat) (k0 l0 w : Nat) : zI (zmk α k0 l0 w) c k q = if q = zn α then 0 else zI α c k q := by
  unfold zI zmk va_up
  by_cases z : q = zn α
  · subst z; simp [zNil]
  · simp [z]
theorem zJ_mk (c k : Nat) (k0 l0 w : Nat) : zJ (zmk α k0 l0 w) c k q = if q = zn α then 0 else zJ α c k q := by
  unfold zJ zmk va_up
  by_cases z : q = zn α
  · subst z; simp [zNil]
  · simp [z]
theorem zA_mk (c k : Nat) (k0 l0 w : Nat) : zA (zmk α k0 l0 w) c k q = if q = zn α then none else zA α c k q := by
  unfold zA zmk va_up
  by_cases z : q = zn α
  · subst z; simp [zNil]
  · simp [z]
theorem zL_mk (k0 l0 w : Nat) : zL (zmk α k0 l0 w) q = if q = zn α then [] else zL α q := by
  unfold zL zmk va_up
  by_cases z : q = zn α
  · subst z; simp [zNil]
  · simp [z]
theorem zT_mk (k0 l0 w : Nat) : zT (zmk α k0 l0 w) q = if q = zn α then [] else zT α q := by
  unfold zT zmk va_up
  by_cases z : q = zn α
  · subst z; simp [zNil]
  · simp [z]
theorem zm_mk (k0 l0 w : Nat) : zm (zmk α k0 l0 w) q = if q = zn α then 0 else zm α q := by
  unfold zm zmk va_up
  by_cases z : q = zn α
  · subst z; simp [zNil]
  · simp [z]
theorem zB_mk (k0 l0 w : Nat) : zB (zmk α k0 l0 w) q = if q = zn α then 0 else zB α q := by
  unfold zB zmk va_up
  by_cases z : q = zn α
  · subst z; simp [zNil]
  · simp [z]
theorem zC_mk (k0 l0 w : Nat) : zC (zmk α k0 l0 w) q = if q = zn α then 0 else zC α q := by
  unfold zC zmk va_up
  by_cases z : q = zn α
  · subst z; simp [zNil]
  · simp [z]
theorem zaI_mk (k0 l0 w : Nat) : zaI (zmk α k0 l0 w) q = if q = zn α then (fun _ => 0) else zaI α q := by
  funext j
  unfold zaI zmk va_up
  by_cases z : q = zn α
  · subst z; simp [zNil]
  · simp [z]
theorem zaJ_mk (k0 l0 w : Nat) : zaJ (zmk α k0 l0 w) q = if q = zn α then (fun _ => 0) else zaJ α q := by
  funext j
  unfold zaJ zmk va_up
  by_cases z : q = zn α
  · subst z; simp [zNil]
  · simp [z]
theorem zaA_mk (k0 l0 w : Nat) : zaA (zmk α k0 l0 w) q = if q = zn α then (fun _ => none) else zaA α q := by
  funext j
  unfold zaA zmk va_up
  by_cases z : q = zn α
  · subst z; simp [zNil]
  · simp [z]
theorem zn_raw : zn (zraw α a k bk cap n c w xs t) = zn α + n := rfl
theorem zc_raw : zc (zraw α a k bk cap n c w xs t) = zc α + c := rfl
theorem zw_raw : zw (zraw α a k bk cap n c w xs t) = zw α + w := rfl
theorem zraw_ne (h : q ≠ a) : (zraw α a k bk cap n c w xs t).2 q = α.2 q := zup_ne h
theorem zkd_raw : zkd (zraw α a k bk cap n c w xs t) q = if q = a then k else zkd α q := by
  unfold zkd zraw va_up
  by_cases z : q = a
  · subst z; simp
  · simp [z]
theorem zln_raw : zln (zraw α a k bk cap n c w xs t) q = if q = a then 0 else zln α q := by
  unfold zln zraw va_up
  by_cases z : q = a
  · subst z; simp
  · simp [z]
theorem zL_raw : zL (zraw α a k bk cap n c w xs t) q = if q = a then xs else zL α q := by
  unfold zL zraw va_up
  by_cases z : q = a
  · subst z; simp
  · simp [z]
theorem zT_raw : zT (zraw α a k bk cap n c w xs t) q = if q = a then t else zT α q := by
  unfold zT zraw va_up
  by_cases z : q = a
  · subst z; simp
  · simp [z]
theorem zI_raw (e h : Nat) : zI (zraw α a k bk cap n c w xs t) e h q = zI α e h q := by
  unfold zI zraw va_up
  by_cases z : q = a
  · subst z; simp
  · simp [z]
theorem zJ_raw (e h : Nat) : zJ (zraw α a k bk cap n c w xs t) e h q = zJ α e h q := by
  unfold zJ zraw va_up
  by_cases z : q = a
  · subst z; simp
  · simp [z]
theorem zA_raw (e h : Nat) : zA (zraw α a k bk cap n c w xs t) e h q = zA α e h q := by
  unfold zA zraw va_up
  by_cases z : q = a
  · subst z; simp
  · simp [z]
theorem zaI_raw : zaI (zraw α a k bk cap n c w xs t) q = zaI α q := by
  funext j
  unfold zaI zraw va_up
  by_cases z : q = a
  · subst z; simp
  · simp [z]
theorem zaJ_raw : zaJ (zraw α a k bk cap n c w xs t) q = zaJ α q := by
  funext j
  unfold zaJ zraw va_up
  by_cases z : q = a
  · subst z; simp
  · simp [z]
theorem zaA_raw : zaA (zraw α a k bk cap n c w xs t) q = zaA α q := by
  funext j
  unfold zaA zraw va_up
  by_cases z : q = a
  · subst z; simp
  · simp [z]
theorem zlset_ne (h : q ≠ a) : (zlset α a n xs m).2 q = α.2 q := by unfold zlset; split <;> exact zsL_ne h
theorem zc_lset : zc (zlset α a n xs m) = zc α + n := by unfold zlset; split <;> rfl
theorem zw_lset : zw (zlset α a n xs m) = zw α + 7 * n := by unfold zlset; split <;> rfl
theorem zn_lset : zn α ≤ zn (zlset α a n xs m) := by unfold zlset; split; exact Nat.le_refl _; exact Nat.le_succ _
theorem zkd_lset : zkd (zlset α a n xs m) q = zkd α q := by unfold zlset; split <;> simp only [zkd_zsL]
theorem zln_lset : zln (zlset α a n xs m) q = zln α q := by unfold zlset; split <;> simp only [zln_zsL]
theorem zI_lset (e h : Nat) : zI (zlset α a n xs m) e h q = zI α e h q := by unfold zlset; split <;> simp only [zI_zsL]
theorem zJ_lset (e h : Nat) : zJ (zlset α a n xs m) e h q = zJ α e h q := by unfold zlset; split <;> simp only [zJ_zsL]
theorem zA_lset (e h : Nat) : zA (zlset α a n xs m) e h q = zA α e h q := by unfold zlset; split <;> simp only [zA_zsL]
theorem zT_lset : zT (zlset α a n xs m) q = zT α q := by unfold zlset; split <;> simp only [zT_zsL]
theorem zaI_lset : zaI (zlset α a n xs m) q = zaI α q := by unfold zlset; split <;> simp only [zaI_zsLf]
theorem zaJ_lset : zaJ (zlset α a n xs m) q = zaJ α q := by unfold zlset; split <;> simp only [zaJ_zsLf]
theorem zaA_lset : zaA (zlset α a n xs m) q = zaA α q := by unfold zlset; split <;> simp only [zaA_zsLf]
theorem zL_lset : zL (zlset α a n xs m) q = if q = a then xs else zL α q := by unfold zlset; split <;> simp only [zL_zsL]
/-- kinds and lengths that stay -/
theorem zlset_kl : zkd (zlset α a n xs m) q = zkd α q ∧ zln (zlset α a n xs m) q = zln α q := ⟨zkd_lset, zln_lset⟩
theorem zmk_kl (h : q < zn α) : zkd (zmk α k l w) q = zkd α q ∧ zln (zmk α k l w) q = zln α q := ⟨zkd_eq (zmk_ne h), zln_eq (zmk_ne h)⟩
end PLM
