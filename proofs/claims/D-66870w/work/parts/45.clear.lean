/-! THE CLEAR MACHINE, 1: clear stores. A clear store has, of each cell, what it holds; lists, texts and builders are whole values there. Cells are numbered from 0; the number of an old cell is 10^9 and its address. A cell's kind is 1 and its class' place, or 1001 and its component type's place; 0: no cell that is seen. -/
abbrev zLoc : Type := (Nat × Nat × Nat × Nat) × ((Nat → Nat → Int32) × (Nat → Nat → Int64) × (Nat → Nat → Option Nat)) × ((Nat → Int32) × (Nat → Int64) × (Nat → Option Nat)) × (List (Option Nat) × List Int32 × Int32)
abbrev zS : Type := (Nat × Nat × Nat) × (Nat → zLoc)
abbrev zF (ρ : Type) : Type := Option (ρ × zS)
def zNil : zLoc := ((0, 0, 0, 0), (fun _ _ => 0, fun _ _ => 0, fun _ _ => none), (fun _ => 0, fun _ => 0, fun _ => none), ([], [], 0))
def zn (α : zS) : Nat := α.1.1
def zc (α : zS) : Nat := α.1.2.1
def zw (α : zS) : Nat := α.1.2.2
def zkd (α : zS) (a : Nat) : Nat := (α.2 a).1.1
def zln (α : zS) (a : Nat) : Nat := (α.2 a).1.2.1
def zB (α : zS) (a : Nat) : Nat := (α.2 a).1.2.2.1
def zC (α : zS) (a : Nat) : Nat := (α.2 a).1.2.2.2
def zI (α : zS) (c k a : Nat) : Int32 := (α.2 a).2.1.1 c k
def zJ (α : zS) (c k a : Nat) : Int64 := (α.2 a).2.1.2.1 c k
def zA (α : zS) (c k a : Nat) : Option Nat := (α.2 a).2.1.2.2 c k
def zaI (α : zS) (a j : Nat) : Int32 := (α.2 a).2.2.1.1 j
def zaJ (α : zS) (a j : Nat) : Int64 := (α.2 a).2.2.1.2.1 j
def zaA (α : zS) (a j : Nat) : Option Nat := (α.2 a).2.2.1.2.2 j
def zL (α : zS) (a : Nat) : List (Option Nat) := (α.2 a).2.2.2.1
def zT (α : zS) (a : Nat) : List Int32 := (α.2 a).2.2.2.2.1
def zm (α : zS) (a : Nat) : Int32 := (α.2 a).2.2.2.2.2
/-! records with another value -/
def zrI (r : zLoc) (c k : Nat) (x : Int32) : zLoc := (r.1, ((fun c' k' => if c' = c ∧ k' = k then x else r.2.1.1 c' k'), r.2.1.2), r.2.2)
def zrJ (r : zLoc) (c k : Nat) (x : Int64) : zLoc := (r.1, (r.2.1.1, (fun c' k' => if c' = c ∧ k' = k then x else r.2.1.2.1 c' k'), r.2.1.2.2), r.2.2)
def zrA (r : zLoc) (c k : Nat) (x : Option Nat) : zLoc := (r.1, (r.2.1.1, r.2.1.2.1, (fun c' k' => if c' = c ∧ k' = k then x else r.2.1.2.2 c' k')), r.2.2)
def zqI (r : zLoc) (f : Nat → Int32) : zLoc := (r.1, r.2.1, (f, r.2.2.1.2), r.2.2.2)
def zqJ (r : zLoc) (f : Nat → Int64) : zLoc := (r.1, r.2.1, (r.2.2.1.1, f, r.2.2.1.2.2), r.2.2.2)
def zqA (r : zLoc) (f : Nat → Option Nat) : zLoc := (r.1, r.2.1, (r.2.2.1.1, r.2.2.1.2.1, f), r.2.2.2)
def zqL (r : zLoc) (bk cap : Nat) (xs : List (Option Nat)) (m : Int32) : zLoc := ((r.1.1, r.1.2.1, bk, cap), r.2.1, r.2.2.1, (xs, r.2.2.2.2.1, m))
def zqT (r : zLoc) (bk cap : Nat) (t : List Int32) : zLoc := ((r.1.1, r.1.2.1, bk, cap), r.2.1, r.2.2.1, (r.2.2.2.1, t, r.2.2.2.2.2))
/-! stores with another value -/
def zwI (α : zS) (c k a : Nat) (x : Int32) : zS := (α.1, va_up α.2 a (zrI (α.2 a) c k x))
def zwJ (α : zS) (c k a : Nat) (x : Int64) : zS := (α.1, va_up α.2 a (zrJ (α.2 a) c k x))
def zwA (α : zS) (c k a : Nat) (x : Option Nat) : zS := (α.1, va_up α.2 a (zrA (α.2 a) c k x))
def zsI (α : zS) (a : Nat) (f : Nat → Int32) : zS := (α.1, va_up α.2 a (zqI (α.2 a) f))
def zsJ (α : zS) (a : Nat) (f : Nat → Int64) : zS := (α.1, va_up α.2 a (zqJ (α.2 a) f))
def zsA (α : zS) (a : Nat) (f : Nat → Option Nat) : zS := (α.1, va_up α.2 a (zqA (α.2 a) f))
/-- a new cell of kind k, with l places and w words -/
def zmk (α : zS) (k l w : Nat) : zS := ((zn α + 1, zc α + 1, zw α + w), va_up α.2 (zn α) ((k, l, 0, 0), zNil.2))
/-- a list with other contents; n cells are new, at most c and w are taken -/
def zsL (α : zS) (a n c w bk cap : Nat) (xs : List (Option Nat)) (m : Int32) : zS := ((zn α + n, zc α + c, zw α + w), va_up α.2 a (zqL (α.2 a) bk cap xs m))
def zsT (α : zS) (a n c w bk cap : Nat) (t : List Int32) : zS := ((zn α + n, zc α + c, zw α + w), va_up α.2 a (zqT (α.2 a) bk cap t))
/-- a new text -/
def zmT (α : zS) (t : List Int32) : zS := ((zn α + 2, zc α + 2, zw α + (4 + t.length)), va_up α.2 (zn α) ((8, 0, zn α + 1, t.length), zNil.2.1, zNil.2.2.1, ([], t, 0)))
/-- what no cell holds yet -/
def zWF (α : zS) : Prop := ∀ a, zn α ≤ a → α.2 a = zNil
/-! what a store holds behind a write (printed by gen/clear.py) -/
section ZACC
variable {α : zS} {q : Nat}
theorem zn_zwI (e h a : Nat) (x : Int32) : zn (zwI α e h a x) = zn α := rfl
theorem zc_zwI (e h a : Nat) (x : Int32) : zc (zwI α e h a x) = zc α := rfl
theorem zw_zwI (e h a : Nat) (x : Int32) : zw (zwI α e h a x) = zw α := rfl
theorem zkd_zwI (e h a : Nat) (x : Int32) : zkd (zwI α e h a x) q = zkd α q := by
  unfold zkd zwI va_up
  by_cases z : q = a
  · subst z; simp [zrI]
  · simp [z]
theorem zln_zwI (e h a : Nat) (x : Int32) : zln (zwI α e h a x) q = zln α q := by
  unfold zln zwI va_up
  by_cases z : q = a
  · subst z; simp [zrI]
  · simp [z]
theorem zB_zwI (e h a : Nat) (x : Int32) : zB (zwI α e h a x) q = zB α q := by
  unfold zB zwI va_up
  by_cases z : q = a
  · subst z; simp [zrI]
  · simp [z]
theorem zC_zwI (e h a : Nat) (x : Int32) : zC (zwI α e h a x) q = zC α q := by
  unfold zC zwI va_up
  by_cases z : q = a
  · subst z; simp [zrI]
  · simp [z]
theorem zI_zwI (c k : Nat) (e h a : Nat) (x : Int32) : zI (zwI α e h a x) c k q = if c = e ∧ k = h ∧ q = a then x else zI α c k q := by
  unfold zI zwI va_up
  by_cases z : q = a
  · subst z; simp [zrI]
  · simp [z]
theorem zJ_zwI (c k : Nat) (e h a : Nat) (x : Int32) : zJ (zwI α e h a x) c k q = zJ α c k q := by
  unfold zJ zwI va_up
  by_cases z : q = a
  · subst z; simp [zrI]
  · simp [z]
theorem zA_zwI (c k : Nat) (e h a : Nat) (x : Int32) : zA (zwI α e h a x) c k q = zA α c k q := by
  unfold zA zwI va_up
  by_cases z : q = a
  · subst z; simp [zrI]
  · simp [z]
theorem zaI_zwI (j : Nat) (e h a : Nat) (x : Int32) : zaI (zwI α e h a x) q j = zaI α q j := by
  unfold zaI zwI va_up
  by_cases z : q = a
  · subst z; simp [zrI]
  · simp [z]
theorem zaJ_zwI (j : Nat) (e h a : Nat) (x : Int32) : zaJ (zwI α e h a x) q j = zaJ α q j := by
  unfold zaJ zwI va_up
  by_cases z : q = a
  · subst z; simp [zrI]
  · simp [z]
theorem zaA_zwI (j : Nat) (e h a : Nat) (x : Int32) : zaA (zwI α e h a x) q j = zaA α q j := by
  unfold zaA zwI va_up
  by_cases z : q = a
  · subst z; simp [zrI]
  · simp [z]
theorem zL_zwI (e h a : Nat) (x : Int32) : zL (zwI α e h a x) q = zL α q := by
  unfold zL zwI va_up
  by_cases z : q = a
  · subst z; simp [zrI]
  · simp [z]
theorem zT_zwI (e h a : Nat) (x : Int32) : zT (zwI α e h a x) q = zT α q := by
  unfold zT zwI va_up
  by_cases z : q = a
  · subst z; simp [zrI]
  · simp [z]
theorem zm_zwI (e h a : Nat) (x : Int32) : zm (zwI α e h a x) q = zm α q := by
  unfold zm zwI va_up
  by_cases z : q = a
  · subst z; simp [zrI]
  · simp [z]
theorem zn_zwJ (e h a : Nat) (x : Int64) : zn (zwJ α e h a x) = zn α := rfl
theorem zc_zwJ (e h a : Nat) (x : Int64) : zc (zwJ α e h a x) = zc α := rfl
theorem zw_zwJ (e h a : Nat) (x : Int64) : zw (zwJ α e h a x) = zw α := rfl
theorem zkd_zwJ (e h a : Nat) (x : Int64) : zkd (zwJ α e h a x) q = zkd α q := by
  unfold zkd zwJ va_up
  by_cases z : q = a
  · subst z; simp [zrJ]
  · simp [z]
theorem zln_zwJ (e h a : Nat) (x : Int64) : zln (zwJ α e h a x) q = zln α q := by
  unfold zln zwJ va_up
  by_cases z : q = a
  · subst z; simp [zrJ]
  · simp [z]
theorem zB_zwJ (e h a : Nat) (x : Int64) : zB (zwJ α e h a x) q = zB α q := by
  unfold zB zwJ va_up
  by_cases z : q = a
  · subst z; simp [zrJ]
  · simp [z]
theorem zC_zwJ (e h a : Nat) (x : Int64) : zC (zwJ α e h a x) q = zC α q := by
  unfold zC zwJ va_up
  by_cases z : q = a
  · subst z; simp [zrJ]
  · simp [z]
theorem zI_zwJ (c k : Nat) (e h a : Nat) (x : Int64) : zI (zwJ α e h a x) c k q = zI α c k q := by
  unfold zI zwJ va_up
  by_cases z : q = a
  · subst z; simp [zrJ]
  · simp [z]
theorem zJ_zwJ (c k : Nat) (e h a : Nat) (x : Int64) : zJ (zwJ α e h a x) c k q = if c = e ∧ k = h ∧ q = a then x else zJ α c k q := by
  unfold zJ zwJ va_up
  by_cases z : q = a
  · subst z; simp [zrJ]
  · simp [z]
theorem zA_zwJ (c k : Nat) (e h a : Nat) (x : Int64) : zA (zwJ α e h a x) c k q = zA α c k q := by
  unfold zA zwJ va_up
  by_cases z : q = a
  · subst z; simp [zrJ]
  · simp [z]
theorem zaI_zwJ (j : Nat) (e h a : Nat) (x : Int64) : zaI (zwJ α e h a x) q j = zaI α q j := by
  unfold zaI zwJ va_up
  by_cases z : q = a
  · subst z; simp [zrJ]
  · simp [z]
theorem zaJ_zwJ (j : Nat) (e h a : Nat) (x : Int64) : zaJ (zwJ α e h a x) q j = zaJ α q j := by
  unfold zaJ zwJ va_up
  by_cases z : q = a
  · subst z; simp [zrJ]
  · simp [z]
theorem zaA_zwJ (j : Nat) (e h a : Nat) (x : Int64) : zaA (zwJ α e h a x) q j = zaA α q j := by
  unfold zaA zwJ va_up
  by_cases z : q = a
  · subst z; simp [zrJ]
  · simp [z]
theorem zL_zwJ (e h a : Nat) (x : Int64) : zL (zwJ α e h a x) q = zL α q := by
  unfold zL zwJ va_up
  by_cases z : q = a
  · subst z; simp [zrJ]
  · simp [z]
theorem zT_zwJ (e h a : Nat) (x : Int64) : zT (zwJ α e h a x) q = zT α q := by
  unfold zT zwJ va_up
  by_cases z : q = a
  · subst z; simp [zrJ]
  · simp [z]
theorem zm_zwJ (e h a : Nat) (x : Int64) : zm (zwJ α e h a x) q = zm α q := by
  unfold zm zwJ va_up
  by_cases z : q = a
  · subst z; simp [zrJ]
  · simp [z]
theorem zn_zwA (e h a : Nat) (x : Option Nat) : zn (zwA α e h a x) = zn α := rfl
theorem zc_zwA (e h a : Nat) (x : Option Nat) : zc (zwA α e h a x) = zc α := rfl
theorem zw_zwA (e h a : Nat) (x : Option Nat) : zw (zwA α e h a x) = zw α := rfl
theorem zkd_zwA (e h a : Nat) (x : Option Nat) : zkd (zwA α e h a x) q = zkd α q := by
  unfold zkd zwA va_up
  by_cases z : q = a
  · subst z; simp [zrA]
  · simp [z]
theorem zln_zwA (e h a : Nat) (x : Option Nat) : zln (zwA α e h a x) q = zln α q := by
  unfold zln zwA va_up
  by_cases z : q = a
  · subst z; simp [zrA]
  · simp [z]
theorem zB_zwA (e h a : Nat) (x : Option Nat) : zB (zwA α e h a x) q = zB α q := by
  unfold zB zwA va_up
  by_cases z : q = a
  · subst z; simp [zrA]
  · simp [z]
theorem zC_zwA (e h a : Nat) (x : Option Nat) : zC (zwA α e h a x) q = zC α q := by
  unfold zC zwA va_up
  by_cases z : q = a
  · subst z; simp [zrA]
  · simp [z]
theorem zI_zwA (c k : Nat) (e h a : Nat) (x : Option Nat) : zI (zwA α e h a x) c k q = zI α c k q := by
  unfold zI zwA va_up
  by_cases z : q = a
  · subst z; simp [zrA]
  · simp [z]
theorem zJ_zwA (c k : Nat) (e h a : Nat) (x : Option Nat) : zJ (zwA α e h a x) c k q = zJ α c k q := by
  unfold zJ zwA va_up
  by_cases z : q = a
  · subst z; simp [zrA]
  · simp [z]
theorem zA_zwA (c k : Nat) (e h a : Nat) (x : Option Nat) : zA (zwA α e h a x) c k q = if c = e ∧ k = h ∧ q = a then x else zA α c k q := by
  unfold zA zwA va_up
  by_cases z : q = a
  · subst z; simp [zrA]
  · simp [z]
theorem zaI_zwA (j : Nat) (e h a : Nat) (x : Option Nat) : zaI (zwA α e h a x) q j = zaI α q j := by
  unfold zaI zwA va_up
  by_cases z : q = a
  · subst z; simp [zrA]
  · simp [z]
theorem zaJ_zwA (j : Nat) (e h a : Nat) (x : Option Nat) : zaJ (zwA α e h a x) q j = zaJ α q j := by
  unfold zaJ zwA va_up
  by_cases z : q = a
  · subst z; simp [zrA]
  · simp [z]
theorem zaA_zwA (j : Nat) (e h a : Nat) (x : Option Nat) : zaA (zwA α e h a x) q j = zaA α q j := by
  unfold zaA zwA va_up
  by_cases z : q = a
  · subst z; simp [zrA]
  · simp [z]
theorem zL_zwA (e h a : Nat) (x : Option Nat) : zL (zwA α e h a x) q = zL α q := by
  unfold zL zwA va_up
  by_cases z : q = a
  · subst z; simp [zrA]
  · simp [z]
theorem zT_zwA (e h a : Nat) (x : Option Nat) : zT (zwA α e h a x) q = zT α q := by
  unfold zT zwA va_up
  by_cases z : q = a
  · subst z; simp [zrA]
  · simp [z]
theorem zm_zwA (e h a : Nat) (x : Option Nat) : zm (zwA α e h a x) q = zm α q := by
  unfold zm zwA va_up
  by_cases z : q = a
  · subst z; simp [zrA]
  · simp [z]
theorem zn_zsI (a : Nat) (f : Nat → Int32) : zn (zsI α a f) = zn α := rfl
theorem zc_zsI (a : Nat) (f : Nat → Int32) : zc (zsI α a f) = zc α := rfl
theorem zw_zsI (a : Nat) (f : Nat → Int32) : zw (zsI α a f) = zw α := rfl
theorem zkd_zsI (a : Nat) (f : Nat → Int32) : zkd (zsI α a f) q = zkd α q := by
  unfold zkd zsI va_up
  by_cases z : q = a
  · subst z; simp [zqI]
  · simp [z]
theorem zln_zsI (a : Nat) (f : Nat → Int32) : zln (zsI α a f) q = zln α q := by
  unfold zln zsI va_up
  by_cases z : q = a
  · subst z; simp [zqI]
  · simp [z]
theorem zB_zsI (a : Nat) (f : Nat → Int32) : zB (zsI α a f) q = zB α q := by
  unfold zB zsI va_up
  by_cases z : q = a
  · subst z; simp [zqI]
  · simp [z]
theorem zC_zsI (a : Nat) (f : Nat → Int32) : zC (zsI α a f) q = zC α q := by
  unfold zC zsI va_up
  by_cases z : q = a
  · subst z; simp [zqI]
  · simp [z]
theorem zI_zsI (c k : Nat) (a : Nat) (f : Nat → Int32) : zI (zsI α a f) c k q = zI α c k q := by
  unfold zI zsI va_up
  by_cases z : q = a
  · subst z; simp [zqI]
  · simp [z]
theorem zJ_zsI (c k : Nat) (a : Nat) (f : Nat → Int32) : zJ (zsI α a f) c k q = zJ α c k q := by
  unfold zJ zsI va_up
  by_cases z : q = a
  · subst z; simp [zqI]
  · simp [z]
theorem zA_zsI (c k : Nat) (a : Nat) (f : Nat → Int32) : zA (zsI α a f) c k q = zA α c k q := by
  unfold zA zsI va_up
  by_cases z : q = a
  · subst z; simp [zqI]
  · simp [z]
theorem zaI_zsI (j : Nat) (a : Nat) (f : Nat → Int32) : zaI (zsI α a f) q j = if q = a then f j else zaI α q j := by
  unfold zaI zsI va_up
  by_cases z : q = a
  · subst z; simp [zqI]
  · simp [z]
theorem zaJ_zsI (j : Nat) (a : Nat) (f : Nat → Int32) : zaJ (zsI α a f) q j = zaJ α q j := by
  unfold zaJ zsI va_up
  by_cases z : q = a
  · subst z; simp [zqI]
  · simp [z]
theorem zaA_zsI (j : Nat) (a : Nat) (f : Nat → Int32) : zaA (zsI α a f) q j = zaA α q j := by
  unfold zaA zsI va_up
  by_cases z : q = a
  · subst z; simp [zqI]
  · simp [z]
theorem zL_zsI (a : Nat) (f : Nat → Int32) : zL (zsI α a f) q = zL α q := by
  unfold zL zsI va_up
  by_cases z : q = a
  · subst z; simp [zqI]
  · simp [z]
theorem zT_zsI (a : Nat) (f : Nat → Int32) : zT (zsI α a f) q = zT α q := by
  unfold zT zsI va_up
  by_cases z : q = a
  · subst z; simp [zqI]
  · simp [z]
theorem zm_zsI (a : Nat) (f : Nat → Int32) : zm (zsI α a f) q = zm α q := by
  unfold zm zsI va_up
  by_cases z : q = a
  · subst z; simp [zqI]
  · simp [z]
theorem zn_zsJ (a : Nat) (f : Nat → Int64) : zn (zsJ α a f) = zn α := rfl
theorem zc_zsJ (a : Nat) (f : Nat → Int64) : zc (zsJ α a f) = zc α := rfl
theorem zw_zsJ (a : Nat) (f : Nat → Int64) : zw (zsJ α a f) = zw α := rfl
theorem zkd_zsJ (a : Nat) (f : Nat → Int64) : zkd (zsJ α a f) q = zkd α q := by
  unfold zkd zsJ va_up
  by_cases z : q = a
  · subst z; simp [zqJ]
  · simp [z]
theorem zln_zsJ (a : Nat) (f : Nat → Int64) : zln (zsJ α a f) q = zln α q := by
  unfold zln zsJ va_up
  by_cases z : q = a
  · subst z; simp [zqJ]
  · simp [z]
theorem zB_zsJ (a : Nat) (f : Nat → Int64) : zB (zsJ α a f) q = zB α q := by
  unfold zB zsJ va_up
  by_cases z : q = a
  · subst z; simp [zqJ]
  · simp [z]
theorem zC_zsJ (a : Nat) (f : Nat → Int64) : zC (zsJ α a f) q = zC α q := by
  unfold zC zsJ va_up
  by_cases z : q = a
  · subst z; simp [zqJ]
  · simp [z]
theorem zI_zsJ (c k : Nat) (a : Nat) (f : Nat → Int64) : zI (zsJ α a f) c k q = zI α c k q := by
  unfold zI zsJ va_up
  by_cases z : q = a
  · subst z; simp [zqJ]
  · simp [z]
theorem zJ_zsJ (c k : Nat) (a : Nat) (f : Nat → Int64) : zJ (zsJ α a f) c k q = zJ α c k q := by
  unfold zJ zsJ va_up
  by_cases z : q = a
  · subst z; simp [zqJ]
  · simp [z]
theorem zA_zsJ (c k : Nat) (a : Nat) (f : Nat → Int64) : zA (zsJ α a f) c k q = zA α c k q := by
  unfold zA zsJ va_up
  by_cases z : q = a
  · subst z; simp [zqJ]
  · simp [z]
theorem zaI_zsJ (j : Nat) (a : Nat) (f : Nat → Int64) : zaI (zsJ α a f) q j = zaI α q j := by
  unfold zaI zsJ va_up
  by_cases z : q = a
  · subst z; simp [zqJ]
  · simp [z]
theorem zaJ_zsJ (j : Nat) (a : Nat) (f : Nat → Int64) : zaJ (zsJ α a f) q j = if q = a then f j else zaJ α q j := by
  unfold zaJ zsJ va_up
  by_cases z : q = a
  · subst z; simp [zqJ]
  · simp [z]
theorem zaA_zsJ (j : Nat) (a : Nat) (f : Nat → Int64) : zaA (zsJ α a f) q j = zaA α q j := by
  unfold zaA zsJ va_up
  by_cases z : q = a
  · subst z; simp [zqJ]
  · simp [z]
theorem zL_zsJ (a : Nat) (f : Nat → Int64) : zL (zsJ α a f) q = zL α q := by
  unfold zL zsJ va_up
  by_cases z : q = a
  · subst z; simp [zqJ]
  · simp [z]
theorem zT_zsJ (a : Nat) (f : Nat → Int64) : zT (zsJ α a f) q = zT α q := by
  unfold zT zsJ va_up
  by_cases z : q = a
  · subst z; simp [zqJ]
  · simp [z]
theorem zm_zsJ (a : Nat) (f : Nat → Int64) : zm (zsJ α a f) q = zm α q := by
  unfold zm zsJ va_up
  by_cases z : q = a
  · subst z; simp [zqJ]
  · simp [z]
theorem zn_zsA (a : Nat) (f : Nat → Option Nat) : zn (zsA α a f) = zn α := rfl
theorem zc_zsA (a : Nat) (f : Nat → Option Nat) : zc (zsA α a f) = zc α := rfl
theorem zw_zsA (a : Nat) (f : Nat → Option Nat) : zw (zsA α a f) = zw α := rfl
theorem zkd_zsA (a : Nat) (f : Nat → Option Nat) : zkd (zsA α a f) q = zkd α q := by
  unfold zkd zsA va_up
  by_cases z : q = a
  · subst z; simp [zqA]
  · simp [z]
theorem zln_zsA (a : Nat) (f : Nat → Option Nat) : zln (zsA α a f) q = zln α q := by
  unfold zln zsA va_up
  by_cases z : q = a
  · subst z; simp [zqA]
  · simp [z]
theorem zB_zsA (a : Nat) (f : Nat → Option Nat) : zB (zsA α a f) q = zB α q := by
  unfold zB zsA va_up
  by_cases z : q = a
  · subst z; simp [zqA]
  · simp [z]
theorem zC_zsA (a : Nat) (f : Nat → Option Nat) : zC (zsA α a f) q = zC α q := by
  unfold zC zsA va_up
  by_cases z : q = a
  · subst z; simp [zqA]
  · simp [z]
theorem zI_zsA (c k : Nat) (a : Nat) (f : Nat → Option Nat) : zI (zsA α a f) c k q = zI α c k q := by
  unfold zI zsA va_up
  by_cases z : q = a
  · subst z; simp [zqA]
  · simp [z]
theorem zJ_zsA (c k : Nat) (a : Nat) (f : Nat → Option Nat) : zJ (zsA α a f) c k q = zJ α c k q := by
  unfold zJ zsA va_up
  by_cases z : q = a
  · subst z; simp [zqA]
  · simp [z]
theorem zA_zsA (c k : Nat) (a : Nat) (f : Nat → Option Nat) : zA (zsA α a f) c k q = zA α c k q := by
  unfold zA zsA va_up
  by_cases z : q = a
  · subst z; simp [zqA]
  · simp [z]
theorem zaI_zsA (j : Nat) (a : Nat) (f : Nat → Option Nat) : zaI (zsA α a f) q j = zaI α q j := by
  unfold zaI zsA va_up
  by_cases z : q = a
  · subst z; simp [zqA]
  · simp [z]
theorem zaJ_zsA (j : Nat) (a : Nat) (f : Nat → Option Nat) : zaJ (zsA α a f) q j = zaJ α q j := by
  unfold zaJ zsA va_up
  by_cases z : q = a
  · subst z; simp [zqA]
  · simp [z]
theorem zaA_zsA (j : Nat) (a : Nat) (f : Nat → Option Nat) : zaA (zsA α a f) q j = if q = a then f j else zaA α q j := by
  unfold zaA zsA va_up
  by_cases z : q = a
  · subst z; simp [zqA]
  · simp [z]
theorem zL_zsA (a : Nat) (f : Nat → Option Nat) : zL (zsA α a f) q = zL α q := by
  unfold zL zsA va_up
  by_cases z : q = a
  · subst z; simp [zqA]
  · simp [z]
theorem zT_zsA (a : Nat) (f : Nat → Option Nat) : zT (zsA α a f) q = zT α q := by
  unfold zT zsA va_up
  by_cases z : q = a
  · subst z; simp [zqA]
  · simp [z]
theorem zm_zsA (a : Nat) (f : Nat → Option Nat) : zm (zsA α a f) q = zm α q := by
  unfold zm zsA va_up
  by_cases z : q = a
  · subst z; simp [zqA]
  · simp [z]
theorem zn_zsL (a n c0 w bk cap : Nat) (xs : List (Option Nat)) (m : Int32) : zn (zsL α a n c0 w bk cap xs m) = zn α + n := rfl
theorem zc_zsL (a n c0 w bk cap : Nat) (xs : List (Option Nat)) (m : Int32) : zc (zsL α a n c0 w bk cap xs m) = zc α + c0 := rfl
theorem zw_zsL (a n c0 w bk cap : Nat) (xs : List (Option Nat)) (m : Int32) : zw (zsL α a n c0 w bk cap xs m) = zw α + w := rfl
theorem zkd_zsL (a n c0 w bk cap : Nat) (xs : List (Option Nat)) (m : Int32) : zkd (zsL α a n c0 w bk cap xs m) q = zkd α q := by
  unfold zkd zsL va_up
  by_cases z : q = a
  · subst z; simp [zqL]
  · simp [z]
theorem zln_zsL (a n c0 w bk cap : Nat) (xs : List (Option Nat)) (m : Int32) : zln (zsL α a n c0 w bk cap xs m) q = zln α q := by
  unfold zln zsL va_up
  by_cases z : q = a
  · subst z; simp [zqL]
  · simp [z]
theorem zB_zsL (a n c0 w bk cap : Nat) (xs : List (Option Nat)) (m : Int32) : zB (zsL α a n c0 w bk cap xs m) q = if q = a then bk else zB α q := by
  unfold zB zsL va_up
  by_cases z : q = a
  · subst z; simp [zqL]
  · simp [z]
theorem zC_zsL (a n c0 w bk cap : Nat) (xs : List (Option Nat)) (m : Int32) : zC (zsL α a n c0 w bk cap xs m) q = if q = a then cap else zC α q := by
  unfold zC zsL va_up
  by_cases z : q = a
  · subst z; simp [zqL]
  · simp [z]
theorem zI_zsL (c k : Nat) (a n c0 w bk cap : Nat) (xs : List (Option Nat)) (m : Int32) : zI (zsL α a n c0 w bk cap xs m) c k q = zI α c k q := by
  unfold zI zsL va_up
  by_cases z : q = a
  · subst z; simp [zqL]
  · simp [z]
theorem zJ_zsL (c k : Nat) (a n c0 w bk cap : Nat) (xs : List (Option Nat)) (m : Int32) : zJ (zsL α a n c0 w bk cap xs m) c k q = zJ α c k q := by
  unfold zJ zsL va_up
  by_cases z : q = a
  · subst z; simp [zqL]
  · simp [z]
theorem zA_zsL (c k : Nat) (a n c0 w bk cap : Nat) (xs : List (Option Nat)) (m : Int32) : zA (zsL α a n c0 w bk cap xs m) c k q = zA α c k q := by
  unfold zA zsL va_up
  by_cases z : q = a
  · subst z; simp [zqL]
  · simp [z]
theorem zaI_zsL (j : Nat) (a n c0 w bk cap : Nat) (xs : List (Option Nat)) (m : Int32) : zaI (zsL α a n c0 w bk cap xs m) q j = zaI α q j := by
  unfold zaI zsL va_up
  by_cases z : q = a
  · subst z; simp [zqL]
  · simp [z]
theorem zaJ_zsL (j : Nat) (a n c0 w bk cap : Nat) (xs : List (Option Nat)) (m : Int32) : zaJ (zsL α a n c0 w bk cap xs m) q j = zaJ α q j := by
  unfold zaJ zsL va_up
  by_cases z : q = a
  · subst z; simp [zqL]
  · simp [z]
theorem zaA_zsL (j : Nat) (a n c0 w bk cap : Nat) (xs : List (Option Nat)) (m : Int32) : zaA (zsL α a n c0 w bk cap xs m) q j = zaA α q j := by
  unfold zaA zsL va_up
  by_cases z : q = a
  · subst z; simp [zqL]
  · simp [z]
theorem zL_zsL (a n c0 w bk cap : Nat) (xs : List (Option Nat)) (m : Int32) : zL (zsL α a n c0 w bk cap xs m) q = if q = a then xs else zL α q := by
  unfold zL zsL va_up
  by_cases z : q = a
  · subst z; simp [zqL]
  · simp [z]
theorem zT_zsL (a n c0 w bk cap : Nat) (xs : List (Option Nat)) (m : Int32) : zT (zsL α a n c0 w bk cap xs m) q = zT α q := by
  unfold zT zsL va_up
  by_cases z : q = a
  · subst z; simp [zqL]
  · simp [z]
theorem zm_zsL (a n c0 w bk cap : Nat) (xs : List (Option Nat)) (m : Int32) : zm (zsL α a n c0 w bk cap xs m) q = if q = a then m else zm α q := by
  unfold zm zsL va_up
  by_cases z : q = a
  · subst z; simp [zqL]
  · simp [z]
theorem zn_zsT (a n c0 w bk cap : Nat) (t : List Int32) : zn (zsT α a n c0 w bk cap t) = zn α + n := rfl
theorem zc_zsT (a n c0 w bk cap : Nat) (t : List Int32) : zc (zsT α a n c0 w bk cap t) = zc α + c0 := rfl
theorem zw_zsT (a n c0 w bk cap : Nat) (t : List Int32) : zw (zsT α a n c0 w bk cap t) = zw α + w := rfl
theorem zkd_zsT (a n c0 w bk cap : Nat) (t : List Int32) : zkd (zsT α a n c0 w bk cap t) q = zkd α q := by
  unfold zkd zsT va_up
  by_cases z : q = a
  · subst z; simp [zqT]
  · simp [z]
theorem zln_zsT (a n c0 w bk cap : Nat) (t : List Int32) : zln (zsT α a n c0 w bk cap t) q = zln α q := by
  unfold zln zsT va_up
  by_cases z : q = a
  · subst z; simp [zqT]
  · simp [z]
theorem zB_zsT (a n c0 w bk cap : Nat) (t : List Int32) : zB (zsT α a n c0 w bk cap t) q = if q = a then bk else zB α q := by
  unfold zB zsT va_up
  by_cases z : q = a
  · subst z; simp [zqT]
  · simp [z]
theorem zC_zsT (a n c0 w bk cap : Nat) (t : List Int32) : zC (zsT α a n c0 w bk cap t) q = if q = a then cap else zC α q := by
  unfold zC zsT va_up
  by_cases z : q = a
  · subst z; simp [zqT]
  · simp [z]
theorem zI_zsT (c k : Nat) (a n c0 w bk cap : Nat) (t : List Int32) : zI (zsT α a n c0 w bk cap t) c k q = zI α c k q := by
  unfold zI zsT va_up
  by_cases z : q = a
  · subst z; simp [zqT]
  · simp [z]
theorem zJ_zsT (c k : Nat) (a n c0 w bk cap : Nat) (t : List Int32) : zJ (zsT α a n c0 w bk cap t) c k q = zJ α c k q := by
  unfold zJ zsT va_up
  by_cases z : q = a
  · subst z; simp [zqT]
  · simp [z]
theorem zA_zsT (c k : Nat) (a n c0 w bk cap : Nat) (t : List Int32) : zA (zsT α a n c0 w bk cap t) c k q = zA α c k q := by
  unfold zA zsT va_up
  by_cases z : q = a
  · subst z; simp [zqT]
  · simp [z]
theorem zaI_zsT (j : Nat) (a n c0 w bk cap : Nat) (t : List Int32) : zaI (zsT α a n c0 w bk cap t) q j = zaI α q j := by
  unfold zaI zsT va_up
  by_cases z : q = a
  · subst z; simp [zqT]
  · simp [z]
theorem zaJ_zsT (j : Nat) (a n c0 w bk cap : Nat) (t : List Int32) : zaJ (zsT α a n c0 w bk cap t) q j = zaJ α q j := by
  unfold zaJ zsT va_up
  by_cases z : q = a
  · subst z; simp [zqT]
  · simp [z]
theorem zaA_zsT (j : Nat) (a n c0 w bk cap : Nat) (t : List Int32) : zaA (zsT α a n c0 w bk cap t) q j = zaA α q j := by
  unfold zaA zsT va_up
  by_cases z : q = a
  · subst z; simp [zqT]
  · simp [z]
theorem zL_zsT (a n c0 w bk cap : Nat) (t : List Int32) : zL (zsT α a n c0 w bk cap t) q = zL α q := by
  unfold zL zsT va_up
  by_cases z : q = a
  · subst z; simp [zqT]
  · simp [z]
theorem zT_zsT (a n c0 w bk cap : Nat) (t : List Int32) : zT (zsT α a n c0 w bk cap t) q = if q = a then t else zT α q := by
  unfold zT zsT va_up
  by_cases z : q = a
  · subst z; simp [zqT]
  · simp [z]
theorem zm_zsT (a n c0 w bk cap : Nat) (t : List Int32) : zm (zsT α a n c0 w bk cap t) q = zm α q := by
  unfold zm zsT va_up
  by_cases z : q = a
  · subst z; simp [zqT]
  · simp [z]
theorem zn_zmk (k l w : Nat) : zn (zmk α k l w) = zn α + 1 := rfl
theorem zc_zmk (k l w : Nat) : zc (zmk α k l w) = zc α + 1 := rfl
theorem zw_zmk (k l w : Nat) : zw (zmk α k l w) = zw α + w := rfl
theorem zn_zmT (t : List Int32) : zn (zmT α t) = zn α + 2 := rfl
theorem zc_zmT (t : List Int32) : zc (zmT α t) = zc α + 2 := rfl
theorem zw_zmT (t : List Int32) : zw (zmT α t) = zw α + (4 + t.length) := rfl
theorem zkd_zmk (k0 l0 w : Nat) : zkd (zmk α k0 l0 w) q = if q = zn α then k0 else zkd α q := by
  unfold zkd zmk va_up
  by_cases z : q = zn α
  · subst z; simp
  · simp [z]
theorem zkd_zmT (t : List Int32) : zkd (zmT α t) q = if q = zn α then 8 else zkd α q := by
  unfold zkd zmT va_up
  by_cases z : q = zn α
  · subst z; simp
  · simp [z]
theorem zln_zmk (k0 l0 w : Nat) : zln (zmk α k0 l0 w) q = if q = zn α then l0 else zln α q := by
  unfold zln zmk va_up
  by_cases z : q = zn α
  · subst z; simp
  · simp [z]
theorem zln_zmT (hw : zWF α) (t : List Int32) : zln (zmT α t) q = zln α q := by
  unfold zln zmT va_up
  by_cases z : q = zn α
  · subst z; simp [hw _ (Nat.le_refl (zn α)), zNil]
  · simp [z]
theorem zB_zmk (hw : zWF α) (k0 l0 w : Nat) : zB (zmk α k0 l0 w) q = zB α q := by
  unfold zB zmk va_up
  by_cases z : q = zn α
  · subst z; simp [hw _ (Nat.le_refl (zn α)), zNil]
  · simp [z]
theorem zB_zmT (t : List Int32) : zB (zmT α t) q = if q = zn α then zn α + 1 else zB α q := by
  unfold zB zmT va_up
  by_cases z : q = zn α
  · subst z; simp
  · simp [z]
theorem zC_zmk (hw : zWF α) (k0 l0 w : Nat) : zC (zmk α k0 l0 w) q = zC α q := by
  unfold zC zmk va_up
  by_cases z : q = zn α
  · subst z; simp [hw _ (Nat.le_refl (zn α)), zNil]
  · simp [z]
theorem zC_zmT (t : List Int32) : zC (zmT α t) q = if q = zn α then t.length else zC α q := by
  unfold zC zmT va_up
  by_cases z : q = zn α
  · subst z; simp
  · simp [z]
theorem zI_zmk (hw : zWF α) (c k : Nat) (k0 l0 w : Nat) : zI (zmk α k0 l0 w) c k q = zI α c k q := by
  unfold zI zmk va_up
  by_cases z : q = zn α
  · subst z; simp [hw _ (Nat.le_refl (zn α)), zNil]
  · simp [z]
theorem zI_zmT (hw : zWF α) (c k : Nat) (t : List Int32) : zI (zmT α t) c k q = zI α c k q := by
  unfold zI zmT va_up
  by_cases z : q = zn α
  · subst z; simp [hw _ (Nat.le_refl (zn α)), zNil]
  · simp [z]
theorem zJ_zmk (hw : zWF α) (c k : Nat) (k0 l0 w : Nat) : zJ (zmk α k0 l0 w) c k q = zJ α c k q := by
  unfold zJ zmk va_up
  by_cases z : q = zn α
  · subst z; simp [hw _ (Nat.le_refl (zn α)), zNil]
  · simp [z]
theorem zJ_zmT (hw : zWF α) (c k : Nat) (t : List Int32) : zJ (zmT α t) c k q = zJ α c k q := by
  unfold zJ zmT va_up
  by_cases z : q = zn α
  · subst z; simp [hw _ (Nat.le_refl (zn α)), zNil]
  · simp [z]
theorem zA_zmk (hw : zWF α) (c k : Nat) (k0 l0 w : Nat) : zA (zmk α k0 l0 w) c k q = zA α c k q := by
  unfold zA zmk va_up
  by_cases z : q = zn α
  · subst z; simp [hw _ (Nat.le_refl (zn α)), zNil]
  · simp [z]
theorem zA_zmT (hw : zWF α) (c k : Nat) (t : List Int32) : zA (zmT α t) c k q = zA α c k q := by
  unfold zA zmT va_up
  by_cases z : q = zn α
  · subst z; simp [hw _ (Nat.le_refl (zn α)), zNil]
  · simp [z]
theorem zaI_zmk (hw : zWF α) (j : Nat) (k0 l0 w : Nat) : zaI (zmk α k0 l0 w) q j = zaI α q j := by
  unfold zaI zmk va_up
  by_cases z : q = zn α
  · subst z; simp [hw _ (Nat.le_refl (zn α)), zNil]
  · simp [z]
theorem zaI_zmT (hw : zWF α) (j : Nat) (t : List Int32) : zaI (zmT α t) q j = zaI α q j := by
  unfold zaI zmT va_up
  by_cases z : q = zn α
  · subst z; simp [hw _ (Nat.le_refl (zn α)), zNil]
  · simp [z]
theorem zaJ_zmk (hw : zWF α) (j : Nat) (k0 l0 w : Nat) : zaJ (zmk α k0 l0 w) q j = zaJ α q j := by
  unfold zaJ zmk va_up
  by_cases z : q = zn α
  · subst z; simp [hw _ (Nat.le_refl (zn α)), zNil]
  · simp [z]
theorem zaJ_zmT (hw : zWF α) (j : Nat) (t : List Int32) : zaJ (zmT α t) q j = zaJ α q j := by
  unfold zaJ zmT va_up
  by_cases z : q = zn α
  · subst z; simp [hw _ (Nat.le_refl (zn α)), zNil]
  · simp [z]
theorem zaA_zmk (hw : zWF α) (j : Nat) (k0 l0 w : Nat) : zaA (zmk α k0 l0 w) q j = zaA α q j := by
  unfold zaA zmk va_up
  by_cases z : q = zn α
  · subst z; simp [hw _ (Nat.le_refl (zn α)), zNil]
  · simp [z]
theorem zaA_zmT (hw : zWF α) (j : Nat) (t : List Int32) : zaA (zmT α t) q j = zaA α q j := by
  unfold zaA zmT va_up
  by_cases z : q = zn α
  · subst z; simp [hw _ (Nat.le_refl (zn α)), zNil]
  · simp [z]
theorem zL_zmk (hw : zWF α) (k0 l0 w : Nat) : zL (zmk α k0 l0 w) q = zL α q := by
  unfold zL zmk va_up
  by_cases z : q = zn α
  · subst z; simp [hw _ (Nat.le_refl (zn α)), zNil]
  · simp [z]
theorem zL_zmT (hw : zWF α) (t : List Int32) : zL (zmT α t) q = zL α q := by
  unfold zL zmT va_up
  by_cases z : q = zn α
  · subst z; simp [hw _ (Nat.le_refl (zn α)), zNil]
  · simp [z]
theorem zT_zmk (hw : zWF α) (k0 l0 w : Nat) : zT (zmk α k0 l0 w) q = zT α q := by
  unfold zT zmk va_up
  by_cases z : q = zn α
  · subst z; simp [hw _ (Nat.le_refl (zn α)), zNil]
  · simp [z]
theorem zT_zmT (t : List Int32) : zT (zmT α t) q = if q = zn α then t else zT α q := by
  unfold zT zmT va_up
  by_cases z : q = zn α
  · subst z; simp
  · simp [z]
theorem zm_zmk (hw : zWF α) (k0 l0 w : Nat) : zm (zmk α k0 l0 w) q = zm α q := by
  unfold zm zmk va_up
  by_cases z : q = zn α
  · subst z; simp [hw _ (Nat.le_refl (zn α)), zNil]
  · simp [z]
theorem zm_zmT (hw : zWF α) (t : List Int32) : zm (zmT α t) q = zm α q := by
  unfold zm zmT va_up
  by_cases z : q = zn α
  · subst z; simp [hw _ (Nat.le_refl (zn α)), zNil]
  · simp [z]
end ZACC
/-! THE CLEAR MACHINE, 2: what a clear store says of a plain one. -/
/-- the address of a cell -/
def zmu (G : xQ) (a : Nat) : Nat := if 1000000000 ≤ a ∧ a < 1000000000 + xb (xg (xK G)) then a - 1000000000 else xb (xg (xK G)) + a
abbrev zrf (G : xQ) (r : Option Nat) : Value := va_rf (r.map (zmu G))
theorem zmu_inj {G : xQ} {a q : Nat} (h : zmu G a = zmu G q) : a = q := by
  unfold zmu at h
  split at h <;> split at h <;> omega
theorem zmu_map_inj {G : xQ} {r s : Option Nat} (h : r.map (zmu G) = s.map (zmu G)) : r = s := by
  cases r with
  | none => cases s with
    | none => rfl
    | some b => cases h
  | some a => cases s with
    | none => cases h
    | some b => rw [zmu_inj (Option.some.inj h)]
theorem zmu_eq {G : xQ} (r s : Option Nat) : (r.map (zmu G) = s.map (zmu G)) ↔ r = s := ⟨zmu_map_inj, fun h => by rw [h]⟩
theorem zmu_none {G : xQ} (r : Option Nat) : (r.map (zmu G) = none) ↔ r = none := by cases r <;> simp
def zTy (ci : Nat) : Nat → FieldType := ((zTab[ci]?).getD (fun _ => .int, 0)).1
def zN (ci : Nat) : Nat := ((zTab[ci]?).getD (fun _ => .int, 0)).2
/-- places of classes whose objects are plain rows of fields; of exceptions -/
def zplain (ci : Nat) : Bool := decide (ci < 95) && !([1, 2, 3, 4, 6, 7, 57, 85].contains ci)
def zexc (ci : Nat) : Bool := [3, 4, 57, 85].contains ci
def zval (G : xQ) (r : zLoc) (c k : Nat) (ty : FieldType) : Value := match ty with
  | .long => .long (r.2.1.2.1 c k)
  | .object _ => zrf G (r.2.1.2.2 c k)
  | .array _ => zrf G (r.2.1.2.2 c k)
  | .float => defaultValue .float
  | .double => defaultValue .double
  | _ => .int (r.2.1.1 c k)
def zfs (G : xQ) (r : zLoc) (c N : Nat) (tyf : Nat → FieldType) : List Value := (List.range N).map fun k => zval G r c k (tyf k)
def zarr (G : xQ) (r : zLoc) (ty : FieldType) : (Nat → Int32) ⊕ (Nat → Int64) ⊕ (Nat → UInt32) ⊕ (Nat → UInt64) ⊕ (Nat → Option Nat) := match ty with
  | .long => .inr (.inl r.2.2.1.2.1)
  | .object _ => .inr (.inr (.inr (.inr (fun j => (r.2.2.1.2.2 j).map (zmu G)))))
  | .array _ => .inr (.inr (.inr (.inr (fun j => (r.2.2.1.2.2 j).map (zmu G)))))
  | _ => .inl r.2.2.1.1
/-- a text's sign as a byte -/
def zby (x : Int32) : Int32 := x.toInt8.toInt32
/-- the addresses of a list's two empty rows -/
def zdf (G : xQ) : Nat := match G.2.2.2.1 "java/util/ArrayList" 0 with
  | some (.ref a) => a
  | _ => 0
def zem (G : xQ) : Nat := match G.2.2.2.1 "java/util/ArrayList" 1 with
  | some (.ref a) => a
  | _ => 0
def zOkL (G : xQ) (c0 c1 : Option xE) (r : zLoc) : Prop := ∃ e : Nat, c0 = some (.inr (2, [.int r.2.2.2.2.2, .ref e, .int (nI r.2.2.2.1.length)])) ∧ r.2.2.2.1.length ≤ r.1.2.2.2 ∧ r.1.2.2.2 < 100000000 ∧
  ((r.1.2.2.2 = 0 ∧ ((r.1.2.2.1 = 0 ∧ e = zdf G) ∨ (r.1.2.2.1 = 1 ∧ e = zem G))) ∨ (0 < r.1.2.2.2 ∧ e = xb (xg (xK G)) + r.1.2.2.1 ∧ ∃ f : Nat → Option Nat, c1 = some (.inl (.object "java/lang/Object", r.1.2.2.2, .inr (.inr (.inr (.inr f))))) ∧ ∀ j, j < r.2.2.2.1.length → f j = ((r.2.2.2.1[j]?).getD none).map (zmu G)))
def zOkB (G : xQ) (c0 c1 : Option xE) (r : zLoc) : Prop := r.2.2.2.2.1.length ≤ r.1.2.2.2 ∧ r.1.2.2.2 < 100000000 ∧ (∃ ml : Int32, c0 = some (.inr (6, [.ref (xb (xg (xK G)) + r.1.2.2.1), .int 0, .int ml, .int (nI r.2.2.2.2.1.length)]))) ∧ (∀ x ∈ r.2.2.2.2.1, 0 ≤ x ∧ x < 256) ∧
  ∃ f : Nat → Int32, c1 = some (.inl (.byte, r.1.2.2.2, .inl f)) ∧ (∀ j, fits .byte (.int (f j)) = true) ∧ ∀ j, j < r.2.2.2.2.1.length → f j = zby ((r.2.2.2.2.1[j]?).getD 0)
/-- a text's hash -/
def zhash (t : List Int32) : Int32 := t.foldl (fun h x => 31 * h + x) 0
def zOkT (G : xQ) (c0 c1 : Option xE) (r : zLoc) : Prop := r.1.2.2.2 = r.2.2.2.2.1.length ∧ r.1.2.2.2 < 100000000 ∧ (∃ h z : Int32, c0 = some (.inr (7, [.ref (xb (xg (xK G)) + r.1.2.2.1), .int 0, .int h, .int z])) ∧ ((h = 0 ∧ z = 0) ∨ h = zhash r.2.2.2.2.1)) ∧ (∀ x ∈ r.2.2.2.2.1, 0 ≤ x ∧ x < 256) ∧
  c1 = some (.inl (.byte, r.1.2.2.2, .inl (fun j => zby ((r.2.2.2.2.1[j]?).getD 0))))
/-- a cell of ours is as its record says; c1: the row that lies behind a list, a builder, a text -/
def zOk (G : xQ) (c0 c1 : Option xE) (r : zLoc) : Prop :=
  (∀ ci, r.1.1 = ci + 1 → zplain ci = true → c0 = some (.inr (ci, zfs G r ci (zN ci) (zTy ci)))) ∧
  (∀ t ty, r.1.1 = 1001 + t → xTL[t]? = some ty → c0 = some (.inl (ty, r.1.2.1, zarr G r ty))) ∧
  (r.1.1 = 3 → zOkL G c0 c1 r) ∧ (r.1.1 = 7 → zOkB G c0 c1 r) ∧ (r.1.1 = 8 → zOkT G c0 c1 r) ∧
  (∀ ci, r.1.1 = ci + 1 → zexc ci = true → ∃ fs, c0 = some (.inr (ci, fs)) ∧ fs.length = zN ci ∧ (ci = 85 → fs[6]? = some (.int (r.2.1.1 85 6)))) ∧
  (∀ ci, r.1.1 = 2001 + ci → c0 = some (.inr (ci, xdef (zTy ci) (zN ci)))) ∧
  (r.1.1 = 1002 → ∀ j, fits .boolean (.int (r.2.2.1.1 j)) = true) ∧ (r.1.1 = 1003 → ∀ j, fits .byte (.int (r.2.2.1.1 j)) = true)
/-- a row lies behind it -/
def zhid (r : zLoc) : Prop := (r.1.1 = 3 ∧ 0 < r.1.2.2.2) ∨ r.1.1 = 7 ∨ r.1.1 = 8
/-- words that are put by for a longer row -/
def zphi (r : zLoc) : Nat := if r.1.1 = 3 then (5 * r.2.2.2.1.length - 3 * r.1.2.2.2) + (if r.1.2.2.2 = 0 then 10 else 0) else if r.1.1 = 7 then 4 * r.2.2.2.2.1.length - 2 * r.1.2.2.2 else 0
def zsum (f : Nat → Nat) : Nat → Nat
  | 0 => 0
  | n + 1 => zsum f n + f n
theorem zsum_same {f g : Nat → Nat} {n : Nat} (h : ∀ a, a < n → f a = g a) : zsum f n = zsum g n := by
  induction n with
  | zero => rfl
  | succ n ih => simp only [zsum]; rw [ih (fun a ha => h a (by omega)), h n (by omega)]
theorem zsum_one {f g : Nat → Nat} {n a : Nat} (ha : a < n) (h : ∀ q, q < n → q ≠ a → f q = g q) : zsum f n + g a = zsum g n + f a := by
  induction n with
  | zero => omega
  | succ n ih =>
    simp only [zsum]
    by_cases hn : a = n
    · subst hn
      have := zsum_same (f := f) (g := g) (n := a) (fun q hq => h q (by omega) (by omega))
      omega
    · have h1 := ih (by omega) (fun q hq hne => h q (by omega) hne)
      have h2 := h n (by omega) (fun e => hn e.symm)
      omega
/-- what the clear machine asks of a launch: texts, constants, the lists' empty rows, the small numbers -/
def zGood (G : xQ) : Prop :=
  (∀ q ∈ zLitT, ∃ a, xko (xK G) q.1 q.2.1 = some (.ref a) ∧ a < xb (xg (xK G)) ∧ zlt G q.2.2 = 1000000000 + a) ∧
  (∀ q ∈ zEnT, ∃ a, xsk (xK G) q.1 q.2.1 = some (.ref a) ∧ a < xb (xg (xK G)) ∧ zen G q.2.2 = 1000000000 + a) ∧
  (∀ own idx a v, xfo (xK G) own idx a = some v → a < xb (xg (xK G)) ∧ ∀ y, v = .ref y → y < xb (xg (xK G)))
def zRel (G : xQ) (σ : xS) (α : zS) : Prop :=
  σ.1.length = zn α ∧ zn α ≤ zc α ∧ σ.2 + zsum (fun a => zphi (α.2 a)) (zn α) ≤ zw α ∧ zn α ≤ 1000000000 ∧ zWF α ∧
  (∀ a, zkd α a ≠ 0 → zOk G (σ.1[a]?) (σ.1[zB α a]?) (α.2 a)) ∧
  (∀ a, zhid (α.2 a) → zkd α (zB α a) = 0 ∧ zB α a < zn α) ∧ (∀ a q, zhid (α.2 a) → zhid (α.2 q) → zB α a = zB α q → a = q) ∧ zGood G
section ZREL
variable {G : xQ} {σ : xS} {α : zS} {a q : Nat}
theorem zOk.c1 {c0 c1 c2 : Option xE} {r : zLoc} (h : zOk G c0 c1 r) (hn : ¬ zhid r) : zOk G c0 c2 r := by
  obtain ⟨h1, h2, h3, h4, h5, h6, h7⟩ := h
  refine ⟨h1, h2, fun hk => ?_, fun hk => absurd (Or.inr (Or.inl hk)) hn, fun hk => absurd (Or.inr (Or.inr hk)) hn, h6, h7⟩
  obtain ⟨e, g1, g2, g3, g4⟩ := h3 hk
  refine ⟨e, g1, g2, g3, ?_⟩
  rcases g4 with g4 | ⟨g4, -⟩
  · exact Or.inl g4
  · exact absurd (Or.inl ⟨hk, g4⟩) hn
theorem zRel.lt (h : zRel G σ α) (ha : zkd α a ≠ 0) : a < zn α := by
  by_cases hl : a < zn α
  · exact hl
  · have := h.2.2.2.2.1 a (by omega)
    exact absurd (by unfold zkd; rw [this]; rfl) ha
theorem zRel.mu (h : zRel G σ α) (ha : zkd α a ≠ 0) : zmu G a = xb (xg (xK G)) + a := by
  have h1 := h.lt ha
  have h2 := h.2.2.2.1
  unfold zmu
  rw [if_neg (by omega)]
theorem zRel.ok (h : zRel G σ α) (ha : zkd α a ≠ 0) : zOk G (σ.1[a]?) (σ.1[zB α a]?) (α.2 a) := h.2.2.2.2.2.1 a ha
theorem zRel.nw (h : zRel G σ α) (ha : zkd α a ≠ 0) : xnw (xb (xg (xK G))) σ (zmu G a) = σ.1[a]? := by
  rw [h.mu ha]
  unfold xnw
  rw [if_pos (by omega), Nat.add_sub_cancel_left]
theorem zRel.at (h : zRel G σ α) (ha : zkd α a ≠ 0) : xat (xb (xg (xK G))) (xold (xg (xK G))) σ (zmu G a) = σ.1[a]? := by
  rw [h.mu ha]
  unfold xat
  rw [if_pos (by omega), Nat.add_sub_cancel_left]
/-- a cell without a row behind it gets another record -/
theorem zRel.set (h : zRel G σ α) {r' : zLoc} {x : xE} (ha : zkd α a ≠ 0) (h0 : r'.1.1 ≠ 0) (h1 : ¬ zhid (α.2 a)) (h2 : ¬ zhid r') (h3 : zphi r' = zphi (α.2 a)) (h4 : zOk G (some x) none r') :
    zRel G (xput (xb (xg (xK G))) σ (zmu G a) x) (α.1, va_up α.2 a r') := by
  have hlt := h.lt ha
  have hmu := h.mu ha
  obtain ⟨g1, g2, g3, g4, g5, g6, g7, g8, g9⟩ := id h
  have es : (xput (xb (xg (xK G))) σ (zmu G a) x).1 = σ.1.set a x := by unfold xput; rw [hmu, Nat.add_sub_cancel_left]
  have kq : ∀ q, q ≠ a → va_up α.2 a r' q = α.2 q := fun q hq => by unfold va_up; rw [if_neg hq]
  have ka : va_up α.2 a r' a = r' := by unfold va_up; rw [if_pos rfl]
  have nh : ∀ q, zhid (va_up α.2 a r' q) → q ≠ a ∧ zhid (α.2 q) := fun q hq => by
    by_cases e : q = a
    · subst e; rw [ka] at hq; exact absurd hq h2
    · exact ⟨e, by rw [kq q e] at hq; exact hq⟩
  refine ⟨?_, g2, ?_, g4, ?_, ?_, ?_, ?_, g9⟩
  · rw [es, List.length_set]; exact g1
  · have : zsum (fun q => zphi (va_up α.2 a r' q)) (zn α) = zsum (fun q => zphi (α.2 q)) (zn α) := zsum_same fun q hq => by
      by_cases e : q = a
      · subst e; simp only [ka]; exact h3
      · simp only [kq q e]
    show σ.2 + zsum (fun q => zphi (va_up α.2 a r' q)) (zn α) ≤ zw α
    rw [this]; exact g3
  · intro q hq
    have hq' : zn α ≤ q := hq
    show va_up α.2 a r' q = zNil
    rw [kq q (by omega)]; exact g5 q hq'
  · intro q hq
    show zOk G ((xput (xb (xg (xK G))) σ (zmu G a) x).1[q]?) ((xput (xb (xg (xK G))) σ (zmu G a) x).1[(va_up α.2 a r' q).1.2.2.1]?) (va_up α.2 a r' q)
    have hq' : (va_up α.2 a r' q).1.1 ≠ 0 := hq
    by_cases e : q = a
    · subst e
      rw [ka, es, List.getElem?_set_self (by omega)]
      exact h4.c1 h2
    · rw [kq q e] at hq' ⊢
      rw [es, List.getElem?_set_ne (fun h => e h.symm)]
      have hok := g6 q hq'
      by_cases hh : zhid (α.2 q)
      · have hb := (g7 q hh).1
        have hne : a ≠ zB α q := fun e2 => ha (by rw [e2]; exact hb)
        rw [List.getElem?_set_ne (show a ≠ (α.2 q).1.2.2.1 from hne)]
        exact hok
      · exact hok.c1 hh
  · intro q hq
    obtain ⟨e, hq'⟩ := nh q hq
    have hb := g7 q hq'
    have e2 : zB (α.1, va_up α.2 a r') q = zB α q := by unfold zB; show (va_up α.2 a r' q).1.2.2.1 = _; rw [kq q e]
    rw [e2]
    refine ⟨?_, hb.2⟩
    have hne : zB α q ≠ a := fun e3 => ha (by rw [← e3]; exact hb.1)
    unfold zkd
    show (va_up α.2 a r' (zB α q)).1.1 = 0
    rw [kq _ hne]; exact hb.1
  · intro q s hq hs he
    obtain ⟨e1, hq'⟩ := nh q hq
    obtain ⟨e2, hs'⟩ := nh s hs
    refine g8 q s hq' hs' ?_
    have f1 : zB (α.1, va_up α.2 a r') q = zB α q := by unfold zB; show (va_up α.2 a r' q).1.2.2.1 = _; rw [kq q e1]
    have f2 : zB (α.1, va_up α.2 a r') s = zB α s := by unfold zB; show (va_up α.2 a r' s).1.2.2.1 = _; rw [kq s e2]
    rw [← f1, ← f2]; exact he
/-- a new cell without a row behind it -/
theorem zRel.mk (h : zRel G σ α) {r' : zLoc} {x : xE} {w : Nat} (hn : zn α + 1 ≤ 1000000000) (h0 : r'.1.1 ≠ 0) (h2 : ¬ zhid r') (h3 : zphi r' = 0) (h4 : zOk G (some x) none r') :
    zRel G (xmake σ x w) ((zn α + 1, zc α + 1, zw α + w), va_up α.2 (zn α) r') := by
  obtain ⟨g1, g2, g3, g4, g5, g6, g7, g8, g9⟩ := id h
  have kq : ∀ q, q ≠ zn α → va_up α.2 (zn α) r' q = α.2 q := fun q hq => by unfold va_up; rw [if_neg hq]
  have ka : va_up α.2 (zn α) r' (zn α) = r' := by unfold va_up; rw [if_pos rfl]
  have nh : ∀ q, zhid (va_up α.2 (zn α) r' q) → q ≠ zn α ∧ zhid (α.2 q) := fun q hq => by
    by_cases e : q = zn α
    · subst e; rw [ka] at hq; exact absurd hq h2
    · exact ⟨e, by rw [kq q e] at hq; exact hq⟩
  refine ⟨?_, ?_, ?_, hn, ?_, ?_, ?_, ?_, g9⟩
  · show (σ.1 ++ [x]).length = zn α + 1
    rw [List.length_append]; simp [g1]
  · show zn α + 1 ≤ zc α + 1
    omega
  · show σ.2 + w + zsum (fun q => zphi (va_up α.2 (zn α) r' q)) (zn α + 1) ≤ zw α + w
    have : zsum (fun q => zphi (va_up α.2 (zn α) r' q)) (zn α) = zsum (fun q => zphi (α.2 q)) (zn α) := zsum_same fun q hq => by
      simp only [kq q (by omega)]
    simp only [zsum, this, ka, h3]
    omega
  · intro q hq
    have hq' : zn α + 1 ≤ q := hq
    show va_up α.2 (zn α) r' q = zNil
    rw [kq q (by omega)]; exact g5 q (by omega)
  · intro q hq
    show zOk G ((σ.1 ++ [x])[q]?) ((σ.1 ++ [x])[(va_up α.2 (zn α) r' q).1.2.2.1]?) (va_up α.2 (zn α) r' q)
    have hq' : (va_up α.2 (zn α) r' q).1.1 ≠ 0 := hq
    by_cases e : q = zn α
    · subst e
      rw [ka, List.getElem?_append_right (by omega), g1, Nat.sub_self]
      exact h4.c1 h2
    · rw [kq q e] at hq' ⊢
      have hl := h.lt hq'
      rw [List.getElem?_append_left (by omega)]
      have hok := g6 q hq'
      by_cases hh : zhid (α.2 q)
      · have hb := (g7 q hh).2
        rw [List.getElem?_append_left (show (α.2 q).1.2.2.1 < σ.1.length by rw [g1]; exact hb)]
        exact hok
      · exact hok.c1 hh
  · intro q hq
    obtain ⟨e, hq'⟩ := nh q hq
    have hb := g7 q hq'
    have e2 : zB ((zn α + 1, zc α + 1, zw α + w), va_up α.2 (zn α) r') q = zB α q := by unfold zB; show (va_up α.2 (zn α) r' q).1.2.2.1 = _; rw [kq q e]
    rw [e2]
    refine ⟨?_, Nat.lt_succ_of_lt hb.2⟩
    unfold zkd
    show (va_up α.2 (zn α) r' (zB α q)).1.1 = 0
    rw [kq _ (by omega)]; exact hb.1
  · intro q s hq hs he
    obtain ⟨e1, hq'⟩ := nh q hq
    obtain ⟨e2, hs'⟩ := nh s hs
    refine g8 q s hq' hs' ?_
    have f1 : zB ((zn α + 1, zc α + 1, zw α + w), va_up α.2 (zn α) r') q = zB α q := by unfold zB; show (va_up α.2 (zn α) r' q).1.2.2.1 = _; rw [kq q e1]
    have f2 : zB ((zn α + 1, zc α + 1, zw α + w), va_up α.2 (zn α) r') s = zB α s := by unfold zB; show (va_up α.2 (zn α) r' s).1.2.2.1 = _; rw [kq s e2]
    rw [← f1, ← f2]; exact he
end ZREL
