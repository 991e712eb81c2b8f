/-! THE PURE LAYER: the parser, both sides: words, nodes and what stays while a clause is read. -/
/-- what stays the same while one clause is read (lv = 1: it is a sentence, M's depth is kept): X's parser p and its rows of words, n words with kinds and values, both sides' states ahead of the clause, the number of nodes and the place then -/
abbrev pC : Type := (Nat) × (Nat) × (Nat) × (Nat) × (Nat → Nat) × (Nat → Nat) × (zS) × (zM) × (Nat) × (Nat) × (Nat)
def pC.p (x : pC) : Nat := x.1
def pC.ka (x : pC) : Nat := x.2.1
def pC.va (x : pC) : Nat := x.2.2.1
def pC.n (x : pC) : Nat := x.2.2.2.1
def pC.ks (x : pC) : Nat → Nat := x.2.2.2.2.1
def pC.vs (x : pC) : Nat → Nat := x.2.2.2.2.2.1
def pC.a0 (x : pC) : zS := x.2.2.2.2.2.2.1
def pC.s0 (x : pC) : zM := x.2.2.2.2.2.2.2.1
def pC.N0 (x : pC) : Nat := x.2.2.2.2.2.2.2.2.1
def pC.at0 (x : pC) : Nat := x.2.2.2.2.2.2.2.2.2.1
def pC.lv (x : pC) : Nat := x.2.2.2.2.2.2.2.2.2.2
theorem pC.p_mk {x0 : Nat} {x1 : Nat} {x2 : Nat} {x3 : Nat} {x4 : Nat → Nat} {x5 : Nat → Nat} {x6 : zS} {x7 : zM} {x8 : Nat} {x9 : Nat} {x10 : Nat} : pC.p (x0, x1, x2, x3, x4, x5, x6, x7, x8, x9, x10) = x0 := rfl
theorem pC.ka_mk {x0 : Nat} {x1 : Nat} {x2 : Nat} {x3 : Nat} {x4 : Nat → Nat} {x5 : Nat → Nat} {x6 : zS} {x7 : zM} {x8 : Nat} {x9 : Nat} {x10 : Nat} : pC.ka (x0, x1, x2, x3, x4, x5, x6, x7, x8, x9, x10) = x1 := rfl
theorem pC.va_mk {x0 : Nat} {x1 : Nat} {x2 : Nat} {x3 : Nat} {x4 : Nat → Nat} {x5 : Nat → Nat} {x6 : zS} {x7 : zM} {x8 : Nat} {x9 : Nat} {x10 : Nat} : pC.va (x0, x1, x2, x3, x4, x5, x6, x7, x8, x9, x10) = x2 := rfl
theorem pC.n_mk {x0 : Nat} {x1 : Nat} {x2 : Nat} {x3 : Nat} {x4 : Nat → Nat} {x5 : Nat → Nat} {x6 : zS} {x7 : zM} {x8 : Nat} {x9 : Nat} {x10 : Nat} : pC.n (x0, x1, x2, x3, x4, x5, x6, x7, x8, x9, x10) = x3 := rfl
theorem pC.ks_mk {x0 : Nat} {x1 : Nat} {x2 : Nat} {x3 : Nat} {x4 : Nat → Nat} {x5 : Nat → Nat} {x6 : zS} {x7 : zM} {x8 : Nat} {x9 : Nat} {x10 : Nat} : pC.ks (x0, x1, x2, x3, x4, x5, x6, x7, x8, x9, x10) = x4 := rfl
theorem pC.vs_mk {x0 : Nat} {x1 : Nat} {x2 : Nat} {x3 : Nat} {x4 : Nat → Nat} {x5 : Nat → Nat} {x6 : zS} {x7 : zM} {x8 : Nat} {x9 : Nat} {x10 : Nat} : pC.vs (x0, x1, x2, x3, x4, x5, x6, x7, x8, x9, x10) = x5 := rfl
theorem pC.a0_mk {x0 : Nat} {x1 : Nat} {x2 : Nat} {x3 : Nat} {x4 : Nat → Nat} {x5 : Nat → Nat} {x6 : zS} {x7 : zM} {x8 : Nat} {x9 : Nat} {x10 : Nat} : pC.a0 (x0, x1, x2, x3, x4, x5, x6, x7, x8, x9, x10) = x6 := rfl
theorem pC.s0_mk {x0 : Nat} {x1 : Nat} {x2 : Nat} {x3 : Nat} {x4 : Nat → Nat} {x5 : Nat → Nat} {x6 : zS} {x7 : zM} {x8 : Nat} {x9 : Nat} {x10 : Nat} : pC.s0 (x0, x1, x2, x3, x4, x5, x6, x7, x8, x9, x10) = x7 := rfl
theorem pC.N0_mk {x0 : Nat} {x1 : Nat} {x2 : Nat} {x3 : Nat} {x4 : Nat → Nat} {x5 : Nat → Nat} {x6 : zS} {x7 : zM} {x8 : Nat} {x9 : Nat} {x10 : Nat} : pC.N0 (x0, x1, x2, x3, x4, x5, x6, x7, x8, x9, x10) = x8 := rfl
theorem pC.at0_mk {x0 : Nat} {x1 : Nat} {x2 : Nat} {x3 : Nat} {x4 : Nat → Nat} {x5 : Nat → Nat} {x6 : zS} {x7 : zM} {x8 : Nat} {x9 : Nat} {x10 : Nat} : pC.at0 (x0, x1, x2, x3, x4, x5, x6, x7, x8, x9, x10) = x9 := rfl
theorem pC.lv_mk {x0 : Nat} {x1 : Nat} {x2 : Nat} {x3 : Nat} {x4 : Nat → Nat} {x5 : Nat → Nat} {x6 : zS} {x7 : zM} {x8 : Nat} {x9 : Nat} {x10 : Nat} : pC.lv (x0, x1, x2, x3, x4, x5, x6, x7, x8, x9, x10) = x10 := rfl
/-- nodes: M's numbers and X's cells, what lies below them, a rank that falls downwards -/
abbrev pG : Type := (Nat → Nat) × (Nat → List Nat) × (Nat → Nat)
def pG.oa (x : pG) : Nat → Nat := x.1
def pG.ch (x : pG) : Nat → List Nat := x.2.1
def pG.r (x : pG) : Nat → Nat := x.2.2
theorem pG.oa_mk {x0 : Nat → Nat} {x1 : Nat → List Nat} {x2 : Nat → Nat} : pG.oa (x0, x1, x2) = x0 := rfl
theorem pG.ch_mk {x0 : Nat → Nat} {x1 : Nat → List Nat} {x2 : Nat → Nat} : pG.ch (x0, x1, x2) = x1 := rfl
theorem pG.r_mk {x0 : Nat → Nat} {x1 : Nat → List Nat} {x2 : Nat → Nat} : pG.r (x0, x1, x2) = x2 := rfl
def wK (c : pC) (k a : Nat) : Bool := decide (k < c.n ∧ c.ks k = a)
def wW (c : pC) (k a : Nat) : Bool := decide (k < c.n ∧ c.ks k = 0 ∧ c.vs k = a)
def wS (c : pC) (k a : Nat) : Bool := decide (k < c.n ∧ c.ks k = 5 ∧ c.vs k = a)
/-- a statement's word -/
def wB (c : pC) (k : Nat) : Bool := decide (k < c.n ∧ c.ks k = 0 ∧ (c.vs k = 29 ∨ 36 ≤ c.vs k ∧ c.vs k ≤ 47))
/-- an operand -/
def wO (c : pC) (k : Nat) : Bool := decide (k < c.n ∧ (c.ks k = 1 ∨ c.ks k = 2 ∨ c.ks k = 3))
/-- a comparing sign or word -/
def wR (c : pC) (k : Nat) : Bool := decide (k < c.n ∧ (c.ks k = 5 ∧ 2 ≤ c.vs k ∧ c.vs k ≤ 4 ∨ c.ks k = 0 ∧ 68 ≤ c.vs k ∧ c.vs k ≤ 70))
/-- a comparison begins -/
def wX (c : pC) (k : Nat) : Bool := wW c k 67 || (wW c k 64 && wR c (k + 1)) || wR c k
def pxW (c : pC) (α : zS) : Prop := (zkd α c.p = 41) ∧ (zA α 40 0 c.p = some c.ka) ∧ (zA α 40 1 c.p = some c.va) ∧ (zI α 40 2 c.p = nI c.n) ∧ (zkd α c.ka = 1001) ∧ (zkd α c.va = 1001) ∧ (zln α c.ka = 1500) ∧ (zln α c.va = 1500) ∧ (∀ i, i < c.n → zaI α c.ka i = nI (c.ks i)) ∧ (∀ i, i < c.n → zaI α c.va i = nI (c.vs i))
theorem pxW.kp {c : pC} {α : zS} (h : pxW c α) : zkd α c.p = 41 := by
  unfold pxW at h
  exact h.1
theorem pxW.fk {c : pC} {α : zS} (h : pxW c α) : zA α 40 0 c.p = some c.ka := by
  unfold pxW at h
  exact h.2.1
theorem pxW.fv {c : pC} {α : zS} (h : pxW c α) : zA α 40 1 c.p = some c.va := by
  unfold pxW at h
  exact h.2.2.1
theorem pxW.fn {c : pC} {α : zS} (h : pxW c α) : zI α 40 2 c.p = nI c.n := by
  unfold pxW at h
  exact h.2.2.2.1
theorem pxW.kk {c : pC} {α : zS} (h : pxW c α) : zkd α c.ka = 1001 := by
  unfold pxW at h
  exact h.2.2.2.2.1
theorem pxW.kv {c : pC} {α : zS} (h : pxW c α) : zkd α c.va = 1001 := by
  unfold pxW at h
  exact h.2.2.2.2.2.1
theorem pxW.lk {c : pC} {α : zS} (h : pxW c α) : zln α c.ka = 1500 := by
  unfold pxW at h
  exact h.2.2.2.2.2.2.1
theorem pxW.lv {c : pC} {α : zS} (h : pxW c α) : zln α c.va = 1500 := by
  unfold pxW at h
  exact h.2.2.2.2.2.2.2.1
theorem pxW.rk {c : pC} {α : zS} (h : pxW c α) : ∀ i, i < c.n → zaI α c.ka i = nI (c.ks i) := by
  unfold pxW at h
  exact h.2.2.2.2.2.2.2.2.1
theorem pxW.rv {c : pC} {α : zS} (h : pxW c α) : ∀ i, i < c.n → zaI α c.va i = nI (c.vs i) := by
  unfold pxW at h
  exact h.2.2.2.2.2.2.2.2.2
theorem pxW.mk {c : pC} {α : zS} (x0 : zkd α c.p = 41) (x1 : zA α 40 0 c.p = some c.ka) (x2 : zA α 40 1 c.p = some c.va) (x3 : zI α 40 2 c.p = nI c.n) (x4 : zkd α c.ka = 1001) (x5 : zkd α c.va = 1001) (x6 : zln α c.ka = 1500) (x7 : zln α c.va = 1500) (x8 : ∀ i, i < c.n → zaI α c.ka i = nI (c.ks i)) (x9 : ∀ i, i < c.n → zaI α c.va i = nI (c.vs i)) : pxW c α := by
  unfold pxW
  exact ⟨x0, x1, x2, x3, x4, x5, x6, x7, x8, x9⟩
def mWd (c : pC) (s : zM) : Prop := (ls s 4 = nI c.n) ∧ (∀ i, i < c.n → la s 2 i = nI (c.ks i)) ∧ (∀ i, i < c.n → la s 3 i = nI (c.vs i))
theorem mWd.fn {c : pC} {s : zM} (h : mWd c s) : ls s 4 = nI c.n := by
  unfold mWd at h
  exact h.1
theorem mWd.rk {c : pC} {s : zM} (h : mWd c s) : ∀ i, i < c.n → la s 2 i = nI (c.ks i) := by
  unfold mWd at h
  exact h.2.1
theorem mWd.rv {c : pC} {s : zM} (h : mWd c s) : ∀ i, i < c.n → la s 3 i = nI (c.vs i) := by
  unfold mWd at h
  exact h.2.2
theorem mWd.mk {c : pC} {s : zM} (x0 : ls s 4 = nI c.n) (x1 : ∀ i, i < c.n → la s 2 i = nI (c.ks i)) (x2 : ∀ i, i < c.n → la s 3 i = nI (c.vs i)) : mWd c s := by
  unfold mWd
  exact ⟨x0, x1, x2⟩
def pOk (c : pC) : Prop := (c.n ≤ 505) ∧ (∀ i, i < c.n → c.ks i ≤ 5) ∧ (∀ i, i < c.n → c.vs i ≤ 99999) ∧ (c.p < zn c.a0) ∧ (c.ka < zn c.a0) ∧ (c.va < zn c.a0) ∧ (pxW c c.a0) ∧ (mWd c c.s0) ∧ (1 ≤ c.N0) ∧ (c.N0 ≤ 10 * c.at0 + 1401) ∧ (ls c.s0 8 = nI c.N0) ∧ (∃ F, ls c.s0 5 = nI F ∧ F < 20)
theorem pOk.n {c : pC} (h : pOk c) : c.n ≤ 505 := by
  unfold pOk at h
  exact h.1
theorem pOk.ks {c : pC} (h : pOk c) : ∀ i, i < c.n → c.ks i ≤ 5 := by
  unfold pOk at h
  exact h.2.1
theorem pOk.vs {c : pC} (h : pOk c) : ∀ i, i < c.n → c.vs i ≤ 99999 := by
  unfold pOk at h
  exact h.2.2.1
theorem pOk.p {c : pC} (h : pOk c) : c.p < zn c.a0 := by
  unfold pOk at h
  exact h.2.2.2.1
theorem pOk.ka {c : pC} (h : pOk c) : c.ka < zn c.a0 := by
  unfold pOk at h
  exact h.2.2.2.2.1
theorem pOk.va {c : pC} (h : pOk c) : c.va < zn c.a0 := by
  unfold pOk at h
  exact h.2.2.2.2.2.1
theorem pOk.x {c : pC} (h : pOk c) : pxW c c.a0 := by
  unfold pOk at h
  exact h.2.2.2.2.2.2.1
theorem pOk.m {c : pC} (h : pOk c) : mWd c c.s0 := by
  unfold pOk at h
  exact h.2.2.2.2.2.2.2.1
theorem pOk.N1 {c : pC} (h : pOk c) : 1 ≤ c.N0 := by
  unfold pOk at h
  exact h.2.2.2.2.2.2.2.2.1
theorem pOk.N0 {c : pC} (h : pOk c) : c.N0 ≤ 10 * c.at0 + 1401 := by
  unfold pOk at h
  exact h.2.2.2.2.2.2.2.2.2.1
theorem pOk.Nm {c : pC} (h : pOk c) : ls c.s0 8 = nI c.N0 := by
  unfold pOk at h
  exact h.2.2.2.2.2.2.2.2.2.2.1
theorem pOk.fm {c : pC} (h : pOk c) : ∃ F, ls c.s0 5 = nI F ∧ F < 20 := by
  unfold pOk at h
  exact h.2.2.2.2.2.2.2.2.2.2.2
theorem pOk.mk {c : pC} (x0 : c.n ≤ 505) (x1 : ∀ i, i < c.n → c.ks i ≤ 5) (x2 : ∀ i, i < c.n → c.vs i ≤ 99999) (x3 : c.p < zn c.a0) (x4 : c.ka < zn c.a0) (x5 : c.va < zn c.a0) (x6 : pxW c c.a0) (x7 : mWd c c.s0) (x8 : 1 ≤ c.N0) (x9 : c.N0 ≤ 10 * c.at0 + 1401) (x10 : ls c.s0 8 = nI c.N0) (x11 : ∃ F, ls c.s0 5 = nI F ∧ F < 20) : pOk c := by
  unfold pOk
  exact ⟨x0, x1, x2, x3, x4, x5, x6, x7, x8, x9, x10, x11⟩
/-- what stays of X's store -/
def xKp (c : pC) (α : zS) : Prop := (zn c.a0 ≤ zn α) ∧ (∀ a, (a < zn c.a0 ∨ zn α ≤ a) → a ≠ c.p → α.2 a = c.a0.2 a) ∧ (zkd α c.p = zkd c.a0 c.p) ∧ (∀ k, ¬ (3 ≤ k ∧ k ≤ 6 ∨ k = 16) → zI α 40 k c.p = zI c.a0 40 k c.p) ∧ (∀ k, k ≠ 15 → zA α 40 k c.p = zA c.a0 40 k c.p)
theorem xKp.n {c : pC} {α : zS} (h : xKp c α) : zn c.a0 ≤ zn α := by
  unfold xKp at h
  exact h.1
theorem xKp.fr {c : pC} {α : zS} (h : xKp c α) : ∀ a, (a < zn c.a0 ∨ zn α ≤ a) → a ≠ c.p → α.2 a = c.a0.2 a := by
  unfold xKp at h
  exact h.2.1
theorem xKp.kd {c : pC} {α : zS} (h : xKp c α) : zkd α c.p = zkd c.a0 c.p := by
  unfold xKp at h
  exact h.2.2.1
theorem xKp.I {c : pC} {α : zS} (h : xKp c α) : ∀ k, ¬ (3 ≤ k ∧ k ≤ 6 ∨ k = 16) → zI α 40 k c.p = zI c.a0 40 k c.p := by
  unfold xKp at h
  exact h.2.2.2.1
theorem xKp.A {c : pC} {α : zS} (h : xKp c α) : ∀ k, k ≠ 15 → zA α 40 k c.p = zA c.a0 40 k c.p := by
  unfold xKp at h
  exact h.2.2.2.2
theorem xKp.mk {c : pC} {α : zS} (x0 : zn c.a0 ≤ zn α) (x1 : ∀ a, (a < zn c.a0 ∨ zn α ≤ a) → a ≠ c.p → α.2 a = c.a0.2 a) (x2 : zkd α c.p = zkd c.a0 c.p) (x3 : ∀ k, ¬ (3 ≤ k ∧ k ≤ 6 ∨ k = 16) → zI α 40 k c.p = zI c.a0 40 k c.p) (x4 : ∀ k, k ≠ 15 → zA α 40 k c.p = zA c.a0 40 k c.p) : xKp c α := by
  unfold xKp
  exact ⟨x0, x1, x2, x3, x4⟩
/-- what stays of M's object -/
def mKp (c : pC) (s : zM) : Prop := (∀ k, ¬ (k = 8 ∨ 41 ≤ k ∧ k ≤ 45 ∨ k = 49 ∨ 54 ≤ k ∧ k ≤ 57) → ls s k = ls c.s0 k) ∧ (∀ k t, 9 ≤ k → k ≤ 16 → t < c.N0 → la s k t = la c.s0 k t) ∧ (∀ k, ¬ (9 ≤ k ∧ k ≤ 16 ∨ 46 ≤ k ∧ k ≤ 48 ∨ 50 ≤ k ∧ k ≤ 53 ∨ 58 ≤ k ∧ k ≤ 64) → la s k = la c.s0 k)
theorem mKp.I {c : pC} {s : zM} (h : mKp c s) : ∀ k, ¬ (k = 8 ∨ 41 ≤ k ∧ k ≤ 45 ∨ k = 49 ∨ 54 ≤ k ∧ k ≤ 57) → ls s k = ls c.s0 k := by
  unfold mKp at h
  exact h.1
theorem mKp.A {c : pC} {s : zM} (h : mKp c s) : ∀ k t, 9 ≤ k → k ≤ 16 → t < c.N0 → la s k t = la c.s0 k t := by
  unfold mKp at h
  exact h.2.1
theorem mKp.B {c : pC} {s : zM} (h : mKp c s) : ∀ k, ¬ (9 ≤ k ∧ k ≤ 16 ∨ 46 ≤ k ∧ k ≤ 48 ∨ 50 ≤ k ∧ k ≤ 53 ∨ 58 ≤ k ∧ k ≤ 64) → la s k = la c.s0 k := by
  unfold mKp at h
  exact h.2.2
theorem mKp.mk {c : pC} {s : zM} (x0 : ∀ k, ¬ (k = 8 ∨ 41 ≤ k ∧ k ≤ 45 ∨ k = 49 ∨ 54 ≤ k ∧ k ≤ 57) → ls s k = ls c.s0 k) (x1 : ∀ k t, 9 ≤ k → k ≤ 16 → t < c.N0 → la s k t = la c.s0 k t) (x2 : ∀ k, ¬ (9 ≤ k ∧ k ≤ 16 ∨ 46 ≤ k ∧ k ≤ 48 ∨ 50 ≤ k ∧ k ≤ 53 ∨ 58 ≤ k ∧ k ≤ 64) → la s k = la c.s0 k) : mKp c s := by
  unfold mKp
  exact ⟨x0, x1, x2⟩
/-- a row of nodes linked by next -/
def pCh (f : Nat → Int32) : List Nat → Prop
  | [] => True
  | [u] => f u = nI 0
  | u :: v :: l => f u = nI v ∧ pCh f (v :: l)
/-- a PERFORM with a list of its own: on M's pile, so its value has been laid on M's side alone -/
def pPd (s : zM) (t : Nat) : Prop := ∃ k i, ls s 45 = nI k ∧ i < k ∧ k < 128 ∧ la s 46 i = nI 39 ∧ la s 47 i = nI t
/-- node t on both sides; the node x waits to be laid below its parent on X's side -/
def nOk (c : pC) (N : Nat) (g : pG) (α : zS) (s : zM) (x : Nat) (t : Nat) : Prop := (zn c.a0 ≤ g.oa t) ∧ (g.oa t + 2 < zn α) ∧ (zkd α (g.oa t) = 45) ∧ (zA α 44 8 (g.oa t) = some (g.oa t + 1)) ∧ (zkd α (g.oa t + 1) = 3) ∧ (zI α 44 0 (g.oa t) = la s 9 t) ∧ (zI α 44 1 (g.oa t) = la s 10 t ∨ (la s 9 t = nI 29 ∧ (la s 10 t = nI 1 ∧ c.lv = 1) ∧ pPd s t)) ∧ (zI α 44 5 (g.oa t) = la s 11 t) ∧ ((la s 9 t = nI 53 ∧ ∃ u, c.N0 ≤ u ∧ u < N ∧ la s 12 t = nI u ∧ zA α 44 7 (g.oa t) = some (g.oa u)) ∨ (la s 9 t ≠ nI 53 ∧ zI α 44 2 (g.oa t) = la s 12 t)) ∧ (zL α (g.oa t + 1) = ((g.ch t).filter fun u => decide (u ≠ x)).map fun u => some (g.oa u)) ∧ ((g.ch t).Nodup) ∧ (∀ u, u ∈ g.ch t → c.N0 ≤ u ∧ u < N ∧ la s 16 u = nI t ∧ (u ≠ x → zA α 44 6 (g.oa u) = some (g.oa t)) ∧ g.r u < g.r t) ∧ (la s 13 t = nI ((g.ch t).headD 0)) ∧ (la s 14 t = nI ((g.ch t).getLastD 0)) ∧ (pCh (la s 15) (g.ch t))
theorem nOk.lo {c : pC} {N : Nat} {g : pG} {α : zS} {s : zM} {x : Nat} {t : Nat} (h : nOk c N g α s x t) : zn c.a0 ≤ g.oa t := by
  unfold nOk at h
  exact h.1
theorem nOk.hi {c : pC} {N : Nat} {g : pG} {α : zS} {s : zM} {x : Nat} {t : Nat} (h : nOk c N g α s x t) : g.oa t + 2 < zn α := by
  unfold nOk at h
  exact h.2.1
theorem nOk.kn {c : pC} {N : Nat} {g : pG} {α : zS} {s : zM} {x : Nat} {t : Nat} (h : nOk c N g α s x t) : zkd α (g.oa t) = 45 := by
  unfold nOk at h
  exact h.2.2.1
theorem nOk.fl {c : pC} {N : Nat} {g : pG} {α : zS} {s : zM} {x : Nat} {t : Nat} (h : nOk c N g α s x t) : zA α 44 8 (g.oa t) = some (g.oa t + 1) := by
  unfold nOk at h
  exact h.2.2.2.1
theorem nOk.kl {c : pC} {N : Nat} {g : pG} {α : zS} {s : zM} {x : Nat} {t : Nat} (h : nOk c N g α s x t) : zkd α (g.oa t + 1) = 3 := by
  unfold nOk at h
  exact h.2.2.2.2.1
theorem nOk.kd {c : pC} {N : Nat} {g : pG} {α : zS} {s : zM} {x : Nat} {t : Nat} (h : nOk c N g α s x t) : zI α 44 0 (g.oa t) = la s 9 t := by
  unfold nOk at h
  exact h.2.2.2.2.2.1
theorem nOk.vl {c : pC} {N : Nat} {g : pG} {α : zS} {s : zM} {x : Nat} {t : Nat} (h : nOk c N g α s x t) : zI α 44 1 (g.oa t) = la s 10 t ∨ (la s 9 t = nI 29 ∧ (la s 10 t = nI 1 ∧ c.lv = 1) ∧ pPd s t) := by
  unfold nOk at h
  exact h.2.2.2.2.2.2.1
theorem nOk.wd {c : pC} {N : Nat} {g : pG} {α : zS} {s : zM} {x : Nat} {t : Nat} (h : nOk c N g α s x t) : zI α 44 5 (g.oa t) = la s 11 t := by
  unfold nOk at h
  exact h.2.2.2.2.2.2.2.1
theorem nOk.ex {c : pC} {N : Nat} {g : pG} {α : zS} {s : zM} {x : Nat} {t : Nat} (h : nOk c N g α s x t) : (la s 9 t = nI 53 ∧ ∃ u, c.N0 ≤ u ∧ u < N ∧ la s 12 t = nI u ∧ zA α 44 7 (g.oa t) = some (g.oa u)) ∨ (la s 9 t ≠ nI 53 ∧ zI α 44 2 (g.oa t) = la s 12 t) := by
  unfold nOk at h
  exact h.2.2.2.2.2.2.2.2.1
theorem nOk.ls {c : pC} {N : Nat} {g : pG} {α : zS} {s : zM} {x : Nat} {t : Nat} (h : nOk c N g α s x t) : zL α (g.oa t + 1) = ((g.ch t).filter fun u => decide (u ≠ x)).map fun u => some (g.oa u) := by
  unfold nOk at h
  exact h.2.2.2.2.2.2.2.2.2.1
theorem nOk.nd {c : pC} {N : Nat} {g : pG} {α : zS} {s : zM} {x : Nat} {t : Nat} (h : nOk c N g α s x t) : (g.ch t).Nodup := by
  unfold nOk at h
  exact h.2.2.2.2.2.2.2.2.2.2.1
theorem nOk.mem {c : pC} {N : Nat} {g : pG} {α : zS} {s : zM} {x : Nat} {t : Nat} (h : nOk c N g α s x t) : ∀ u, u ∈ g.ch t → c.N0 ≤ u ∧ u < N ∧ la s 16 u = nI t ∧ (u ≠ x → zA α 44 6 (g.oa u) = some (g.oa t)) ∧ g.r u < g.r t := by
  unfold nOk at h
  exact h.2.2.2.2.2.2.2.2.2.2.2.1
theorem nOk.hd {c : pC} {N : Nat} {g : pG} {α : zS} {s : zM} {x : Nat} {t : Nat} (h : nOk c N g α s x t) : la s 13 t = nI ((g.ch t).headD 0) := by
  unfold nOk at h
  exact h.2.2.2.2.2.2.2.2.2.2.2.2.1
theorem nOk.lt {c : pC} {N : Nat} {g : pG} {α : zS} {s : zM} {x : Nat} {t : Nat} (h : nOk c N g α s x t) : la s 14 t = nI ((g.ch t).getLastD 0) := by
  unfold nOk at h
  exact h.2.2.2.2.2.2.2.2.2.2.2.2.2.1
theorem nOk.nx {c : pC} {N : Nat} {g : pG} {α : zS} {s : zM} {x : Nat} {t : Nat} (h : nOk c N g α s x t) : pCh (la s 15) (g.ch t) := by
  unfold nOk at h
  exact h.2.2.2.2.2.2.2.2.2.2.2.2.2.2
theorem nOk.mk {c : pC} {N : Nat} {g : pG} {α : zS} {s : zM} {x : Nat} {t : Nat} (x0 : zn c.a0 ≤ g.oa t) (x1 : g.oa t + 2 < zn α) (x2 : zkd α (g.oa t) = 45) (x3 : zA α 44 8 (g.oa t) = some (g.oa t + 1)) (x4 : zkd α (g.oa t + 1) = 3) (x5 : zI α 44 0 (g.oa t) = la s 9 t) (x6 : zI α 44 1 (g.oa t) = la s 10 t ∨ (la s 9 t = nI 29 ∧ (la s 10 t = nI 1 ∧ c.lv = 1) ∧ pPd s t)) (x7 : zI α 44 5 (g.oa t) = la s 11 t) (x8 : (la s 9 t = nI 53 ∧ ∃ u, c.N0 ≤ u ∧ u < N ∧ la s 12 t = nI u ∧ zA α 44 7 (g.oa t) = some (g.oa u)) ∨ (la s 9 t ≠ nI 53 ∧ zI α 44 2 (g.oa t) = la s 12 t)) (x9 : zL α (g.oa t + 1) = ((g.ch t).filter fun u => decide (u ≠ x)).map fun u => some (g.oa u)) (x10 : (g.ch t).Nodup) (x11 : ∀ u, u ∈ g.ch t → c.N0 ≤ u ∧ u < N ∧ la s 16 u = nI t ∧ (u ≠ x → zA α 44 6 (g.oa u) = some (g.oa t)) ∧ g.r u < g.r t) (x12 : la s 13 t = nI ((g.ch t).headD 0)) (x13 : la s 14 t = nI ((g.ch t).getLastD 0)) (x14 : pCh (la s 15) (g.ch t)) : nOk c N g α s x t := by
  unfold nOk
  exact ⟨x0, x1, x2, x3, x4, x5, x6, x7, x8, x9, x10, x11, x12, x13, x14⟩
def pgO (c : pC) (N : Nat) (g : pG) (α : zS) (s : zM) (x : Nat) : Prop := (∀ t, c.N0 ≤ t → t < N → nOk c N g α s x t) ∧ (∀ t u, c.N0 ≤ t → t < N → c.N0 ≤ u → u < N → g.oa t = g.oa u → t = u)
theorem pgO.nd {c : pC} {N : Nat} {g : pG} {α : zS} {s : zM} {x : Nat} (h : pgO c N g α s x) : ∀ t, c.N0 ≤ t → t < N → nOk c N g α s x t := by
  unfold pgO at h
  exact h.1
theorem pgO.inj {c : pC} {N : Nat} {g : pG} {α : zS} {s : zM} {x : Nat} (h : pgO c N g α s x) : ∀ t u, c.N0 ≤ t → t < N → c.N0 ≤ u → u < N → g.oa t = g.oa u → t = u := by
  unfold pgO at h
  exact h.2
theorem pgO.mk {c : pC} {N : Nat} {g : pG} {α : zS} {s : zM} {x : Nat} (x0 : ∀ t, c.N0 ≤ t → t < N → nOk c N g α s x t) (x1 : ∀ t u, c.N0 ≤ t → t < N → c.N0 ≤ u → u < N → g.oa t = g.oa u → t = u) : pgO c N g α s x := by
  unfold pgO
  exact ⟨x0, x1⟩
section PAA
variable {c : pC} {α β : zS} {s s' : zM} {g : pG} {N b at' k a t u v x q to : Nat} {l : List Nat} {f f' : Nat → Int32}
theorem b2n_t : nI (b2n true) = nI 1 := rfl
theorem b2n_f : nI (b2n false) = nI 0 := rfl
theorem pCh_fr : ∀ {l : List Nat}, pCh f l → (∀ u, u ∈ l → f' u = f u) → pCh f' l
  | [], _, _ => trivial
  | [u], h, e => by
    show f' u = nI 0
    rw [e u (by simp)]; exact h
  | u :: v :: l, h, e => by
    refine ⟨?_, pCh_fr (l := v :: l) h.2 (fun w hw => e w (by simp only [List.mem_cons] at hw ⊢; exact .inr hw))⟩
    rw [e u (by simp)]; exact h.1
/-- one more at the end -/
theorem pCh_add : ∀ {l : List Nat}, pCh f l → l ≠ [] → l.Nodup → f' (l.getLastD 0) = nI t → f' t = nI 0 → (∀ u, u ∈ l → u ≠ l.getLastD 0 → f' u = f u) → pCh f' (l ++ [t])
  | [], _, h, _, _, _, _ => absurd rfl h
  | [u], _, _, _, h1, h2, _ => ⟨h1, h2⟩
  | u :: v :: l, h, _, hn, h1, h2, e => by
    have hl : (u :: v :: l).getLastD 0 = (v :: l).getLastD 0 := by simp only [List.getLastD_cons]
    have hm : (v :: l).getLastD 0 ∈ v :: l := by
      rw [List.getLastD_eq_getLast?, List.getLast?_eq_some_getLast (by simp)]
      exact List.getLast_mem _
    rw [List.nodup_cons] at hn
    refine ⟨?_, pCh_add (l := v :: l) h.2 (by simp) hn.2 (by rw [← hl]; exact h1) h2 (fun w hw hne => e w (List.mem_cons_of_mem _ hw) (by rw [hl]; exact hne))⟩
    rw [e u (by simp) (by rw [hl]; exact fun z => hn.1 (z ▸ hm))]
    exact h.1
/-- a row without doubles below n has at most n members -/
theorem nodup_len : ∀ {n : Nat} {l : List Nat}, l.Nodup → (∀ x, x ∈ l → x < n) → l.length ≤ n
  | 0, [], _, _ => Nat.le_refl _
  | 0, x :: l, _, h => absurd (h x (by simp)) (by omega)
  | n + 1, l, hn, h => by
    by_cases hm : n ∈ l
    · have h1 := List.length_erase_of_mem hm
      have h2 := nodup_len (n := n) (l := l.erase n) (hn.erase n) (fun x hx => by
        have h3 := (List.Nodup.mem_erase_iff hn).mp hx
        have := h x h3.2
        have := h3.1
        omega)
      omega
    · have := nodup_len (n := n) (l := l) hn (fun x hx => by
        have h3 := h x hx
        have : x ≠ n := fun z => hm (z ▸ hx)
        omega)
      omega
theorem nOk.len (h : nOk c N g α s x t) : (g.ch t).length ≤ N := nodup_len h.nd fun u hu => (h.mem u hu).2.1
/-- nothing that is told changes -/
theorem pgO.fr (h : pgO c N g α s x) (hm : ∀ k t, 9 ≤ k → k ≤ 16 → c.N0 ≤ t → t < N → la s' k t = la s k t) (hx : ∀ t, c.N0 ≤ t → t < N → β.2 (g.oa t) = α.2 (g.oa t) ∧ β.2 (g.oa t + 1) = α.2 (g.oa t + 1)) (hn : zn α ≤ zn β) (hp : ∀ t, pPd s t → pPd s' t := by exact fun _ z => z) : pgO c N g β s' x := by
  refine pgO.mk (fun t h1 h2 => ?_) h.inj
  have o := h.nd t h1 h2
  have e := hx t h1 h2
  have m := fun k h3 h4 => hm k t h3 h4 h1 h2
  refine nOk.mk o.lo (by have := o.hi; omega) ?_ ?_ ?_ ?_ ?_ ?_ ?_ ?_ o.nd ?_ ?_ ?_ ?_
  · rw [zkd_eq e.1]; exact o.kn
  · rw [zA_eq e.1]; exact o.fl
  · rw [zkd_eq e.2]; exact o.kl
  · rw [zI_eq e.1, m 9 (by decide) (by decide)]; exact o.kd
  · rw [zI_eq e.1, m 10 (by decide) (by decide), m 9 (by decide) (by decide)]; exact o.vl.imp id (fun z => ⟨z.1, z.2.1, hp _ z.2.2⟩)
  · rw [zI_eq e.1, m 11 (by decide) (by decide)]; exact o.wd
  · rw [zI_eq e.1, zA_eq e.1, m 9 (by decide) (by decide), m 12 (by decide) (by decide)]; exact o.ex
  · rw [zL_eq e.2]; exact o.ls
  · intro u hu
    obtain ⟨u1, u2, u3, u4, u5⟩ := o.mem u hu
    refine ⟨u1, u2, ?_, fun hne => ?_, u5⟩
    · rw [hm 16 u (by decide) (by decide) u1 u2]; exact u3
    · rw [zA_eq (hx u u1 u2).1]; exact u4 hne
  · rw [m 13 (by decide) (by decide)]; exact o.hd
  · rw [m 14 (by decide) (by decide)]; exact o.lt
  · exact pCh_fr o.nx fun u hu => hm 15 u (by decide) (by decide) (o.mem u hu).1 (o.mem u hu).2.1
/-- a loose node lies below none -/
theorem pgO.loose (h : pgO c N g α s x) (h1 : 1 ≤ c.N0) (hN : N ≤ 8000) (hu : la s 16 u = nI 0) (h2 : c.N0 ≤ t) (h3 : t < N) : u ∉ g.ch t := fun hm => by
  have e := ((h.nd t h2 h3).mem u hm).2.2.1
  rw [hu, pI_inj (by decide) (by omega)] at e
  omega
def pG.push (g : pG) (N q r : Nat) : pG := (va_up g.oa N q, va_up g.ch N [], va_up g.r N r)
def pG.add (g : pG) (to t : Nat) : pG := (g.oa, va_up g.ch to (g.ch to ++ [t]), g.r)
theorem push_oa {r : Nat} : (g.push N q r).oa t = if t = N then q else g.oa t := rfl
theorem push_ch {r : Nat} : (g.push N q r).ch t = if t = N then [] else g.ch t := rfl
theorem push_r {r : Nat} : (g.push N q r).r t = if t = N then r else g.r t := rfl
theorem add_oa : (g.add to v).oa t = g.oa t := rfl
theorem add_ch : (g.add to v).ch t = if t = to then g.ch to ++ [v] else g.ch t := rfl
theorem add_r : (g.add to v).r t = g.r t := rfl
/-- one node more, without anything below it -/
theorem pgO.push {r : Nat} (h : pgO c N g α s x) (h1 : c.N0 ≤ N) (hq : zn α ≤ q + 1) (ha : zn c.a0 ≤ q) (hx : x ≠ N)
    (hm : ∀ k t, 9 ≤ k → k ≤ 16 → c.N0 ≤ t → t < N → la s' k t = la s k t) (hf : ∀ t, c.N0 ≤ t → t < N → β.2 (g.oa t) = α.2 (g.oa t) ∧ β.2 (g.oa t + 1) = α.2 (g.oa t + 1)) (hn : q + 2 < zn β)
    (k0 : zkd β q = 45) (k1 : zA β 44 8 q = some (q + 1)) (k2 : zkd β (q + 1) = 3) (k3 : zL β (q + 1) = []) (k4 : zI β 44 0 q = la s' 9 N) (k5 : zI β 44 1 q = la s' 10 N) (k6 : zI β 44 5 q = la s' 11 N)
    (k7 : (la s' 9 N = nI 53 ∧ ∃ u, c.N0 ≤ u ∧ u < N ∧ la s' 12 N = nI u ∧ zA β 44 7 q = some (g.oa u)) ∨ (la s' 9 N ≠ nI 53 ∧ zI β 44 2 q = la s' 12 N)) (k8 : la s' 13 N = nI 0) (k9 : la s' 14 N = nI 0) (hp : ∀ t, pPd s t → pPd s' t := by exact fun _ z => z) : pgO c (N + 1) (g.push N q r) β s' x := by
  have h' := h.fr (s' := s') (β := β) hm hf (by omega) hp
  refine pgO.mk (fun t h3 h4 => ?_) ?_
  · by_cases e : t = N
    · subst e
      have eo : (g.push t q r).oa t = q := by rw [push_oa, if_pos rfl]
      have ec : (g.push t q r).ch t = [] := by rw [push_ch, if_pos rfl]
      refine nOk.mk ?_ ?_ ?_ ?_ ?_ ?_ ?_ ?_ ?_ ?_ ?_ ?_ ?_ ?_ ?_
      · rw [eo]; omega
      · rw [eo]; exact hn
      · rw [eo]; exact k0
      · rw [eo]; exact k1
      · rw [eo]; exact k2
      · rw [eo]; exact k4
      · rw [eo]; exact .inl k5
      · rw [eo]; exact k6
      · rw [eo]
        rcases k7 with ⟨z1, u, z2, z3, z4, z5⟩ | z
        · exact .inl ⟨z1, u, z2, by omega, z4, by rw [push_oa, if_neg (by omega)]; exact z5⟩
        · exact .inr z
      · rw [eo, ec]; exact k3
      · rw [ec]; exact List.nodup_nil
      · rw [ec]; intro u hu; simp at hu
      · rw [ec]; exact k8
      · rw [ec]; exact k9
      · rw [ec]; trivial
    · have o := h'.nd t h3 (by omega)
      have eo : (g.push N q r).oa t = g.oa t := by rw [push_oa, if_neg e]
      have ec : (g.push N q r).ch t = g.ch t := by rw [push_ch, if_neg e]
      refine nOk.mk ?_ ?_ ?_ ?_ ?_ ?_ ?_ ?_ ?_ ?_ ?_ ?_ ?_ ?_ ?_
      · rw [eo]; exact o.lo
      · rw [eo]; exact o.hi
      · rw [eo]; exact o.kn
      · rw [eo]; exact o.fl
      · rw [eo]; exact o.kl
      · rw [eo]; exact o.kd
      · rw [eo]; exact o.vl
      · rw [eo]; exact o.wd
      · rw [eo]
        rcases o.ex with ⟨z1, u, z2, z3, z4, z5⟩ | z
        · exact .inl ⟨z1, u, z2, by omega, z4, by rw [push_oa, if_neg (by omega)]; exact z5⟩
        · exact .inr z
      · rw [eo, ec, o.ls]
        refine List.map_congr_left fun u hu => ?_
        have := (o.mem u (List.mem_filter.mp hu).1).2.1
        rw [push_oa, if_neg (by omega)]
      · rw [ec]; exact o.nd
      · rw [ec]
        intro u hu
        obtain ⟨u1, u2, u3, u4, u5⟩ := o.mem u hu
        refine ⟨u1, by omega, u3, fun z => ?_, ?_⟩
        · rw [eo, push_oa, if_neg (by omega)]; exact u4 z
        · rw [push_r, push_r, if_neg (by omega), if_neg e]; exact u5
      · rw [ec]; exact o.hd
      · rw [ec]; exact o.lt
      · rw [ec]; exact o.nx
  · intro t u h3 h4 h5 h6 e
    rw [push_oa, push_oa] at e
    have ht := fun (z : ¬ t = N) => (h.nd t h3 (by omega)).hi
    have hu := fun (z : ¬ u = N) => (h.nd u h5 (by omega)).hi
    by_cases e1 : t = N
    · by_cases e2 : u = N
      · omega
      · rw [if_pos e1, if_neg e2] at e
        have := hu e2; omega
    · by_cases e2 : u = N
      · rw [if_neg e1, if_pos e2] at e
        have := ht e1; omega
      · rw [if_neg e1, if_neg e2] at e
        exact h.inj t u h3 (by omega) h5 (by omega) e
theorem filter_add (h : t ≠ x) : (l ++ [t]).filter (fun u => decide (u ≠ x)) = l.filter (fun u => decide (u ≠ x)) ++ [t] := by
  rw [List.filter_append]
  congr 1
  simp [h]
theorem head_add (h : l ≠ []) : (l ++ [t]).headD 0 = l.headD 0 := by
  cases l with
  | nil => exact absurd rfl h
  | cons a l => rfl
theorem last_add : (l ++ [t]).getLastD 0 = t := by simp [List.getLastD_eq_getLast?]
theorem last_mem (h : l ≠ []) : l.getLastD 0 ∈ l := by
  rw [List.getLastD_eq_getLast?, List.getLast?_eq_some_getLast h]
  exact List.getLast_mem _
/-- M's side of: node t is laid below node to -/
def mAt (s : zM) (to : Nat) (l : List Nat) (t : Nat) (s' : zM) : Prop := (∀ k, 9 ≤ k → k ≤ 12 → la s' k = la s k) ∧ (la s' 13 = if l = [] then upd (la s 13) to (nI t) else la s 13) ∧ (la s' 14 = upd (la s 14) to (nI t)) ∧ (la s' 15 = if l = [] then upd (la s 15) t (nI 0) else upd (upd (la s 15) t (nI 0)) (l.getLastD 0) (nI t)) ∧ (la s' 16 = upd (la s 16) t (nI to))
theorem mAt.r9 {s : zM} {to : Nat} {l : List Nat} {t : Nat} {s' : zM} (h : mAt s to l t s') : ∀ k, 9 ≤ k → k ≤ 12 → la s' k = la s k := by
  unfold mAt at h
  exact h.1
theorem mAt.r13 {s : zM} {to : Nat} {l : List Nat} {t : Nat} {s' : zM} (h : mAt s to l t s') : la s' 13 = if l = [] then upd (la s 13) to (nI t) else la s 13 := by
  unfold mAt at h
  exact h.2.1
theorem mAt.r14 {s : zM} {to : Nat} {l : List Nat} {t : Nat} {s' : zM} (h : mAt s to l t s') : la s' 14 = upd (la s 14) to (nI t) := by
  unfold mAt at h
  exact h.2.2.1
theorem mAt.r15 {s : zM} {to : Nat} {l : List Nat} {t : Nat} {s' : zM} (h : mAt s to l t s') : la s' 15 = if l = [] then upd (la s 15) t (nI 0) else upd (upd (la s 15) t (nI 0)) (l.getLastD 0) (nI t) := by
  unfold mAt at h
  exact h.2.2.2.1
theorem mAt.r16 {s : zM} {to : Nat} {l : List Nat} {t : Nat} {s' : zM} (h : mAt s to l t s') : la s' 16 = upd (la s 16) t (nI to) := by
  unfold mAt at h
  exact h.2.2.2.2
theorem mAt.mk {s : zM} {to : Nat} {l : List Nat} {t : Nat} {s' : zM} (x0 : ∀ k, 9 ≤ k → k ≤ 12 → la s' k = la s k) (x1 : la s' 13 = if l = [] then upd (la s 13) to (nI t) else la s 13) (x2 : la s' 14 = upd (la s 14) to (nI t)) (x3 : la s' 15 = if l = [] then upd (la s 15) t (nI 0) else upd (upd (la s 15) t (nI 0)) (l.getLastD 0) (nI t)) (x4 : la s' 16 = upd (la s 16) t (nI to)) : mAt s to l t s' := by
  unfold mAt
  exact ⟨x0, x1, x2, x3, x4⟩
/-- X's side of it: object q gets the object w below it; its list is lc -/
def xAt (α : zS) (q w : Nat) (β : zS) : Prop := (zL β (q + 1) = zL α (q + 1) ++ [some w]) ∧ (zA β 44 6 w = some q) ∧ (∀ a, zkd β a = zkd α a) ∧ (∀ c k, zI β c k w = zI α c k w) ∧ (∀ c k, ¬ (c = 44 ∧ k = 6) → zA β c k w = zA α c k w) ∧ (∀ a, a ≠ q + 1 → zL β a = zL α a) ∧ (∀ a, a ≠ q + 1 → a ≠ w → β.2 a = α.2 a) ∧ (zn α ≤ zn β)
theorem xAt.ls {α : zS} {q w : Nat} {β : zS} (h : xAt α q w β) : zL β (q + 1) = zL α (q + 1) ++ [some w] := by
  unfold xAt at h
  exact h.1
theorem xAt.up {α : zS} {q w : Nat} {β : zS} (h : xAt α q w β) : zA β 44 6 w = some q := by
  unfold xAt at h
  exact h.2.1
theorem xAt.kd {α : zS} {q w : Nat} {β : zS} (h : xAt α q w β) : ∀ a, zkd β a = zkd α a := by
  unfold xAt at h
  exact h.2.2.1
theorem xAt.I {α : zS} {q w : Nat} {β : zS} (h : xAt α q w β) : ∀ c k, zI β c k w = zI α c k w := by
  unfold xAt at h
  exact h.2.2.2.1
theorem xAt.A {α : zS} {q w : Nat} {β : zS} (h : xAt α q w β) : ∀ c k, ¬ (c = 44 ∧ k = 6) → zA β c k w = zA α c k w := by
  unfold xAt at h
  exact h.2.2.2.2.1
theorem xAt.L {α : zS} {q w : Nat} {β : zS} (h : xAt α q w β) : ∀ a, a ≠ q + 1 → zL β a = zL α a := by
  unfold xAt at h
  exact h.2.2.2.2.2.1
theorem xAt.fr {α : zS} {q w : Nat} {β : zS} (h : xAt α q w β) : ∀ a, a ≠ q + 1 → a ≠ w → β.2 a = α.2 a := by
  unfold xAt at h
  exact h.2.2.2.2.2.2.1
theorem xAt.n {α : zS} {q w : Nat} {β : zS} (h : xAt α q w β) : zn α ≤ zn β := by
  unfold xAt at h
  exact h.2.2.2.2.2.2.2
theorem xAt.mk {α : zS} {q w : Nat} {β : zS} (x0 : zL β (q + 1) = zL α (q + 1) ++ [some w]) (x1 : zA β 44 6 w = some q) (x2 : ∀ a, zkd β a = zkd α a) (x3 : ∀ c k, zI β c k w = zI α c k w) (x4 : ∀ c k, ¬ (c = 44 ∧ k = 6) → zA β c k w = zA α c k w) (x5 : ∀ a, a ≠ q + 1 → zL β a = zL α a) (x6 : ∀ a, a ≠ q + 1 → a ≠ w → β.2 a = α.2 a) (x7 : zn α ≤ zn β) : xAt α q w β := by
  unfold xAt
  exact ⟨x0, x1, x2, x3, x4, x5, x6, x7⟩
/-- both sides: node t, loose, is laid below node to. If t = x, X's side has been so already -/
theorem pgO.add (h : pgO c N g α s x) (hk1 : 1 ≤ c.N0) (hN : N ≤ 8000) (h1 : c.N0 ≤ to) (h2 : to < N) (h3 : c.N0 ≤ t) (h4 : t < N) (hr : g.r t < g.r to) (h0 : la s 16 t = nI 0) (hm : mAt s to (g.ch to) t s') (hx : (t ≠ x ∧ xAt α (g.oa to) (g.oa t) β) ∨ (t = x ∧ β = α)) (hp : ∀ t, pPd s t → pPd s' t) : pgO c N (g.add to t) β s' x := by
  have ne : t ≠ to := fun z => by rw [z] at hr; omega
  have hl : ∀ w, c.N0 ≤ w → w < N → t ∉ g.ch w := fun w w1 w2 => h.loose hk1 hN h0 w1 w2
  have kdl : ∀ w, c.N0 ≤ w → w < N → zkd α (g.oa w) = 45 ∧ zkd α (g.oa w + 1) = 3 := fun w w1 w2 => ⟨(h.nd w w1 w2).kn, (h.nd w w1 w2).kl⟩
  -- what X's store holds of every node
  have X1 : ∀ w, c.N0 ≤ w → w < N → zkd β (g.oa w) = 45 ∧ zA β 44 8 (g.oa w) = some (g.oa w + 1) ∧ zkd β (g.oa w + 1) = 3 ∧ (∀ k, zI β 44 k (g.oa w) = zI α 44 k (g.oa w)) ∧ zA β 44 7 (g.oa w) = zA α 44 7 (g.oa w) ∧ (w ≠ t → zA β 44 6 (g.oa w) = zA α 44 6 (g.oa w)) ∧ zL β (g.oa w + 1) = (if w = to ∧ t ≠ x then zL α (g.oa w + 1) ++ [some (g.oa t)] else zL α (g.oa w + 1)) := by
    intro w w1 w2
    have o := h.nd w w1 w2
    rcases hx with ⟨hx0, hx⟩ | ⟨hx0, hx⟩
    · have n1 : g.oa w ≠ g.oa to + 1 := fun z => by have := (kdl to h1 h2).2; rw [← z, o.kn] at this; omega
      have n2 : g.oa w + 1 ≠ g.oa t := fun z => by have := (kdl t h3 h4).1; rw [← z, o.kl] at this; omega
      have n3 : w ≠ t → g.oa w ≠ g.oa t := fun z e => z (h.inj w t w1 w2 h3 h4 e)
      refine ⟨by rw [hx.kd]; exact o.kn, ?_, by rw [hx.kd]; exact o.kl, ?_, ?_, ?_, ?_⟩
      · by_cases e : w = t
        · rw [e, hx.A 44 8 (by decide), ← e]; exact o.fl
        · rw [zA_eq (hx.fr _ n1 (n3 e))]; exact o.fl
      · intro k
        by_cases e : w = t
        · rw [e, hx.I]
        · rw [zI_eq (hx.fr _ n1 (n3 e))]
      · by_cases e : w = t
        · rw [e, hx.A 44 7 (by decide)]
        · rw [zA_eq (hx.fr _ n1 (n3 e))]
      · intro e
        rw [zA_eq (hx.fr _ n1 (n3 e))]
      · by_cases e : w = to
        · rw [if_pos ⟨e, hx0⟩, e]; exact hx.ls
        · rw [if_neg (fun z => e z.1)]
          exact hx.L _ (fun z => e (h.inj w to w1 w2 h1 h2 (by omega)))
    · rw [hx]
      refine ⟨o.kn, o.fl, o.kl, fun _ => rfl, rfl, fun _ => rfl, ?_⟩
      rw [if_neg (fun z => z.2 hx0)]
  have up6 : t ≠ x → zA β 44 6 (g.oa t) = some (g.oa to) := fun z => by
    rcases hx with ⟨_, hx⟩ | ⟨e, _⟩
    · exact hx.up
    · exact absurd e z
  have hn : zn α ≤ zn β := by
    rcases hx with ⟨_, hx⟩ | ⟨_, hx⟩
    · exact hx.n
    · rw [hx]; exact Nat.le_refl _
  refine pgO.mk (fun w w1 w2 => ?_) h.inj
  have o := h.nd w w1 w2
  obtain ⟨x1, x2, x3, x4, x5, x6, x7⟩ := X1 w w1 w2
  refine nOk.mk o.lo (by have := o.hi; show g.oa w + 2 < _; omega) x1 x2 x3 ?_ ?_ ?_ ?_ ?_ ?_ ?_ ?_ ?_ ?_
  · show zI β 44 0 (g.oa w) = _
    rw [x4, hm.r9 9 (by decide) (by decide)]; exact o.kd
  · show zI β 44 1 (g.oa w) = _ ∨ _
    rw [x4, hm.r9 10 (by decide) (by decide), hm.r9 9 (by decide) (by decide)]; exact o.vl.imp id (fun z => ⟨z.1, z.2.1, hp _ z.2.2⟩)
  · show zI β 44 5 (g.oa w) = _
    rw [x4, hm.r9 11 (by decide) (by decide)]; exact o.wd
  · show (_ ∧ ∃ u, _ ∧ _ ∧ _ ∧ zA β 44 7 (g.oa w) = _) ∨ (_ ∧ zI β 44 2 (g.oa w) = _)
    rw [x4, x5, hm.r9 9 (by decide) (by decide), hm.r9 12 (by decide) (by decide)]; exact o.ex
  · rw [add_oa, x7, add_ch]
    by_cases e : w = to
    · subst e
      rw [if_pos rfl]
      by_cases ex : t = x
      · rw [if_neg (fun z => z.2 ex), o.ls, ex, List.filter_append]
        simp
        intro _ _ _
        rfl
      · rw [if_pos ⟨rfl, ex⟩, o.ls, filter_add ex, List.map_append]
        rfl
    · rw [if_neg (fun z => e z.1), if_neg e]; exact o.ls
  · rw [add_ch]
    split
    · rw [List.nodup_append]
      refine ⟨(h.nd to h1 h2).nd, by simp, fun a ha b hb => ?_⟩
      rw [List.mem_singleton] at hb
      rw [hb]
      exact fun z => hl to h1 h2 (z ▸ ha)
    · exact o.nd
  · have key : ∀ u, u ∈ g.ch w → c.N0 ≤ u ∧ u < N ∧ la s' 16 u = nI w ∧ (u ≠ x → zA β 44 6 (g.oa u) = some (g.oa w)) ∧ g.r u < g.r w := fun u hu => by
      obtain ⟨u1, u2, u3, u4, u5⟩ := o.mem u hu
      have nt : u ≠ t := fun z => hl w w1 w2 (z ▸ hu)
      refine ⟨u1, u2, ?_, fun z => ?_, u5⟩
      · rw [hm.r16, upd_other nt]; exact u3
      · rw [(X1 u u1 u2).2.2.2.2.2.1 nt]; exact u4 z
    intro u hu
    rw [add_ch] at hu
    by_cases e : w = to
    · rw [if_pos e, List.mem_append, List.mem_singleton] at hu
      rcases hu with hu | hu
      · exact key u (e ▸ hu)
      · rw [hu]
        exact ⟨h3, h4, by rw [hm.r16, upd_same, e], fun z => by rw [add_oa, add_oa, e]; exact up6 z, by rw [add_r, add_r, e]; exact hr⟩
    · rw [if_neg e] at hu
      exact key u hu
  · rw [add_ch, hm.r13]
    by_cases e : w = to
    · subst e
      rw [if_pos rfl]
      by_cases el : g.ch w = []
      · rw [if_pos el, upd_same, el]; rfl
      · rw [if_neg el, head_add el]; exact o.hd
    · rw [if_neg e]
      split
      · rw [upd_other e]; exact o.hd
      · exact o.hd
  · rw [add_ch, hm.r14]
    by_cases e : w = to
    · rw [if_pos e, e, upd_same, last_add]
    · rw [if_neg e, upd_other e]; exact o.lt
  · -- the rows linked by next
    have ot := h.nd to h1 h2
    have r15 : ∀ u, u ≠ t → (g.ch to ≠ [] → u ≠ (g.ch to).getLastD 0) → la s' 15 u = la s 15 u := fun u n1 n2 => by
      rw [hm.r15]
      split
      · rw [upd_other n1]
      · rename_i z
        rw [upd_other (n2 z), upd_other n1]
    rw [add_ch]
    by_cases e : w = to
    · subst e
      rw [if_pos rfl]
      by_cases el : g.ch w = []
      · rw [el]
        show la s' 15 t = nI 0
        rw [hm.r15, if_pos el, upd_same]
      · have lm := last_mem el
        have lt : (g.ch w).getLastD 0 ≠ t := fun z => hl w w1 w2 (z ▸ lm)
        refine pCh_add o.nx el o.nd ?_ ?_ ?_
        · rw [hm.r15, if_neg el, upd_same]
        · rw [hm.r15, if_neg el, upd_other (fun z => lt z.symm), upd_same]
        · exact fun u hu hne => r15 u (fun z => hl w w1 w2 (z ▸ hu)) (fun _ => hne)
    · rw [if_neg e]
      refine pCh_fr o.nx fun u hu => r15 u (fun z => hl w w1 w2 (z ▸ hu)) (fun el z => e ?_)
      have lm := last_mem el
      have p1 := (ot.mem _ lm).2.2.1
      have p2 := (o.mem u hu).2.2.1
      rw [z, p1, pI_inj (by omega) (by omega)] at p2
      exact p2.symm
end PAA
