/-! THE PURE LAYER: the parser: both sides within a clause (pR), a clause that fails (pE), and the steps that both take. -/
/-- room that is left: b is what nodes and links have cost up to place a -/
def pB (c : pC) (b a k : Nat) : Prop := b + k + 10 * c.at0 ≤ c.N0 + 10 * a + 60 ∧ (k ≤ 4 ∨ c.lv = 1)
/-- both sides within a clause: at word a, d deep, N nodes; y: the node that waits -/
def pR (c : pC) (a d b N y : Nat) (g : pG) (α : zS) (s : zM) : Prop := (pOk c) ∧ (xKp c α) ∧ (mKp c s) ∧ (zI α 40 3 c.p = nI a) ∧ (zI α 40 4 c.p = nI d) ∧ (ls s 41 = nI a) ∧ (c.lv = 1 → ls s 44 = nI d) ∧ (ls s 43 = nI 0) ∧ (ls s 8 = nI N) ∧ (a ≤ c.n) ∧ (c.at0 ≤ a) ∧ (d ≤ 40) ∧ (c.N0 ≤ N) ∧ (N ≤ b) ∧ (zc α + 3 * c.N0 ≤ zc c.a0 + 3 * b) ∧ (zw α + 14 * c.N0 ≤ zw c.a0 + 14 * b) ∧ (y < N) ∧ (pgO c N g α s y)
theorem pR.k {c : pC} {a d b N y : Nat} {g : pG} {α : zS} {s : zM} (h : pR c a d b N y g α s) : pOk c := by
  unfold pR at h
  exact h.1
theorem pR.x {c : pC} {a d b N y : Nat} {g : pG} {α : zS} {s : zM} (h : pR c a d b N y g α s) : xKp c α := by
  unfold pR at h
  exact h.2.1
theorem pR.m {c : pC} {a d b N y : Nat} {g : pG} {α : zS} {s : zM} (h : pR c a d b N y g α s) : mKp c s := by
  unfold pR at h
  exact h.2.2.1
theorem pR.ax {c : pC} {a d b N y : Nat} {g : pG} {α : zS} {s : zM} (h : pR c a d b N y g α s) : zI α 40 3 c.p = nI a := by
  unfold pR at h
  exact h.2.2.2.1
theorem pR.nx {c : pC} {a d b N y : Nat} {g : pG} {α : zS} {s : zM} (h : pR c a d b N y g α s) : zI α 40 4 c.p = nI d := by
  unfold pR at h
  exact h.2.2.2.2.1
theorem pR.am {c : pC} {a d b N y : Nat} {g : pG} {α : zS} {s : zM} (h : pR c a d b N y g α s) : ls s 41 = nI a := by
  unfold pR at h
  exact h.2.2.2.2.2.1
theorem pR.nm {c : pC} {a d b N y : Nat} {g : pG} {α : zS} {s : zM} (h : pR c a d b N y g α s) : c.lv = 1 → ls s 44 = nI d := by
  unfold pR at h
  exact h.2.2.2.2.2.2.1
theorem pR.bm {c : pC} {a d b N y : Nat} {g : pG} {α : zS} {s : zM} (h : pR c a d b N y g α s) : ls s 43 = nI 0 := by
  unfold pR at h
  exact h.2.2.2.2.2.2.2.1
theorem pR.Nm {c : pC} {a d b N y : Nat} {g : pG} {α : zS} {s : zM} (h : pR c a d b N y g α s) : ls s 8 = nI N := by
  unfold pR at h
  exact h.2.2.2.2.2.2.2.2.1
theorem pR.al {c : pC} {a d b N y : Nat} {g : pG} {α : zS} {s : zM} (h : pR c a d b N y g α s) : a ≤ c.n := by
  unfold pR at h
  exact h.2.2.2.2.2.2.2.2.2.1
theorem pR.a0 {c : pC} {a d b N y : Nat} {g : pG} {α : zS} {s : zM} (h : pR c a d b N y g α s) : c.at0 ≤ a := by
  unfold pR at h
  exact h.2.2.2.2.2.2.2.2.2.2.1
theorem pR.nl {c : pC} {a d b N y : Nat} {g : pG} {α : zS} {s : zM} (h : pR c a d b N y g α s) : d ≤ 40 := by
  unfold pR at h
  exact h.2.2.2.2.2.2.2.2.2.2.2.1
theorem pR.N0 {c : pC} {a d b N y : Nat} {g : pG} {α : zS} {s : zM} (h : pR c a d b N y g α s) : c.N0 ≤ N := by
  unfold pR at h
  exact h.2.2.2.2.2.2.2.2.2.2.2.2.1
theorem pR.Nb {c : pC} {a d b N y : Nat} {g : pG} {α : zS} {s : zM} (h : pR c a d b N y g α s) : N ≤ b := by
  unfold pR at h
  exact h.2.2.2.2.2.2.2.2.2.2.2.2.2.1
theorem pR.zcb {c : pC} {a d b N y : Nat} {g : pG} {α : zS} {s : zM} (h : pR c a d b N y g α s) : zc α + 3 * c.N0 ≤ zc c.a0 + 3 * b := by
  unfold pR at h
  exact h.2.2.2.2.2.2.2.2.2.2.2.2.2.2.1
theorem pR.zwb {c : pC} {a d b N y : Nat} {g : pG} {α : zS} {s : zM} (h : pR c a d b N y g α s) : zw α + 14 * c.N0 ≤ zw c.a0 + 14 * b := by
  unfold pR at h
  exact h.2.2.2.2.2.2.2.2.2.2.2.2.2.2.2.1
theorem pR.yN {c : pC} {a d b N y : Nat} {g : pG} {α : zS} {s : zM} (h : pR c a d b N y g α s) : y < N := by
  unfold pR at h
  exact h.2.2.2.2.2.2.2.2.2.2.2.2.2.2.2.2.1
theorem pR.g {c : pC} {a d b N y : Nat} {g : pG} {α : zS} {s : zM} (h : pR c a d b N y g α s) : pgO c N g α s y := by
  unfold pR at h
  exact h.2.2.2.2.2.2.2.2.2.2.2.2.2.2.2.2.2
theorem pR.mk {c : pC} {a d b N y : Nat} {g : pG} {α : zS} {s : zM} (x0 : pOk c) (x1 : xKp c α) (x2 : mKp c s) (x3 : zI α 40 3 c.p = nI a) (x4 : zI α 40 4 c.p = nI d) (x5 : ls s 41 = nI a) (x6 : c.lv = 1 → ls s 44 = nI d) (x7 : ls s 43 = nI 0) (x8 : ls s 8 = nI N) (x9 : a ≤ c.n) (x10 : c.at0 ≤ a) (x11 : d ≤ 40) (x12 : c.N0 ≤ N) (x13 : N ≤ b) (x14 : zc α + 3 * c.N0 ≤ zc c.a0 + 3 * b) (x15 : zw α + 14 * c.N0 ≤ zw c.a0 + 14 * b) (x16 : y < N) (x17 : pgO c N g α s y) : pR c a d b N y g α s := by
  unfold pR
  exact ⟨x0, x1, x2, x3, x4, x5, x6, x7, x8, x9, x10, x11, x12, x13, x14, x15, x16, x17⟩
/-- both sides behind a fault wh at word w: X's has thrown -/
def pE (c : pC) (wh w : Nat) (β : zS) (s : zM) : Prop := (xKp c β) ∧ (zI β 40 5 c.p = nI w) ∧ (zI β 40 6 c.p = nI wh) ∧ (∀ k, ¬ (k = 5 ∨ k = 8 ∨ 41 ≤ k ∧ k ≤ 45 ∨ k = 49 ∨ 54 ≤ k ∧ k ≤ 57) → ls s k = ls c.s0 k) ∧ (∀ k t, 9 ≤ k → k ≤ 16 → t < c.N0 → la s k t = la c.s0 k t) ∧ (∀ k, ¬ (k = 6 ∨ k = 7 ∨ 9 ≤ k ∧ k ≤ 16 ∨ 46 ≤ k ∧ k ≤ 48 ∨ 50 ≤ k ∧ k ≤ 53 ∨ 58 ≤ k ∧ k ≤ 64) → la s k = la c.s0 k) ∧ (ls s 43 = nI 1) ∧ (ls s 42 = nI w) ∧ (∃ F, ls c.s0 5 = nI F ∧ F < 20 ∧ ls s 5 = nI (F + 1) ∧ la s 6 = upd (la c.s0 6) F (nI wh) ∧ la s 7 = upd (la c.s0 7) F (nI w)) ∧ (w ≤ c.n) ∧ (c.at0 ≤ w) ∧ (wh = 1 ∨ wh = 3) ∧ (∃ N, ls s 8 = nI N ∧ c.N0 ≤ N ∧ N + 10 * c.at0 ≤ c.N0 + 10 * w + 70) ∧ (zc β + 30 * c.at0 ≤ zc c.a0 + 30 * w + 220) ∧ (zw β + 140 * c.at0 ≤ zw c.a0 + 140 * w + 1000)
theorem pE.x {c : pC} {wh w : Nat} {β : zS} {s : zM} (h : pE c wh w β s) : xKp c β := by
  unfold pE at h
  exact h.1
theorem pE.xb {c : pC} {wh w : Nat} {β : zS} {s : zM} (h : pE c wh w β s) : zI β 40 5 c.p = nI w := by
  unfold pE at h
  exact h.2.1
theorem pE.xw {c : pC} {wh w : Nat} {β : zS} {s : zM} (h : pE c wh w β s) : zI β 40 6 c.p = nI wh := by
  unfold pE at h
  exact h.2.2.1
theorem pE.I {c : pC} {wh w : Nat} {β : zS} {s : zM} (h : pE c wh w β s) : ∀ k, ¬ (k = 5 ∨ k = 8 ∨ 41 ≤ k ∧ k ≤ 45 ∨ k = 49 ∨ 54 ≤ k ∧ k ≤ 57) → ls s k = ls c.s0 k := by
  unfold pE at h
  exact h.2.2.2.1
theorem pE.A {c : pC} {wh w : Nat} {β : zS} {s : zM} (h : pE c wh w β s) : ∀ k t, 9 ≤ k → k ≤ 16 → t < c.N0 → la s k t = la c.s0 k t := by
  unfold pE at h
  exact h.2.2.2.2.1
theorem pE.B {c : pC} {wh w : Nat} {β : zS} {s : zM} (h : pE c wh w β s) : ∀ k, ¬ (k = 6 ∨ k = 7 ∨ 9 ≤ k ∧ k ≤ 16 ∨ 46 ≤ k ∧ k ≤ 48 ∨ 50 ≤ k ∧ k ≤ 53 ∨ 58 ≤ k ∧ k ≤ 64) → la s k = la c.s0 k := by
  unfold pE at h
  exact h.2.2.2.2.2.1
theorem pE.b1 {c : pC} {wh w : Nat} {β : zS} {s : zM} (h : pE c wh w β s) : ls s 43 = nI 1 := by
  unfold pE at h
  exact h.2.2.2.2.2.2.1
theorem pE.b2 {c : pC} {wh w : Nat} {β : zS} {s : zM} (h : pE c wh w β s) : ls s 42 = nI w := by
  unfold pE at h
  exact h.2.2.2.2.2.2.2.1
theorem pE.nt {c : pC} {wh w : Nat} {β : zS} {s : zM} (h : pE c wh w β s) : ∃ F, ls c.s0 5 = nI F ∧ F < 20 ∧ ls s 5 = nI (F + 1) ∧ la s 6 = upd (la c.s0 6) F (nI wh) ∧ la s 7 = upd (la c.s0 7) F (nI w) := by
  unfold pE at h
  exact h.2.2.2.2.2.2.2.2.1
theorem pE.w1 {c : pC} {wh w : Nat} {β : zS} {s : zM} (h : pE c wh w β s) : w ≤ c.n := by
  unfold pE at h
  exact h.2.2.2.2.2.2.2.2.2.1
theorem pE.w2 {c : pC} {wh w : Nat} {β : zS} {s : zM} (h : pE c wh w β s) : c.at0 ≤ w := by
  unfold pE at h
  exact h.2.2.2.2.2.2.2.2.2.2.1
theorem pE.wh {c : pC} {wh w : Nat} {β : zS} {s : zM} (h : pE c wh w β s) : wh = 1 ∨ wh = 3 := by
  unfold pE at h
  exact h.2.2.2.2.2.2.2.2.2.2.2.1
theorem pE.N {c : pC} {wh w : Nat} {β : zS} {s : zM} (h : pE c wh w β s) : ∃ N, ls s 8 = nI N ∧ c.N0 ≤ N ∧ N + 10 * c.at0 ≤ c.N0 + 10 * w + 70 := by
  unfold pE at h
  exact h.2.2.2.2.2.2.2.2.2.2.2.2.1
theorem pE.zcb {c : pC} {wh w : Nat} {β : zS} {s : zM} (h : pE c wh w β s) : zc β + 30 * c.at0 ≤ zc c.a0 + 30 * w + 220 := by
  unfold pE at h
  exact h.2.2.2.2.2.2.2.2.2.2.2.2.2.1
theorem pE.zwb {c : pC} {wh w : Nat} {β : zS} {s : zM} (h : pE c wh w β s) : zw β + 140 * c.at0 ≤ zw c.a0 + 140 * w + 1000 := by
  unfold pE at h
  exact h.2.2.2.2.2.2.2.2.2.2.2.2.2.2
theorem pE.mk {c : pC} {wh w : Nat} {β : zS} {s : zM} (x0 : xKp c β) (x1 : zI β 40 5 c.p = nI w) (x2 : zI β 40 6 c.p = nI wh) (x3 : ∀ k, ¬ (k = 5 ∨ k = 8 ∨ 41 ≤ k ∧ k ≤ 45 ∨ k = 49 ∨ 54 ≤ k ∧ k ≤ 57) → ls s k = ls c.s0 k) (x4 : ∀ k t, 9 ≤ k → k ≤ 16 → t < c.N0 → la s k t = la c.s0 k t) (x5 : ∀ k, ¬ (k = 6 ∨ k = 7 ∨ 9 ≤ k ∧ k ≤ 16 ∨ 46 ≤ k ∧ k ≤ 48 ∨ 50 ≤ k ∧ k ≤ 53 ∨ 58 ≤ k ∧ k ≤ 64) → la s k = la c.s0 k) (x6 : ls s 43 = nI 1) (x7 : ls s 42 = nI w) (x8 : ∃ F, ls c.s0 5 = nI F ∧ F < 20 ∧ ls s 5 = nI (F + 1) ∧ la s 6 = upd (la c.s0 6) F (nI wh) ∧ la s 7 = upd (la c.s0 7) F (nI w)) (x9 : w ≤ c.n) (x10 : c.at0 ≤ w) (x11 : wh = 1 ∨ wh = 3) (x12 : ∃ N, ls s 8 = nI N ∧ c.N0 ≤ N ∧ N + 10 * c.at0 ≤ c.N0 + 10 * w + 70) (x13 : zc β + 30 * c.at0 ≤ zc c.a0 + 30 * w + 220) (x14 : zw β + 140 * c.at0 ≤ zw c.a0 + 140 * w + 1000) : pE c wh w β s := by
  unfold pE
  exact ⟨x0, x1, x2, x3, x4, x5, x6, x7, x8, x9, x10, x11, x12, x13, x14⟩
/-- X throws, and M has failed -/
def pF {ρ σ : Type} (c : pC) (f : zF (ρ ⊕ Nat)) (m : gF σ) : Prop := ∃ e β u s' wh w, f = some (.inr e, β) ∧ zthr β e 3 = true ∧ m = some (u, s') ∧ pE c wh w β s'
def xaS (c : pC) (α : zS) (a : Nat) : zS := zwI α 40 3 c.p (nI (a + 1))
def maS (s : zM) (a : Nat) : zM := us s 41 (nI (a + 1))
/-- a new node of M's -/
def mMk (s : zM) (N : Nat) (k v w : Int32) : zM := ua (ua (ua (ua (ua (ua (ua (ua (us s 8 (nI (N + 1))) 9 (upd (la s 9) N k)) 10 (upd (la s 10) N v)) 11 (upd (la s 11) N w)) 12 (upd (la s 12) N (nI 0))) 13 (upd (la s 13) N (nI 0))) 14 (upd (la s 14) N (nI 0))) 15 (upd (la s 15) N (nI 0))) 16 (upd (la s 16) N (nI 0))
section PAC
variable {c : pC} {G : xQ} {α β : zS} {s s' : zM} {a d b b' at0 N y k t u w wh to q : Nat} {g : pG} {v v' : Int32}
theorem zc_l {ρ β : Type} {x : ρ} {α : zS} {g : ρ × zS → zF β} {h : Nat × zS → zF β} : zcase (some (.inl x, α)) g h = g (x, α) := (Classical.em True).elim (fun _ => rfl) (fun _ => rfl)
theorem zc_r {ρ β : Type} {x : Nat} {α : zS} {g : ρ × zS → zF β} {h : Nat × zS → zF β} : zcase (some (.inr x, α)) g h = h (x, α) := (Classical.em True).elim (fun _ => rfl) (fun _ => rfl)
theorem znO_e {k n : Nat} : znO α k n = some (some (zn α), zmk α (k + 1) 0 n) := (Classical.em True).elim (fun _ => rfl) (fun _ => rfl)
theorem xKp.wd (h : xKp c α) (o : pOk c) : pxW c α := by
  have w := o.x
  have e1 : α.2 c.ka = c.a0.2 c.ka := h.fr _ (.inl o.ka) (fun z => by have := w.kk; rw [z, w.kp] at this; omega)
  have e2 : α.2 c.va = c.a0.2 c.va := h.fr _ (.inl o.va) (fun z => by have := w.kv; rw [z, w.kp] at this; omega)
  refine pxW.mk ?_ ?_ ?_ ?_ ?_ ?_ ?_ ?_ ?_ ?_
  · rw [h.kd]; exact w.kp
  · rw [h.A 0 (by decide)]; exact w.fk
  · rw [h.A 1 (by decide)]; exact w.fv
  · rw [h.I 2 (by decide)]; exact w.fn
  · rw [zkd_eq e1]; exact w.kk
  · rw [zkd_eq e2]; exact w.kv
  · rw [zln_eq e1]; exact w.lk
  · rw [zln_eq e2]; exact w.lv
  · intro i hi; rw [zaI_eq e1]; exact w.rk i hi
  · intro i hi; rw [zaI_eq e2]; exact w.rv i hi
theorem mKp.wd (h : mKp c s) (o : pOk c) : mWd c s := by
  have w := o.m
  refine mWd.mk ?_ ?_ ?_
  · rw [h.I 4 (by decide)]; exact w.fn
  · rw [h.B 2 (by decide)]; exact w.rk
  · rw [h.B 3 (by decide)]; exact w.rv
theorem pR.xw (h : pR c a d b N y g α s) : pxW c α := h.x.wd h.k
theorem pR.mw (h : pR c a d b N y g α s) : mWd c s := h.m.wd h.k
theorem pR.kp (h : pR c a d b N y g α s) : zkd α c.p = 41 := h.xw.kp
theorem pR.a5 (h : pR c a d b N y g α s) : a ≤ 505 := by have := h.al; have := h.k.n; omega
theorem pR.N8 (h : pR c a d b N y g α s) (hb : pB c b a k) : N + k < 8000 := by
  have := h.Nb; have := h.a5; have := h.k.N0; unfold pB at hb; omega
/-! X's store -/
theorem xKp.wI (h : xKp c α) (hk : 3 ≤ k ∧ k ≤ 6 ∨ k = 16) : xKp c (zwI α 40 k c.p v) := by
  refine xKp.mk h.n (fun a h1 h2 => ?_) ?_ (fun j hj => ?_) (fun j hj => ?_)
  · rw [zwI_ne h2]; exact h.fr a h1 h2
  · rw [zkd_zwI]; exact h.kd
  · rw [zI_zwI, if_neg (fun z => hj (by rw [z.2.1]; exact hk))]; exact h.I j hj
  · rw [zA_zwI]; exact h.A j hj
theorem xKp.wA {r : Option Nat} (h : xKp c α) : xKp c (zwA α 40 15 c.p r) := by
  refine xKp.mk h.n (fun a h1 h2 => ?_) ?_ (fun j hj => ?_) (fun j hj => ?_)
  · rw [zwA_ne h2]; exact h.fr a h1 h2
  · rw [zkd_zwA]; exact h.kd
  · rw [zI_zwA]; exact h.I j hj
  · rw [zA_zwA, if_neg (fun z => hj z.2.1)]; exact h.A j hj
/-- what is new may change -/
theorem xKp.nw (h : xKp c α) (o : pOk c) (hn : zn α ≤ zn β) (hf : ∀ a, a < zn c.a0 ∨ zn β ≤ a → β.2 a = α.2 a) : xKp c β := by
  have e := hf c.p (.inl o.p)
  refine xKp.mk (by have := h.n; omega) (fun a h1 h2 => ?_) ?_ (fun j hj => ?_) (fun j hj => ?_)
  · rw [hf a h1]; exact h.fr a (by omega) h2
  · rw [zkd_eq e]; exact h.kd
  · rw [zI_eq e]; exact h.I j hj
  · rw [zA_eq e]; exact h.A j hj
theorem pR.old (h : pR c a d b N y g α s) (ht : c.N0 ≤ t) (ht' : t < N) : c.p < g.oa t ∧ g.oa t ≠ c.p ∧ g.oa t + 1 ≠ c.p := by
  have o := h.g.nd t ht ht'
  have := o.lo
  have := h.k.p
  omega
theorem pgO.wI (h : pgO c N g α s y) (hp : c.p < zn c.a0) : pgO c N g (zwI α 40 k c.p v) s y := h.fr (fun _ _ _ _ _ _ => rfl) (fun t h1 h2 => by
  have := (h.nd t h1 h2).lo
  exact ⟨zwI_ne (by omega), zwI_ne (by omega)⟩) (Nat.le_refl _)
theorem pgO.wA {r : Option Nat} (h : pgO c N g α s y) (hp : c.p < zn c.a0) : pgO c N g (zwA α 40 k c.p r) s y := h.fr (fun _ _ _ _ _ _ => rfl) (fun t h1 h2 => by
  have := (h.nd t h1 h2).lo
  exact ⟨zwA_ne (by omega), zwA_ne (by omega)⟩) (Nat.le_refl _)
theorem pgO.m (h : pgO c N g α s y) (hm : ∀ k, 9 ≤ k → k ≤ 16 → la s' k = la s k) (hp : ∀ t, pPd s t → pPd s' t := by exact fun _ z => z) : pgO c N g α s' y := h.fr (fun k t h1 h2 _ _ => by rw [hm k h1 h2]) (fun _ _ _ => ⟨rfl, rfl⟩) (Nat.le_refl _) hp
theorem mKp.us1 (h : mKp c s) (hk : k = 8 ∨ 41 ≤ k ∧ k ≤ 45 ∨ k = 49 ∨ 54 ≤ k ∧ k ≤ 57) : mKp c (us s k v) := by
  refine mKp.mk (fun j hj => ?_) h.A h.B
  rw [ls_us, if_neg (fun z => hj (by rw [z]; exact hk))]; exact h.I j hj
/-- one word further -/
theorem pR.adv (h : pR c a d b N y g α s) (ha : a < c.n) : pR c (a + 1) d b N y g (xaS c α a) (maS s a) := by
  unfold xaS maS
  refine pR.mk h.k (h.x.wI (by omega)) (h.m.us1 (by omega)) ?_ ?_ ?_ ?_ ?_ ?_ (by omega) (by have := h.a0; omega) h.nl h.N0 h.Nb h.zcb h.zwb h.yN ((h.g.wI h.k.p).m fun _ _ _ => rfl)
  · rw [zI_zwI, if_pos ⟨rfl, rfl, rfl⟩]
  · rw [zI_zwI, if_neg (by omega)]; exact h.nx
  · rfl
  · exact h.nm
  · exact h.bm
  · exact h.Nm
/-- another depth -/
theorem pR.dep {d' : Nat} (h : pR c a d b N y g α s) (hd : d' ≤ 40) : pR c a d' b N y g (zwI α 40 4 c.p (nI d')) (us s 44 (nI d')) := by
  refine pR.mk h.k (h.x.wI (by omega)) (h.m.us1 (by omega)) ?_ ?_ ?_ ?_ ?_ ?_ h.al h.a0 hd h.N0 h.Nb h.zcb h.zwb h.yN ((h.g.wI h.k.p).m fun _ _ _ => rfl)
  · rw [zI_zwI, if_neg (by omega)]; exact h.ax
  · rw [zI_zwI, if_pos ⟨rfl, rfl, rfl⟩]
  · exact h.am
  · exact fun _ => rfl
  · exact h.bm
  · exact h.Nm
theorem pR.sub {r : Option Nat} (h : pR c a d b N y g α s) : pR c a d b N y g (zwA α 40 15 c.p r) s := by
  refine pR.mk h.k h.x.wA h.m ?_ ?_ h.am h.nm h.bm h.Nm h.al h.a0 h.nl h.N0 h.Nb h.zcb h.zwb h.yN (h.g.wA h.k.p)
  · rw [zI_zwA]; exact h.ax
  · rw [zI_zwA]; exact h.nx
theorem pR.cmp (h : pR c a d b N y g α s) : pR c a d b N y g (zwI α 40 16 c.p v) s := by
  refine pR.mk h.k (h.x.wI (by omega)) h.m ?_ ?_ h.am h.nm h.bm h.Nm h.al h.a0 h.nl h.N0 h.Nb h.zcb h.zwb h.yN (h.g.wI h.k.p)
  · rw [zI_zwI, if_neg (by omega)]; exact h.ax
  · rw [zI_zwI, if_neg (by omega)]; exact h.nx
/-- piles and the like change -/
theorem pR.tmp (h : pR c a d b N y g α s) (h1 : ∀ k, ¬ (k = 49 ∨ 54 ≤ k ∧ k ≤ 57) → ls s' k = ls s k) (h2 : ∀ k, ¬ (k = 48 ∨ 50 ≤ k ∧ k ≤ 53 ∨ 58 ≤ k ∧ k ≤ 64) → la s' k = la s k) : pR c a d b N y g α s' := by
  have hp : ∀ t, pPd s t → pPd s' t := fun t z => by
    obtain ⟨k, i, e1, e2, e3, e4, e5⟩ := z
    exact ⟨k, i, by rw [h1 45 (by decide)]; exact e1, e2, e3, by rw [h2 46 (by decide)]; exact e4, by rw [h2 47 (by decide)]; exact e5⟩
  refine pR.mk h.k h.x (mKp.mk (fun k hk => ?_) (fun k t k1 k2 ht => ?_) (fun k hk => ?_)) h.ax h.nx ?_ ?_ ?_ ?_ h.al h.a0 h.nl h.N0 h.Nb h.zcb h.zwb h.yN (h.g.m (fun k k1 k2 => h2 k (by omega)) hp)
  · rw [h1 k (by omega)]; exact h.m.I k hk
  · rw [h2 k (by omega)]; exact h.m.A k t k1 k2 ht
  · rw [h2 k (by omega)]; exact h.m.B k hk
  · rw [h1 41 (by decide)]; exact h.am
  · intro z; rw [h1 44 (by decide)]; exact h.nm z
  · rw [h1 43 (by decide)]; exact h.bm
  · rw [h1 8 (by decide)]; exact h.Nm
theorem pR.bup {b' : Nat} (h : pR c a d b N y g α s) (hb : b ≤ b') : pR c a d b' N y g α s := pR.mk h.k h.x h.m h.ax h.nx h.am h.nm h.bm h.Nm h.al h.a0 h.nl h.N0 (by have := h.Nb; omega) (by have := h.zcb; omega) (by have := h.zwb; omega) h.yN h.g
/-! faults -/
/-- M's depth -/
theorem pR.nmv (h : pR c a d b N y g α s) (hb : pB c b' at0 k) (hk : 4 < k) : ls s 44 = nI d := h.nm (by unfold pB at hb; omega)
theorem X_pfails (o : pOk c) (h : xKp c α) : ∃ e β, hX4_fails G (some c.p) (nI w) (nI wh) α = some (.inr e, β) ∧ zthr β e 3 = true ∧ xKp c β ∧ zI β 40 5 c.p = nI w ∧ zI β 40 6 c.p = nI wh ∧ zc β = zc α + 1 ∧ zw β = zw α + 6 := by
  have kp := (h.wd o).kp
  have hp : c.p < zn α := by have := o.p; have := h.n; omega
  have h1 := (h.wI (k := 5) (v := nI w) (by omega)).wI (k := 6) (v := nI wh) (by omega)
  refine ⟨zn α, zraw (zmk (zwI (zwI α 40 5 c.p (nI w)) 40 6 c.p (nI wh)) 2004 0 6) (zn α) 4 0 0 0 0 0 [] [], ?_, ?_, ?_, ?_, ?_, rfl, rfl⟩
  · unfold hX4_fails
    rw [kpI kp, gl_bs, kpI (by rw [zkd_zwI]; exact kp), gl_bs]
    have e : zkd (zmk (zwI (zwI α 40 5 c.p (nI w)) 40 6 c.p (nI wh)) 2004 0 6) (zn α) = 2004 := by rw [zkd_zmk]; exact if_pos rfl
    show ((zXi (zmk (zwI (zwI α 40 5 c.p (nI w)) 40 6 c.p (nI wh)) 2004 0 6) (some (zn α))).bind _) = _
    have ez : zXi (zmk (zwI (zwI α 40 5 c.p (nI w)) 40 6 c.p (nI wh)) 2004 0 6) (some (zn α)) = some ((), zraw (zmk (zwI (zwI α 40 5 c.p (nI w)) 40 6 c.p (nI wh)) 2004 0 6) (zn α) 4 0 0 0 0 0 [] []) := by
      unfold zXi
      simp only [e]
      rfl
    rw [ez, gl_bs]
    show ((some (zn α)).bind _) = _
    rw [gl_bs, if_pos]
    unfold zthr
    rw [zkd_raw, if_pos rfl]
    rfl
  · unfold zthr
    rw [zkd_raw, if_pos rfl]
    rfl
  · refine h1.nw o (Nat.le_succ _) fun q hq => ?_
    have hq' : q ≠ zn α := by
      have := h.n
      rcases hq with z | z
      · omega
      · have : zn α + 1 ≤ q := z
        omega
    rw [zraw_ne hq']
    exact zup_ne hq'
  · rw [zI_raw, zI_mk, if_neg (by show ¬ c.p = zn α; omega), zI_zwI, if_neg (by omega), zI_zwI, if_pos ⟨rfl, rfl, rfl⟩]
  · rw [zI_raw, zI_mk, if_neg (by show ¬ c.p = zn α; omega), zI_zwI, if_pos ⟨rfl, rfl, rfl⟩]
/-- M's object behind a fault -/
def mFl (s : zM) (F wh w : Nat) : zM := us (us (us (ua (ua s 6 (upd (la s 6) F (nI wh))) 7 (upd (la s 7) F (nI w))) 5 (nI (F + 1))) 42 (nI w)) 43 (nI 1)
theorem M_note {F : Nat} (h5 : ls s 5 = nI F) (hF : F < 20) : gX26_note (nI wh) (nI w) s = some ((), us (ua (ua s 6 (upd (la s 6) F (nI wh))) 7 (upd (la s 7) F (nI w))) 5 (nI (F + 1))) := by
  unfold gX26_note
  simp (disch := omega) only [gld, gst, glj, gsj, gpN0, gpN1, gl_x, gl_gi, pI_in', pI_clamp, pI_add, pI_mul, pI_sub, pI_succ, nmod_eq, pI_div, ni_neg, zn_neg, gnar0, gnar1, eq_self, ni_lt, ni_le, ni_eq, ni_zlt, ni_zle, ni_zeq, zn_lt, zn_le, zn_eq, zz_lt, zz_le, zz_eq, ni_zadd, zn_add, ni_zsub, zn_sub, ni_zmul, zn_mul, nZ_add, nZ_sub, nZ_mul, upd_same, upd_other, upd_upd, gl_bi, gl_mi, gl_bs, gl_ms, gl_bn, gl_mn, if_true, if_false, ↓reduceIte, not_true_eq_false, not_false_eq_true, true_and, and_true, false_and, and_false, and_self, or_false, false_or, or_self, or_true, true_or, Nat.not_lt_zero, Nat.reduceAdd, Nat.reduceMul, Nat.add_zero, Nat.zero_add, Nat.mul_zero, Nat.zero_mul, Nat.reduceEqDiff, Nat.reduceLT, Nat.reduceLeDiff, Nat.succ_ne_zero, ua_ua, us_us, tn_le, tn_nle, tn_lt, tn_nlt, tn_eq, tn_ne, tz_le, tz_nle, tz_lt, tz_nlt, tz_eq, tz_ne, ls_us, ls_uj, ls_ua, ls_ub, lj_us, lj_uj, lj_ua, lj_ub, la_us, la_uj, la_ua, la_ub, lb_us, lb_uj, lb_ua, lb_ub, nl0, nl1, nl2, nl3, nl4, nl5, nl6, nl7, nl8, nl9, nl10, nl11, nl12, nl13, nl14, nl15, nl16, nl17, nl18, nl19, nl20, nl21, nl22, nl23, nl24, nl25, nl26, nl27, nl28, nl29, nl30, nl31, nl32, nl33, nl34, nl35, nl36, nl37, nl38, nl39, nl40, nl41, nl42, nl43, nl44, nl45, nl46, nl47, nl48, nl49, nl50, nl51, nl52, nl53, nl54, nl55, nl56, nl57, nl58, nl59, nl60, nl61, nl62, nl63, nl64, nl65, nl66, nl67, nl68, nl69, nl70, nl71, nl72, nl73, nl74, nl75, nl76, nl77, nl78, nl79, nl80, nl82, nl83, nl84, nl85, nl86, nl88, nl90, nl96, nl97, nl99, nl100, nl101, nl104, nl112, nl115, nl120, nl121, nl122, nl126, nl127, nl128, nl160, nl200, nl201, nl202, nl255, nl256, nl300, nl320, nl322, nl400, nl500, nl600, nl640, nl732, nl968, nl999, nl1000, nl1001, nl1040, nl1440, nl1500, nl1501, nl1600, nl2000, nl2240, nl3131, nl4000, nl4095, nl4096, nl4960, nl5000, nl6000, nl6001, nl8000, nl9999, nl10000, nl10200, nl13520, nl14000, nl20000, nl32768, nl40000, nl46000, nl64000, nl65536, nl78000, nl100000, nl128000, nl400000, nl730000, h5]
theorem M_fail {F : Nat} (hb : ls s 43 = nI 0) (h5 : ls s 5 = nI F) (hF : F < 20) : gX26_fail (nI wh) (nI w) s = some (nI 0, mFl s F wh w) := by
  unfold gX26_fail gX26_fail_13 gX26_fail_29 mFl
  simp (disch := omega) only [gld, gst, glj, gsj, gpN0, gpN1, gl_x, gl_gi, pI_in', pI_clamp, pI_add, pI_mul, pI_sub, pI_succ, nmod_eq, pI_div, ni_neg, zn_neg, gnar0, gnar1, eq_self, ni_lt, ni_le, ni_eq, ni_zlt, ni_zle, ni_zeq, zn_lt, zn_le, zn_eq, zz_lt, zz_le, zz_eq, ni_zadd, zn_add, ni_zsub, zn_sub, ni_zmul, zn_mul, nZ_add, nZ_sub, nZ_mul, upd_same, upd_other, upd_upd, gl_bi, gl_mi, gl_bs, gl_ms, gl_bn, gl_mn, if_true, if_false, ↓reduceIte, not_true_eq_false, not_false_eq_true, true_and, and_true, false_and, and_false, and_self, or_false, false_or, or_self, or_true, true_or, Nat.not_lt_zero, Nat.reduceAdd, Nat.reduceMul, Nat.add_zero, Nat.zero_add, Nat.mul_zero, Nat.zero_mul, Nat.reduceEqDiff, Nat.reduceLT, Nat.reduceLeDiff, Nat.succ_ne_zero, ua_ua, us_us, tn_le, tn_nle, tn_lt, tn_nlt, tn_eq, tn_ne, tz_le, tz_nle, tz_lt, tz_nlt, tz_eq, tz_ne, ls_us, ls_uj, ls_ua, ls_ub, lj_us, lj_uj, lj_ua, lj_ub, la_us, la_uj, la_ua, la_ub, lb_us, lb_uj, lb_ua, lb_ub, nl0, nl1, nl2, nl3, nl4, nl5, nl6, nl7, nl8, nl9, nl10, nl11, nl12, nl13, nl14, nl15, nl16, nl17, nl18, nl19, nl20, nl21, nl22, nl23, nl24, nl25, nl26, nl27, nl28, nl29, nl30, nl31, nl32, nl33, nl34, nl35, nl36, nl37, nl38, nl39, nl40, nl41, nl42, nl43, nl44, nl45, nl46, nl47, nl48, nl49, nl50, nl51, nl52, nl53, nl54, nl55, nl56, nl57, nl58, nl59, nl60, nl61, nl62, nl63, nl64, nl65, nl66, nl67, nl68, nl69, nl70, nl71, nl72, nl73, nl74, nl75, nl76, nl77, nl78, nl79, nl80, nl82, nl83, nl84, nl85, nl86, nl88, nl90, nl96, nl97, nl99, nl100, nl101, nl104, nl112, nl115, nl120, nl121, nl122, nl126, nl127, nl128, nl160, nl200, nl201, nl202, nl255, nl256, nl300, nl320, nl322, nl400, nl500, nl600, nl640, nl732, nl968, nl999, nl1000, nl1001, nl1040, nl1440, nl1500, nl1501, nl1600, nl2000, nl2240, nl3131, nl4000, nl4095, nl4096, nl4960, nl5000, nl6000, nl6001, nl8000, nl9999, nl10000, nl10200, nl13520, nl14000, nl20000, nl32768, nl40000, nl46000, nl64000, nl65536, nl78000, nl100000, nl128000, nl400000, nl730000, hb, M_note h5 hF, gpN1]
/-- a fault behind a fault changes nothing -/
theorem us_self (h : ls s k = v) : us s k v = s := by
  refine Prod.ext ?_ rfl
  funext j
  show (if j = k then v else s.1 j) = s.1 j
  split
  · rename_i e; rw [e]; exact h.symm
  · rfl
theorem M_bad (hb : ls s 43 = nI 1) : gX26_fail v v' s = some (nI 0, s) := by
  unfold gX26_fail gX26_fail_13 gX26_fail_29
  simp (disch := omega) only [gld, gst, glj, gsj, gpN0, gpN1, gl_x, gl_gi, pI_in', pI_clamp, pI_add, pI_mul, pI_sub, pI_succ, nmod_eq, pI_div, ni_neg, zn_neg, gnar0, gnar1, eq_self, ni_lt, ni_le, ni_eq, ni_zlt, ni_zle, ni_zeq, zn_lt, zn_le, zn_eq, zz_lt, zz_le, zz_eq, ni_zadd, zn_add, ni_zsub, zn_sub, ni_zmul, zn_mul, nZ_add, nZ_sub, nZ_mul, upd_same, upd_other, upd_upd, gl_bi, gl_mi, gl_bs, gl_ms, gl_bn, gl_mn, if_true, if_false, ↓reduceIte, not_true_eq_false, not_false_eq_true, true_and, and_true, false_and, and_false, and_self, or_false, false_or, or_self, or_true, true_or, Nat.not_lt_zero, Nat.reduceAdd, Nat.reduceMul, Nat.add_zero, Nat.zero_add, Nat.mul_zero, Nat.zero_mul, Nat.reduceEqDiff, Nat.reduceLT, Nat.reduceLeDiff, Nat.succ_ne_zero, ua_ua, us_us, tn_le, tn_nle, tn_lt, tn_nlt, tn_eq, tn_ne, tz_le, tz_nle, tz_lt, tz_nlt, tz_eq, tz_ne, ls_us, ls_uj, ls_ua, ls_ub, lj_us, lj_uj, lj_ua, lj_ub, la_us, la_uj, la_ua, la_ub, lb_us, lb_uj, lb_ua, lb_ub, nl0, nl1, nl2, nl3, nl4, nl5, nl6, nl7, nl8, nl9, nl10, nl11, nl12, nl13, nl14, nl15, nl16, nl17, nl18, nl19, nl20, nl21, nl22, nl23, nl24, nl25, nl26, nl27, nl28, nl29, nl30, nl31, nl32, nl33, nl34, nl35, nl36, nl37, nl38, nl39, nl40, nl41, nl42, nl43, nl44, nl45, nl46, nl47, nl48, nl49, nl50, nl51, nl52, nl53, nl54, nl55, nl56, nl57, nl58, nl59, nl60, nl61, nl62, nl63, nl64, nl65, nl66, nl67, nl68, nl69, nl70, nl71, nl72, nl73, nl74, nl75, nl76, nl77, nl78, nl79, nl80, nl82, nl83, nl84, nl85, nl86, nl88, nl90, nl96, nl97, nl99, nl100, nl101, nl104, nl112, nl115, nl120, nl121, nl122, nl126, nl127, nl128, nl160, nl200, nl201, nl202, nl255, nl256, nl300, nl320, nl322, nl400, nl500, nl600, nl640, nl732, nl968, nl999, nl1000, nl1001, nl1040, nl1440, nl1500, nl1501, nl1600, nl2000, nl2240, nl3131, nl4000, nl4095, nl4096, nl4960, nl5000, nl6000, nl6001, nl8000, nl9999, nl10000, nl10200, nl13520, nl14000, nl20000, nl32768, nl40000, nl46000, nl64000, nl65536, nl78000, nl100000, nl128000, nl400000, nl730000, hb, gpN1]
  rw [us_self (k := 42) rfl, us_self hb]
theorem pR.fail (h : pR c a d b N y g α s) (hb : pB c b a 0) (hw : w ≤ c.n) (h0 : c.at0 ≤ w) (h1 : a ≤ w + 1) (hwh : wh = 1 ∨ wh = 3) : ∃ e β s', hX4_fails G (some c.p) (nI w) (nI wh) α = some (.inr e, β) ∧ zthr β e 3 = true ∧ gX26_fail (nI wh) (nI w) s = some (nI 0, s') ∧ pE c wh w β s' := by
  obtain ⟨e, β, x1, x2, x3, x4, x5, x6, x7⟩ := X_pfails (G := G) (w := w) (wh := wh) h.k h.x
  obtain ⟨F, f1, f2⟩ := h.k.fm
  have f3 : ls s 5 = nI F := by rw [h.m.I 5 (by decide)]; exact f1
  have zcb := h.zcb
  have zwb := h.zwb
  have Nb := h.Nb
  unfold pB at hb
  refine ⟨e, β, mFl s F wh w, x1, x2, M_fail h.bm f3 f2, pE.mk x3 x4 x5 (fun k hk => ?_) (fun k t k1 k2 ht => ?_) (fun k hk => ?_) rfl rfl ⟨F, f1, f2, rfl, ?_, ?_⟩ hw h0 hwh ⟨N, h.Nm, h.N0, by omega⟩ (by omega) (by omega)⟩
  · rw [← h.m.I k (by omega)]
    unfold mFl
    rw [ls_us, if_neg (by omega), ls_us, if_neg (by omega), ls_us, if_neg (by omega)]
    rfl
  · rw [← h.m.A k t k1 k2 ht]
    unfold mFl
    rw [la_us, la_us, la_us, la_ua, if_neg (by omega), la_ua, if_neg (by omega)]
  · rw [← h.m.B k (by omega)]
    unfold mFl
    rw [la_us, la_us, la_us, la_ua, if_neg (by omega), la_ua, if_neg (by omega)]
  · show upd (la s 6) F (nI wh) = _
    rw [h.m.B 6 (by decide)]
  · show upd (la s 7) F (nI w) = _
    rw [h.m.B 7 (by decide)]
end PAC
