/-! THE PURE LAYER: the parser: statements: M's loop over its pile, values and flags of nodes. -/
/-- M's loop over statements -/
def mS (F : Nat) (s : zM) : gF Unit := gloop (fun (_ : Unit) s => gX26_statements_16b s) F () s
def mSk (F : Nat) (o : gF (Unit ⊕ Unit)) : gF Unit := match o with
  | some (.inl _, s) => mS F s
  | some (.inr r, s) => some (r, s)
  | none => none
/-- older nodes are as they were, but for what lies below them -/
def pX0 (N : Nat) (g : pG) (s : zM) (N' : Nat) (g' : pG) (s' : zM) : Prop := (N ≤ N') ∧ (∀ t, t < N → g'.oa t = g.oa t) ∧ (∀ t, t < N → g'.r t = g.r t) ∧ (∀ t, t < N → la s' 9 t = la s 9 t) ∧ (∀ t, t < N → la s' 16 t = la s 16 t) ∧ (∀ t, t < N → la s 9 t = nI 29 → la s' 10 t = la s 10 t)
theorem pX0.n {N : Nat} {g : pG} {s : zM} {N' : Nat} {g' : pG} {s' : zM} (h : pX0 N g s N' g' s') : N ≤ N' := by
  unfold pX0 at h
  exact h.1
theorem pX0.oa {N : Nat} {g : pG} {s : zM} {N' : Nat} {g' : pG} {s' : zM} (h : pX0 N g s N' g' s') : ∀ t, t < N → g'.oa t = g.oa t := by
  unfold pX0 at h
  exact h.2.1
theorem pX0.r {N : Nat} {g : pG} {s : zM} {N' : Nat} {g' : pG} {s' : zM} (h : pX0 N g s N' g' s') : ∀ t, t < N → g'.r t = g.r t := by
  unfold pX0 at h
  exact h.2.2.1
theorem pX0.kd {N : Nat} {g : pG} {s : zM} {N' : Nat} {g' : pG} {s' : zM} (h : pX0 N g s N' g' s') : ∀ t, t < N → la s' 9 t = la s 9 t := by
  unfold pX0 at h
  exact h.2.2.2.1
theorem pX0.up {N : Nat} {g : pG} {s : zM} {N' : Nat} {g' : pG} {s' : zM} (h : pX0 N g s N' g' s') : ∀ t, t < N → la s' 16 t = la s 16 t := by
  unfold pX0 at h
  exact h.2.2.2.2.1
theorem pX0.w10 {N : Nat} {g : pG} {s : zM} {N' : Nat} {g' : pG} {s' : zM} (h : pX0 N g s N' g' s') : ∀ t, t < N → la s 9 t = nI 29 → la s' 10 t = la s 10 t := by
  unfold pX0 at h
  exact h.2.2.2.2.2
theorem pX0.mk {N : Nat} {g : pG} {s : zM} {N' : Nat} {g' : pG} {s' : zM} (x0 : N ≤ N') (x1 : ∀ t, t < N → g'.oa t = g.oa t) (x2 : ∀ t, t < N → g'.r t = g.r t) (x3 : ∀ t, t < N → la s' 9 t = la s 9 t) (x4 : ∀ t, t < N → la s' 16 t = la s 16 t) (x5 : ∀ t, t < N → la s 9 t = nI 29 → la s' 10 t = la s 10 t) : pX0 N g s N' g' s' := by
  unfold pX0
  exact ⟨x0, x1, x2, x3, x4, x5⟩
/-- k things are piled, as in s -/
def pv (k : Nat) (s s' : zM) : Prop := ls s' 45 = nI k ∧ ∀ i, i < k → la s' 46 i = la s 46 i ∧ la s' 47 i = la s 47 i ∧ la s' 48 i = la s 48 i
/-- something is piled -/
def mPl (s : zM) (k : Nat) (q t : Int32) : zM := us (ua (ua (ua s 46 (upd (la s 46) k q)) 47 (upd (la s 47) k t)) 48 (upd (la s 48) k (nI 0))) 45 (nI (k + 1))
/-- X goes on, M comes to T; or both fail -/
def sE {ρ : Type} (c : pC) (fX : zF (ρ ⊕ Nat)) (T : gF Unit) : Prop := ∃ e β s' wh w, fX = some (.inr e, β) ∧ zthr β e 3 = true ∧ T = some ((), s') ∧ pE c wh w β s'
section PAX
variable {c : pC} {G : xQ} {α β γ αs : zS} {s s' s2 ss : zM} {a a1 a' d b b' N N' N2 Ns as bs k t t2 u w wh q r F F1 F' Fs f y to m n jn o K : Nat} {g g' g2 gs : pG} {v v' kv : Int32} {l ts : List Nat}
theorem mS_s : mS (F + 1) s = mSk F (gX26_statements_16b s) := by
  unfold mS mSk
  rcases h : gX26_statements_16b s with _ | ⟨_ | _, _⟩
  · simp only [gloop, h]
  · simp only [gloop, h]
    rfl
  · simp only [gloop, h]
theorem gu_id {m : gF Unit} : (Option.bind m fun p => some ((), p.2)) = m := by
  rcases m with _ | ⟨_, _⟩
  · rfl
  · rfl
theorem gu_as {m : gF Unit} {f : zM → gF Unit} : (Option.bind (Option.bind m fun p => some ((), p.2)) fun p => f p.2) = Option.bind m fun p => f p.2 := by rw [gu_id]
theorem mS_bad (h : ls s 43 = nI 1) : mS (F + 1) s = some ((), s) := by
  rw [mS_s]
  unfold gX26_statements_16b gX26_statements_136
  rw [gl_x]
  by_cases e : ls s 45 ≤ 0
  · rw [if_pos e]; rfl
  · rw [if_neg e, gl_x, h, if_pos (by exact n1n)]; rfl
theorem mS_end (h : ls s 45 = nI 0) : mS (F + 1) s = some ((), s) := by
  rw [mS_s]
  unfold gX26_statements_16b gX26_statements_136
  rw [gl_x, h, if_pos (by decide)]; rfl
/-- a turn: a statement begins -/
theorem mS_st (h : pR c a d b N y g α s) (h45 : ls s 45 = nI (k + 1)) (hk : k < 100) (h46 : la s 46 k = nI 0) (hB : wB c a = true) : mS (F + 1) s = (gX26_statement (la s 47 k) (ua s 48 (upd (la s 48) k (nI 1)))).bind fun p => mS F p.2 := by
  have a5 := h.a5
  rw [mS_s]
  unfold gX26_statements_16b gX26_statements_133
  rw [gl_x, h45, if_neg (by rw [nl0, pI_le (by omega) (by decide)]; omega), gl_x, h.bm, if_neg (fun z => z rfl), gl_x, gl_x, nl1, pI_sub (by omega), Nat.add_sub_cancel, pgld (by omega) (by decide), gl_bs, h46, if_pos (by decide), gl_x, h.am, M_begins h.k h.mw (by omega), gl_bs, hB, if_neg (by exact bT)]
  show mSk F (Option.bind (gst s 48 128 (nI k) (nI 1)) _) = _
  rw [pgst (by omega) (by decide), gl_bs, pgld (by omega) (by decide), gl_bs]
  show mSk F ((gX26_statement (la s 47 k) (ua s 48 (upd (la s 48) k (nI 1)))).bind _) = _
  rcases gX26_statement (la s 47 k) (ua s 48 (upd (la s 48) k (nI 1))) with _ | ⟨_, _⟩
  · rfl
  · rfl
/-- a turn: a list is at its end -/
theorem mS_pop (h : pR c a d b N y g α s) (h45 : ls s 45 = nI (k + 1)) (hk : k < 100) (h46 : la s 46 k = nI 0) (hB : wB c a = false) (h48 : la s 48 k = nI 1) (hv : c.lv = 1 := by unfold pB at *; omega) : mS (F + 1) s = mS F (us (us s 45 (nI k)) 44 (nI d - nI 1)) := by
  have a5 := h.a5
  rw [mS_s]
  unfold gX26_statements_16b gX26_statements_133
  rw [gl_x, h45, if_neg (by rw [nl0, pI_le (by omega) (by decide)]; omega), gl_x, h.bm, if_neg (fun z => z rfl), gl_x, gl_x, nl1, pI_sub (by omega), Nat.add_sub_cancel, pgld (by omega) (by decide), gl_bs, h46, if_pos (by decide), gl_x, h.am, M_begins h.k h.mw (by omega), gl_bs, hB, if_pos (by exact bF)]
  show mSk F (Option.bind (gld s 48 128 (nI k)) _) = _
  rw [pgld (by omega) (by decide), gl_bs, h48, if_pos (by exact n1n), gl_x]
  show mSk F (xlet (us s 45 (ls s 45 - nI 1)) _) = _
  rw [h45, pI_sub (by omega), Nat.add_sub_cancel, gl_x, gl_x]
  show mSk F (xlet (us (us s 45 (nI k)) 44 (ls s 44 - nI 1)) _) = _
  rw [h.nm hv, gl_x]
  rfl
/-- a turn: what waits goes on -/
theorem mS_go (h45 : ls s 45 = nI (k + 1)) (hk : k < 100) (h46 : la s 46 k = nI q) (hq : 0 < q) (hq' : q < 100) (h43 : ls s 43 = nI 0) : mS (F + 1) s = (gX26_goOn (nI k) (la s 47 k) s).bind fun p => mS F p.2 := by
  rw [mS_s]
  unfold gX26_statements_16b gX26_statements_133
  rw [gl_x, h45, if_neg (by rw [nl0, pI_le (by omega) (by decide)]; omega), gl_x, h43, if_neg (fun z => z rfl), gl_x, gl_x, nl1, pI_sub (by omega), Nat.add_sub_cancel, pgld (by omega) (by decide), gl_bs, h46, if_neg (by rw [nl0, pI_inj (by omega) (by decide)]; omega), pgld (by omega) (by decide), gl_bs]
  rcases gX26_goOn (nI k) (la s 47 k) s with _ | ⟨_, _⟩
  · rfl
  · rfl
theorem pX.x0 (h : pX N g s N' g' s') : pX0 N g s N' g' s' := pX0.mk h.n h.oa h.r h.kd h.up (fun t ht e => h.w10 t ht (.inl e))
theorem pX0.rf : pX0 N g s N g s := pX.rf.x0
theorem pX0.tr (h : pX0 N g s N' g' s') (h' : pX0 N' g' s' N2 g2 s2) : pX0 N g s N2 g2 s2 := by
  have n := h.n
  have n' := h'.n
  exact pX0.mk (by omega) (fun t ht => (h'.oa t (by omega)).trans (h.oa t ht)) (fun t ht => (h'.r t (by omega)).trans (h.r t ht)) (fun t ht => (h'.kd t (by omega)).trans (h.kd t ht)) (fun t ht => (h'.up t (by omega)).trans (h.up t ht)) (fun t ht e => (h'.w10 t (by omega) ((h.kd t ht).trans e)).trans (h.w10 t ht e))
theorem pX0.mm (h : pX0 N g s N' g' s') (h1 : la s2 16 = la s' 16) (h2 : la s2 9 = la s' 9) (h3 : la s2 10 = la s' 10 := by exact rfl) : pX0 N g s N' g' s2 := pX0.mk h.n h.oa h.r (fun t ht => by rw [h2]; exact h.kd t ht) (fun t ht => by rw [h1]; exact h.up t ht) (fun t ht e => by rw [h3]; exact h.w10 t ht e)
theorem pv.rf (h : ls s 45 = nI k) : pv k s s := ⟨h, fun _ _ => ⟨rfl, rfl, rfl⟩⟩
theorem pv.tr (h : pv k s s') (h' : pv k s' s2) : pv k s s2 := ⟨h'.1, fun i hi => ⟨(h'.2 i hi).1.trans (h.2 i hi).1, (h'.2 i hi).2.1.trans (h.2 i hi).2.1, (h'.2 i hi).2.2.trans (h.2 i hi).2.2⟩⟩
theorem pPl.pv (h : pPl s s') (h0 : ls s 45 = nI k) : pv k s s' := ⟨h.1.trans h0, fun i _ => ⟨by rw [h.2.1], by rw [h.2.2.1], by rw [h.2.2.2]⟩⟩
/-- something was piled above, and what was reached then is piled no more -/
theorem pv.dn (h : pv k s s') (h' : ∀ i, i < k → la s2 46 i = la s' 46 i ∧ la s2 47 i = la s' 47 i ∧ la s2 48 i = la s' 48 i) (h1 : ls s2 45 = nI k) : pv k s s2 := ⟨h1, fun i hi => ⟨(h' i hi).1.trans (h.2 i hi).1, (h' i hi).2.1.trans (h.2 i hi).2.1, (h' i hi).2.2.trans (h.2 i hi).2.2⟩⟩
theorem M_pile (h45 : ls s 45 = nI k) (hk : k < 100) : gX26_pile v v' s = some ((), mPl s k v v') := by
  unfold gX26_pile mPl
  rw [gl_x, h45, pgst (by omega) (by decide), gl_bs]
  show (xlet (ls s 45) _) = _
  rw [gl_x, h45, pgst (by omega) (by decide), gl_bs]
  show (xlet (ls s 45) _) = _
  rw [gl_x, h45, nl0, pgst (by omega) (by decide), gl_bs]
  show (xlet (ls s 45) _) = _
  rw [gl_x, h45, gl_x, pI_succ]
  rfl
/-- the pile changes -/
theorem pR.tmpP (h : pR c a d b N y g α s) (h1 : ∀ k, k ≠ 45 → ls s' k = ls s k) (h2 : ∀ k, ¬ (46 ≤ k ∧ k ≤ 48) → la s' k = la s k) (hp : ∀ u, c.N0 ≤ u → u < N → la s 9 u = nI 29 → pPd s u → pPd s' u ∨ zI α 44 1 (g.oa u) = la s 10 u) : pR c a d b N y g α s' := by
  refine pR.mk h.k h.x (mKp.mk (fun k hk => ?_) (fun k t k1 k2 ht => ?_) (fun k hk => ?_)) h.ax h.nx ?_ ?_ ?_ ?_ h.al h.a0 h.nl h.N0 h.Nb h.zcb h.zwb h.yN (pgO.mk (fun x x1 x2 => ?_) h.g.inj)
  · rw [h1 k (by omega)]; exact h.m.I k hk
  · rw [h2 k (by omega)]; exact h.m.A k t k1 k2 ht
  · rw [h2 k (by omega)]; exact h.m.B k hk
  · rw [h1 41 (by decide)]; exact h.am
  · intro z; rw [h1 44 (by decide)]; exact h.nm z
  · rw [h1 43 (by decide)]; exact h.bm
  · rw [h1 8 (by decide)]; exact h.Nm
  · have o := h.g.nd x x1 x2
    have r : ∀ k, 9 ≤ k → k ≤ 16 → la s' k = la s k := fun k k1 k2 => h2 k (by omega)
    refine nOk.mk o.lo o.hi o.kn o.fl o.kl ?_ ?_ ?_ ?_ o.ls o.nd (fun u hu => ?_) ?_ ?_ ?_
    · rw [r 9 (by decide) (by decide)]; exact o.kd
    · rw [r 9 (by decide) (by decide), r 10 (by decide) (by decide)]
      rcases o.vl with z | ⟨z1, z2, z3⟩
      · exact .inl z
      · rcases hp x x1 x2 z1 z3 with z | z
        · exact .inr ⟨z1, z2, z⟩
        · exact .inl z
    · rw [r 11 (by decide) (by decide)]; exact o.wd
    · rw [r 9 (by decide) (by decide), r 12 (by decide) (by decide)]; exact o.ex
    · rw [r 16 (by decide) (by decide)]; exact o.mem u hu
    · rw [r 13 (by decide) (by decide)]; exact o.hd
    · rw [r 14 (by decide) (by decide)]; exact o.lt
    · rw [r 15 (by decide) (by decide)]; exact o.nx
theorem mPl_46 : la (mPl s k v v') 46 k = v := by
  unfold mPl
  rw [la_us, la_ua, if_neg (by decide), la_ua, if_neg (by decide), la_ua, if_pos rfl, upd_same]
theorem mPl_47 : la (mPl s k v v') 47 k = v' := by
  unfold mPl
  rw [la_us, la_ua, if_neg (by decide), la_ua, if_pos rfl, upd_same]
theorem mPl_48 : la (mPl s k v v') 48 k = nI 0 := by
  unfold mPl
  rw [la_us, la_ua, if_pos rfl, upd_same]
theorem mPl_45 : ls (mPl s k v v') 45 = nI (k + 1) := rfl
theorem mPl_lo (h0 : ls s 45 = nI k) {i : Nat} (hi : i < k) : la (mPl s k v v') 46 i = la s 46 i ∧ la (mPl s k v v') 47 i = la s 47 i ∧ la (mPl s k v v') 48 i = la s 48 i := by
  unfold mPl
  refine ⟨?_, ?_, ?_⟩
  · rw [la_us, la_ua, if_neg (by decide), la_ua, if_neg (by decide), la_ua, if_pos rfl, upd_other (by omega)]
  · rw [la_us, la_ua, if_neg (by decide), la_ua, if_pos rfl, upd_other (by omega)]
  · rw [la_us, la_ua, if_pos rfl, upd_other (by omega)]
theorem mPl_la {j : Nat} (hj : ¬ (46 ≤ j ∧ j ≤ 48)) : la (mPl s k v v') j = la s j := by
  unfold mPl
  rw [la_us, la_ua, if_neg (by omega), la_ua, if_neg (by omega), la_ua, if_neg (by omega)]
theorem pPd.pl {x : Nat} (z : pPd s x) (h45 : ls s 45 = nI k) (hk : k < 100) : pPd (mPl s k v v') x := by
  obtain ⟨k', i, e1, e2, e3, e4, e5⟩ := z
  rw [h45, pI_inj (by omega) (by omega)] at e1
  have L := mPl_lo (v := v) (v' := v') h45 (i := i) (by omega)
  exact ⟨k + 1, i, rfl, by omega, by omega, by rw [L.1]; exact e4, by rw [L.2.1]; exact e5⟩
theorem pR.pl (h : pR c a d b N y g α s) (h45 : ls s 45 = nI k) (hk : k < 100) : pR c a d b N y g α (mPl s k v v') := h.tmpP (fun i hi => by
  show (if i = 45 then nI (k + 1) else ls s i) = _
  rw [if_neg hi]) (fun i hi => mPl_la hi) (fun _ _ _ _ z => .inl (z.pl h45 hk))
/-- what isn't a PERFORM's is piled no more -/
theorem pR.unp (h : pR c a d b N y g α s) (h45 : ls s 45 = nI (k + 1)) (hk : k < 100) (h46 : la s 46 k ≠ nI 39) : pR c a d b N y g α (us s 45 (nI k)) := h.tmpP (fun i hi => by rw [ls_us, if_neg hi]) (fun _ _ => rfl) (fun u _ _ _ z => by
  obtain ⟨k', i, e1, e2, e3, e4, e5⟩ := z
  rw [h45, pI_inj (by omega) (by omega)] at e1
  refine .inl ⟨k, i, rfl, ?_, by omega, e4, e5⟩
  have : i ≠ k := fun e => h46 (by rw [← e]; exact e4)
  omega)
theorem pE.pl (h : pE c wh w β s) : pE c wh w β (mPl s k v v') := h.tmp (fun i hi => by
  show (if i = 45 then nI (k + 1) else ls s i) = _
  rw [if_neg (by omega)]) (fun i hi => mPl_la (by omega))
/-! a node's value and flag change -/
theorem pR.nodeI {j i : Nat} (h : pR c a d b N y g α s) (h1 : c.N0 ≤ t) (h2 : t < N) (hj : (j = 1 ∧ i = 10) ∨ (j = 2 ∧ i = 12 ∧ la s 9 t ≠ nI 53)) : pR c a d b N y g (zwI α 44 j (g.oa t) v) (ua s i (upd (la s i) t v)) := by
  have lo := (h.g.nd t h1 h2).lo
  have hi := (h.g.nd t h1 h2).hi
  have hp := h.k.p
  have ep : (zwI α 44 j (g.oa t) v).2 c.p = α.2 c.p := zwI_ne (by omega)
  refine pR.mk h.k (h.x.nw h.k (Nat.le_refl _) (fun x hx => zwI_ne (by have : zn (zwI α 44 j (g.oa t) v) = zn α := rfl; omega))) (mKp.mk h.m.I (fun k x k1 k2 hx => ?_) (fun k hk => ?_)) ?_ ?_ h.am h.nm h.bm h.Nm h.al h.a0 h.nl h.N0 h.Nb h.zcb h.zwb h.yN (pgO.mk (fun x x1 x2 => ?_) h.g.inj)
  · rw [la_ua]
    split
    · rename_i e; subst e; rw [upd_other (by omega)]; exact h.m.A _ x k1 k2 hx
    · exact h.m.A k x k1 k2 hx
  · rw [la_ua, if_neg (by omega)]; exact h.m.B k hk
  · rw [zI_eq ep]; exact h.ax
  · rw [zI_eq ep]; exact h.nx
  · have o := h.g.nd x x1 x2
    have ot := h.g.nd t h1 h2
    have I : ∀ k, zI (zwI α 44 j (g.oa t) v) 44 k (g.oa x) = if k = j ∧ x = t then v else zI α 44 k (g.oa x) := fun k => by
      rw [zI_zwI]
      by_cases e : k = j ∧ x = t
      · rw [if_pos e, if_pos ⟨rfl, e.1, by rw [e.2]⟩]
      · rw [if_neg e, if_neg (fun z => e ⟨z.2.1, h.g.inj x t x1 x2 h1 h2 z.2.2⟩)]
    have M : ∀ k, la (ua s i (upd (la s i) t v)) k x = if k = i ∧ x = t then v else la s k x := fun k => by
      rw [la_ua]
      by_cases e : k = i
      · rw [if_pos e]
        by_cases e2 : x = t
        · rw [if_pos ⟨e, e2⟩, e2, upd_same]
        · rw [if_neg (fun z => e2 z.2), upd_other e2, e]
      · rw [if_neg e, if_neg (fun z => e z.1)]
    have r : ∀ k, ¬ (k = 10 ∨ k = 12) → la (ua s i (upd (la s i) t v)) k = la s k := fun k hk => by rw [la_ua, if_neg (by omega)]
    have hpd : ∀ x, pPd s x → pPd (ua s i (upd (la s i) t v)) x := fun x z => by
      obtain ⟨k, p, e1, e2, e3, e4, e5⟩ := z
      exact ⟨k, p, e1, e2, e3, by rw [la_ua, if_neg (by omega)]; exact e4, by rw [la_ua, if_neg (by omega)]; exact e5⟩
    refine nOk.mk o.lo o.hi ?_ ?_ ?_ ?_ ?_ ?_ ?_ ?_ o.nd (fun u hu => ?_) ?_ ?_ ?_
    · rw [zkd_zwI]; exact o.kn
    · rw [zA_zwI]; exact o.fl
    · rw [zkd_zwI]; exact o.kl
    · rw [I, if_neg (by omega), r 9 (by decide)]; exact o.kd
    · have vl := o.vl.imp id (fun z => (⟨z.1, z.2.1, hpd _ z.2.2⟩ : la s 9 x = nI 29 ∧ (la s 10 x = nI 1 ∧ c.lv = 1) ∧ pPd (ua s i (upd (la s i) t v)) x))
      rw [I, M, r 9 (by decide)]
      rcases hj with ⟨j1, j2⟩ | ⟨j1, j2, _⟩
      · by_cases e : x = t
        · rw [if_pos ⟨j1.symm, e⟩, if_pos ⟨j2.symm, e⟩]
          exact .inl rfl
        · rw [if_neg (fun z => e z.2), if_neg (fun z => e z.2)]; exact vl
      · rw [if_neg (by omega), if_neg (by omega)]; exact vl
    · rw [I, if_neg (by omega), r 11 (by decide)]; exact o.wd
    · rw [r 9 (by decide), I, M, zA_zwI]
      rcases hj with ⟨j1, j2⟩ | ⟨j1, j2, j3⟩
      · rw [if_neg (by omega), if_neg (by omega)]; exact o.ex
      · by_cases e : x = t
        · rw [if_pos ⟨j2.symm, e⟩, if_pos ⟨j1.symm, e⟩]
          exact .inr ⟨by rw [e]; exact j3, rfl⟩
        · rw [if_neg (fun z => e z.2), if_neg (fun z => e z.2)]; exact o.ex
    · rw [zL_zwI]; exact o.ls
    · rw [r 16 (by decide), zA_zwI]; exact o.mem u hu
    · rw [r 13 (by decide)]; exact o.hd
    · rw [r 14 (by decide)]; exact o.lt
    · rw [r 15 (by decide)]; exact o.nx
theorem pPl.nodeI {i : Nat} (hi : i = 10 ∨ i = 12) : pPl s (ua s i (upd (la s i) t v)) := ⟨rfl, by rw [la_ua, if_neg (by omega)], by rw [la_ua, if_neg (by omega)], by rw [la_ua, if_neg (by omega)]⟩
/-- a statement's end, perhaps with its word: X's flag, M's, and no longer piled -/
theorem pR.scope (h : pR c a d b N y g α s) (h1 : c.N0 ≤ t) (h2 : t < N) (hN : N ≤ 8000) (hk : la s 9 t ≠ nI 53) (hw : w < 1000) (h45 : ls s 45 = nI (k + 1)) (hk1 : k < 100) (h46 : la s 46 k ≠ nI 39) : ∃ a' β s', hX4_scopeEnd G (some c.p) (some (g.oa t)) (nI w) α = some ((), β) ∧ gX26_scope (nI t) (nI w) 0 s = some ((), us s' 45 (nI k)) ∧ pR c a' d b N y g β (us s' 45 (nI k)) ∧ a ≤ a' ∧ pPl s s' ∧ pX0 N g s N g (us s' 45 (nI k)) := by
  have kp := h.kp
  have key : ∀ {a : Nat} {α : zS} {s : zM} (e : Bool), pR c a d b N y g α s → la s 9 t ≠ nI 53 → ls s 45 = nI (k + 1) → la s 46 k ≠ nI 39 → hX4_scopeEnd_14 G (nI (b2n e)) (some (g.oa t)) α = some ((), zwI α 44 2 (g.oa t) (nI (b2n e))) ∧ gX26_scope_17 (nI t) (nI (b2n e)) s = some ((), us (ua s 12 (upd (la s 12) t (nI (b2n e)))) 45 (nI k)) ∧ pR c a d b N y g (zwI α 44 2 (g.oa t) (nI (b2n e))) (us (ua s 12 (upd (la s 12) t (nI (b2n e)))) 45 (nI k)) := by
    intro a α s e h hk h45 h46
    have kn := (h.g.nd t h1 h2).kn
    have h34 : ∀ x, gX26_scope_34 x (nI t) s = some ((), us (ua s 12 (upd (la s 12) t x)) 45 (nI k)) := fun x => by
      unfold gX26_scope_34
      rw [pgst (by omega) (by decide), gl_bs]
      show (xlet (ls s 45) _) = _
      rw [gl_x, h45, nl1, pI_sub (by omega), Nat.add_sub_cancel, gl_x]
    refine ⟨?_, ?_, (h.nodeI h1 h2 (.inr ⟨rfl, rfl, hk⟩)).unp h45 hk1 h46⟩
    · unfold hX4_scopeEnd_14
      rw [kpI kn, gl_bs]
    · unfold gX26_scope_17
      cases e
      · rw [if_pos (by exact bF), h34]; rfl
      · rw [if_neg (by exact bT), h34]; rfl
  rcases h.meets (G := G) (w := w) (by omega) with ⟨e, x1, m1, h3⟩ | ⟨e, x1, m1⟩
  · obtain ⟨z1, z2, z3⟩ := key true h3 hk h45 h46
    refine ⟨a + 1, _, ua (maS s a) 12 (upd (la (maS s a) 12) t (nI (b2n true))), ?_, ?_, z3, by omega, maS_pl.tr (pPl.nodeI (.inr rfl)), pX0.mk (Nat.le_refl _) (fun _ _ => rfl) (fun _ _ => rfl) (fun _ _ => rfl) (fun _ _ => rfl) (fun _ _ _ => rfl)⟩
    · unfold hX4_scopeEnd
      rw [if_pos (of_eq_true (kis kp (by decide))), x1, gl_bs, if_neg (by exact n1n)]
      exact z1
    · unfold gX26_scope
      rw [if_pos rfl, m1, gl_bs]
      exact z2
  · obtain ⟨z1, z2, z3⟩ := key false h hk h45 h46
    refine ⟨a, _, ua s 12 (upd (la s 12) t (nI (b2n false))), ?_, ?_, z3, by omega, pPl.nodeI (.inr rfl), pX0.mk (Nat.le_refl _) (fun _ _ => rfl) (fun _ _ => rfl) (fun _ _ => rfl) (fun _ _ => rfl) (fun _ _ _ => rfl)⟩
    · unfold hX4_scopeEnd
      rw [if_pos (of_eq_true (kis kp (by decide))), x1, gl_bs, if_pos (show (nI 0, α).1 = 0 from rfl)]
      exact z1
    · unfold gX26_scope
      rw [if_pos rfl, m1, gl_bs]
      exact z2
/-! the number of children -/
theorem M_kidl : ∀ {l : List Nat} {n F : Nat}, pCh (la s 15) l → (∀ u, u ∈ l → 0 < u ∧ u < 8000) → l.length < F → n + l.length < 100000 → gloop (fun (a : (Int32 × Int32)) s => gX26_childrenOf_9b a.1 a.2 s) F (nI n, nI (l.headD 0)) s = some (nI (n + l.length), s)
  | [], n, F, _, _, hF, _ => by
    obtain ⟨f, rfl⟩ : ∃ f, F = f + 1 := ⟨F - 1, by simp only [List.length_nil] at hF; omega⟩
    refine gl_done ?_
    unfold gX26_childrenOf_9b
    rw [if_pos (show (nI n, nI (([] : List Nat).headD 0)).2 ≤ 0 from Int32.le_refl _)]
    rfl
  | u :: l, n, F, h, hm, hF, hn => by
    rw [List.length_cons] at hF hn
    obtain ⟨f, rfl⟩ : ∃ f, F = f + 1 := ⟨F - 1, by omega⟩
    have hu := hm u (by simp)
    have e : la s 15 u = nI (l.headD 0) := by
      cases l with
      | nil => exact h
      | cons x l => exact h.1
    have h' : pCh (la s 15) l := by
      cases l with
      | nil => trivial
      | cons x l => exact h.2
    have R := M_kidl (l := l) (n := n + 1) (F := f) h' (fun x hx => hm x (List.mem_cons_of_mem _ hx)) (by omega) (by omega)
    rw [gl_step (a' := (nI (n + 1), nI (l.headD 0))) (s' := s)]
    · rw [R, List.length_cons, Nat.add_assoc, Nat.add_comm 1]
    · unfold gX26_childrenOf_9b
      show (if nI u ≤ 0 then _ else _) = _
      rw [if_neg (by rw [nl0, pI_le (by omega) (by decide)]; omega)]
      show ((gld s 15 8000 (nI u)).bind _) = _
      rw [pgld hu.2 (by decide), gl_bs, e]
      show some (Sum.inl (nI n + 1, nI (l.headD 0)), s) = _
      rw [pI_succ]
theorem M_kids (h13 : la s 13 t = nI (l.headD 0)) (hc : pCh (la s 15) l) (hm : ∀ u, u ∈ l → 0 < u ∧ u < 8000) (ht : t < 8000) (hl : l.length < 8000) : gX26_childrenOf (nI t) s = some (nI l.length, s) := by
  unfold gX26_childrenOf gX26_childrenOf_9
  rw [pgld ht (by decide), gl_bs, h13, nl0, M_kidl hc hm (by have : xLim = 1000000000 := rfl; omega) (by omega), Nat.zero_add]
theorem pR.kids (h : pR c a d b N 0 g α s) (h1 : c.N0 ≤ t) (h2 : t < N) (hN : N < 8000) : gX26_childrenOf (nI t) s = some (nI (g.ch t).length, s) ∧ zfA α (some (g.oa t)) 44 8 = some (some (g.oa t + 1)) ∧ zLsize α (some (g.oa t + 1)) = some (nI (g.ch t).length) := by
  have o := h.g.nd t h1 h2
  have ln := o.len
  have N1 := h.k.N1
  refine ⟨M_kids o.hd o.nx (fun u hu => by have := o.mem u hu; omega) (by omega) (by omega), by rw [kfA o.kn, o.fl], ?_⟩
  have e : (g.ch t).filter (fun u => decide (u ≠ 0)) = g.ch t := List.filter_eq_self.mpr fun u hu => by
    have := (o.mem u hu).1
    exact decide_eq_true (by omega)
  show (if zkd α (g.oa t + 1) = 3 then _ else _) = _
  rw [if_pos o.kl, o.ls, e, List.length_map]
end PAX
