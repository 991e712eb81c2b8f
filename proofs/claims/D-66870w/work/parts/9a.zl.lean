/-! THE PURE LAYER: the parser: the nodes that live, both sides, across clauses. -/
def wOk (L : Nat → Prop) (p : Nat) (g : pG) (α : zS) (s : zM) (t : Nat) : Prop := (p < g.oa t) ∧ (g.oa t + 2 < zn α) ∧ (zkd α (g.oa t) = 45) ∧ (zA α 44 8 (g.oa t) = some (g.oa t + 1)) ∧ (zkd α (g.oa t + 1) = 3) ∧ (zI α 44 0 (g.oa t) = la s 9 t) ∧ (zI α 44 1 (g.oa t) = la s 10 t) ∧ (zI α 44 5 (g.oa t) = la s 11 t) ∧ ((la s 9 t = nI 53 ∧ ∃ u, L u ∧ la s 12 t = nI u ∧ zA α 44 7 (g.oa t) = some (g.oa u)) ∨ (la s 9 t ≠ nI 53 ∧ zI α 44 2 (g.oa t) = la s 12 t)) ∧ (zL α (g.oa t + 1) = (g.ch t).map fun u => some (g.oa u)) ∧ ((g.ch t).Nodup) ∧ (∀ u, u ∈ g.ch t → L u ∧ la s 16 u = nI t ∧ zA α 44 6 (g.oa u) = some (g.oa t) ∧ g.r u < g.r t) ∧ (la s 13 t = nI ((g.ch t).headD 0)) ∧ (la s 14 t = nI ((g.ch t).getLastD 0)) ∧ (pCh (la s 15) (g.ch t))
theorem wOk.lo {L : Nat → Prop} {p : Nat} {g : pG} {α : zS} {s : zM} {t : Nat} (h : wOk L p g α s t) : p < g.oa t := by
  unfold wOk at h
  exact h.1
theorem wOk.hi {L : Nat → Prop} {p : Nat} {g : pG} {α : zS} {s : zM} {t : Nat} (h : wOk L p g α s t) : g.oa t + 2 < zn α := by
  unfold wOk at h
  exact h.2.1
theorem wOk.kn {L : Nat → Prop} {p : Nat} {g : pG} {α : zS} {s : zM} {t : Nat} (h : wOk L p g α s t) : zkd α (g.oa t) = 45 := by
  unfold wOk at h
  exact h.2.2.1
theorem wOk.fl {L : Nat → Prop} {p : Nat} {g : pG} {α : zS} {s : zM} {t : Nat} (h : wOk L p g α s t) : zA α 44 8 (g.oa t) = some (g.oa t + 1) := by
  unfold wOk at h
  exact h.2.2.2.1
theorem wOk.kl {L : Nat → Prop} {p : Nat} {g : pG} {α : zS} {s : zM} {t : Nat} (h : wOk L p g α s t) : zkd α (g.oa t + 1) = 3 := by
  unfold wOk at h
  exact h.2.2.2.2.1
theorem wOk.kd {L : Nat → Prop} {p : Nat} {g : pG} {α : zS} {s : zM} {t : Nat} (h : wOk L p g α s t) : zI α 44 0 (g.oa t) = la s 9 t := by
  unfold wOk at h
  exact h.2.2.2.2.2.1
theorem wOk.vl {L : Nat → Prop} {p : Nat} {g : pG} {α : zS} {s : zM} {t : Nat} (h : wOk L p g α s t) : zI α 44 1 (g.oa t) = la s 10 t := by
  unfold wOk at h
  exact h.2.2.2.2.2.2.1
theorem wOk.wd {L : Nat → Prop} {p : Nat} {g : pG} {α : zS} {s : zM} {t : Nat} (h : wOk L p g α s t) : zI α 44 5 (g.oa t) = la s 11 t := by
  unfold wOk at h
  exact h.2.2.2.2.2.2.2.1
theorem wOk.ex {L : Nat → Prop} {p : Nat} {g : pG} {α : zS} {s : zM} {t : Nat} (h : wOk L p g α s t) : (la s 9 t = nI 53 ∧ ∃ u, L u ∧ la s 12 t = nI u ∧ zA α 44 7 (g.oa t) = some (g.oa u)) ∨ (la s 9 t ≠ nI 53 ∧ zI α 44 2 (g.oa t) = la s 12 t) := by
  unfold wOk at h
  exact h.2.2.2.2.2.2.2.2.1
theorem wOk.ls {L : Nat → Prop} {p : Nat} {g : pG} {α : zS} {s : zM} {t : Nat} (h : wOk L p g α s t) : zL α (g.oa t + 1) = (g.ch t).map fun u => some (g.oa u) := by
  unfold wOk at h
  exact h.2.2.2.2.2.2.2.2.2.1
theorem wOk.nd {L : Nat → Prop} {p : Nat} {g : pG} {α : zS} {s : zM} {t : Nat} (h : wOk L p g α s t) : (g.ch t).Nodup := by
  unfold wOk at h
  exact h.2.2.2.2.2.2.2.2.2.2.1
theorem wOk.mem {L : Nat → Prop} {p : Nat} {g : pG} {α : zS} {s : zM} {t : Nat} (h : wOk L p g α s t) : ∀ u, u ∈ g.ch t → L u ∧ la s 16 u = nI t ∧ zA α 44 6 (g.oa u) = some (g.oa t) ∧ g.r u < g.r t := by
  unfold wOk at h
  exact h.2.2.2.2.2.2.2.2.2.2.2.1
theorem wOk.hd {L : Nat → Prop} {p : Nat} {g : pG} {α : zS} {s : zM} {t : Nat} (h : wOk L p g α s t) : la s 13 t = nI ((g.ch t).headD 0) := by
  unfold wOk at h
  exact h.2.2.2.2.2.2.2.2.2.2.2.2.1
theorem wOk.lt {L : Nat → Prop} {p : Nat} {g : pG} {α : zS} {s : zM} {t : Nat} (h : wOk L p g α s t) : la s 14 t = nI ((g.ch t).getLastD 0) := by
  unfold wOk at h
  exact h.2.2.2.2.2.2.2.2.2.2.2.2.2.1
theorem wOk.nx {L : Nat → Prop} {p : Nat} {g : pG} {α : zS} {s : zM} {t : Nat} (h : wOk L p g α s t) : pCh (la s 15) (g.ch t) := by
  unfold wOk at h
  exact h.2.2.2.2.2.2.2.2.2.2.2.2.2.2
theorem wOk.mk {L : Nat → Prop} {p : Nat} {g : pG} {α : zS} {s : zM} {t : Nat} (x0 : p < g.oa t) (x1 : g.oa t + 2 < zn α) (x2 : zkd α (g.oa t) = 45) (x3 : zA α 44 8 (g.oa t) = some (g.oa t + 1)) (x4 : zkd α (g.oa t + 1) = 3) (x5 : zI α 44 0 (g.oa t) = la s 9 t) (x6 : zI α 44 1 (g.oa t) = la s 10 t) (x7 : zI α 44 5 (g.oa t) = la s 11 t) (x8 : (la s 9 t = nI 53 ∧ ∃ u, L u ∧ la s 12 t = nI u ∧ zA α 44 7 (g.oa t) = some (g.oa u)) ∨ (la s 9 t ≠ nI 53 ∧ zI α 44 2 (g.oa t) = la s 12 t)) (x9 : zL α (g.oa t + 1) = (g.ch t).map fun u => some (g.oa u)) (x10 : (g.ch t).Nodup) (x11 : ∀ u, u ∈ g.ch t → L u ∧ la s 16 u = nI t ∧ zA α 44 6 (g.oa u) = some (g.oa t) ∧ g.r u < g.r t) (x12 : la s 13 t = nI ((g.ch t).headD 0)) (x13 : la s 14 t = nI ((g.ch t).getLastD 0)) (x14 : pCh (la s 15) (g.ch t)) : wOk L p g α s t := by
  unfold wOk
  exact ⟨x0, x1, x2, x3, x4, x5, x6, x7, x8, x9, x10, x11, x12, x13, x14⟩
/-- the nodes of L live; M has N numbers -/
def gW (L : Nat → Prop) (N p : Nat) (g : pG) (α : zS) (s : zM) : Prop := (∀ t, L t → 1 ≤ t ∧ t < N) ∧ (∀ t, L t → wOk L p g α s t) ∧ (∀ t u, L t → L u → g.oa t = g.oa u → t = u)
theorem gW.bd {L : Nat → Prop} {N p : Nat} {g : pG} {α : zS} {s : zM} (h : gW L N p g α s) : ∀ t, L t → 1 ≤ t ∧ t < N := by
  unfold gW at h
  exact h.1
theorem gW.nd {L : Nat → Prop} {N p : Nat} {g : pG} {α : zS} {s : zM} (h : gW L N p g α s) : ∀ t, L t → wOk L p g α s t := by
  unfold gW at h
  exact h.2.1
theorem gW.inj {L : Nat → Prop} {N p : Nat} {g : pG} {α : zS} {s : zM} (h : gW L N p g α s) : ∀ t u, L t → L u → g.oa t = g.oa u → t = u := by
  unfold gW at h
  exact h.2.2
theorem gW.mk {L : Nat → Prop} {N p : Nat} {g : pG} {α : zS} {s : zM} (x0 : ∀ t, L t → 1 ≤ t ∧ t < N) (x1 : ∀ t, L t → wOk L p g α s t) (x2 : ∀ t u, L t → L u → g.oa t = g.oa u → t = u) : gW L N p g α s := by
  unfold gW
  exact ⟨x0, x1, x2⟩
/-- M's numbers below N0 as they were, those behind as in the clause -/
def pG.mrg (g g' : pG) (N0 : Nat) : pG := (fun t => if t < N0 then g.oa t else g'.oa t, fun t => if t < N0 then g.ch t else g'.ch t, fun t => if t < N0 then g.r t else g'.r t)
theorem mrg_o {g g' : pG} {N0 t : Nat} (h : t < N0) : (g.mrg g' N0).oa t = g.oa t := if_pos h
theorem mrg_n {g g' : pG} {N0 t : Nat} (h : N0 ≤ t) : (g.mrg g' N0).oa t = g'.oa t := if_neg (by omega)
theorem mrg_co {g g' : pG} {N0 t : Nat} (h : t < N0) : (g.mrg g' N0).ch t = g.ch t := if_pos h
theorem mrg_cn {g g' : pG} {N0 t : Nat} (h : N0 ≤ t) : (g.mrg g' N0).ch t = g'.ch t := if_neg (by omega)
theorem mrg_ro {g g' : pG} {N0 t : Nat} (h : t < N0) : (g.mrg g' N0).r t = g.r t := if_pos h
theorem mrg_rn {g g' : pG} {N0 t : Nat} (h : N0 ≤ t) : (g.mrg g' N0).r t = g'.r t := if_neg (by omega)
def pLn (L : Nat → Prop) (N0 N : Nat) (t : Nat) : Prop := L t ∨ (N0 ≤ t ∧ t < N)
section PAZL
variable {L : Nat → Prop} {c : pC} {G : xQ} {α β : zS} {s s' : zM} {N N' p t to u x : Nat} {g g' : pG} {v : Int32}
/-- nothing that is told of living nodes changes -/
theorem gW.fr (h : gW L N p g α s) (hN : N ≤ N') (hm : ∀ k t, 9 ≤ k → k ≤ 16 → t < N → la s' k t = la s k t) (hx : ∀ t, L t → β.2 (g.oa t) = α.2 (g.oa t) ∧ β.2 (g.oa t + 1) = α.2 (g.oa t + 1)) (hn : zn α ≤ zn β) : gW L N' p g β s' := by
  refine gW.mk (fun t ht => ?_) (fun t ht => ?_) h.inj
  · have := h.bd t ht
    omega
  have o := h.nd t ht
  have e := hx t ht
  have b := h.bd t ht
  have m := fun k h3 h4 => hm k t h3 h4 b.2
  refine wOk.mk o.lo (by have := o.hi; omega) ?_ ?_ ?_ ?_ ?_ ?_ ?_ ?_ o.nd ?_ ?_ ?_ ?_
  · rw [zkd_eq e.1]; exact o.kn
  · rw [zA_eq e.1]; exact o.fl
  · rw [zkd_eq e.2]; exact o.kl
  · rw [zI_eq e.1, m 9 (by decide) (by decide)]; exact o.kd
  · rw [zI_eq e.1, m 10 (by decide) (by decide)]; exact o.vl
  · rw [zI_eq e.1, m 11 (by decide) (by decide)]; exact o.wd
  · rw [zI_eq e.1, zA_eq e.1, m 9 (by decide) (by decide), m 12 (by decide) (by decide)]; exact o.ex
  · rw [zL_eq e.2]; exact o.ls
  · intro u hu
    obtain ⟨u1, u2, u3, u4⟩ := o.mem u hu
    refine ⟨u1, ?_, ?_, u4⟩
    · rw [hm 16 u (by decide) (by decide) (h.bd u u1).2]; exact u2
    · rw [zA_eq (hx u u1).1]; exact u3
  · rw [m 13 (by decide) (by decide)]; exact o.hd
  · rw [m 14 (by decide) (by decide)]; exact o.lt
  · exact pCh_fr o.nx fun u hu => hm 15 u (by decide) (by decide) (h.bd u (o.mem u hu).1).2
/-- a loose node lies below none -/
theorem gW.loose (h : gW L N p g α s) (hN : N ≤ 8000) (hu : la s 16 u = nI 0) (ht : L t) : u ∉ g.ch t := fun hm => by
  have e := ((h.nd t ht).mem u hm).2.1
  have := h.bd t ht
  rw [hu, pI_inj (by decide) (by omega)] at e
  omega
theorem wOk.len (h : wOk L p g α s t) (hb : ∀ t, L t → 1 ≤ t ∧ t < N) : (g.ch t).length ≤ N := nodup_len h.nd fun u hu => (hb u (h.mem u hu).1).2
/-- both sides: node t, loose, is laid below node to -/
theorem gW.add (h : gW L N p g α s) (hN : N ≤ 8000) (h1 : L to) (h3 : L t) (hr : g.r t < g.r to) (h0 : la s 16 t = nI 0) (hm : mAt s to (g.ch to) t s') (hx : xAt α (g.oa to) (g.oa t) β) : gW L N p (g.add to t) β s' := by
  have ne : t ≠ to := fun z => by rw [z] at hr; omega
  have hl : ∀ w, L w → t ∉ g.ch w := fun w w1 => h.loose hN h0 w1
  have kdl : ∀ w, L w → zkd α (g.oa w) = 45 ∧ zkd α (g.oa w + 1) = 3 := fun w w1 => ⟨(h.nd w w1).kn, (h.nd w w1).kl⟩
  have X1 : ∀ w, L w → zkd β (g.oa w) = 45 ∧ zA β 44 8 (g.oa w) = some (g.oa w + 1) ∧ zkd β (g.oa w + 1) = 3 ∧ (∀ k, zI β 44 k (g.oa w) = zI α 44 k (g.oa w)) ∧ zA β 44 7 (g.oa w) = zA α 44 7 (g.oa w) ∧ (w ≠ t → zA β 44 6 (g.oa w) = zA α 44 6 (g.oa w)) ∧ zL β (g.oa w + 1) = (if w = to then zL α (g.oa w + 1) ++ [some (g.oa t)] else zL α (g.oa w + 1)) := by
    intro w w1
    have o := h.nd w w1
    have n1 : g.oa w ≠ g.oa to + 1 := fun z => by have := (kdl to h1).2; rw [← z, o.kn] at this; omega
    have n2 : g.oa w + 1 ≠ g.oa t := fun z => by have := (kdl t h3).1; rw [← z, o.kl] at this; omega
    have n3 : w ≠ t → g.oa w ≠ g.oa t := fun z e => z (h.inj w t w1 h3 e)
    refine ⟨by rw [hx.kd]; exact o.kn, ?_, by rw [hx.kd]; exact o.kl, ?_, ?_, ?_, ?_⟩
    · by_cases e : w = t
      · rw [e, hx.A 44 8 (by decide), ← e]; exact o.fl
      · rw [zA_eq (hx.fr _ n1 (n3 e))]; exact o.fl
    · intro k
      by_cases e : w = t
      · rw [e, hx.I]
      · rw [zI_eq (hx.fr _ n1 (n3 e))]
    · by_cases e : w = t
      · rw [e, hx.A 44 7 (by decide)]
      · rw [zA_eq (hx.fr _ n1 (n3 e))]
    · intro e
      rw [zA_eq (hx.fr _ n1 (n3 e))]
    · by_cases e : w = to
      · rw [if_pos e, e]; exact hx.ls
      · rw [if_neg e]
        exact hx.L _ (fun z => e (h.inj w to w1 h1 (by omega)))
  have up6 : zA β 44 6 (g.oa t) = some (g.oa to) := hx.up
  have hn : zn α ≤ zn β := hx.n
  refine gW.mk h.bd (fun w w1 => ?_) h.inj
  have o := h.nd w w1
  obtain ⟨x1, x2, x3, x4, x5, x6, x7⟩ := X1 w w1
  refine wOk.mk o.lo (by have := o.hi; show g.oa w + 2 < _; omega) x1 x2 x3 ?_ ?_ ?_ ?_ ?_ ?_ ?_ ?_ ?_ ?_
  · show zI β 44 0 (g.oa w) = _
    rw [x4, hm.r9 9 (by decide) (by decide)]; exact o.kd
  · show zI β 44 1 (g.oa w) = _
    rw [x4, hm.r9 10 (by decide) (by decide)]; exact o.vl
  · show zI β 44 5 (g.oa w) = _
    rw [x4, hm.r9 11 (by decide) (by decide)]; exact o.wd
  · show (_ ∧ ∃ u, _ ∧ _ ∧ zA β 44 7 (g.oa w) = _) ∨ (_ ∧ zI β 44 2 (g.oa w) = _)
    rw [x4, x5, hm.r9 9 (by decide) (by decide), hm.r9 12 (by decide) (by decide)]; exact o.ex
  · rw [add_oa, x7, add_ch]
    by_cases e : w = to
    · subst e
      rw [if_pos rfl, if_pos rfl, o.ls, List.map_append]
      rfl
    · rw [if_neg e, if_neg e]; exact o.ls
  · rw [add_ch]
    split
    · rw [List.nodup_append]
      refine ⟨(h.nd to h1).nd, by simp, fun a ha b hb => ?_⟩
      rw [List.mem_singleton] at hb
      rw [hb]
      exact fun z => hl to h1 (z ▸ ha)
    · exact o.nd
  · have key : ∀ u, u ∈ g.ch w → L u ∧ la s' 16 u = nI w ∧ zA β 44 6 (g.oa u) = some (g.oa w) ∧ g.r u < g.r w := fun u hu => by
      obtain ⟨u1, u3, u4, u5⟩ := o.mem u hu
      have nt : u ≠ t := fun z => hl w w1 (z ▸ hu)
      refine ⟨u1, ?_, ?_, u5⟩
      · rw [hm.r16, upd_other nt]; exact u3
      · rw [(X1 u u1).2.2.2.2.2.1 nt]; exact u4
    intro u hu
    rw [add_ch] at hu
    by_cases e : w = to
    · rw [if_pos e, List.mem_append, List.mem_singleton] at hu
      rcases hu with hu | hu
      · exact key u (e ▸ hu)
      · rw [hu]
        exact ⟨h3, by rw [hm.r16, upd_same, e], by rw [add_oa, add_oa, e]; exact up6, by rw [add_r, add_r, e]; exact hr⟩
    · rw [if_neg e] at hu
      exact key u hu
  · rw [add_ch, hm.r13]
    by_cases e : w = to
    · subst e
      rw [if_pos rfl]
      by_cases el : g.ch w = []
      · rw [if_pos el, upd_same, el]; rfl
      · rw [if_neg el, head_add el]; exact o.hd
    · rw [if_neg e]
      split
      · rw [upd_other e]; exact o.hd
      · exact o.hd
  · rw [add_ch, hm.r14]
    by_cases e : w = to
    · rw [if_pos e, e, upd_same, last_add]
    · rw [if_neg e, upd_other e]; exact o.lt
  · have ot := h.nd to h1
    have r15 : ∀ u, u ≠ t → (g.ch to ≠ [] → u ≠ (g.ch to).getLastD 0) → la s' 15 u = la s 15 u := fun u n1 n2 => by
      rw [hm.r15]
      split
      · rw [upd_other n1]
      · rename_i z
        rw [upd_other (n2 z), upd_other n1]
    rw [add_ch]
    by_cases e : w = to
    · subst e
      rw [if_pos rfl]
      by_cases el : g.ch w = []
      · rw [el]
        show la s' 15 t = nI 0
        rw [hm.r15, if_pos el, upd_same]
      · have lm := last_mem el
        have lt : (g.ch w).getLastD 0 ≠ t := fun z => hl w w1 (z ▸ lm)
        refine pCh_add o.nx el o.nd ?_ ?_ ?_
        · rw [hm.r15, if_neg el, upd_same]
        · rw [hm.r15, if_neg el, upd_other (fun z => lt z.symm), upd_same]
        · exact fun u hu hne => r15 u (fun z => hl w w1 (z ▸ hu)) (fun _ => hne)
    · rw [if_neg e]
      refine pCh_fr o.nx fun u hu => r15 u (fun z => hl w w1 (z ▸ hu)) (fun el z => e ?_)
      have lm := last_mem el
      have p1 := (ot.mem _ lm).2.1
      have p2 := (o.mem u hu).2.1
      have b1 := h.bd w w1
      have b2 := h.bd to h1
      rw [z, p1, pI_inj (by omega) (by omega)] at p2
      exact p2.symm
/-- the steps themselves -/
theorem gW.addB (h : gW L N p g α s) (hN : N ≤ 8000) (h1 : L to) (h3 : L t) (hr : g.r t < g.r to) (h0 : la s 16 t = nI 0) : ∃ β, hX43_add G (some (g.oa to)) (some (g.oa t)) α = some (some (g.oa t), β) ∧ gX26_attach (nI to) (nI t) s = some ((), mAtS s to (g.ch to) t) ∧ gW L N p (g.add to t) β (mAtS s to (g.ch to) t) ∧ xAt α (g.oa to) (g.oa t) β ∧ zn β ≤ zn α + 1 ∧ zc β = zc α + 1 ∧ zw β = zw α + 7 := by
  have o := h.nd to h1
  have o' := h.nd t h3
  have b1 := h.bd to h1
  have b3 := h.bd t h3
  obtain ⟨β, x1, x2, x3, x4, x5⟩ := X_addC (G := G) o.kn o.fl o.kl o'.kn (by rw [o.ls, List.length_map]; have := o.len h.bd; omega)
  have M : gX26_attach (nI to) (nI t) s = some ((), mAtS s to (g.ch to) t) := M_att (by
    by_cases e : g.ch to = []
    · exact .inl e
    · have m1 := h.bd _ (o.mem _ (last_mem e)).1
      have m2 := h.bd _ (o.mem ((g.ch to).headD 0) (by cases h : g.ch to with
        | nil => exact absurd h e
        | cons p l => simp)).1
      exact .inr ⟨e, by omega, by omega, by omega⟩) o.hd o.lt (by omega) (by omega)
  exact ⟨β, x1, M, h.add hN h1 h3 hr h0 mAtS_at x2, x2, x3, x4, x5⟩
/-- a clause's nodes are added to those that live -/
theorem gW.mrg (h : gW L c.N0 p g c.a0 c.s0) (h' : pgO c N g' β s' 0) (hN0 : c.N0 ≤ N) (hx : xKp c β) (hm : mKp c s') (hp : p < zn c.a0) (hcp : c.p ≤ p) (hN1 : 1 ≤ c.N0) (hv : c.lv = 1 → ls s' 45 = nI 0) : gW (pLn L c.N0 N) N p (g.mrg g' c.N0) β s' := by
  have e0 : ∀ t, L t → (g.mrg g' c.N0).oa t = g.oa t ∧ (g.mrg g' c.N0).ch t = g.ch t ∧ (g.mrg g' c.N0).r t = g.r t := fun t ht => by
    have := (h.bd t ht).2
    exact ⟨mrg_o this, mrg_co this, mrg_ro this⟩
  have e1 : ∀ t, c.N0 ≤ t → (g.mrg g' c.N0).oa t = g'.oa t ∧ (g.mrg g' c.N0).ch t = g'.ch t ∧ (g.mrg g' c.N0).r t = g'.r t := fun t ht => ⟨mrg_n ht, mrg_cn ht, mrg_rn ht⟩
  have old : ∀ t, L t → β.2 (g.oa t) = c.a0.2 (g.oa t) ∧ β.2 (g.oa t + 1) = c.a0.2 (g.oa t + 1) := fun t ht => by
    have lo := (h.nd t ht).lo
    have hi := (h.nd t ht).hi
    exact ⟨hx.fr _ (.inl (by omega)) (by omega), hx.fr _ (.inl (by omega)) (by omega)⟩
  have hW : gW L N p g β s' := h.fr hN0 (fun k t k1 k2 ht => hm.A k t k1 k2 ht) old hx.n
  refine gW.mk (fun t ht => ?_) (fun t ht => ?_) (fun t u ht hu e => ?_)
  · rcases ht with ht | ht
    · exact hW.bd t ht
    · omega
  · rcases ht with ht | ⟨t1, t2⟩
    · have o := hW.nd t ht
      obtain ⟨q1, q2, q3⟩ := e0 t ht
      refine wOk.mk (by rw [q1]; exact o.lo) (by rw [q1]; exact o.hi) (by rw [q1]; exact o.kn) (by rw [q1]; exact o.fl) (by rw [q1]; exact o.kl) (by rw [q1]; exact o.kd) (by rw [q1]; exact o.vl) (by rw [q1]; exact o.wd) ?_ ?_ (by rw [q2]; exact o.nd) ?_ (by rw [q2]; exact o.hd) (by rw [q2]; exact o.lt) (by rw [q2]; exact o.nx)
      · rw [q1]
        rcases o.ex with ⟨z1, u, z2, z3, z4⟩ | z
        · exact .inl ⟨z1, u, .inl z2, z3, by rw [(e0 u z2).1]; exact z4⟩
        · exact .inr z
      · rw [q1, q2, o.ls]
        exact List.map_congr_left fun u hu => by rw [(e0 u (o.mem u hu).1).1]
      · rw [q1, q2, q3]
        intro u hu
        obtain ⟨u1, u2, u3, u4⟩ := o.mem u hu
        obtain ⟨r1, r2, r3⟩ := e0 u u1
        exact ⟨.inl u1, u2, by rw [r1]; exact u3, by rw [r3]; exact u4⟩
    · have o := h'.nd t t1 t2
      obtain ⟨q1, q2, q3⟩ := e1 t t1
      refine wOk.mk (by rw [q1]; have := o.lo; omega) (by rw [q1]; exact o.hi) (by rw [q1]; exact o.kn) (by rw [q1]; exact o.fl) (by rw [q1]; exact o.kl) (by rw [q1]; exact o.kd) ?_ (by rw [q1]; exact o.wd) ?_ ?_ (by rw [q2]; exact o.nd) ?_ (by rw [q2]; exact o.hd) (by rw [q2]; exact o.lt) (by rw [q2]; exact o.nx)
      · rw [q1]
        refine o.vl.resolve_right (fun z => ?_)
        obtain ⟨k, i, y1, y2, y3, _⟩ := z.2.2
        rw [hv z.2.1.2, pI_inj (by decide) (by omega)] at y1
        omega
      · rw [q1]
        rcases o.ex with ⟨z1, u, z2, z3, z4, z5⟩ | z
        · exact .inl ⟨z1, u, .inr ⟨z2, z3⟩, z4, by rw [(e1 u z2).1]; exact z5⟩
        · exact .inr z
      · rw [q1, q2, o.ls]
        have hf : (g'.ch t).filter (fun u => decide (u ≠ 0)) = g'.ch t := List.filter_eq_self.mpr fun u hu => by
          have := (o.mem u hu).1
          exact decide_eq_true (by omega)
        rw [hf]
        exact List.map_congr_left fun u hu => by rw [(e1 u (o.mem u hu).1).1]
      · rw [q1, q2, q3]
        intro u hu
        obtain ⟨u1, u2, u3, u4, u5⟩ := o.mem u hu
        obtain ⟨r1, r2, r3⟩ := e1 u u1
        exact ⟨.inr ⟨u1, u2⟩, u3, by rw [r1]; exact u4 (by omega), by rw [r3]; exact u5⟩
  · rcases ht with ht | ⟨t1, t2⟩
    · rcases hu with hu | ⟨u1, u2⟩
      · rw [(e0 t ht).1, (e0 u hu).1] at e
        exact h.inj t u ht hu e
      · rw [(e0 t ht).1, (e1 u u1).1] at e
        have := (h.nd t ht).hi
        have := (h'.nd u u1 u2).lo
        omega
    · rcases hu with hu | ⟨u1, u2⟩
      · rw [(e1 t t1).1, (e0 u hu).1] at e
        have := (h.nd u hu).hi
        have := (h'.nd t t1 t2).lo
        omega
      · rw [(e1 t t1).1, (e1 u u1).1] at e
        exact h'.inj t u t1 t2 u1 u2 e
end PAZL
