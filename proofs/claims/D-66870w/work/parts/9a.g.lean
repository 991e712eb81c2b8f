/-! THE PURE LAYER: the parser: nodes that X makes ahead of M. -/
/-- X's node at q that M doesn't know yet; what lies below it: cells l -/
def pxL (c : pC) (α : zS) (q : Nat) (kv : Int32) (v : Int32) (v' : Int32) (l : List Nat) : Prop := (zn c.a0 ≤ q) ∧ (q + 2 < zn α) ∧ (zkd α q = 45) ∧ (zA α 44 8 q = some (q + 1)) ∧ (zkd α (q + 1) = 3) ∧ (zI α 44 0 q = kv) ∧ (zI α 44 1 q = v) ∧ (zI α 44 5 q = v') ∧ (zI α 44 2 q = nI 0) ∧ (zL α (q + 1) = l.map some) ∧ (∀ w, w ∈ l → w < zn α ∧ zkd α w = 45 ∧ zA α 44 6 w = some q)
theorem pxL.lo {c : pC} {α : zS} {q : Nat} {kv : Int32} {v : Int32} {v' : Int32} {l : List Nat} (h : pxL c α q kv v v' l) : zn c.a0 ≤ q := by
  unfold pxL at h
  exact h.1
theorem pxL.hi {c : pC} {α : zS} {q : Nat} {kv : Int32} {v : Int32} {v' : Int32} {l : List Nat} (h : pxL c α q kv v v' l) : q + 2 < zn α := by
  unfold pxL at h
  exact h.2.1
theorem pxL.kn {c : pC} {α : zS} {q : Nat} {kv : Int32} {v : Int32} {v' : Int32} {l : List Nat} (h : pxL c α q kv v v' l) : zkd α q = 45 := by
  unfold pxL at h
  exact h.2.2.1
theorem pxL.fl {c : pC} {α : zS} {q : Nat} {kv : Int32} {v : Int32} {v' : Int32} {l : List Nat} (h : pxL c α q kv v v' l) : zA α 44 8 q = some (q + 1) := by
  unfold pxL at h
  exact h.2.2.2.1
theorem pxL.kl {c : pC} {α : zS} {q : Nat} {kv : Int32} {v : Int32} {v' : Int32} {l : List Nat} (h : pxL c α q kv v v' l) : zkd α (q + 1) = 3 := by
  unfold pxL at h
  exact h.2.2.2.2.1
theorem pxL.kd {c : pC} {α : zS} {q : Nat} {kv : Int32} {v : Int32} {v' : Int32} {l : List Nat} (h : pxL c α q kv v v' l) : zI α 44 0 q = kv := by
  unfold pxL at h
  exact h.2.2.2.2.2.1
theorem pxL.vl {c : pC} {α : zS} {q : Nat} {kv : Int32} {v : Int32} {v' : Int32} {l : List Nat} (h : pxL c α q kv v v' l) : zI α 44 1 q = v := by
  unfold pxL at h
  exact h.2.2.2.2.2.2.1
theorem pxL.wd {c : pC} {α : zS} {q : Nat} {kv : Int32} {v : Int32} {v' : Int32} {l : List Nat} (h : pxL c α q kv v v' l) : zI α 44 5 q = v' := by
  unfold pxL at h
  exact h.2.2.2.2.2.2.2.1
theorem pxL.fg {c : pC} {α : zS} {q : Nat} {kv : Int32} {v : Int32} {v' : Int32} {l : List Nat} (h : pxL c α q kv v v' l) : zI α 44 2 q = nI 0 := by
  unfold pxL at h
  exact h.2.2.2.2.2.2.2.2.1
theorem pxL.ls {c : pC} {α : zS} {q : Nat} {kv : Int32} {v : Int32} {v' : Int32} {l : List Nat} (h : pxL c α q kv v v' l) : zL α (q + 1) = l.map some := by
  unfold pxL at h
  exact h.2.2.2.2.2.2.2.2.2.1
theorem pxL.up {c : pC} {α : zS} {q : Nat} {kv : Int32} {v : Int32} {v' : Int32} {l : List Nat} (h : pxL c α q kv v v' l) : ∀ w, w ∈ l → w < zn α ∧ zkd α w = 45 ∧ zA α 44 6 w = some q := by
  unfold pxL at h
  exact h.2.2.2.2.2.2.2.2.2.2
theorem pxL.mk {c : pC} {α : zS} {q : Nat} {kv : Int32} {v : Int32} {v' : Int32} {l : List Nat} (x0 : zn c.a0 ≤ q) (x1 : q + 2 < zn α) (x2 : zkd α q = 45) (x3 : zA α 44 8 q = some (q + 1)) (x4 : zkd α (q + 1) = 3) (x5 : zI α 44 0 q = kv) (x6 : zI α 44 1 q = v) (x7 : zI α 44 5 q = v') (x8 : zI α 44 2 q = nI 0) (x9 : zL α (q + 1) = l.map some) (x10 : ∀ w, w ∈ l → w < zn α ∧ zkd α w = 45 ∧ zA α 44 6 w = some q) : pxL c α q kv v v' l := by
  unfold pxL
  exact ⟨x0, x1, x2, x3, x4, x5, x6, x7, x8, x9, x10⟩
/-- what reading conditions and sums leaves alone -/
def pY (c : pC) (N : Nat) (g : pG) (α : zS) (s : zM) (N' : Nat) (g' : pG) (β : zS) (s' : zM) : Prop := (pX N g s N' g' s') ∧ (zn α ≤ zn β) ∧ (∀ q, q < zn α → q ≠ c.p → β.2 q = α.2 q) ∧ (∀ j i, 9 ≤ j → j ≤ 16 → i < N → la s' j i = la s j i) ∧ (∀ t, t < N → g'.ch t = g.ch t) ∧ (∀ t, N ≤ t → t < N' → zn α ≤ g'.oa t)
theorem pY.x {c : pC} {N : Nat} {g : pG} {α : zS} {s : zM} {N' : Nat} {g' : pG} {β : zS} {s' : zM} (h : pY c N g α s N' g' β s') : pX N g s N' g' s' := by
  unfold pY at h
  exact h.1
theorem pY.nn {c : pC} {N : Nat} {g : pG} {α : zS} {s : zM} {N' : Nat} {g' : pG} {β : zS} {s' : zM} (h : pY c N g α s N' g' β s') : zn α ≤ zn β := by
  unfold pY at h
  exact h.2.1
theorem pY.fx {c : pC} {N : Nat} {g : pG} {α : zS} {s : zM} {N' : Nat} {g' : pG} {β : zS} {s' : zM} (h : pY c N g α s N' g' β s') : ∀ q, q < zn α → q ≠ c.p → β.2 q = α.2 q := by
  unfold pY at h
  exact h.2.2.1
theorem pY.fm {c : pC} {N : Nat} {g : pG} {α : zS} {s : zM} {N' : Nat} {g' : pG} {β : zS} {s' : zM} (h : pY c N g α s N' g' β s') : ∀ j i, 9 ≤ j → j ≤ 16 → i < N → la s' j i = la s j i := by
  unfold pY at h
  exact h.2.2.2.1
theorem pY.fc {c : pC} {N : Nat} {g : pG} {α : zS} {s : zM} {N' : Nat} {g' : pG} {β : zS} {s' : zM} (h : pY c N g α s N' g' β s') : ∀ t, t < N → g'.ch t = g.ch t := by
  unfold pY at h
  exact h.2.2.2.2.1
theorem pY.nw {c : pC} {N : Nat} {g : pG} {α : zS} {s : zM} {N' : Nat} {g' : pG} {β : zS} {s' : zM} (h : pY c N g α s N' g' β s') : ∀ t, N ≤ t → t < N' → zn α ≤ g'.oa t := by
  unfold pY at h
  exact h.2.2.2.2.2
theorem pY.mk {c : pC} {N : Nat} {g : pG} {α : zS} {s : zM} {N' : Nat} {g' : pG} {β : zS} {s' : zM} (x0 : pX N g s N' g' s') (x1 : zn α ≤ zn β) (x2 : ∀ q, q < zn α → q ≠ c.p → β.2 q = α.2 q) (x3 : ∀ j i, 9 ≤ j → j ≤ 16 → i < N → la s' j i = la s j i) (x4 : ∀ t, t < N → g'.ch t = g.ch t) (x5 : ∀ t, N ≤ t → t < N' → zn α ≤ g'.oa t) : pY c N g α s N' g' β s' := by
  unfold pY
  exact ⟨x0, x1, x2, x3, x4, x5⟩
def zvL (α : zS) (a : Nat) (xs : List (Option Nat)) : zS := zsL α a 0 0 0 (zB α a) (zC α a) xs (zm α a)
def mAts (s : zM) (to : Nat) : List Nat → List Nat → zM
  | _, [] => s
  | l, t :: ts => mAts (mAtS s to l t) to (l ++ [t]) ts
def gAdds (g : pG) (to : Nat) : List Nat → pG
  | [] => g
  | t :: ts => gAdds (g.add to t) to ts
section PAG
variable {c : pC} {G : xQ} {α β γ : zS} {s s' s2 : zM} {a a1 a' d b b' N N' N2 y k t u w wh to q r : Nat} {g g' g2 : pG} {v v' kv : Int32} {e : Bool} {l ts : List Nat}
theorem zvL_self : zvL α a (zL α a) = α := by
  refine Prod.ext (by show (zn α + 0, zc α + 0, zw α + 0) = α.1; rfl) ?_
  funext x
  show va_up α.2 a _ x = α.2 x
  unfold va_up
  split
  · rename_i e; rw [e]; rfl
  · rfl
theorem zvL_ne {xs : List (Option Nat)} (h : q ≠ a) : (zvL α a xs).2 q = α.2 q := zsL_ne h
theorem pY.rf : pY c N g α s N g α s := pY.mk pX.rf (Nat.le_refl _) (fun _ _ _ => rfl) (fun _ _ _ _ _ => rfl) (fun _ _ => rfl) (fun t h1 h2 => by omega)
theorem pY.tr (h : pY c N g α s N' g' β s') (h' : pY c N' g' β s' N2 g2 γ s2) : pY c N g α s N2 g2 γ s2 := by
  have n := h.x.n
  have n1 := h.nn
  have n2 := h'.nn
  exact pY.mk (h.x.tr h'.x) (by omega) (fun q h1 h2 => (h'.fx q (by omega) h2).trans (h.fx q h1 h2)) (fun j i h1 h2 h3 => (h'.fm j i h1 h2 (by omega)).trans (h.fm j i h1 h2 h3)) (fun t ht => (h'.fc t (by omega)).trans (h.fc t ht)) (fun t ht ht' => by
    by_cases z : t < N'
    · rw [h'.x.oa t z]; exact h.nw t ht z
    · have := h'.nw t (by omega) ht'
      omega)
/-- M's changes elsewhere -/
theorem pY.m (h : pY c N g α s N' g' β s') (h1 : ∀ j, 9 ≤ j → j ≤ 16 → la s2 j = la s' j) (hp : pPl s' s2) : pY c N g α s N' g' β s2 := pY.mk (h.x.m (fun t _ => by rw [h1 16 (by decide) (by decide)]) (fun t _ => by rw [h1 9 (by decide) (by decide)]) hp (fun t _ _ => by rw [h1 10 (by decide) (by decide)])) h.nn h.fx (fun j i h2 h3 h4 => by rw [h1 j h2 h3]; exact h.fm j i h2 h3 h4) h.fc h.nw
/-- X's changes at the parser alone -/
theorem pY.xp (h : pY c N g α s N' g' β s') (h1 : ∀ q, q ≠ c.p → γ.2 q = β.2 q) (hn : zn β ≤ zn γ) : pY c N g α s N' g' γ s' := pY.mk h.x (by have := h.nn; omega) (fun q h2 h3 => (h1 q h3).trans (h.fx q h2 h3)) h.fm h.fc h.nw
theorem pxL.fr (h : pxL c α q kv v v' l) (hx : ∀ x, x < zn α → x ≠ c.p → β.2 x = α.2 x) (hn : zn α ≤ zn β) (hp : c.p < zn c.a0) (kp : zkd α c.p = 41) : pxL c β q kv v v' l := by
  have lo := h.lo
  have hi := h.hi
  have e1 := hx q (by omega) (by omega)
  have e2 := hx (q + 1) (by omega) (by omega)
  refine pxL.mk lo (by omega) ?_ ?_ ?_ ?_ ?_ ?_ ?_ ?_ (fun w hw => ?_)
  · rw [zkd_eq e1]; exact h.kn
  · rw [zA_eq e1]; exact h.fl
  · rw [zkd_eq e2]; exact h.kl
  · rw [zI_eq e1]; exact h.kd
  · rw [zI_eq e1]; exact h.vl
  · rw [zI_eq e1]; exact h.wd
  · rw [zI_eq e1]; exact h.fg
  · rw [zL_eq e2]; exact h.ls
  · obtain ⟨w1, w2, w3⟩ := h.up w hw
    have e3 := hx w w1 (fun z => by rw [z, kp] at w2; omega)
    exact ⟨by omega, by rw [zkd_eq e3]; exact w2, by rw [zA_eq e3]; exact w3⟩
/-- a loose node's parent doesn't matter -/
theorem pgO.par {p : Option Nat} (h : pgO c N g α s y) (hl : ∀ w, c.N0 ≤ w → w < N → t ∉ g.ch w) (h1 : c.N0 ≤ t) (h2 : t < N) : pgO c N g (zwA α 44 6 (g.oa t) p) s y := by
  refine pgO.mk (fun w w1 w2 => ?_) h.inj
  have o := h.nd w w1 w2
  have ot := h.nd t h1 h2
  have ne : g.oa w + 1 ≠ g.oa t := fun z => by
    have := o.kl
    rw [z, ot.kn] at this
    omega
  refine nOk.mk o.lo o.hi ?_ ?_ ?_ ?_ ?_ ?_ ?_ ?_ o.nd (fun u hu => ?_) o.hd o.lt o.nx
  · rw [zkd_zwA]; exact o.kn
  · rw [zA_zwA, if_neg (by omega)]; exact o.fl
  · rw [zkd_zwA]; exact o.kl
  · rw [zI_zwA]; exact o.kd
  · rw [zI_zwA]; exact o.vl
  · rw [zI_zwA]; exact o.wd
  · rw [zI_zwA, zA_zwA, if_neg (by omega)]; exact o.ex
  · rw [zL_zwA]; exact o.ls
  · obtain ⟨u1, u2, u3, u4, u5⟩ := o.mem u hu
    refine ⟨u1, u2, u3, fun z => ?_, u5⟩
    rw [zA_zwA, if_neg (fun e => ?_)]
    · exact u4 z
    · have := h.inj u t u1 u2 h1 h2 e.2.2
      exact hl w w1 w2 (this ▸ hu)
/-- X's add of cells -/
theorem X_addC (kn : zkd α q = 45) (fl : zA α 44 8 q = some (q + 1)) (kl : zkd α (q + 1) = 3) (kn' : zkd α w = 45) (ln : (zL α (q + 1)).length < 1000000) : ∃ β, hX43_add G (some q) (some w) α = some (some w, β) ∧ xAt α q w β ∧ zn β ≤ zn α + 1 ∧ zc β = zc α + 1 ∧ zw β = zw α + 7 := by
  obtain ⟨γ, z1, z2, z3, z4, z5, z6, z7, z8⟩ := zLadd_at (x := some w) kl ln
  have ne : w ≠ q + 1 := fun z => by rw [z, kl] at kn'; omega
  have kγ : ∀ x, zkd γ x = zkd α x := fun x => by
    by_cases e : x = q + 1
    · rw [e, z2, kl]
    · rw [zkd_eq (z4 _ e)]
  refine ⟨zwA γ 44 6 w (some q), ?_, xAt.mk ?_ ?_ (fun x => ?_) (fun e k => ?_) (fun e k hk => ?_) (fun x hx => ?_) (fun x hx hx' => ?_) z5, z6, z7, z8⟩
  · unfold hX43_add
    rw [kfA kn, fl, gl_bs, z1, gl_bs, kpA (by rw [kγ]; exact kn'), gl_bs]
  · rw [zL_zwA]; exact z3
  · rw [zA_zwA, if_pos ⟨rfl, rfl, rfl⟩]
  · rw [zkd_zwA]; exact kγ x
  · rw [zI_zwA, zI_eq (z4 _ ne)]
  · rw [zA_zwA, if_neg (fun z => hk ⟨z.1, z.2.1⟩), zA_eq (z4 _ ne)]
  · rw [zL_zwA, zL_eq (z4 _ hx)]
  · rw [zwA_ne hx', z4 _ hx]
/-- X makes a node that M will make later -/
theorem pR.lone (h : pR c a d b N y g α s) (hq : xNw c α q) : ∃ β, hX43_init G (some q) kv v v' α = some ((), β) ∧ pR c a d (b + 1) N y g β s ∧ pxL c β q kv v v' [] ∧ (∀ x, x ≠ q → x ≠ q + 1 → β.2 x = α.2 x) ∧ zn α ≤ zn β := by
  obtain ⟨β, x1, x2, x3, x4, x5, x6, x7, x8, x9, x10, x11, x12, x13⟩ := X_init (G := G) (kv := kv) (v := v) (v' := v') hq
  have lo := hq.lo
  have n := hq.n
  have hp := h.k.p
  have ep : β.2 c.p = α.2 c.p := x10 _ (by omega) (by omega)
  have zcb := h.zcb
  have zwb := h.zwb
  have Nb := h.Nb
  refine ⟨β, x1, pR.mk h.k (h.x.nw h.k (by omega) fun x hx => x10 x (by omega) (by omega)) h.m ?_ ?_ h.am h.nm h.bm h.Nm h.al h.a0 h.nl h.N0 (by omega) (by omega) (by omega) h.yN (h.g.fr (fun _ _ _ _ _ _ => rfl) (fun t h1 h2 => ?_) (by omega)), pxL.mk lo (by omega) x2 x3 x4 x6 x7 x8 x9 x5 (fun w hw => by simp at hw), x10, by omega⟩
  · rw [zI_eq ep]; exact h.ax
  · rw [zI_eq ep]; exact h.nx
  · have := (h.g.nd t h1 h2).hi
    exact ⟨x10 _ (by omega) (by omega), x10 _ (by omega) (by omega)⟩
/-- X lays a loose node below such a node -/
theorem pR.ladd (h : pR c a d b N y g α s) (hl : pxL c α q kv v v' l) (hln : l.length < 1000000) (h1 : c.N0 ≤ t) (h2 : t < N) (hN : N ≤ 8000) (h0 : la s 16 t = nI 0) (hq : ∀ t, c.N0 ≤ t → t < N → g.oa t ≠ q) (hnl : g.oa t ∉ l) : ∃ β, hX43_add G (some q) (some (g.oa t)) α = some (some (g.oa t), β) ∧ pR c a d (b + 1) N y g β s ∧ pxL c β q kv v v' (l ++ [g.oa t]) ∧ zn α ≤ zn β ∧ (∀ x, x ≠ q + 1 → x ≠ g.oa t → β.2 x = α.2 x) := by
  have ot := h.g.nd t h1 h2
  obtain ⟨β, x1, x2, x3, x4, x5⟩ := X_addC (G := G) hl.kn hl.fl hl.kl ot.kn (by rw [hl.ls, List.length_map]; exact hln)
  have lo := hl.lo
  have hi := hl.hi
  have lo2 := ot.lo
  have hi2 := ot.hi
  have hp := h.k.p
  have n := x2.n
  have kl := hl.kl
  have ep : β.2 c.p = α.2 c.p := x2.fr _ (by omega) (by omega)
  have zcb := h.zcb
  have zwb := h.zwb
  have nl : ∀ w, c.N0 ≤ w → w < N → t ∉ g.ch w := fun w w1 w2 => h.g.loose h.k.N1 hN h0 w1 w2
  have neq : g.oa t ≠ q := hq t h1 h2
  have neq1 : g.oa t ≠ q + 1 := fun z => by have := ot.kn; rw [z, kl] at this; omega
  refine ⟨β, x1, pR.mk h.k (h.x.nw h.k n fun x hx => x2.fr x (by omega) (by omega)) h.m ?_ ?_ h.am h.nm h.bm h.Nm h.al h.a0 h.nl h.N0 (by have := h.Nb; omega) (by omega) (by omega) h.yN ?_, pxL.mk lo (by omega) ?_ ?_ ?_ ?_ ?_ ?_ ?_ ?_ (fun w hw => ?_), n, x2.fr⟩
  · rw [zI_eq ep]; exact h.ax
  · rw [zI_eq ep]; exact h.nx
  · -- the nodes: as in the store where the parent alone is another
    have g1 := h.g.par (p := some q) nl h1 h2
    refine pgO.mk (fun w w1 w2 => ?_) g1.inj
    have o := g1.nd w w1 w2
    have ow := h.g.nd w w1 w2
    have hw := hq w w1 w2
    have n1 : g.oa w ≠ q + 1 := fun z => by have := ow.kn; rw [z, kl] at this; omega
    have n2 : g.oa w + 1 ≠ q + 1 := by omega
    have n3 : g.oa w + 1 ≠ g.oa t := fun z => by have := ow.kl; rw [z, ot.kn] at this; omega
    have I : ∀ j, zI β 44 j (g.oa w) = zI α 44 j (g.oa w) := fun j => by
      by_cases e : g.oa w = g.oa t
      · rw [e]; exact x2.I 44 j
      · rw [zI_eq (x2.fr _ n1 e)]
    have A : ∀ j, zA β 44 j (g.oa w) = zA (zwA α 44 6 (g.oa t) (some q)) 44 j (g.oa w) := fun j => by
      rw [zA_zwA]
      by_cases e : g.oa w = g.oa t
      · rw [e]
        by_cases ej : j = 6
        · rw [if_pos ⟨rfl, ej, rfl⟩, ej]; exact x2.up
        · rw [if_neg (fun z => ej z.2.1)]; exact x2.A 44 j (fun z => ej z.2)
      · rw [if_neg (fun z => e z.2.2), zA_eq (x2.fr _ n1 e)]
    refine nOk.mk o.lo (by have := ow.hi; omega) ?_ ?_ ?_ ?_ ?_ ?_ ?_ ?_ o.nd (fun u hu => ?_) o.hd o.lt o.nx
    · rw [x2.kd]; exact ow.kn
    · rw [A]; exact o.fl
    · rw [x2.kd]; exact ow.kl
    · rw [I]; exact ow.kd
    · rw [I]; exact ow.vl
    · rw [I]; exact ow.wd
    · rw [I, A, zA_zwA, if_neg (by omega)]; exact ow.ex
    · rw [x2.L _ n2]; exact ow.ls
    · obtain ⟨u1, u2, u3, u4, u5⟩ := o.mem u hu
      refine ⟨u1, u2, u3, fun z => ?_, u5⟩
      rw [← u4 z]
      have ou := h.g.nd u u1 u2
      have m1 : g.oa u ≠ q + 1 := fun z => by have := ou.kn; rw [z, kl] at this; omega
      have m2 : g.oa u ≠ g.oa t := fun z => nl w w1 w2 (h.g.inj u t u1 u2 h1 h2 z ▸ hu)
      rw [zA_eq (x2.fr _ m1 m2), zA_zwA, if_neg (fun z => m2 z.2.2)]
  · rw [x2.kd]; exact hl.kn
  · rw [zA_eq (x2.fr _ (by omega) (fun z => neq z.symm))]; exact hl.fl
  · rw [x2.kd]; exact hl.kl
  · rw [zI_eq (x2.fr _ (by omega) (fun z => neq z.symm))]; exact hl.kd
  · rw [zI_eq (x2.fr _ (by omega) (fun z => neq z.symm))]; exact hl.vl
  · rw [zI_eq (x2.fr _ (by omega) (fun z => neq z.symm))]; exact hl.wd
  · rw [zI_eq (x2.fr _ (by omega) (fun z => neq z.symm))]; exact hl.fg
  · rw [x2.ls, hl.ls, List.map_append]; rfl
  · rw [List.mem_append, List.mem_singleton] at hw
    rcases hw with hw | rfl
    · obtain ⟨w1, w2, w3⟩ := hl.up w hw
      refine ⟨by omega, by rw [x2.kd]; exact w2, ?_⟩
      rw [zA_eq (x2.fr _ (fun z => by rw [z, kl] at w2; omega) (fun z => hnl (z ▸ hw)))]; exact w3
    · exact ⟨by omega, by rw [x2.kd]; exact ot.kn, x2.up⟩
/-- M lays the rest of a node's row below it -/
theorem pgO.adds : ∀ {ts l : List Nat} {g : pG} {s : zM}, pgO c N g (zvL β (q + 1) (l.map fun u => some (g.oa u))) s y → 1 ≤ c.N0 → N ≤ 8000 → c.N0 ≤ to → to < N → g.oa to = q → g.ch to = l → ts.Nodup → (∀ t, t ∈ ts → c.N0 ≤ t ∧ t < N ∧ g.r t < g.r to ∧ la s 16 t = nI 0 ∧ t ≠ y ∧ zA β 44 6 (g.oa t) = some q) → pgO c N (gAdds g to ts) (zvL β (q + 1) ((l ++ ts).map fun u => some (g.oa u))) (mAts s to l ts) y
  | [], l, g, s, h, _, _, _, _, _, _, _, _ => by
    rw [List.append_nil]; exact h
  | t :: ts, l, g, s, h, hN1, hN, h1, h2, hq, hc, hd, hts => by
    obtain ⟨t1, t2, t3, t4, t5, t6⟩ := hts t (by simp)
    rw [List.nodup_cons] at hd
    have o := h.nd to h1 h2
    have ot := h.nd t t1 t2
    have kl : zkd β (q + 1) = 3 := by
      have := o.kl
      rw [hq] at this
      exact (zkd_zsL _ _ _ _ _ _ _ _).symm.trans this
    have ne : g.oa t ≠ q + 1 := fun z => by
      have e1 := ot.kn
      have e2 := o.kl
      rw [hq] at e2
      rw [z, e2] at e1
      omega
    have X : xAt (zvL β (q + 1) (l.map fun u => some (g.oa u))) (g.oa to) (g.oa t) (zvL β (q + 1) ((l ++ [t]).map fun u => some (g.oa u))) := by
      rw [hq]
      refine xAt.mk ?_ ?_ (fun x => ?_) (fun e k => ?_) (fun e k hk => ?_) (fun x hx => ?_) (fun x hx hx' => ?_) (Nat.le_refl _)
      · unfold zvL
        rw [zL_zsL, if_pos rfl, zL_zsL, if_pos rfl, List.map_append]; rfl
      · rw [zA_eq (zvL_ne ne)]; exact t6
      · unfold zvL; rw [zkd_zsL, zkd_zsL]
      · rw [zI_eq (zvL_ne ne), zI_eq (zvL_ne ne)]
      · rw [zA_eq (zvL_ne ne), zA_eq (zvL_ne ne)]
      · rw [zL_eq (zvL_ne hx), zL_eq (zvL_ne hx)]
      · rw [zvL_ne hx, zvL_ne hx]
    have nxt := h.add hN1 hN h1 h2 t1 t2 t3 t4 mAtS_at (.inl ⟨t5, X⟩) (fun _ z => mAtS_pd z)
    rw [hc] at nxt
    have r := pgO.adds (ts := ts) (l := l ++ [t]) (g := g.add to t) nxt hN1 hN h1 h2 hq (by rw [add_ch, if_pos rfl, hc]) hd.2 (fun x hx => by
      obtain ⟨x1, x2, x3, x4, x5, x6⟩ := hts x (List.mem_cons_of_mem _ hx)
      have A := mAtS_at (s := s) (to := to) (t := t) (l := l)
      refine ⟨x1, x2, x3, ?_, x5, x6⟩
      rw [A.r16, upd_other (fun (z : x = t) => hd.1 (z ▸ hx))]; exact x4)
    rw [List.append_assoc] at r
    exact r
theorem mAts_ls : ∀ {ts l : List Nat} {s : zM}, ls (mAts s to l ts) k = ls s k
  | [], _, _ => rfl
  | t :: ts, l, s => by
    show ls (mAts (mAtS s to l t) to (l ++ [t]) ts) k = _
    rw [mAts_ls, mAtS_ls]
theorem mAts_la (hk : ¬ (13 ≤ k ∧ k ≤ 16)) : ∀ {ts l : List Nat} {s : zM}, la (mAts s to l ts) k = la s k
  | [], _, _ => rfl
  | t :: ts, l, s => by
    show la (mAts (mAtS s to l t) to (l ++ [t]) ts) k = _
    rw [mAts_la hk, mAtS_la hk]
theorem mAts_old {i : Nat} (h1 : i ≠ to) : ∀ {ts l : List Nat} {s : zM}, i ∉ ts → i ∉ l → la (mAts s to l ts) k i = la s k i
  | [], _, _, _, _ => rfl
  | t :: ts, l, s, h2, h3 => by
    show la (mAts (mAtS s to l t) to (l ++ [t]) ts) k i = _
    rw [List.mem_cons] at h2
    rw [mAts_old h1 (fun z => h2 (.inr z)) (fun z => by
      rw [List.mem_append, List.mem_singleton] at z
      exact z.elim h3 (fun e => h2 (.inl e)))]
    exact mAtS_old h1 (fun e => h2 (.inl e)) (fun hl e => h3 (e ▸ last_mem hl))
theorem mAts_pl : pPl s (mAts s to l ts) := ⟨mAts_ls, mAts_la (by decide), mAts_la (by decide), mAts_la (by decide)⟩
theorem gAdds_oa : ∀ {ts : List Nat} {g : pG}, (gAdds g to ts).oa t = g.oa t
  | [], _ => rfl
  | x :: ts, g => by
    show (gAdds (g.add to x) to ts).oa t = _
    rw [gAdds_oa, add_oa]
theorem gAdds_r : ∀ {ts : List Nat} {g : pG}, (gAdds g to ts).r t = g.r t
  | [], _ => rfl
  | x :: ts, g => by
    show (gAdds (g.add to x) to ts).r t = _
    rw [gAdds_r, add_r]
theorem gAdds_ch (h : t ≠ to) : ∀ {ts : List Nat} {g : pG}, (gAdds g to ts).ch t = g.ch t
  | [], _ => rfl
  | x :: ts, g => by
    show (gAdds (g.add to x) to ts).ch t = _
    rw [gAdds_ch h, add_ch, if_neg h]
/-- M makes the node that X has made, with all that lies below it -/
theorem pR.many (h : pR c a d b N 0 g α s) (hb : N + 1 ≤ b) (hN : N < 8000) (hk : kv ≠ nI 53) (hl : pxL c α q kv v v' (ts.map g.oa)) (hq : ∀ t, c.N0 ≤ t → t < N → g.oa t ≠ q) (hd : ts.Nodup) (hts : ∀ t, t ∈ ts → c.N0 ≤ t ∧ t < N ∧ g.r t < r ∧ la s 16 t = nI 0) : pR c a d b (N + 1) 0 (gAdds (g.push N q r) N ts) α (mAts (mMk s N kv v v') N [] ts) ∧ pX N g s (N + 1) (gAdds (g.push N q r) N ts) (mMk s N kv v v') ∧ (∀ t, t < N → (gAdds (g.push N q r) N ts).ch t = g.ch t) := by
  have N0 := h.N0
  have N1 := h.k.N1
  have la0 := fun j (h1 : 9 ≤ j) (h2 : j ≤ 16) i => mMk_la (s := s) (N := N) (kv := kv) (v := v) (v' := v') h1 h2 i
  have kl := hl.kl
  have lo := hl.lo
  have hi := hl.hi
  have g0 : pgO c (N + 1) (g.push N q r) (zvL α (q + 1) []) (mMk s N kv v v') 0 := by
    have nq : ∀ t, c.N0 ≤ t → t < N → g.oa t ≠ q + 1 := fun t h1 h2 z => by
      have := (h.g.nd t h1 h2).kn
      rw [z, kl] at this
      omega
    have e1 : (zvL α (q + 1) []).2 q = α.2 q := zvL_ne (by omega)
    -- as long as q isn't a node, its list doesn't matter
    have gg : pgO c N g (zvL α (q + 1) []) s 0 := h.g.fr (fun _ _ _ _ _ _ => rfl) (fun t h1 h2 => ⟨zvL_ne (nq t h1 h2), zvL_ne (fun z => hq t h1 h2 (by omega))⟩) (Nat.le_refl _)
    refine pgO.mk (fun t h3 h4 => ?_) (fun t u h3 h4 h5 h6 e => ?_)
    · by_cases e : t = N
      · subst e
        have eo : (g.push t q r).oa t = q := by rw [push_oa, if_pos rfl]
        have ec : (g.push t q r).ch t = [] := by rw [push_ch, if_pos rfl]
        refine nOk.mk ?_ ?_ ?_ ?_ ?_ ?_ ?_ ?_ ?_ ?_ ?_ ?_ ?_ ?_ ?_
        · rw [eo]; exact lo
        · rw [eo]; exact hi
        · rw [eo, zkd_eq e1]; exact hl.kn
        · rw [eo, zA_eq e1]; exact hl.fl
        · rw [eo]; unfold zvL; rw [zkd_zsL]; exact kl
        · rw [eo, zI_eq e1, hl.kd, la0 9 (by decide) (by decide), if_pos rfl, if_pos rfl]
        · rw [eo]
          refine .inl ?_
          rw [zI_eq e1, hl.vl, la0 10 (by decide) (by decide), if_pos rfl]; rfl
        · rw [eo, zI_eq e1, hl.wd, la0 11 (by decide) (by decide), if_pos rfl]; rfl
        · rw [eo, zI_eq e1, hl.fg, la0 9 (by decide) (by decide), if_pos rfl, if_pos rfl, la0 12 (by decide) (by decide), if_pos rfl]
          exact .inr ⟨hk, rfl⟩
        · rw [eo, ec]; unfold zvL; rw [zL_zsL, if_pos rfl]; rfl
        · rw [ec]; exact List.nodup_nil
        · rw [ec]; intro u hu; simp at hu
        · rw [ec, la0 13 (by decide) (by decide), if_pos rfl]; rfl
        · rw [ec, la0 14 (by decide) (by decide), if_pos rfl]; rfl
        · rw [ec]; trivial
      · have g1 := gg.fr (s' := mMk s N kv v v') (β := zvL α (q + 1) []) (fun k t k1 k2 _ h4 => by rw [la0 k k1 k2, if_neg (by omega)]) (fun _ _ _ => ⟨rfl, rfl⟩) (Nat.le_refl _)
        have o := g1.nd t h3 (by omega)
        have eo : (g.push N q r).oa t = g.oa t := by rw [push_oa, if_neg e]
        have ec : (g.push N q r).ch t = g.ch t := by rw [push_ch, if_neg e]
        refine nOk.mk ?_ ?_ ?_ ?_ ?_ ?_ ?_ ?_ ?_ ?_ ?_ ?_ ?_ ?_ ?_
        · rw [eo]; exact o.lo
        · rw [eo]; exact o.hi
        · rw [eo]; exact o.kn
        · rw [eo]; exact o.fl
        · rw [eo]; exact o.kl
        · rw [eo]; exact o.kd
        · rw [eo]; exact o.vl
        · rw [eo]; exact o.wd
        · rw [eo]
          rcases o.ex with ⟨z1, u, z2, z3, z4, z5⟩ | z
          · exact .inl ⟨z1, u, z2, by omega, z4, by rw [push_oa, if_neg (by omega)]; exact z5⟩
          · exact .inr z
        · rw [eo, ec, o.ls]
          refine List.map_congr_left fun u hu => ?_
          have := (o.mem u (List.mem_filter.mp hu).1).2.1
          rw [push_oa, if_neg (by omega)]
        · rw [ec]; exact o.nd
        · rw [ec]
          intro u hu
          obtain ⟨u1, u2, u3, u4, u5⟩ := o.mem u hu
          refine ⟨u1, by omega, u3, fun z => ?_, ?_⟩
          · rw [eo, push_oa, if_neg (by omega)]; exact u4 z
          · rw [push_r, push_r, if_neg (by omega), if_neg e]; exact u5
        · rw [ec]; exact o.hd
        · rw [ec]; exact o.lt
        · rw [ec]; exact o.nx
    · rw [push_oa, push_oa] at e
      by_cases e1 : t = N
      · by_cases e2 : u = N
        · omega
        · rw [if_pos e1, if_neg e2] at e
          exact absurd e.symm (hq u h5 (by omega))
      · by_cases e2 : u = N
        · rw [if_neg e1, if_pos e2] at e
          exact absurd e (hq t h3 (by omega))
        · rw [if_neg e1, if_neg e2] at e
          exact h.g.inj t u h3 (by omega) h5 (by omega) e
  have oa : ∀ t, t ∈ ts → (g.push N q r).oa t = g.oa t := fun t ht => by
    have := (hts t ht).2.1
    rw [push_oa, if_neg (by omega)]
  have g1 := pgO.adds (β := α) (q := q) (to := N) (ts := ts) (l := []) (g := g.push N q r) (s := mMk s N kv v v') g0 N1 (by omega) N0 (Nat.lt_succ_self N) (by rw [push_oa, if_pos rfl]) (by rw [push_ch, if_pos rfl]) hd (fun t ht => by
    obtain ⟨t1, t2, t3, t4⟩ := hts t ht
    refine ⟨t1, by omega, ?_, ?_, by omega, ?_⟩
    · rw [push_r, push_r, if_pos rfl, if_neg (by omega)]; exact t3
    · rw [la0 16 (by decide) (by decide), if_neg (by omega)]; exact t4
    · rw [oa t ht]; exact (hl.up _ (List.mem_map_of_mem ht)).2.2)
  have el : ([] ++ ts).map (fun u => some ((g.push N q r).oa u)) = zL α (q + 1) := by
    rw [List.nil_append, hl.ls, List.map_map]
    exact List.map_congr_left fun u hu => by
      show some ((g.push N q r).oa u) = some (g.oa u)
      rw [oa u hu]
  rw [el, zvL_self] at g1
  have nts : ∀ i, i < c.N0 → i ∉ ts := fun i hi hm => by
    have := (hts i hm).1
    omega
  have m0 := h.m.mk0 (kv := kv) (v := v) (v' := v') N0
  refine ⟨pR.mk h.k h.x (mKp.mk (fun k hk => ?_) (fun k i k1 k2 hi => ?_) (fun k hk => ?_)) h.ax h.nx ?_ ?_ ?_ ?_ h.al h.a0 h.nl (by omega) hb h.zcb h.zwb (by omega) g1, pX.mk (Nat.le_succ _) (fun t ht => ?_) (fun t ht => ?_) (fun t ht => ?_) (fun t ht => ?_) mMk_pl (fun t ht _ => by rw [la0 10 (by decide) (by decide), if_neg (by omega)]), fun t ht => ?_⟩
  · rw [mAts_ls]; exact m0.I k hk
  · rw [mAts_old (by omega) (nts i hi) (by simp)]; exact m0.A k i k1 k2 hi
  · rw [mAts_la (by omega)]; exact m0.B k hk
  · rw [mAts_ls]; exact h.am
  · intro z; rw [mAts_ls]; exact h.nm z
  · rw [mAts_ls]; exact h.bm
  · rw [mAts_ls]; rfl
  · rw [gAdds_oa, push_oa, if_neg (by omega)]
  · rw [gAdds_r, push_r, if_neg (by omega)]
  · rw [la0 9 (by decide) (by decide), if_neg (by omega)]
  · rw [la0 16 (by decide) (by decide), if_neg (by omega)]
  · rw [gAdds_ch (by omega), push_ch, if_neg (by omega)]
end PAG
