/-! THE PURE LAYER: the parser: the innermost open unit changes. -/
def pD.set (D : pD) (en da pr st nm fu hd : Nat → Nat) (fi ho de se pa lt : Nat) (it : List Nat) : pD := (D.fa, D.fb, D.lu, D.lr, D.rt, D.nu, D.un, D.ou, en, da, pr, D.dp, D.os, st, nm, fu, hd, fi, ho, de, se, pa, lt, it, D.z0, D.w0, D.a0)
section PAZQ
variable {L L2 : Nat → Prop} {c : pC} {D : pD} {G : xQ} {α β : zS} {s s' s1 : zM} {B at' a a1 b d N N' F F' p q t to u x k i j w wh lv m : Nat} {g g' g2 : pG} {v : Int32} {en da pr st nm fu hd : Nat → Nat} {fi ho de se pa lt : Nat} {it : List Nat}
/-- unit u is the innermost open one, q X's cell of it, i its place on the pile -/
theorem pV_updN (h : pV c D L B a N F g α s) (hi : D.dp = i + 1) (hu : D.os i = u) (hq : D.ou u = q) (hx : ∀ x, x ≠ q → x ≠ q + 1 → β.2 x = α.2 x) (hn : zn α ≤ zn β) (hc : zc β ≤ D.z0 + 40 * a + 250 * F) (hw : zw β ≤ D.w0 + 200 * a + 1100 * F) (hl : ∀ k, ¬ (32 ≤ k ∧ k ≤ 38) → ls s' k = ls s k) (hm : ∀ k, ¬ (23 ≤ k ∧ k ≤ 25 ∨ k = 27 ∨ k = 28 ∨ k = 30 ∨ k = 31 ∨ k = 39 ∨ k = 40) → la s' k = la s k) (hmu : ∀ k j, 23 ≤ k → k ≤ 25 → j ≠ u → la s' k j = la s k j) (hmi : ∀ k j, 27 ≤ k → k ≤ 31 → j ≠ i → la s' k j = la s k j)
    (eu : ∀ k, k ≠ u → en k = D.en k ∧ da k = D.da k ∧ pr k = D.pr k) (ei : ∀ j, j ≠ i → st j = D.st j ∧ nm j = D.nm j ∧ fu j = D.fu j ∧ hd j = D.hd j)
    (U : uOk (D.set en da pr st nm fu hd fi ho de se pa lt it) L B g β s' u) (O : oOk (D.set en da pr st nm fu hd fi ho de se pa lt it) g β s' i) (I : iOk (D.set en da pr st nm fu hd fi ho de se pa lt it) L g β s' q u (st i)) : pV c (D.set en da pr st nm fu hd fi ho de se pa lt it) L B a N F g β s' := by
  have h0 := h.o
  have oi := h.op i (by omega)
  have iu : D.os i < D.nu := oi.u
  have ui := h.u _ iu
  rw [hu] at iu ui
  have lo := ui.lo
  have hi' := ui.hi
  have uk := ui.kn
  have ul := ui.kl
  rw [hq] at lo hi' uk ul
  have B1 := h0.B1
  have p := h0.p
  have aB := h0.aB
  have bB := h0.bB
  have kaB := h0.ka
  have vaB := h0.va
  have uB := h.uB
  have rB := h.rB
  have x := h0.x
  have old : ∀ y, y ≤ B → β.2 y = α.2 y := fun y hy => hx y (by omega) (by omega)
  have ep := old c.p p
  have eg : ∀ t, L t → β.2 (g.oa t) = α.2 (g.oa t) ∧ β.2 (g.oa t + 1) = α.2 (g.oa t + 1) := fun t ht => by
    have o := h.g.nd t ht
    have k1 := o.kn
    have k2 := o.kl
    exact ⟨hx _ (fun z => by rw [z, uk] at k1; omega) (fun z => by rw [z, ul] at k1; omega), hx _ (fun z => by rw [z, uk] at k2; omega) (fun z => by
      have z' : g.oa t = q := by omega
      rw [z', uk] at k1; omega)⟩
  have V0 : pV0 c D B a N F β s' := by
    have ek := old c.ka kaB
    have ev := old c.va vaB
    have ea := old D.fa aB
    have eb := old D.fb bB
    have zb := h0.zb
    have wb := h0.wb
    refine pV0.mk h0.n h0.ks h0.vs h0.nm p kaB vaB (by omega) (pxW.mk ?_ ?_ ?_ ?_ ?_ ?_ ?_ ?_ (fun i hi => ?_) (fun i hi => ?_)) (mWd.mk ?_ (fun i hi => ?_) (fun i hi => ?_)) ?_ ?_ h0.al ?_ h0.N1 h0.N0 ?_ ?_ h0.f20 ?_ ?_ ?_ ?_ ?_ ?_ aB bB h0.ne (fun i hi => ?_) (fun i hi => ?_) (by omega) (by omega) (fun q q1 q2 q3 q4 q5 q6 => (old q q1).trans (h0.fr q q1 q2 q3 q4 q5 q6)) ((zA_eq ep 40 14).trans h0.fe) ((hl 19 (by decide)).trans h0.t19) ((hl 1 (by decide)).trans h0.t1)
    · rw [zkd_eq ep]; exact x.kp
    · rw [zA_eq ep]; exact x.fk
    · rw [zA_eq ep]; exact x.fv
    · rw [zI_eq ep]; exact x.fn
    · rw [zkd_eq ek]; exact x.kk
    · rw [zkd_eq ev]; exact x.kv
    · rw [zln_eq ek]; exact x.lk
    · rw [zln_eq ev]; exact x.lv
    · rw [zaI_eq ek]; exact x.rk i hi
    · rw [zaI_eq ev]; exact x.rv i hi
    · rw [hl 4 (by decide)]; exact h0.m.fn
    · rw [hm 2 (by decide)]; exact h0.m.rk i hi
    · rw [hm 3 (by decide)]; exact h0.m.rv i hi
    · rw [zI_eq ep]; exact h0.ax
    · rw [hl 41 (by decide)]; exact h0.am
    · rw [hl 8 (by decide)]; exact h0.Nm
    · rw [zI_eq ep]; exact h0.fx
    · rw [hl 5 (by decide)]; exact h0.fm
    · rw [zA_eq ep]; exact h0.fa
    · rw [zA_eq ep]; exact h0.fb
    · rw [zkd_eq ea]; exact h0.ak
    · rw [zkd_eq eb]; exact h0.bk
    · rw [zln_eq ea]; exact h0.an
    · rw [zln_eq eb]; exact h0.bn
    · rw [zaI_eq ea, hm 6 (by decide)]; exact h0.ra i hi
    · rw [zaI_eq eb, hm 7 (by decide)]; exact h0.rb i hi
  have V0' : pV0 c (D.set en da pr st nm fu hd fi ho de se pa lt it) B a N F β s' := pV0.mk V0.n V0.ks V0.vs V0.nm V0.p V0.ka V0.va V0.B1 V0.x V0.m V0.ax V0.am V0.al V0.Nm V0.N1 V0.N0 V0.fx V0.fm V0.f20 V0.fa V0.fb V0.ak V0.bk V0.an V0.bn V0.aB V0.bB V0.ne V0.ra V0.rb V0.zb V0.wb V0.fr V0.fe V0.t19 V0.t1
  have W : gW L N B g β s' := h.g.fr (Nat.le_refl _) (fun k t k1 k2 _ => by rw [hm k (by omega)]) eg (by omega)
  refine pV.mk V0' W ?_ ?_ ?_ h.d10 ?_ h.nb ?_ ?_ ?_ ?_ uB rB h.ne ?_ ?_ ?_ ?_ ?_ ?_ h.rd ?_ h.ui ?_ h.oi (fun j (hj : j + 1 < D.dp) => (ei j (by omega)).1.trans (h.o12 j hj)) ?_
  · rw [zA_eq ep]; exact h.cu
  · rw [zI_eq ep]; exact h.dx
  · rw [hl 26 (by decide)]; exact h.dm
  · rw [hl 20 (by decide)]; exact h.nm
  · rw [zA_eq ep]; exact h.lu
  · rw [zA_eq ep]; exact h.lr
  · show zkd β D.lu = 3
    rw [zkd_eq (old _ uB)]; exact h.uk
  · show zkd β D.lr = 3
    rw [zkd_eq (old _ rB)]; exact h.rk
  · show zL β D.lu = _
    rw [zL_eq (old _ uB)]; exact h.ul
  · show zL β D.lr = _
    rw [zL_eq (old _ rB)]; exact h.rl
  · rw [hm 13 (by decide)]; exact h.rh
  · rw [hm 14 (by decide)]; exact h.rz
  · rw [hm 15 (by decide)]; exact h.rx
  · intro y hy
    obtain ⟨r1, r2, r3⟩ := h.rm y hy
    exact ⟨r1, by rw [zA_eq (eg y r1).1]; exact r2, by rw [hm 16 (by decide)]; exact r3⟩
  · intro k hk
    by_cases e : k = u
    · rw [e]; exact U
    · have o := h.u k hk
      obtain ⟨f1, f2, f3⟩ := eu k e
      have nq : D.ou k ≠ q := fun z => e (h.ui k u hk iu (z.trans hq.symm))
      have e1 : β.2 (D.ou k) = α.2 (D.ou k) := hx _ nq (fun z => by have := o.kn; rw [z, ul] at this; omega)
      have e2 : β.2 (D.ou k + 1) = α.2 (D.ou k + 1) := hx _ (fun z => by have := o.kl; rw [z, uk] at this; omega) (fun z => nq (by omega))
      refine uOk.mk o.lo (by show D.ou k + 1 < _; have := o.hi; omega) ?_ ?_ ?_ ?_ ?_ ?_ ?_ ?_ ?_ ?_ ?_ o.lu ?_ ?_ ?_
      · show zkd β (D.ou k) = _
        rw [zkd_eq e1]; exact o.kn
      · show zA β 43 13 (D.ou k) = _
        rw [zA_eq e1]; exact o.fl
      · show zkd β (D.ou k + 1) = _
        rw [zkd_eq e2]; exact o.kl
      · show zA β 43 1 (D.ou k) = _
        rw [zA_eq e1]; exact o.xu
      · show zA β 43 4 (D.ou k) = pN g (en k)
        rw [zA_eq e1, f1]; exact o.xe
      · show zA β 43 5 (D.ou k) = pN g (da k)
        rw [zA_eq e1, f2]; exact o.xd
      · show zA β 43 8 (D.ou k) = pN g (pr k)
        rw [zA_eq e1, f3]; exact o.xp
      · rw [hm 22 (by decide)]; exact o.mu
      · show la s' 23 k = nI (en k)
        rw [hmu 23 k (by decide) (by decide) e, f1]; exact o.me
      · show la s' 24 k = nI (da k)
        rw [hmu 24 k (by decide) (by decide) e, f2]; exact o.md
      · show la s' 25 k = nI (pr k)
        rw [hmu 25 k (by decide) (by decide) e, f3]; exact o.mp
      · show en k = 0 ∨ L (en k)
        rw [f1]; exact o.le
      · show da k = 0 ∨ L (da k)
        rw [f2]; exact o.ld
      · show pr k = 0 ∨ L (pr k)
        rw [f3]; exact o.lp
  · intro j hj
    by_cases e : j = i
    · rw [e]; exact O
    · have o := h.op j hj
      obtain ⟨f1, f2, f3, f4⟩ := ei j e
      have ne : D.os j ≠ u := fun z => e (h.oi j i hj (by omega) (z.trans hu.symm))
      have nq : D.ou (D.os j) ≠ q := fun z => ne (h.ui _ _ o.u iu (z.trans hq.symm))
      have kj := (h.u _ o.u).kn
      have e1 : β.2 (D.ou (D.os j)) = α.2 (D.ou (D.os j)) := hx _ nq (fun z => by rw [z, ul] at kj; omega)
      refine oOk.mk o.u ?_ ?_ ?_ ?_ ?_ ?_ ?_ ?_ ?_ ?_ ?_ ?_ ?_ ?_ o.rk
      · show zA β 43 0 (D.ou (D.os j)) = _
        rw [zA_eq e1]; exact o.up
      · show zI β 43 2 (D.ou (D.os j)) = nI (hd j)
        rw [zI_eq e1, f4]; exact o.xh
      · show zI β 43 3 (D.ou (D.os j)) = nI (st j)
        rw [zI_eq e1, f1]; exact o.xs
      · show la s' 27 j = nI (st j)
        rw [hmi 27 j (by decide) (by decide) e, f1]; exact o.ms
      · rw [hmi 29 j (by decide) (by decide) e]; exact o.mo
      · show la s' 30 j = nI (fu j)
        rw [hmi 30 j (by decide) (by decide) e, f3]; exact o.mf
      · show la s' 31 j = nI (hd j)
        rw [hmi 31 j (by decide) (by decide) e, f4]; exact o.mh
      · show st j ≠ 0 → la s' 28 j = nI (nm j)
        rw [hmi 28 j (by decide) (by decide) e, f1, f2]; exact o.mn
      · show la s' 9 (D.un (D.os j)) = nI (1 + fu j)
        rw [hm 9 (by decide), f3]; exact o.kd
      · show st j ≠ 0 → la s' 10 (D.un (D.os j)) = nI (nm j)
        rw [hm 10 (by decide), f1, f2]; exact o.vl
      · show st j ≤ 12
        rw [f1]; exact o.s12
      · show fu j ≤ 1
        rw [f3]; exact o.f1
      · show hd j ≤ 1
        rw [f4]; exact o.h1
      · show nm j ≤ 99999
        rw [f2]; exact o.nb
  · intro _
    have e : D.dp - 1 = i := by omega
    show iOk (D.set en da pr st nm fu hd fi ho de se pa lt it) L g β s' (D.ou (D.os (D.dp - 1))) (D.os (D.dp - 1)) (st (D.dp - 1))
    rw [e, hu, hq]
    exact I
theorem pV.upd (h : pV c D L B a N F g α s) (hi : D.dp = i + 1) (hu : D.os i = u) (hq : D.ou u = q) (hx : ∀ x, x ≠ q → x ≠ q + 1 → β.2 x = α.2 x) (hn : zn β = zn α) (hc : zc β ≤ zc α) (hw : zw β ≤ zw α) (hl : ∀ k, ¬ (32 ≤ k ∧ k ≤ 38) → ls s' k = ls s k) (hm : ∀ k, ¬ (23 ≤ k ∧ k ≤ 25 ∨ k = 27 ∨ k = 28 ∨ k = 30 ∨ k = 31 ∨ k = 39 ∨ k = 40) → la s' k = la s k) (hmu : ∀ k j, 23 ≤ k → k ≤ 25 → j ≠ u → la s' k j = la s k j) (hmi : ∀ k j, 27 ≤ k → k ≤ 31 → j ≠ i → la s' k j = la s k j)
    (eu : ∀ k, k ≠ u → en k = D.en k ∧ da k = D.da k ∧ pr k = D.pr k) (ei : ∀ j, j ≠ i → st j = D.st j ∧ nm j = D.nm j ∧ fu j = D.fu j ∧ hd j = D.hd j)
    (U : uOk (D.set en da pr st nm fu hd fi ho de se pa lt it) L B g β s' u) (O : oOk (D.set en da pr st nm fu hd fi ho de se pa lt it) g β s' i) (I : iOk (D.set en da pr st nm fu hd fi ho de se pa lt it) L g β s' q u (st i)) : pV c (D.set en da pr st nm fu hd fi ho de se pa lt it) L B a N F g β s' := pV_updN h hi hu hq hx (by rw [hn]; exact Nat.le_refl _) (by have := h.o.zb; omega) (by have := h.o.wb; omega) hl hm hmu hmi eu ei U O I
end PAZQ
