/-! THE PURE LAYER: the parser: what a clause leaves as it was; a clause that fails. -/
section PAZN
variable {L : Nat → Prop} {c : pC} {D : pD} {G : xQ} {α β : zS} {s s' s1 : zM} {B at' a a1 N N' F F' p q t to u x k i j w wh lv S : Nat} {g g' : pG} {v : Int32}
theorem pkia (h : zkd α a = 1001) (hj : j < zln α a) (hb : zln α a < 2 ^ 31) : ziast α (some a) (nI j) v = some (zsI α a (upd (zaI α a) j v)) := by
  show (if _ then some (zsI α a (upd (zaI α a) (nI j).toNatClampNeg v)) else none) = _
  rw [if_pos ⟨h, pI_in hj hb⟩, pI_clamp (by omega)]
theorem uOk.fr (h : uOk D L B g α s k) (hx : ∀ q, q < zn α → B < q → β.2 q = α.2 q) (hn : zn α ≤ zn β) (hb : ∀ k, 22 ≤ k → k ≤ 25 → la s' k = la s k) : uOk D L B g β s' k := by
  have lo := h.lo
  have hi := h.hi
  have e1 := hx (D.ou k) (by omega) lo
  have e2 := hx (D.ou k + 1) hi (by omega)
  refine uOk.mk lo (by omega) ?_ ?_ ?_ ?_ ?_ ?_ ?_ ?_ ?_ ?_ ?_ h.lu h.le h.ld h.lp
  · rw [zkd_eq e1]; exact h.kn
  · rw [zA_eq e1]; exact h.fl
  · rw [zkd_eq e2]; exact h.kl
  · rw [zA_eq e1]; exact h.xu
  · rw [zA_eq e1]; exact h.xe
  · rw [zA_eq e1]; exact h.xd
  · rw [zA_eq e1]; exact h.xp
  · rw [hb 22 (by decide) (by decide)]; exact h.mu
  · rw [hb 23 (by decide) (by decide)]; exact h.me
  · rw [hb 24 (by decide) (by decide)]; exact h.md
  · rw [hb 25 (by decide) (by decide)]; exact h.mp
theorem oOk.fr (h : oOk D g α s i) (e1 : β.2 (D.ou (D.os i)) = α.2 (D.ou (D.os i))) (hm : ∀ k, 9 ≤ k → k ≤ 10 → la s' k (D.un (D.os i)) = la s k (D.un (D.os i))) (hb : ∀ k, 27 ≤ k → k ≤ 31 → la s' k = la s k) : oOk D g β s' i := by
  refine oOk.mk h.u ?_ ?_ ?_ ?_ ?_ ?_ ?_ ?_ ?_ ?_ h.s12 h.f1 h.h1 h.nb h.rk
  · rw [zA_eq e1]; exact h.up
  · rw [zI_eq e1]; exact h.xh
  · rw [zI_eq e1]; exact h.xs
  · rw [hb 27 (by decide) (by decide)]; exact h.ms
  · rw [hb 29 (by decide) (by decide)]; exact h.mo
  · rw [hb 30 (by decide) (by decide)]; exact h.mf
  · rw [hb 31 (by decide) (by decide)]; exact h.mh
  · rw [hb 28 (by decide) (by decide)]; exact h.mn
  · rw [hm 9 (by decide) (by decide)]; exact h.kd
  · rw [hm 10 (by decide) (by decide)]; exact h.vl
theorem iOk.fr (h : iOk D L g α s q k S) (e1 : β.2 q = α.2 q) (e2 : β.2 (q + 1) = α.2 (q + 1)) (hl : ∀ k, 32 ≤ k → k ≤ 38 → ls s' k = ls s k) (hm : ∀ t, L t → la s' 10 t = la s 10 t) (hb : ∀ k, 39 ≤ k → k ≤ 40 → la s' k = la s k) : iOk D L g β s' q k S := by
  refine iOk.mk h.en h.da h.pr ?_ ?_ ?_ ?_ ?_ ?_ ?_ ?_
  · rw [zA_eq e1, hl 32 (by decide) (by decide)]; exact h.fi
  · rw [zA_eq e1, hl 33 (by decide) (by decide)]; exact h.ho
  · rw [zA_eq e1, hl 38 (by decide) (by decide)]; exact h.lt
  · rw [zL_eq e2, hl 37 (by decide) (by decide), hb 39 (by decide) (by decide), hb 40 (by decide) (by decide)]
    intro z1 z2
    obtain ⟨y1, y2, y3⟩ := h.it z1 z2
    refine ⟨y1, y2, fun i hi => ?_⟩
    obtain ⟨x1, x2, x3, v, w, x4, x5, x6, x7, x8, x9⟩ := y3 i hi
    exact ⟨x1, x2, x3, v, w, x4, x5, x6, x7, by rw [hm _ x1]; exact x8, x9⟩
  · rw [zA_eq e1, hl 34 (by decide) (by decide)]; exact h.de
  · rw [zA_eq e1, hl 35 (by decide) (by decide)]; exact h.se
  · rw [zA_eq e1, hl 36 (by decide) (by decide)]; exact h.pa
  · rw [zA_eq e1, zA_eq e1]; exact h.s8
/-- nothing of nodes and units changes -/
theorem pV.keep (h : pV c D L B at' N F g α s) (o : pV0 c D B a N' F' β s') (hN : N ≤ N') (ha : at' ≤ a) (hn : zn α ≤ zn β) (hx : ∀ q, q < zn α → q ≠ c.p → q ≠ D.fa → q ≠ D.fb → β.2 q = α.2 q) (hpI : zI β 40 8 c.p = zI α 40 8 c.p) (hpA : ∀ k, 11 ≤ k → k ≤ 13 → zA β 40 k c.p = zA α 40 k c.p) (hl : ∀ k, k = 20 ∨ k = 26 ∨ 32 ≤ k ∧ k ≤ 38 → ls s' k = ls s k) (hm : ∀ k t, 9 ≤ k → k ≤ 16 → t < N → la s' k t = la s k t) (hb : ∀ k, 22 ≤ k ∧ k ≤ 25 ∨ 27 ≤ k ∧ k ≤ 31 ∨ 39 ≤ k ∧ k ≤ 40 → la s' k = la s k) : pV c D L B a N' F' g β s' := by
  have h0 := h.o
  have pB := h0.p
  have aB := h0.aB
  have bB := h0.bB
  have B1 := h0.B1
  have uB := h.uB
  have rB := h.rB
  have N1 := h0.N1
  have hx' : ∀ q, q < zn α → B < q → β.2 q = α.2 q := fun q h1 h2 => hx q h1 (by omega) (by omega) (by omega)
  have kp := h0.x.kp
  have eu : β.2 D.lu = α.2 D.lu := hx _ (by omega) (fun z => by have := h.uk; rw [z, kp] at this; omega) (fun z => by have := h.uk; rw [z, h0.ak] at this; omega) (fun z => by have := h.uk; rw [z, h0.bk] at this; omega)
  have er : β.2 D.lr = α.2 D.lr := hx _ (by omega) (fun z => by have := h.rk; rw [z, kp] at this; omega) (fun z => by have := h.rk; rw [z, h0.ak] at this; omega) (fun z => by have := h.rk; rw [z, h0.bk] at this; omega)
  have eL : ∀ t, L t → β.2 (g.oa t) = α.2 (g.oa t) ∧ β.2 (g.oa t + 1) = α.2 (g.oa t + 1) := fun t ht => by
    have lo := (h.g.nd t ht).lo
    have hi := (h.g.nd t ht).hi
    exact ⟨hx' _ (by omega) lo, hx' _ (by omega) (by omega)⟩
  refine pV.mk o (h.g.fr hN hm eL hn) ?_ ?_ ?_ h.d10 ?_ (by have := h.nb; omega) ?_ ?_ ?_ ?_ uB rB h.ne ?_ ?_ ?_ ?_ ?_ ?_ h.rd ?_ h.ui ?_ h.oi h.o12 ?_
  · rw [hpA 11 (by decide) (by decide)]; exact h.cu
  · rw [hpI]; exact h.dx
  · rw [hl 26 (by decide)]; exact h.dm
  · rw [hl 20 (by decide)]; exact h.nm
  · rw [hpA 12 (by decide) (by decide)]; exact h.lu
  · rw [hpA 13 (by decide) (by decide)]; exact h.lr
  · rw [zkd_eq eu]; exact h.uk
  · rw [zkd_eq er]; exact h.rk
  · rw [zL_eq eu]; exact h.ul
  · rw [zL_eq er]; exact h.rl
  · rw [hm 13 0 (by decide) (by decide) (by omega)]; exact h.rh
  · rw [hm 14 0 (by decide) (by decide) (by omega)]; exact h.rz
  · exact pCh_fr h.rx fun u hu => hm 15 u (by decide) (by decide) (h.g.bd u (h.rm u hu).1).2
  · intro u hu
    obtain ⟨r1, r2, r3⟩ := h.rm u hu
    exact ⟨r1, by rw [zA_eq (eL u r1).1]; exact r2, by rw [hm 16 u (by decide) (by decide) (h.g.bd u r1).2]; exact r3⟩
  · exact fun k hk => (h.u k hk).fr hx' hn fun k h1 h2 => hb k (by omega)
  · intro i hi
    have oi := h.op i hi
    have ui := h.u _ oi.u
    refine oi.fr (hx' _ (by have := ui.hi; omega) ui.lo) (fun k h1 h2 => hm k _ h1 (by omega) (h.g.bd _ ui.lu).2) fun k h1 h2 => hb k (by omega)
  · intro hd
    have oi := h.op (D.dp - 1) (by omega)
    have ui := h.u _ oi.u
    have lo := ui.lo
    have hi := ui.hi
    exact (h.inn hd).fr (hx' _ (by omega) lo) (hx' _ hi (by omega)) (fun k h1 h2 => hl k (by omega)) (fun t ht => hm 10 t (by decide) (by decide) (h.g.bd t ht).2) fun k h1 h2 => hb k (by omega)
/-- words, places: behind a clause's steps -/
theorem pV0.go (h : pV0 c D B at' N F α s) (hx : xKp (c.on (zwI α 40 4 c.p (nI 0)) s1 N at' lv) β) (h4 : ls s' 4 = ls s 4) (h2 : la s' 2 = la s 2) (h3 : la s' 3 = la s 3) (h5 : ls s' 5 = ls s 5) (h6 : la s' 6 = la s 6) (h7 : la s' 7 = la s 7) (h19 : ls s' 19 = ls s 19) (h1 : ls s' 1 = ls s 1) (ax : zI β 40 3 c.p = nI a) (am : ls s' 41 = nI a) (ha : a ≤ c.n + 1) (hN : ls s' 8 = nI N') (hN1 : N ≤ N') (hN0 : N' ≤ 10 * a + 1 + 70 * F) (hz : zc β ≤ D.z0 + 40 * a + 250 * F) (hw : zw β ≤ D.w0 + 200 * a + 1100 * F) : pV0 c D B a N' F β s' := by
  have B1 := h.B1
  have p := h.p
  have aB := h.aB
  have bB := h.bB
  have ka := h.ka
  have va := h.va
  have N1 := h.N1
  have x := h.x
  have nz : zn α ≤ zn β := hx.n
  have fr : ∀ q, q < zn α → q ≠ c.p → β.2 q = α.2 q := fun q h1 h2 => by
    have e := hx.fr q (.inl h1) h2
    rw [e]
    exact zwI_ne h2
  have I : ∀ k, ¬ (3 ≤ k ∧ k ≤ 6 ∨ k = 16) → zI β 40 k c.p = zI α 40 k c.p := fun k hk => (hx.I k hk).trans (by
    show zI (zwI α 40 4 c.p (nI 0)) 40 k c.p = _
    rw [zI_zwI, if_neg (by omega)])
  have A : ∀ k, k ≠ 15 → zA β 40 k c.p = zA α 40 k c.p := fun k hk => (hx.A k hk).trans (by
    show zA (zwI α 40 4 c.p (nI 0)) 40 k c.p = _
    rw [zA_zwI])
  have K : zkd β c.p = 41 := hx.kd.trans (by
    show zkd (zwI α 40 4 c.p (nI 0)) c.p = _
    rw [zkd_zwI]; exact x.kp)
  have ek := fr c.ka (by omega) (fun z => by have := x.kk; rw [z, x.kp] at this; omega)
  have ev := fr c.va (by omega) (fun z => by have := x.kv; rw [z, x.kp] at this; omega)
  have ea := fr D.fa (by omega) (fun z => by have := h.ak; rw [z, x.kp] at this; omega)
  have eb := fr D.fb (by omega) (fun z => by have := h.bk; rw [z, x.kp] at this; omega)
  refine pV0.mk h.n h.ks h.vs h.nm p ka va (by omega) (pxW.mk K ?_ ?_ ?_ ?_ ?_ ?_ ?_ (fun i hi => ?_) (fun i hi => ?_)) (mWd.mk ?_ (fun i hi => ?_) (fun i hi => ?_)) ax am ha hN (by omega) hN0 ?_ ?_ h.f20 ?_ ?_ ?_ ?_ ?_ ?_ aB bB h.ne (fun i hi => ?_) (fun i hi => ?_) hz hw (fun q q1 q2 q3 q4 q5 q6 => (fr q (by omega) q2).trans (h.fr q q1 q2 q3 q4 q5 q6)) ((A 14 (by decide)).trans h.fe) (h19.trans h.t19) (h1.trans h.t1)
  · rw [A 0 (by decide)]; exact x.fk
  · rw [A 1 (by decide)]; exact x.fv
  · rw [I 2 (by decide)]; exact x.fn
  · rw [zkd_eq ek]; exact x.kk
  · rw [zkd_eq ev]; exact x.kv
  · rw [zln_eq ek]; exact x.lk
  · rw [zln_eq ev]; exact x.lv
  · rw [zaI_eq ek]; exact x.rk i hi
  · rw [zaI_eq ev]; exact x.rv i hi
  · rw [h4]; exact h.m.fn
  · rw [h2]; exact h.m.rk i hi
  · rw [h3]; exact h.m.rv i hi
  · rw [I 7 (by decide)]; exact h.fx
  · rw [h5]; exact h.fm
  · rw [A 9 (by decide)]; exact h.fa
  · rw [A 10 (by decide)]; exact h.fb
  · rw [zkd_eq ea]; exact h.ak
  · rw [zkd_eq eb]; exact h.bk
  · rw [zln_eq ea]; exact h.an
  · rw [zln_eq eb]; exact h.bn
  · rw [zaI_eq ea, h6]; exact h.ra i hi
  · rw [zaI_eq eb, h7]; exact h.rb i hi
end PAZN
