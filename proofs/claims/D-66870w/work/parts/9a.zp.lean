/-! THE PURE LAYER: the parser: a clause's nodes come to those that live; one node is laid below another. -/
section PAZP
variable {L L2 : Nat → Prop} {c : pC} {D : pD} {G : xQ} {α β : zS} {s s' s1 : zM} {B at' a a1 b d N N' F F' p q t to u x k i j w wh lv : Nat} {g g' g2 : pG} {v : Int32}
theorem pN_e (hg : ∀ t, L t → g2.oa t = g.oa t ∧ g2.r t = g.r t) (ht : t = 0 ∨ L t) : pN g2 t = pN g t := by
  by_cases e : t = 0
  · rw [e]; rfl
  · rw [pN_s e, pN_s e, (hg t (ht.resolve_left e)).1]
/-- more nodes live -/
theorem pV.ext (h : pV c D L B a N F g α s) (W : gW L2 N B g2 α s) (hL : ∀ t, L t → L2 t) (hg : ∀ t, L t → g2.oa t = g.oa t ∧ g2.r t = g.r t) : pV c D L2 B a N F g2 α s := by
  refine pV.mk h.o W h.cu h.dx h.dm h.d10 h.nm h.nb h.lu h.lr h.uk h.rk h.uB h.rB h.ne h.ul ?_ h.rh h.rz h.rx ?_ h.rd (fun k hk => ?_) h.ui (fun i hi => ?_) h.oi h.o12 (fun hd => ?_)
  · rw [h.rl]
    exact List.map_congr_left fun u hu => by rw [(hg u (h.rm u hu).1).1]
  · intro u hu
    obtain ⟨r1, r2, r3⟩ := h.rm u hu
    exact ⟨hL u r1, by rw [(hg u r1).1]; exact r2, r3⟩
  · have o := h.u k hk
    refine uOk.mk o.lo o.hi o.kn o.fl o.kl ?_ ?_ ?_ ?_ o.mu o.me o.md o.mp (hL _ o.lu) (o.le.imp id (hL _)) (o.ld.imp id (hL _)) (o.lp.imp id (hL _))
    · rw [(hg _ o.lu).1]; exact o.xu
    · rw [pN_e hg o.le]; exact o.xe
    · rw [pN_e hg o.ld]; exact o.xd
    · rw [pN_e hg o.lp]; exact o.xp
  · have o := h.op i hi
    have lu := (h.u _ o.u).lu
    refine oOk.mk o.u o.up o.xh o.xs o.ms o.mo o.mf o.mh o.mn o.kd o.vl o.s12 o.f1 o.h1 o.nb ?_
    rw [(hg _ lu).2]; exact o.rk
  · have o := h.inn hd
    have oi := h.op (D.dp - 1) (by omega)
    have ui := h.u _ oi.u
    refine iOk.mk (fun z1 z2 => ?_) (fun z1 z2 => ?_) (fun z1 z2 => ?_) (fun z1 z2 => ?_) (fun z1 z2 => ?_) (fun z1 z2 => ?_) (fun z1 z2 => ?_) (fun z => ?_) (fun z1 z2 => ?_) (fun z1 z2 => ?_) o.s8
    · obtain ⟨y1, y2⟩ := o.en z1 z2
      exact ⟨y1, by rw [(hg _ (ui.le.resolve_left y1)).2]; exact y2⟩
    · obtain ⟨y1, y2⟩ := o.da z1 z2
      exact ⟨y1, by rw [(hg _ (ui.ld.resolve_left y1)).2]; exact y2⟩
    · obtain ⟨y1, y2⟩ := o.pr z1 z2
      exact ⟨y1, by rw [(hg _ (ui.lp.resolve_left y1)).2]; exact y2⟩
    · obtain ⟨y1, y2, y3, y4⟩ := o.fi z1 z2
      exact ⟨hL _ y1, by rw [(hg _ y1).1]; exact y2, y3, by rw [(hg _ y1).2]; exact y4⟩
    · obtain ⟨y1, y2, y3, y4⟩ := o.ho z1 z2
      exact ⟨hL _ y1, by rw [(hg _ y1).1]; exact y2, y3, by rw [(hg _ y1).2]; exact y4⟩
    · obtain ⟨y1, y2, y3⟩ := o.lt z1 z2
      exact ⟨by rw [pN_e hg (y3.imp id And.left)]; exact y1, y2, y3.imp id fun z => ⟨hL _ z.1, by rw [(hg _ z.1).2]; exact z.2⟩⟩
    · obtain ⟨y1, y2, y3⟩ := o.it z1 z2
      refine ⟨y1, ?_, fun i hi => ?_⟩
      · rw [y2]
        refine List.map_congr_left fun u hu => ?_
        obtain ⟨i, hi, e⟩ := List.getElem_of_mem hu
        have := (y3 i hi).1
        rw [List.getD_eq_getElem?_getD, List.getElem?_eq_getElem hi, e] at this
        rw [(hg u this).1]
      · obtain ⟨x1, x2, x3, x4⟩ := y3 i hi
        exact ⟨hL _ x1, x2, by rw [(hg _ x1).2]; exact x3, x4⟩
    · obtain ⟨y1, y2, y3, y4⟩ := o.de z
      exact ⟨hL _ y1, by rw [(hg _ y1).1]; exact y2, y3, by rw [(hg _ y1).2]; exact y4⟩
    · obtain ⟨y1, y2, y3⟩ := o.se z1 z2
      exact ⟨by rw [pN_e hg (y3.imp id And.left)]; exact y1, y2, y3.imp id fun z => ⟨hL _ z.1, by rw [(hg _ z.1).2]; exact z.2⟩⟩
    · obtain ⟨y1, y2, y3⟩ := o.pa z1 z2
      exact ⟨by rw [pN_e hg (y3.imp id And.left)]; exact y1, y2, y3.imp id fun z => ⟨hL _ z.1, by rw [(hg _ z.1).2]; exact z.2⟩⟩
/-- a clause's inside is at its end: its nodes live -/
theorem pV.fin (h : pV c D L B at' N F g α s) (e : pR (c.on (zwI α 40 4 c.p (nI 0)) s1 N at' lv) a d b N' 0 g' β s') (h1 : ∀ k, k < 42 → ls s1 k = ls s k) (h2 : ∀ k, la s1 k = la s k) (hv : lv = 1 → ls s' 45 = nI 0) (hb : b + 10 * at' + 2 ≤ N + 10 * a) (ha : at' < a) : pV c D (pLn L N N') B a N' F (g.mrg g' N) β s' ∧ zc β + 6 ≤ D.z0 + 40 * a + 250 * F ∧ zw β + 28 ≤ D.w0 + 200 * a + 1100 * F := by
  have h0 := h.o
  have B1 := h0.B1
  have p := h0.p
  have aB := h0.aB
  have bB := h0.bB
  have N1 := h0.N1
  have x := h0.x
  have hx := e.x
  have hm := e.m
  have nz : zn α ≤ zn β := hx.n
  have N0' : N ≤ N' := e.N0
  have Nb := e.Nb
  have al : a ≤ c.n := e.al
  have N0 := h0.N0
  have zb := h0.zb
  have wb := h0.wb
  have zcb : zc β + 3 * N ≤ zc α + 3 * b := e.zcb
  have zwb : zw β + 14 * N ≤ zw α + 14 * b := e.zwb
  have fr : ∀ q, q < zn α → q ≠ c.p → β.2 q = α.2 q := fun q h1 h2 => by
    have e := hx.fr q (.inl h1) h2
    rw [e]
    exact zwI_ne h2
  have I : ∀ k, ¬ (3 ≤ k ∧ k ≤ 6 ∨ k = 16) → zI β 40 k c.p = zI α 40 k c.p := fun k hk => (hx.I k hk).trans (by
    show zI (zwI α 40 4 c.p (nI 0)) 40 k c.p = _
    rw [zI_zwI, if_neg (by omega)])
  have A : ∀ k, k ≠ 15 → zA β 40 k c.p = zA α 40 k c.p := fun k hk => (hx.A k hk).trans (by
    show zA (zwI α 40 4 c.p (nI 0)) 40 k c.p = _
    rw [zA_zwI])
  have eI : ∀ k, ¬ (k = 8 ∨ 41 ≤ k ∧ k ≤ 45 ∨ k = 49 ∨ 54 ≤ k ∧ k ≤ 57) → k < 42 → ls s' k = ls s k := fun k k1 k2 => (hm.I k k1).trans (h1 k k2)
  have eB : ∀ k, ¬ (9 ≤ k ∧ k ≤ 16 ∨ 46 ≤ k ∧ k ≤ 48 ∨ 50 ≤ k ∧ k ≤ 53 ∨ 58 ≤ k ∧ k ≤ 64) → la s' k = la s k := fun k k1 => (hm.B k k1).trans (h2 k)
  have V0 : pV0 c D B a N' F β s' := h0.go hx (eI 4 (by decide) (by decide)) (eB 2 (by decide)) (eB 3 (by decide)) (eI 5 (by decide) (by decide)) (eB 6 (by decide)) (eB 7 (by decide)) (eI 19 (by decide) (by decide)) (eI 1 (by decide) (by decide)) e.ax e.am (by omega) e.Nm N0' (by omega) (by omega) (by omega)
  have K := h.keep V0 N0' (by omega) nz (fun q q1 q2 _ _ => fr q q1 q2) (I 8 (by decide)) (fun k k1 k2 => A k (by omega)) (fun k hk => eI k (by omega) (by omega)) (fun k t k1 k2 ht => (hm.A k t k1 k2 ht).trans (by rw [show (c.on (zwI α 40 4 c.p (nI 0)) s1 N at' lv).s0 = s1 from rfl, h2 k])) (fun k hk => eB k (by omega))
  have W0 : gW L (c.on (zwI α 40 4 c.p (nI 0)) s1 N at' lv).N0 B g (zwI α 40 4 c.p (nI 0)) s1 := h.g.fr (Nat.le_refl _) (fun k t _ _ _ => by rw [h2 k]) (fun t ht => by
    have lo := (h.g.nd t ht).lo
    exact ⟨zwI_ne (by omega), zwI_ne (by omega)⟩) (Nat.le_refl _)
  have W := gW.mrg (c := c.on (zwI α 40 4 c.p (nI 0)) s1 N at' lv) (g := g) W0 e.g e.N0 hx hm (show B < zn α from B1) p N1 hv
  exact ⟨K.ext W (fun t ht => .inl ht) fun t ht => ⟨mrg_o (h.g.bd t ht).2, mrg_ro (h.g.bd t ht).2⟩, by omega, by omega⟩
/-- a loose node is laid below another -/
theorem pV.att (h : pV c D L B a N F g α s) (hN : N ≤ 8000) (h1 : L to) (h3 : L t) (hr : g.r t < g.r to) (hl : la s 16 t = nI 0) (hrt : t ∉ D.rt) (hz : zc α + 1 ≤ D.z0 + 40 * a + 250 * F) (hw : zw α + 7 ≤ D.w0 + 200 * a + 1100 * F) : ∃ β, hX43_add G (some (g.oa to)) (some (g.oa t)) α = some (some (g.oa t), β) ∧ gX26_attach (nI to) (nI t) s = some ((), mAtS s to (g.ch to) t) ∧ pV c D L B a N F (g.add to t) β (mAtS s to (g.ch to) t) ∧ xAt α (g.oa to) (g.oa t) β ∧ zc β = zc α + 1 ∧ zw β = zw α + 7 := by
  obtain ⟨β, x1, x2, x3, X, x4, x5, x6⟩ := h.g.addB (G := G) hN h1 h3 hr hl
  have h0 := h.o
  have B1 := h0.B1
  have p := h0.p
  have aB := h0.aB
  have bB := h0.bB
  have kaB := h0.ka
  have vaB := h0.va
  have uB := h.uB
  have rB := h.rB
  have x := h0.x
  have o1 := h.g.nd to h1
  have o3 := h.g.nd t h3
  have lo1 := o1.lo
  have lo3 := o3.lo
  have b1 := h.g.bd to h1
  have b3 := h.g.bd t h3
  have nz := X.n
  have old : ∀ q, q ≤ B → β.2 q = α.2 q := fun q hq => X.fr q (by omega) (by omega)
  have ep := old c.p p
  have ou : ∀ k, k < D.nu → β.2 (D.ou k) = α.2 (D.ou k) ∧ β.2 (D.ou k + 1) = α.2 (D.ou k + 1) := fun k hk => by
    have u := h.u k hk
    have e1 := u.kn
    have e2 := u.kl
    exact ⟨X.fr _ (fun z => by have := o1.kl; rw [← z, e1] at this; omega) (fun z => by have := o3.kn; rw [← z, e1] at this; omega), X.fr _ (fun z => by
      have z' : D.ou k = g.oa to := by omega
      have := o1.kn; rw [← z', e1] at this; omega) (fun z => by have := o3.kn; rw [← z, e2] at this; omega)⟩
  have A := mAtS_at (s := s) (to := to) (l := g.ch to) (t := t)
  have m0 : ∀ k, la (mAtS s to (g.ch to) t) k 0 = la s k 0 := fun k => mAtS_old (by omega) (by omega) (fun e => by
    have := (h.g.bd _ (o1.mem _ (last_mem e)).1).1
    omega)
  have rtl : ∀ u, u ∈ D.rt → g.ch to ≠ [] → u ≠ (g.ch to).getLastD 0 := fun u hu e z => by
    have r3 := (h.rm u hu).2.2
    have := (o1.mem _ (last_mem e)).2.1
    rw [← z, r3, pI_inj (by decide) (by omega)] at this
    omega
  have V0 : pV0 c D B a N F β (mAtS s to (g.ch to) t) := by
    have ek := old c.ka kaB
    have ev := old c.va vaB
    have ea := old D.fa aB
    have eb := old D.fb bB
    refine pV0.mk h0.n h0.ks h0.vs h0.nm p kaB vaB (by omega) (pxW.mk ?_ ?_ ?_ ?_ ?_ ?_ ?_ ?_ (fun i hi => ?_) (fun i hi => ?_)) (mWd.mk ?_ (fun i hi => ?_) (fun i hi => ?_)) ?_ ?_ h0.al ?_ h0.N1 h0.N0 ?_ ?_ h0.f20 ?_ ?_ ?_ ?_ ?_ ?_ aB bB h0.ne (fun i hi => ?_) (fun i hi => ?_) (by omega) (by omega) (fun q q1 q2 q3 q4 q5 q6 => (old q q1).trans (h0.fr q q1 q2 q3 q4 q5 q6)) ((zA_eq ep 40 14).trans h0.fe) (mAtS_ls.trans h0.t19) (mAtS_ls.trans h0.t1)
    · rw [zkd_eq ep]; exact x.kp
    · rw [zA_eq ep]; exact x.fk
    · rw [zA_eq ep]; exact x.fv
    · rw [zI_eq ep]; exact x.fn
    · rw [zkd_eq ek]; exact x.kk
    · rw [zkd_eq ev]; exact x.kv
    · rw [zln_eq ek]; exact x.lk
    · rw [zln_eq ev]; exact x.lv
    · rw [zaI_eq ek]; exact x.rk i hi
    · rw [zaI_eq ev]; exact x.rv i hi
    · rw [mAtS_ls]; exact h0.m.fn
    · rw [mAtS_la (by decide)]; exact h0.m.rk i hi
    · rw [mAtS_la (by decide)]; exact h0.m.rv i hi
    · rw [zI_eq ep]; exact h0.ax
    · rw [mAtS_ls]; exact h0.am
    · rw [mAtS_ls]; exact h0.Nm
    · rw [zI_eq ep]; exact h0.fx
    · rw [mAtS_ls]; exact h0.fm
    · rw [zA_eq ep]; exact h0.fa
    · rw [zA_eq ep]; exact h0.fb
    · rw [zkd_eq ea]; exact h0.ak
    · rw [zkd_eq eb]; exact h0.bk
    · rw [zln_eq ea]; exact h0.an
    · rw [zln_eq eb]; exact h0.bn
    · rw [zaI_eq ea, mAtS_la (by decide)]; exact h0.ra i hi
    · rw [zaI_eq eb, mAtS_la (by decide)]; exact h0.rb i hi
  refine ⟨β, x1, x2, pV.mk V0 x3 ?_ ?_ ?_ h.d10 ?_ h.nb ?_ ?_ ?_ ?_ uB rB h.ne ?_ ?_ ?_ ?_ ?_ ?_ h.rd ?_ h.ui ?_ h.oi h.o12 ?_, X, x5, x6⟩
  · rw [zA_eq ep]; exact h.cu
  · rw [zI_eq ep]; exact h.dx
  · rw [mAtS_ls]; exact h.dm
  · rw [mAtS_ls]; exact h.nm
  · rw [zA_eq ep]; exact h.lu
  · rw [zA_eq ep]; exact h.lr
  · rw [zkd_eq (old _ uB)]; exact h.uk
  · rw [zkd_eq (old _ rB)]; exact h.rk
  · rw [zL_eq (old _ uB)]; exact h.ul
  · rw [zL_eq (old _ rB)]; exact h.rl
  · rw [m0]; exact h.rh
  · rw [m0]; exact h.rz
  · refine pCh_fr h.rx fun u hu => ?_
    have r3 := (h.rm u hu).2.2
    rw [A.r15]
    have n1 : u ≠ t := fun z => hrt (z ▸ hu)
    split
    · rw [upd_other n1]
    · rename_i z
      rw [upd_other (rtl u hu z), upd_other n1]
  · intro u hu
    obtain ⟨r1, r2, r3⟩ := h.rm u hu
    have n1 : u ≠ t := fun z => hrt (z ▸ hu)
    have ou := h.g.nd u r1
    refine ⟨r1, ?_, by rw [A.r16, upd_other n1]; exact r3⟩
    show zA β 44 6 (g.oa u) = none
    rw [zA_eq (X.fr (g.oa u) (fun z => by have := o1.kl; rw [← z, ou.kn] at this; omega) (fun z => n1 (h.g.inj u t r1 h3 z)))]
    exact r2
  · intro k hk
    have o := h.u k hk
    obtain ⟨e1, e2⟩ := ou k hk
    refine uOk.mk o.lo (by have := o.hi; omega) ?_ ?_ ?_ ?_ ?_ ?_ ?_ ?_ ?_ ?_ ?_ o.lu o.le o.ld o.lp
    · rw [zkd_eq e1]; exact o.kn
    · rw [zA_eq e1]; exact o.fl
    · rw [zkd_eq e2]; exact o.kl
    · rw [zA_eq e1]; exact o.xu
    · rw [zA_eq e1]; exact o.xe
    · rw [zA_eq e1]; exact o.xd
    · rw [zA_eq e1]; exact o.xp
    · rw [mAtS_la (by decide)]; exact o.mu
    · rw [mAtS_la (by decide)]; exact o.me
    · rw [mAtS_la (by decide)]; exact o.md
    · rw [mAtS_la (by decide)]; exact o.mp
  · intro i hi
    have o := h.op i hi
    exact o.fr (ou _ o.u).1 (fun k k1 k2 => by rw [mAtS_la (by omega)]) (fun k k1 k2 => mAtS_la (by omega))
  · intro hd
    have oi := h.op (D.dp - 1) (by omega)
    obtain ⟨e1, e2⟩ := ou _ oi.u
    exact (h.inn hd).fr e1 e2 (fun k _ _ => mAtS_ls) (fun t _ => by rw [mAtS_la (by decide)]) (fun k k1 k2 => mAtS_la (by omega))
end PAZP
