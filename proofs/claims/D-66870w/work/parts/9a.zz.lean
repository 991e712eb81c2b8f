/-! THE PURE LAYER: the parser: a unit is closed; a fault that is noted on the way. -/
def pD.pop (D : pD) : pD := (D.fa, D.fb, D.lu, D.lr, D.rt, D.nu, D.un, D.ou, D.en, D.da, D.pr, D.dp - 1, D.os, D.st, D.nm, D.fu, D.hd, D.fi, D.ho, D.de, D.se, D.pa, D.lt, D.it, D.z0, D.w0, D.a0)
/-- X's store behind a note -/
def xNo (c : pC) (D : pD) (β : zS) (F wh w : Nat) : zS := zwI (zsI (zsI β D.fa (upd (zaI β D.fa) F (nI wh))) D.fb (upd (zaI β D.fb) F (nI w))) 40 7 c.p (nI (F + 1))
def mNo (s : zM) (F wh w : Nat) : zM := us (ua (ua s 6 (upd (la s 6) F (nI wh))) 7 (upd (la s 7) F (nI w))) 5 (nI (F + 1))
section PAZZ
variable {L L2 : Nat → Prop} {c : pC} {D : pD} {G : xQ} {α β : zS} {s s' s1 : zM} {B at' a a1 b d N N' F F' p q t to u x y k i j w wh lv m S : Nat} {g g' g2 : pG} {v : Int32}
theorem pV.pop (h : pV c D L B a N F g α s) (hd : D.dp = i + 1) : pV c D.pop L B a N F g (zwI (zwA α 40 11 c.p (if i = 0 then none else some (D.ou (D.os (i - 1))))) 40 8 c.p (nI i)) (us s 26 (nI i)) := by
  have h0 := h.o
  have pB := h0.p
  have B1 := h0.B1
  have x := h0.x
  have kp := x.kp
  have cell : ∀ q, q ≠ c.p → (zwI (zwA α 40 11 c.p (if i = 0 then none else some (D.ou (D.os (i - 1))))) 40 8 c.p (nI i)).2 q = α.2 q := fun q hq => by rw [zwI_ne hq, zwA_ne hq]
  have rI : ∀ k, k ≠ 8 → zI (zwI (zwA α 40 11 c.p (if i = 0 then none else some (D.ou (D.os (i - 1))))) 40 8 c.p (nI i)) 40 k c.p = zI α 40 k c.p := fun k hk => by
    rw [zI_zwI, if_neg (fun z => hk z.2.1), zI_zwA]
  have rA : ∀ k, k ≠ 11 → zA (zwI (zwA α 40 11 c.p (if i = 0 then none else some (D.ou (D.os (i - 1))))) 40 8 c.p (nI i)) 40 k c.p = zA α 40 k c.p := fun k hk => by
    rw [zA_zwI, zA_zwA, if_neg (fun z => hk z.2.1)]
  have ka := cell c.ka (fun z => by have := x.kk; rw [z, kp] at this; omega)
  have va := cell c.va (fun z => by have := x.kv; rw [z, kp] at this; omega)
  have fa := cell D.fa (fun z => by have := h0.ak; rw [z, kp] at this; omega)
  have fb := cell D.fb (fun z => by have := h0.bk; rw [z, kp] at this; omega)
  have lu := cell D.lu (fun z => by have := h.uk; rw [z, kp] at this; omega)
  have lr := cell D.lr (fun z => by have := h.rk; rw [z, kp] at this; omega)
  have V0 : pV0 c D.pop B a N F (zwI (zwA α 40 11 c.p (if i = 0 then none else some (D.ou (D.os (i - 1))))) 40 8 c.p (nI i)) (us s 26 (nI i)) := by
    refine pV0.mk h0.n h0.ks h0.vs h0.nm pB h0.ka h0.va B1 (pxW.mk ?_ ?_ ?_ ?_ ?_ ?_ ?_ ?_ (fun i hi => ?_) (fun i hi => ?_)) (mWd.mk h0.m.fn h0.m.rk h0.m.rv) ?_ h0.am h0.al h0.Nm h0.N1 h0.N0 ?_ h0.fm h0.f20 ?_ ?_ ?_ ?_ ?_ ?_ h0.aB h0.bB h0.ne (fun i hi => ?_) (fun i hi => ?_) h0.zb h0.wb (fun q q1 q2 q3 q4 q5 q6 => (cell q q2).trans (h0.fr q q1 q2 q3 q4 q5 q6)) ((rA 14 (by decide)).trans h0.fe) h0.t19 h0.t1
    · rw [zkd_zwI, zkd_zwA]; exact kp
    · rw [rA 0 (by decide)]; exact x.fk
    · rw [rA 1 (by decide)]; exact x.fv
    · rw [rI 2 (by decide)]; exact x.fn
    · rw [zkd_eq ka]; exact x.kk
    · rw [zkd_eq va]; exact x.kv
    · rw [zln_eq ka]; exact x.lk
    · rw [zln_eq va]; exact x.lv
    · rw [zaI_eq ka]; exact x.rk i hi
    · rw [zaI_eq va]; exact x.rv i hi
    · rw [rI 3 (by decide)]; exact h0.ax
    · rw [rI 7 (by decide)]; exact h0.fx
    · rw [rA 9 (by decide)]; exact h0.fa
    · rw [rA 10 (by decide)]; exact h0.fb
    · show zkd _ D.fa = _
      rw [zkd_eq fa]; exact h0.ak
    · show zkd _ D.fb = _
      rw [zkd_eq fb]; exact h0.bk
    · show zln _ D.fa = _
      rw [zln_eq fa]; exact h0.an
    · show zln _ D.fb = _
      rw [zln_eq fb]; exact h0.bn
    · show zaI _ D.fa i = _
      rw [zaI_eq fa]; exact h0.ra i hi
    · show zaI _ D.fb i = _
      rw [zaI_eq fb]; exact h0.rb i hi
  have eg : ∀ t, L t → (zwI (zwA α 40 11 c.p (if i = 0 then none else some (D.ou (D.os (i - 1))))) 40 8 c.p (nI i)).2 (g.oa t) = α.2 (g.oa t) ∧ (zwI (zwA α 40 11 c.p (if i = 0 then none else some (D.ou (D.os (i - 1))))) 40 8 c.p (nI i)).2 (g.oa t + 1) = α.2 (g.oa t + 1) := fun t ht => by
    have lo := (h.g.nd t ht).lo
    exact ⟨cell _ (by omega), cell _ (by omega)⟩
  have eo : ∀ k, k < D.nu → (zwI (zwA α 40 11 c.p (if i = 0 then none else some (D.ou (D.os (i - 1))))) 40 8 c.p (nI i)).2 (D.ou k) = α.2 (D.ou k) ∧ (zwI (zwA α 40 11 c.p (if i = 0 then none else some (D.ou (D.os (i - 1))))) 40 8 c.p (nI i)).2 (D.ou k + 1) = α.2 (D.ou k + 1) := fun k hk => by
    have lo := (h.u k hk).lo
    exact ⟨cell _ (by omega), cell _ (by omega)⟩
  have ei : D.dp - 1 = i := by omega
  refine pV.mk V0 (h.g.fr (Nat.le_refl _) (fun _ _ _ _ _ => rfl) eg (Nat.le_refl _)) ?_ ?_ ?_ ?_ h.nm h.nb ?_ ?_ ?_ ?_ h.uB h.rB h.ne ?_ ?_ h.rh h.rz h.rx ?_ h.rd (fun k hk => ?_) h.ui (fun j (hj : j < D.dp - 1) => ?_) (fun j k (hj : j < D.dp - 1) (hk : k < D.dp - 1) => h.oi j k (by omega) (by omega)) (fun j (hj : j + 1 < D.dp - 1) => h.o12 j (by omega)) (fun hz => ?_)
  · show _ = if D.dp - 1 = 0 then none else some (D.ou (D.os (D.dp - 1 - 1)))
    rw [zA_zwI, zA_zwA, if_pos ⟨rfl, rfl, rfl⟩, ei]
  · show _ = nI (D.dp - 1)
    rw [zI_zwI, if_pos ⟨rfl, rfl, rfl⟩, ei]
  · show nI i = nI (D.dp - 1)
    rw [ei]
  · show D.dp - 1 ≤ 10
    have := h.d10
    omega
  · rw [rA 12 (by decide)]; exact h.lu
  · rw [rA 13 (by decide)]; exact h.lr
  · show zkd _ D.lu = _
    rw [zkd_eq lu]; exact h.uk
  · show zkd _ D.lr = _
    rw [zkd_eq lr]; exact h.rk
  · show zL _ D.lu = _
    rw [zL_eq lu]; exact h.ul
  · show zL _ D.lr = _
    rw [zL_eq lr]; exact h.rl
  · intro u hu
    obtain ⟨r1, r2, r3⟩ := h.rm u hu
    exact ⟨r1, by rw [zA_eq (eg u r1).1]; exact r2, r3⟩
  · have o := h.u k hk
    obtain ⟨e1, e2⟩ := eo k hk
    refine uOk.mk o.lo o.hi ?_ ?_ ?_ ?_ ?_ ?_ ?_ o.mu o.me o.md o.mp o.lu o.le o.ld o.lp
    · show zkd _ (D.ou k) = _
      rw [zkd_eq e1]; exact o.kn
    · show zA _ 43 13 (D.ou k) = _
      rw [zA_eq e1]; exact o.fl
    · show zkd _ (D.ou k + 1) = _
      rw [zkd_eq e2]; exact o.kl
    · show zA _ 43 1 (D.ou k) = _
      rw [zA_eq e1]; exact o.xu
    · show zA _ 43 4 (D.ou k) = _
      rw [zA_eq e1]; exact o.xe
    · show zA _ 43 5 (D.ou k) = _
      rw [zA_eq e1]; exact o.xd
    · show zA _ 43 8 (D.ou k) = _
      rw [zA_eq e1]; exact o.xp
  · have o := h.op j (by omega)
    have e1 := (eo _ o.u).1
    refine oOk.mk o.u ?_ ?_ ?_ o.ms o.mo o.mf o.mh o.mn o.kd o.vl o.s12 o.f1 o.h1 o.nb o.rk
    · show zA _ 43 0 (D.ou (D.os j)) = _
      rw [zA_eq e1]; exact o.up
    · show zI _ 43 2 (D.ou (D.os j)) = _
      rw [zI_eq e1]; exact o.xh
    · show zI _ 43 3 (D.ou (D.os j)) = _
      rw [zI_eq e1]; exact o.xs
  · have hz' : D.dp - 1 ≠ 0 := hz
    have e12 : D.st (D.dp - 1 - 1) = 12 := h.o12 _ (by omega)
    show iOk D.pop L g _ _ (D.ou (D.os (D.dp - 1 - 1))) (D.os (D.dp - 1 - 1)) (D.st (D.dp - 1 - 1))
    rw [e12]
    exact iOk.mk (fun z1 z2 => absurd z2 (by decide)) (fun z1 z2 => absurd z2 (by decide)) (fun z1 z2 => absurd z2 (by decide)) (fun z1 z2 => absurd z2 (by decide)) (fun z1 z2 => absurd z2 (by decide)) (fun z1 z2 => absurd z2 (by decide)) (fun z1 z2 => absurd z2 (by decide)) (fun z => absurd z (by decide)) (fun z1 z2 => absurd z2 (by decide)) (fun z1 z2 => absurd z2 (by decide)) (fun z => absurd z (by decide))
/-- both sides note a fault and go on -/
theorem pV_note (h : pV c D L B a N F g α s) (hF : F < 20) : hX4_note G (some c.p) (nI wh) (nI w) α = some ((), xNo c D α F wh w) ∧ gX26_note (nI wh) (nI w) s = some ((), mNo s F wh w) ∧ pV c D L B a N (F + 1) g (xNo c D α F wh w) (mNo s F wh w) := by
  have h0 := h.o
  have x := h0.x
  have K := x.kp
  obtain ⟨n1, n2, n3, n4, n5⟩ := h0.ne
  have pa : c.p ≠ D.fa := fun z => by have := h0.ak; rw [← z, K] at this; omega
  have pb : c.p ≠ D.fb := fun z => by have := h0.bk; rw [← z, K] at this; omega
  have pk : c.p ≠ c.ka := fun z => by have := x.kk; rw [← z, K] at this; omega
  have pv : c.p ≠ c.va := fun z => by have := x.kv; rw [← z, K] at this; omega
  have NT : hX4_note G (some c.p) (nI wh) (nI w) α = some ((), xNo c D α F wh w) := by
    have k2 : zkd (zsI α D.fa (upd (zaI α D.fa) F (nI wh))) c.p = 41 := by rw [zkd_zsI]; exact K
    have k3 : zkd (zsI (zsI α D.fa (upd (zaI α D.fa) F (nI wh))) D.fb (upd (zaI α D.fb) F (nI w))) c.p = 41 := by rw [zkd_zsI]; exact k2
    have b2 : zaI (zsI α D.fa (upd (zaI α D.fa) F (nI wh))) D.fb = zaI α D.fb := by rw [zaI_zsIf, if_neg (fun z => n1 z.symm)]
    unfold hX4_note xNo
    rw [kfI K, gl_bs, h0.fx, if_pos (show ¬ nI F = 20 from by rw [show (20 : Int32) = nI 20 from rfl, pI_inj (by omega) (by decide)]; omega), kfA K, gl_bs, h0.fa, gl_bs, pkia h0.ak (by rw [h0.an]; omega) (by rw [h0.an]; decide), gl_bs, kfA k2, gl_bs, zA_zsI, h0.fb, kfI k2, gl_bs, zI_zsI, h0.fx, pkia (by rw [zkd_zsI]; exact h0.bk) (by rw [zln_zsI, h0.bn]; omega) (by rw [zln_zsI, h0.bn]; decide), gl_bs, b2, kfI k3, gl_bs, zI_zsI, zI_zsI, h0.fx, kpI k3, gl_bs, show nI F + 1 = nI (F + 1) from pI_succ F]
  have frX : ∀ q, q ≠ c.p → q ≠ D.fa → q ≠ D.fb → (xNo c D α F wh w).2 q = α.2 q := fun q q1 q2 q3 => by
    unfold xNo
    rw [zwI_ne q1, zsI_ne q3, zsI_ne q2]
  have rI : ∀ k, k ≠ 7 → zI (xNo c D α F wh w) 40 k c.p = zI α 40 k c.p := fun k k2 => by
    unfold xNo
    rw [zI_zwI, if_neg (fun z => k2 z.2.1), zI_zsI, zI_zsI]
  have rA : ∀ k, zA (xNo c D α F wh w) 40 k c.p = zA α 40 k c.p := fun k => by
    unfold xNo
    rw [zA_zwI, zA_zsI, zA_zsI]
  have rK : ∀ q, zkd (xNo c D α F wh w) q = zkd α q := fun q => by
    unfold xNo
    rw [zkd_zwI, zkd_zsI, zkd_zsI]
  have rL : ∀ q, zln (xNo c D α F wh w) q = zln α q := fun q => by
    unfold xNo
    rw [zln_zwI, zln_zsI, zln_zsI]
  have ra : zaI (xNo c D α F wh w) D.fa = upd (zaI α D.fa) F (nI wh) := by
    unfold xNo
    funext i
    rw [zaI_zwI, zaI_zsI, if_neg n1, zaI_zsI, if_pos rfl]
  have rb : zaI (xNo c D α F wh w) D.fb = upd (zaI α D.fb) F (nI w) := by
    unfold xNo
    funext i
    rw [zaI_zwI, zaI_zsI, if_pos rfl]
  have rq : ∀ q i, q ≠ D.fa → q ≠ D.fb → zaI (xNo c D α F wh w) q i = zaI α q i := fun q i q1 q2 => by
    unfold xNo
    rw [zaI_zwI, zaI_zsI, if_neg q2, zaI_zsI, if_neg q1]
  have zb := h0.zb
  have wb := h0.wb
  have N0 := h0.N0
  have eB : ∀ k, k ≠ 6 → k ≠ 7 → la (mNo s F wh w) k = la s k := fun k k1 k2 => by
    unfold mNo
    rw [la_us, la_ua, if_neg k2, la_ua, if_neg k1]
  have eI : ∀ k, k ≠ 5 → ls (mNo s F wh w) k = ls s k := fun k k1 => by
    unfold mNo
    rw [ls_us, if_neg k1]
    rfl
  have V0 : pV0 c D B a N (F + 1) (xNo c D α F wh w) (mNo s F wh w) := by
    refine pV0.mk h0.n h0.ks h0.vs h0.nm h0.p h0.ka h0.va h0.B1 (pxW.mk ?_ ?_ ?_ ?_ ?_ ?_ ?_ ?_ (fun i hi => ?_) (fun i hi => ?_)) (mWd.mk ?_ (fun i hi => ?_) (fun i hi => ?_)) ?_ ?_ h0.al ?_ h0.N1 (by omega) ?_ ?_ (by omega) ?_ ?_ ?_ ?_ ?_ ?_ h0.aB h0.bB h0.ne (fun i hi => ?_) (fun i hi => ?_) ?_ ?_ (fun q q1 q2 q3 q4 q5 q6 => (frX q q2 q3 q4).trans (h0.fr q q1 q2 q3 q4 q5 q6)) ((rA 14).trans h0.fe) ((eI 19 (by decide)).trans h0.t19) ((eI 1 (by decide)).trans h0.t1)
    · rw [rK]; exact K
    · rw [rA]; exact x.fk
    · rw [rA]; exact x.fv
    · rw [rI 2 (by decide)]; exact x.fn
    · rw [rK]; exact x.kk
    · rw [rK]; exact x.kv
    · rw [rL]; exact x.lk
    · rw [rL]; exact x.lv
    · rw [rq _ _ (fun z => n2 z.symm) (fun z => n4 z.symm)]; exact x.rk i hi
    · rw [rq _ _ (fun z => n3 z.symm) (fun z => n5 z.symm)]; exact x.rv i hi
    · rw [eI 4 (by decide)]; exact h0.m.fn
    · rw [eB 2 (by decide) (by decide)]; exact h0.m.rk i hi
    · rw [eB 3 (by decide) (by decide)]; exact h0.m.rv i hi
    · rw [rI 3 (by decide)]; exact h0.ax
    · rw [eI 41 (by decide)]; exact h0.am
    · rw [eI 8 (by decide)]; exact h0.Nm
    · unfold xNo
      rw [zI_zwI, if_pos ⟨rfl, rfl, rfl⟩]
    · rfl
    · rw [rA]; exact h0.fa
    · rw [rA]; exact h0.fb
    · rw [rK]; exact h0.ak
    · rw [rK]; exact h0.bk
    · rw [rL]; exact h0.an
    · rw [rL]; exact h0.bn
    · rw [ra]
      show _ = upd (la s 6) F (nI wh) i
      by_cases z : i = F
      · rw [z, upd_same, upd_same]
      · rw [upd_other z, upd_other z]; exact h0.ra i (by omega)
    · rw [rb]
      show _ = upd (la s 7) F (nI w) i
      by_cases z : i = F
      · rw [z, upd_same, upd_same]
      · rw [upd_other z, upd_other z]; exact h0.rb i (by omega)
    · show zc α ≤ _
      omega
    · show zw α ≤ _
      omega
  refine ⟨NT, M_note h0.fm hF, h.keep V0 (Nat.le_refl _) (Nat.le_refl _) (Nat.le_refl _) (fun q _ q2 q3 q4 => frX q q2 q3 q4) (rI 8 (by decide)) (fun k _ _ => rA k) (fun k hk => eI k (by omega)) (fun k t k1 k2 _ => by rw [eB k (by omega) (by omega)]) (fun k hk => eB k (by omega) (by omega))⟩
end PAZZ
