/-! THE PURE LAYER: the parser: a unit gets its name. -/
section PAZZG
variable {L L2 : Nat → Prop} {c : pC} {D D' : pD} {G : xQ} {α β : zS} {s s' s1 : zM} {B at' a a1 b d f N N' F F' p q t to u x y k i j w wh lv m S : Nat} {g g' g2 : pG} {v : Int32}
/-- kind and value of a living node change -/
theorem gW.kv (h : gW L N p g α s) (ht : L t) (h53 : la s 9 t ≠ nI 53) (k53 : k < 53) (m9 : la s' 9 = upd (la s 9) t (nI k)) (m10 : la s' 10 = upd (la s 10) t v) (hm : ∀ k, 11 ≤ k → k ≤ 16 → la s' k = la s k) (kd : ∀ q, zkd β q = zkd α q) (A : ∀ c k q, zA β c k q = zA α c k q) (Ls : ∀ q, zL β q = zL α q) (nz : zn α ≤ zn β) (I : ∀ f q, zkd α q = 45 → zI β 44 f q = if q = g.oa t ∧ f = 0 then nI k else if q = g.oa t ∧ f = 1 then v else zI α 44 f q) : gW L N p g β s' := by
  refine gW.mk h.bd (fun w w1 => ?_) h.inj
  have o := h.nd w w1
  have kn := o.kn
  have e9 : la s' 9 w = nI 53 ↔ la s 9 w = nI 53 := by
    rw [m9]
    by_cases e : w = t
    · rw [e, upd_same, pI_inj (by omega) (by decide)]
      exact ⟨fun z => by omega, fun z => absurd z h53⟩
    · rw [upd_other e]
  refine wOk.mk o.lo (by have := o.hi; omega) (by rw [kd]; exact kn) (by rw [A]; exact o.fl) (by rw [kd]; exact o.kl) ?_ ?_ ?_ ?_ (by rw [Ls]; exact o.ls) o.nd ?_ ?_ ?_ ?_
  · rw [I 0 _ kn, m9]
    by_cases e : w = t
    · rw [e, upd_same, if_pos ⟨rfl, rfl⟩]
    · rw [upd_other e, if_neg (fun z => e (h.inj _ _ w1 ht z.1)), if_neg (fun z => absurd z.2 (by decide))]; exact o.kd
  · rw [I 1 _ kn, m10, if_neg (fun z => absurd z.2 (by decide))]
    by_cases e : w = t
    · rw [e, upd_same, if_pos ⟨rfl, rfl⟩]
    · rw [upd_other e, if_neg (fun z => e (h.inj _ _ w1 ht z.1))]; exact o.vl
  · rw [I 5 _ kn, if_neg (fun z => absurd z.2 (by decide)), if_neg (fun z => absurd z.2 (by decide)), hm 11 (by decide) (by decide)]; exact o.wd
  · rw [I 2 _ kn, if_neg (fun z => absurd z.2 (by decide)), if_neg (fun z => absurd z.2 (by decide)), hm 12 (by decide) (by decide), A]
    exact o.ex.imp (fun z => ⟨e9.mpr z.1, z.2⟩) (fun z => ⟨fun y => z.1 (e9.mp y), z.2⟩)
  · intro u hu
    obtain ⟨u1, u2, u3, u4⟩ := o.mem u hu
    exact ⟨u1, by rw [hm 16 (by decide) (by decide)]; exact u2, by rw [A]; exact u3, u4⟩
  · rw [hm 13 (by decide) (by decide)]; exact o.hd
  · rw [hm 14 (by decide) (by decide)]; exact o.lt
  · rw [hm 15 (by decide) (by decide)]; exact o.nx
/-- words, places, faults: nothing of them changes -/
theorem pV0.old (h : pV0 c D B a N F α s) (uk : zkd α D.lu = 3) (rk : zkd α D.lr = 3) (hfa : D'.fa = D.fa) (hfb : D'.fb = D.fb) (hlu : D'.lu = D.lu) (hlr : D'.lr = D.lr) (hz0 : D'.z0 = D.z0) (hw0 : D'.w0 = D.w0) (ha0 : D'.a0 = D.a0) (old : ∀ y, y ≤ B → y ≠ c.p → y ≠ D.lu → y ≠ D.lr → β.2 y = α.2 y) (hk : zkd β c.p = 41) (hI : ∀ k, k = 2 ∨ k = 3 ∨ k = 7 → zI β 40 k c.p = zI α 40 k c.p) (hA : ∀ k, k ≤ 1 ∨ k = 9 ∨ k = 10 ∨ k = 14 → zA β 40 k c.p = zA α 40 k c.p) (hn : zn α ≤ zn β) (zb : zc β ≤ D.z0 + 40 * a + 250 * F) (wb : zw β ≤ D.w0 + 200 * a + 1100 * F) (hl : ∀ k, k = 1 ∨ k = 4 ∨ k = 5 ∨ k = 8 ∨ k = 19 ∨ k = 41 → ls s' k = ls s k) (hm : ∀ k, k = 2 ∨ k = 3 ∨ k = 6 ∨ k = 7 → la s' k = la s k) : pV0 c D' B a N F β s' := by
  have p := h.p
  have aB := h.aB
  have bB := h.bB
  have kaB := h.ka
  have vaB := h.va
  have B1 := h.B1
  have x := h.x
  have kp := x.kp
  have ek := old c.ka kaB (fun z => by have := x.kk; rw [z, kp] at this; omega) (fun z => by have := x.kk; rw [z, uk] at this; omega) (fun z => by have := x.kk; rw [z, rk] at this; omega)
  have ev := old c.va vaB (fun z => by have := x.kv; rw [z, kp] at this; omega) (fun z => by have := x.kv; rw [z, uk] at this; omega) (fun z => by have := x.kv; rw [z, rk] at this; omega)
  have ea := old D.fa aB (fun z => by have := h.ak; rw [z, kp] at this; omega) (fun z => by have := h.ak; rw [z, uk] at this; omega) (fun z => by have := h.ak; rw [z, rk] at this; omega)
  have eb := old D.fb bB (fun z => by have := h.bk; rw [z, kp] at this; omega) (fun z => by have := h.bk; rw [z, uk] at this; omega) (fun z => by have := h.bk; rw [z, rk] at this; omega)
  refine pV0.mk h.n h.ks h.vs h.nm p kaB vaB (by omega) (pxW.mk hk ?_ ?_ ?_ ?_ ?_ ?_ ?_ (fun i hi => ?_) (fun i hi => ?_)) (mWd.mk ?_ (fun i hi => ?_) (fun i hi => ?_)) ?_ ?_ h.al ?_ h.N1 h.N0 ?_ ?_ h.f20 ?_ ?_ ?_ ?_ ?_ ?_ (by rw [hfa]; exact aB) (by rw [hfb]; exact bB) (by rw [hfa, hfb]; exact h.ne) (fun i hi => ?_) (fun i hi => ?_) (by rw [hz0]; exact zb) (by rw [hw0]; exact wb) (fun q q1 q2 q3 q4 q5 q6 => ?_) (by rw [ha0]; exact (hA 14 (by decide)).trans h.fe) ((hl 19 (by decide)).trans h.t19) ((hl 1 (by decide)).trans h.t1)
  · rw [hA 0 (by decide)]; exact x.fk
  · rw [hA 1 (by decide)]; exact x.fv
  · rw [hI 2 (by decide)]; exact x.fn
  · rw [zkd_eq ek]; exact x.kk
  · rw [zkd_eq ev]; exact x.kv
  · rw [zln_eq ek]; exact x.lk
  · rw [zln_eq ev]; exact x.lv
  · rw [zaI_eq ek]; exact x.rk i hi
  · rw [zaI_eq ev]; exact x.rv i hi
  · rw [hl 4 (by decide)]; exact h.m.fn
  · rw [hm 2 (by decide)]; exact h.m.rk i hi
  · rw [hm 3 (by decide)]; exact h.m.rv i hi
  · rw [hI 3 (by decide)]; exact h.ax
  · rw [hl 41 (by decide)]; exact h.am
  · rw [hl 8 (by decide)]; exact h.Nm
  · rw [hI 7 (by decide)]; exact h.fx
  · rw [hl 5 (by decide)]; exact h.fm
  · rw [hA 9 (by decide), hfa]; exact h.fa
  · rw [hA 10 (by decide), hfb]; exact h.fb
  · rw [hfa, zkd_eq ea]; exact h.ak
  · rw [hfb, zkd_eq eb]; exact h.bk
  · rw [hfa, zln_eq ea]; exact h.an
  · rw [hfb, zln_eq eb]; exact h.bn
  · rw [hfa, zaI_eq ea, hm 6 (by decide)]; exact h.ra i hi
  · rw [hfb, zaI_eq eb, hm 7 (by decide)]; exact h.rb i hi
  · rw [hfa] at q3
    rw [hfb] at q4
    rw [hlu] at q5
    rw [hlr] at q6
    rw [ha0]
    exact (old q q1 q2 q5 q6).trans (h.fr q q1 q2 q3 q4 q5 q6)
/-- the innermost unit gets kind and name -/
theorem pV_kv (h : pV c D L B a N F g α s) (hi : D.dp = i + 1) (hS : D.st i = 0) (hf : f ≤ 1) (hv : w ≤ 99999) (hl : ∀ k, ls s' k = ls s k) (m9 : la s' 9 = upd (la s 9) (D.un (D.os i)) (nI (1 + f))) (m10 : la s' 10 = upd (la s 10) (D.un (D.os i)) (nI w)) (m27 : la s' 27 = upd (la s 27) i (nI 1)) (m28 : la s' 28 = upd (la s 28) i (nI w)) (m30 : la s' 30 = upd (la s 30) i (nI f)) (hm : ∀ k, ¬ (k = 9 ∨ k = 10 ∨ k = 27 ∨ k = 28 ∨ k = 30) → la s' k = la s k) : pV c (D.set D.en D.da D.pr (va_up D.st i 1) (va_up D.nm i w) (va_up D.fu i f) D.hd D.fi D.ho D.de D.se D.pa D.lt D.it) L B a N F g (zwI (zwI (zwI α 44 0 (g.oa (D.un (D.os i))) (nI (1 + f))) 44 1 (g.oa (D.un (D.os i))) (nI w)) 43 3 (D.ou (D.os i)) (nI 1)) s' := by
  obtain ⟨i10, hu, cu, ku, xs, d26, r29, r22, u2⟩ := h.cur hi
  have h0 := h.o
  have U := h.u _ hu
  have oi := h.op i (by omega)
  have nk := (h.g.nd _ U.lu).kn
  have nlo := (h.g.nd _ U.lu).lo
  have ulo := U.lo
  have p := h0.p
  have uB := h.uB
  have rB := h.rB
  have kd : ∀ x, zkd (zwI (zwI (zwI α 44 0 (g.oa (D.un (D.os i))) (nI (1 + f))) 44 1 (g.oa (D.un (D.os i))) (nI w)) 43 3 (D.ou (D.os i)) (nI 1)) x = zkd α x := fun x => by rw [zkd_zwI, zkd_zwI, zkd_zwI]
  have A : ∀ e k x, zA (zwI (zwI (zwI α 44 0 (g.oa (D.un (D.os i))) (nI (1 + f))) 44 1 (g.oa (D.un (D.os i))) (nI w)) 43 3 (D.ou (D.os i)) (nI 1)) e k x = zA α e k x := fun e k x => by rw [zA_zwI, zA_zwI, zA_zwI]
  have Ls : ∀ x, zL (zwI (zwI (zwI α 44 0 (g.oa (D.un (D.os i))) (nI (1 + f))) 44 1 (g.oa (D.un (D.os i))) (nI w)) 43 3 (D.ou (D.os i)) (nI 1)) x = zL α x := fun x => by rw [zL_zwI, zL_zwI, zL_zwI]
  have fr : ∀ x, x ≤ B → (zwI (zwI (zwI α 44 0 (g.oa (D.un (D.os i))) (nI (1 + f))) 44 1 (g.oa (D.un (D.os i))) (nI w)) 43 3 (D.ou (D.os i)) (nI 1)).2 x = α.2 x := fun x hx => by rw [zwI_ne (by omega), zwI_ne (by omega), zwI_ne (by omega)]
  have I44 : ∀ e x, zkd α x = 45 → zI (zwI (zwI (zwI α 44 0 (g.oa (D.un (D.os i))) (nI (1 + f))) 44 1 (g.oa (D.un (D.os i))) (nI w)) 43 3 (D.ou (D.os i)) (nI 1)) 44 e x = if x = g.oa (D.un (D.os i)) ∧ e = 0 then nI (1 + f) else if x = g.oa (D.un (D.os i)) ∧ e = 1 then nI w else zI α 44 e x := fun e x _ => by
    rw [zI_zwI, if_neg (fun z => absurd z.1 (by decide)), zI_zwI, zI_zwI]
    by_cases e1 : x = g.oa (D.un (D.os i))
    · by_cases e2 : e = 0
      · rw [if_neg (fun z => by have := z.2.1; omega), if_pos ⟨rfl, e2, e1⟩, if_pos ⟨e1, e2⟩]
      · rw [if_neg (c := x = _ ∧ e = 0) (fun z => e2 z.2)]
        by_cases e3 : e = 1
        · rw [if_pos ⟨rfl, e3, e1⟩, if_pos ⟨e1, e3⟩]
        · rw [if_neg (fun z => e3 z.2.1), if_neg (fun z => e2 z.2.1), if_neg (fun z => e3 z.2)]
    · rw [if_neg (fun z => e1 z.2.2), if_neg (fun z => e1 z.2.2), if_neg (fun z => e1 z.1), if_neg (fun z => e1 z.1)]
  have I43 : ∀ e x, zI (zwI (zwI (zwI α 44 0 (g.oa (D.un (D.os i))) (nI (1 + f))) 44 1 (g.oa (D.un (D.os i))) (nI w)) 43 3 (D.ou (D.os i)) (nI 1)) 43 e x = if e = 3 ∧ x = D.ou (D.os i) then nI 1 else zI α 43 e x := fun e x => by
    rw [zI_zwI]
    by_cases e1 : e = 3 ∧ x = D.ou (D.os i)
    · rw [if_pos ⟨rfl, e1⟩, if_pos e1]
    · rw [if_neg (fun z => e1 z.2), if_neg e1, zI_zwI, if_neg (fun z => absurd z.1 (by decide)), zI_zwI, if_neg (fun z => absurd z.1 (by decide))]
  have hz : zc (zwI (zwI (zwI α 44 0 (g.oa (D.un (D.os i))) (nI (1 + f))) 44 1 (g.oa (D.un (D.os i))) (nI w)) 43 3 (D.ou (D.os i)) (nI 1)) = zc α := rfl
  have hw : zw (zwI (zwI (zwI α 44 0 (g.oa (D.un (D.os i))) (nI (1 + f))) 44 1 (g.oa (D.un (D.os i))) (nI w)) 43 3 (D.ou (D.os i)) (nI 1)) = zw α := rfl
  have hn : zn (zwI (zwI (zwI α 44 0 (g.oa (D.un (D.os i))) (nI (1 + f))) 44 1 (g.oa (D.un (D.os i))) (nI w)) 43 3 (D.ou (D.os i)) (nI 1)) = zn α := rfl
  generalize zwI (zwI (zwI α 44 0 (g.oa (D.un (D.os i))) (nI (1 + f))) 44 1 (g.oa (D.un (D.os i))) (nI w)) 43 3 (D.ou (D.os i)) (nI 1) = β at *
  have zb := h0.zb
  have wb := h0.wb
  have V0' : pV0 c (D.set D.en D.da D.pr (va_up D.st i 1) (va_up D.nm i w) (va_up D.fu i f) D.hd D.fi D.ho D.de D.se D.pa D.lt D.it) B a N F β s' := h0.old h.uk h.rk rfl rfl rfl rfl rfl rfl rfl (fun y y1 _ _ _ => fr y y1) (by rw [kd]; exact h0.x.kp) (fun k hk => zI_eq (fr _ p) 40 k) (fun k _ => A _ _ _) (by omega) (by omega) (by omega) (fun k _ => hl k) (fun k hk => hm k (by omega))
  have ep := fr c.p p
  have W : gW L N B g β s' := h.g.kv (k := 1 + f) (v := nI w) U.lu (by rw [oi.kd]; intro z; have := oi.f1; rw [pI_inj (by omega) (by decide)] at z; omega) (by omega) m9 m10 (fun k k1 k2 => hm k (by omega)) kd A Ls (by omega) I44
  refine pV.mk V0' W ?_ ?_ ?_ h.d10 ?_ h.nb ?_ ?_ ?_ ?_ uB rB h.ne ?_ ?_ ?_ ?_ ?_ ?_ h.rd ?_ h.ui ?_ h.oi (fun j (hj : j + 1 < D.dp) => ?_) ?_
  · rw [A]; exact h.cu
  · rw [zI_eq ep]; exact h.dx
  · rw [hl]; exact h.dm
  · rw [hl]; exact h.nm
  · rw [A]; exact h.lu
  · rw [A]; exact h.lr
  · rw [kd]; exact h.uk
  · rw [kd]; exact h.rk
  · rw [Ls]; exact h.ul
  · rw [Ls]; exact h.rl
  · rw [hm 13 (by decide)]; exact h.rh
  · rw [hm 14 (by decide)]; exact h.rz
  · rw [hm 15 (by decide)]; exact h.rx
  · intro y hy
    obtain ⟨r1, r2, r3⟩ := h.rm y hy
    exact ⟨r1, by rw [A]; exact r2, by rw [hm 16 (by decide)]; exact r3⟩
  · intro k hk
    have o := h.u k hk
    refine uOk.mk o.lo (by show D.ou k + 1 < _; have := o.hi; omega) ?_ ?_ ?_ ?_ ?_ ?_ ?_ ?_ ?_ ?_ ?_ o.lu o.le o.ld o.lp
    · rw [kd]; exact o.kn
    · rw [A]; exact o.fl
    · rw [kd]; exact o.kl
    · rw [A]; exact o.xu
    · rw [A]; exact o.xe
    · rw [A]; exact o.xd
    · rw [A]; exact o.xp
    · rw [hm 22 (by decide)]; exact o.mu
    · rw [hm 23 (by decide)]; exact o.me
    · rw [hm 24 (by decide)]; exact o.md
    · rw [hm 25 (by decide)]; exact o.mp
  · intro j hj
    have o := h.op j hj
    have j9 : j ≤ i := by
      have : j < D.dp := hj
      omega
    by_cases e : j = i
    · subst e
      refine oOk.mk o.u ?_ ?_ ?_ ?_ ?_ ?_ ?_ ?_ ?_ ?_ ?_ ?_ o.h1 ?_ o.rk
      · rw [A]; exact o.up
      · show zI β 43 2 (D.ou (D.os j)) = nI (D.hd j)
        rw [I43, if_neg (fun z => absurd z.1 (by decide))]; exact o.xh
      · show zI β 43 3 (D.ou (D.os j)) = nI (if j = j then 1 else D.st j)
        rw [I43, if_pos ⟨rfl, rfl⟩, if_pos rfl]
      · show la s' 27 j = nI (if j = j then 1 else D.st j)
        rw [m27, upd_same, if_pos rfl]
      · rw [hm 29 (by decide)]; exact o.mo
      · show la s' 30 j = nI (if j = j then f else D.fu j)
        rw [m30, upd_same, if_pos rfl]
      · rw [hm 31 (by decide)]; exact o.mh
      · intro _
        show la s' 28 j = nI (if j = j then w else D.nm j)
        rw [m28, upd_same, if_pos rfl]
      · show la s' 9 (D.un (D.os j)) = nI (1 + if j = j then f else D.fu j)
        rw [m9, upd_same, if_pos rfl]
      · intro _
        show la s' 10 (D.un (D.os j)) = nI (if j = j then w else D.nm j)
        rw [m10, upd_same, if_pos rfl]
      · show (if j = j then 1 else D.st j) ≤ 12
        rw [if_pos rfl]; decide
      · show (if j = j then f else D.fu j) ≤ 1
        rw [if_pos rfl]; exact hf
      · show (if j = j then w else D.nm j) ≤ 99999
        rw [if_pos rfl]; exact hv
    · have nu : D.un (D.os j) ≠ D.un (D.os i) := fun z => by
        have e1 := o.rk
        have e2 := oi.rk
        rw [z, e2] at e1
        omega
      have nq : D.ou (D.os j) ≠ D.ou (D.os i) := fun z => e (h.oi j i hj (by omega) (h.ui _ _ o.u hu z))
      refine oOk.mk o.u ?_ ?_ ?_ ?_ ?_ ?_ ?_ ?_ ?_ ?_ ?_ ?_ o.h1 ?_ o.rk
      · rw [A]; exact o.up
      · show zI β 43 2 (D.ou (D.os j)) = nI (D.hd j)
        rw [I43, if_neg (fun z => absurd z.1 (by decide))]; exact o.xh
      · show zI β 43 3 (D.ou (D.os j)) = nI (if j = i then 1 else D.st j)
        rw [I43, if_neg (fun z => nq z.2), if_neg e]; exact o.xs
      · show la s' 27 j = nI (if j = i then 1 else D.st j)
        rw [m27, upd_other e, if_neg e]; exact o.ms
      · rw [hm 29 (by decide)]; exact o.mo
      · show la s' 30 j = nI (if j = i then f else D.fu j)
        rw [m30, upd_other e, if_neg e]; exact o.mf
      · rw [hm 31 (by decide)]; exact o.mh
      · show (if j = i then 1 else D.st j) ≠ 0 → la s' 28 j = nI (if j = i then w else D.nm j)
        rw [m28, upd_other e, if_neg e, if_neg e]; exact o.mn
      · show la s' 9 (D.un (D.os j)) = nI (1 + if j = i then f else D.fu j)
        rw [m9, upd_other nu, if_neg e]; exact o.kd
      · show (if j = i then 1 else D.st j) ≠ 0 → la s' 10 (D.un (D.os j)) = nI (if j = i then w else D.nm j)
        rw [m10, upd_other nu, if_neg e, if_neg e]; exact o.vl
      · show (if j = i then 1 else D.st j) ≤ 12
        rw [if_neg e]; exact o.s12
      · show (if j = i then f else D.fu j) ≤ 1
        rw [if_neg e]; exact o.f1
      · show (if j = i then w else D.nm j) ≤ 99999
        rw [if_neg e]; exact o.nb
  · show (if j = i then 1 else D.st j) = 12
    rw [if_neg (by omega)]; exact h.o12 j hj
  · intro _
    have e : D.dp - 1 = i := by omega
    have I0 := h.inn (by omega)
    rw [e, hS] at I0
    show iOk _ L g β s' (D.ou (D.os (D.dp - 1))) (D.os (D.dp - 1)) (if D.dp - 1 = i then 1 else D.st (D.dp - 1))
    rw [e, if_pos rfl]
    refine iOk.mk (fun z1 z2 => absurd z1 (by decide)) (fun z1 z2 => absurd z1 (by decide)) (fun z1 z2 => absurd z1 (by decide)) (fun z1 z2 => absurd z1 (by decide)) (fun z1 z2 => absurd z1 (by decide)) (fun z1 z2 => absurd z1 (by decide)) (fun z1 z2 => absurd z1 (by decide)) (fun z => absurd z (by decide)) (fun z1 z2 => absurd z1 (by decide)) (fun z1 z2 => absurd z1 (by decide)) (fun _ => ?_)
    rw [A, A]
    exact I0.s8 (by decide)
end PAZZG
