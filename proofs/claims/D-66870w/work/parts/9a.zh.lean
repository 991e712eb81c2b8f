/-! THE PURE LAYER: the parser: PERFORM's phrases. -/
section PAZH
variable {c : pC} {G : xQ} {α β γ αs δ ε : zS} {s s' s2 ss : zM} {a a1 a' d b b' N N' N2 Ns as bs k t t2 u w wh q r F F1 F' Fs f y to n jn o K p Rk : Nat} {g g' g2 gs : pG} {v v' kv : Int32} {l ts : List Nat}
/-- a node that waited is laid below its parent on X's side too -/
theorem pR.wake (h : pR c a d b N f g α s) (h1 : c.N0 ≤ t) (h2 : t < N) (hN : N ≤ 8000) (hl : g.ch t = l ++ [f]) : ∃ β, hX43_add G (some (g.oa t)) (some (g.oa f)) α = some (some (g.oa f), β) ∧ pR c a d (b + 1) N 0 g β s ∧ zn α ≤ zn β := by
  have N1 := h.k.N1
  have ot := h.g.nd t h1 h2
  have fm : f ∈ g.ch t := by rw [hl]; simp
  obtain ⟨f1, f2, f3, f4, f5⟩ := ot.mem f fm
  obtain ⟨β, x1, x2, x3, x4, x5⟩ := X_addN (G := G) h h1 h2 f1 f2 hN
  have lo := (h.old h1 h2)
  have lo' := (h.old f1 f2)
  have l1 := ot.lo
  have hi1 := ot.hi
  have of := h.g.nd f f1 f2
  have l2 := of.lo
  have hi2 := of.hi
  have n := x2.n
  have zcb := h.zcb
  have zwb := h.zwb
  have ep : β.2 c.p = α.2 c.p := x2.fr _ (fun z => lo.2.2 z.symm) (fun z => lo'.2.1 z.symm)
  have nin : ∀ w, c.N0 ≤ w → w < N → w ≠ t → f ∉ g.ch w := fun w w1 w2 hw hf => by
    have := ((h.g.nd w w1 w2).mem f hf).2.2.1
    rw [f3, pI_inj (by omega) (by omega)] at this
    exact hw this.symm
  have nl : f ∉ l := fun hf => by
    have := ot.nd
    rw [hl, List.nodup_append] at this
    exact this.2.2 f hf f (by simp) rfl
  have fl : ∀ (l : List Nat) (z : Nat), z ∉ l → l.filter (fun u => decide (u ≠ z)) = l := fun l z hz => List.filter_eq_self.mpr (fun u hu => decide_eq_true (fun e => hz (e ▸ hu)))
  have n0 : ∀ w, c.N0 ≤ w → w < N → (0 : Nat) ∉ g.ch w := fun w w1 w2 z => by
    have := ((h.g.nd w w1 w2).mem 0 z).1
    omega
  have ne1 : g.oa t + 1 ≠ g.oa f := fun z => by have := of.kn; rw [← z, ot.kl] at this; omega
  refine ⟨β, x1, pR.mk h.k (h.x.nw h.k n fun x hx => x2.fr x (by omega) (by omega)) h.m ?_ ?_ h.am h.nm h.bm h.Nm h.al h.a0 h.nl h.N0 (by have := h.Nb; omega) (by omega) (by omega) (by omega) (pgO.mk (fun w w1 w2 => ?_) h.g.inj), n⟩
  · rw [zI_eq ep]; exact h.ax
  · rw [zI_eq ep]; exact h.nx
  · have o := h.g.nd w w1 w2
    have m1 : g.oa w ≠ g.oa t + 1 := fun z => by have := o.kn; rw [z, ot.kl] at this; omega
    have m2 : g.oa w + 1 ≠ g.oa f := fun z => by have := of.kn; rw [← z, o.kl] at this; omega
    have I : ∀ j, zI β 44 j (g.oa w) = zI α 44 j (g.oa w) := fun j => by
      by_cases e : g.oa w = g.oa f
      · rw [e]; exact x2.I 44 j
      · rw [zI_eq (x2.fr _ m1 e)]
    have A : ∀ j, j ≠ 6 → zA β 44 j (g.oa w) = zA α 44 j (g.oa w) := fun j hj => by
      by_cases e : g.oa w = g.oa f
      · rw [e]; exact x2.A 44 j (fun z => hj z.2)
      · rw [zA_eq (x2.fr _ m1 e)]
    refine nOk.mk o.lo (by have := o.hi; omega) ?_ ?_ ?_ ?_ ?_ ?_ ?_ ?_ o.nd (fun u hu => ?_) o.hd o.lt o.nx
    · rw [x2.kd]; exact o.kn
    · rw [A 8 (by decide)]; exact o.fl
    · rw [x2.kd]; exact o.kl
    · rw [I]; exact o.kd
    · rw [I]; exact o.vl
    · rw [I]; exact o.wd
    · rw [I, A 7 (by decide)]; exact o.ex
    · rw [fl _ 0 (n0 w w1 w2)]
      by_cases e : w = t
      · rw [e, x2.ls, ot.ls, hl, List.filter_append, fl l f nl, List.map_append, List.map_append]
        simp
      · rw [x2.L _ (fun z => e (h.g.inj w t w1 w2 h1 h2 (by omega))), o.ls, fl _ f (nin w w1 w2 e)]
    · obtain ⟨u1, u2, u3, u4, u5⟩ := o.mem u hu
      refine ⟨u1, u2, u3, fun _ => ?_, u5⟩
      by_cases e : u = f
      · have : w = t := Classical.byContradiction fun z => nin w w1 w2 z (e ▸ hu)
        rw [e, this]; exact x2.up
      · rw [zA_eq (x2.fr _ (fun z => by have := (h.g.nd u u1 u2).kn; rw [z, ot.kl] at this; omega) (fun z => e (h.g.inj u f u1 u2 f1 f2 z)))]
        exact u4 e
theorem pX.tr0 (h : pX N g s N' g' s') (h' : pX N g' s' N2 g2 s2) : pX N g s N2 g2 s2 := pX.mk h'.n (fun t ht => (h'.oa t ht).trans (h.oa t ht)) (fun t ht => (h'.r t ht).trans (h.r t ht)) (fun t ht => (h'.kd t ht).trans (h.kd t ht)) (fun t ht => (h'.up t ht).trans (h.up t ht)) (h.pl.tr h'.pl) (fun t ht e => (h'.w10 t ht (by rw [h.kd t ht]; exact e)).trans (h.w10 t ht e))
/-- a phrase's node: below t on M's side, waiting on X's -/
theorem pR.phNode (h : pR c a d b N 0 g α s) (hb : pB c b a 4) (h1 : c.N0 ≤ t) (h2 : t < N) (hr : 1300 < g.r t) (hk : kv ≠ nI 53) : ∃ α1 sm s2 g2, hX43_init G (some (zn α)) kv (nI 0) v' (zmk α 45 0 9) = some ((), α1) ∧ zkd (zmk α 45 0 9) (zn α) = 45 ∧ gX26_make kv (nI 0) v' s = some (nI N, sm) ∧ gX26_attach (nI t) (nI N) sm = some ((), s2) ∧ pR c a d (b + 2) (N + 1) N g2 α1 s2 ∧ g2.oa N = zn α ∧ g2.r N = 1200 ∧ g2.ch N = [] ∧ g2.ch t = g.ch t ++ [N] ∧ pY c N g2 α s2 (N + 1) g2 α1 s2 ∧ pX N g s (N + 1) g2 s2 ∧ (∀ u, u < N → g2.oa u = g.oa u) ∧ zn α ≤ zn α1 := by
  have hN := h.N8 hb
  have N0 := h.N0
  have N1 := h.k.N1
  have hp := h.k.p
  have hn := h.x.n
  obtain ⟨h3, hq⟩ := h.cell
  obtain ⟨β, x1, h4⟩ := h3.new (G := G) (kv := kv) (v := nI 0) (v' := v') (r := 1200) hq hk
  obtain ⟨i1, i2⟩ := init_fr hq x1
  have rN : (g.push N (zn α) 1200).r N = 1200 := by rw [push_r, if_pos rfl]
  have rto : (g.push N (zn α) 1200).r t = g.r t := by rw [push_r, if_neg (by omega)]
  have cto : (g.push N (zn α) 1200).ch t = g.ch t := by rw [push_ch, if_neg (by omega)]
  obtain ⟨y1, y2⟩ := h4.pend (to := t) (t := N) (by omega) h1 (by omega) N0 (by omega) (by rw [rN, rto]; omega) mMk_16
  rw [cto] at y1 y2
  refine ⟨β, _, _, _, x1, hq.kd, M_make h.Nm (by omega), y1, y2, by rw [add_oa, push_oa, if_pos rfl], by rw [add_r, rN], by rw [add_ch, if_neg (by omega), push_ch, if_pos rfl], by rw [add_ch, if_pos rfl, cto], ?_, pX.new.add (Nat.le_refl N), fun u hu => by rw [add_oa, push_oa, if_neg (by omega)], by omega⟩
  refine pY.mk (pX.mk (by omega) (fun _ _ => rfl) (fun _ _ => rfl) (fun _ _ => rfl) (fun _ _ => rfl) pPl.rf (fun _ _ _ => rfl)) (by omega) (fun x z1 z2 => by rw [i1 x (by omega) (by omega), zmk_ne (by omega)]) (fun _ _ _ _ _ => rfl) (fun _ _ => rfl) (fun x z1 z2 => ?_)
  rw [add_oa, push_oa, if_pos (by omega)]
  exact Nat.le_refl _
/-- it wakes -/
theorem pR.phWake (h : pR c a d b N' N g' β s') (hY : pY c N g2 αs s2 N' g' β s') (hb : pB c b a 0) (h1 : c.N0 ≤ t) (h2 : t < N) (hch : g2.ch t = l ++ [N]) (ho : g2.oa t = q) (hN : g2.oa N = w) (hx : N < N') (hoN : g'.oa N = w) : ∃ γ, zkd β q = 45 ∧ hX43_add G (some q) (some w) β = some (some w, γ) ∧ pR c a d (b + 1) N' 0 g' γ s' := by
  have hN8 := h.N8 hb
  have n := hY.x.n
  have ot := hY.x.oa t h2
  have kn := (h.g.nd t h1 (by omega)).kn
  obtain ⟨γ, x1, x2, _⟩ := h.wake (G := G) (t := t) (l := l) h1 (by omega) (by omega) (by rw [hY.fc t h2]; exact hch)
  rw [ot, ho] at kn x1
  rw [hoN] at x1
  exact ⟨γ, kn, x1, x2⟩
/-- conditionOf, with frames -/
theorem pR.condOfY (h : pR c a d b N y g α s) (hY : pY c Ns gs αs ss N g α s) (hb : pB c b a 20) (g1 : c.N0 ≤ Ns) (h1 : Ns ≤ to) (h2 : to < N) (hr : 1100 < g.r to) (hl : ∀ u, u ∈ g.ch to → Ns ≤ u) : (∃ β γ t2 s' a' b' N', ∃ g' : pG, hX4_condition G (some c.p) α = some (.inl (some t2), β) ∧ zkd β (g.oa to) = 45 ∧ hX43_add G (some (g.oa to)) (some t2) β = some (some t2, γ) ∧ gX26_conditionOf (nI to) s = some ((), s') ∧ pR c a' d b' N' y g' γ s' ∧ pY c Ns gs αs ss N' g' γ s' ∧ (∀ u, u < N → g'.oa u = g.oa u) ∧ a < a' ∧ b' + 10 * a ≤ b + 1 + 10 * a') ∨ (∃ e β s' wh w, hX4_condition G (some c.p) α = some (.inr e, β) ∧ zthr β e 3 = true ∧ gX26_conditionOf (nI to) s = some ((), s') ∧ pE c wh w β s' ∧ pPl s s') := by
  have N1 := h.k.N1
  have yN := h.yN
  rcases h.condition (G := G) hb with ⟨β, t2, s', a', b', N', g', x1, x2, x3, x4, x5, x6, x7, x8, x9, x10⟩ | ⟨e, β, u, s', wh, w, x1, x2, x3, x4, x5⟩
  · have o1 := x4.x.oa to h2
    have r1 := x4.x.r to h2
    have a5 := x3.a5
    have n1 := x4.x.n
    have hN' := x3.N8 (k := 4) ((hb.go x10).le (by omega))
    have kn := (x3.g.nd to (by omega) (by omega)).kn
    have N0 := h.N0
    have YY := hY.tr x4
    have xs := hY.x.n
    obtain ⟨γ, z1, z2, z3, z4, z5⟩ := x3.addY (G := G) YY (to := to) (t := t2) (by omega) g1 h1 (by omega) (by omega) x6 (by rw [r1]; omega) x7 (by omega) (by rw [x4.fc to h2]; exact hl)
    rw [o1] at kn z1
    refine .inl ⟨β, γ, g'.oa t2, _, a', b' + 1, N', _, x1, kn, z1, ?_, z3, z4, fun u hu => by rw [add_oa]; exact x4.x.oa u hu, x9, by omega⟩
    unfold gX26_conditionOf gX26_conditionOf_26
    rw [gl_x, h.bm, if_pos (show nI 0 = 0 from rfl), x2, gl_bs]
    show xlet (ls s' 43) _ = _
    rw [gl_x, x3.bm, if_neg (fun z => z rfl)]
    show Option.bind (gX26_attach (nI to) (nI t2) s') _ = _
    rw [z2, gl_bs]
  · refine .inr ⟨e, β, s', wh, w, x1, x2, ?_, x4, x5⟩
    unfold gX26_conditionOf gX26_conditionOf_26
    rw [gl_x, h.bm, if_pos (show nI 0 = 0 from rfl), x3, gl_bs]
    show xlet (ls s' 43) _ = _
    rw [gl_x, x4.b1, if_pos (by exact n1n)]
/-- M's child of a name, as operandOf would lay it -/
theorem M_childOp (h : pR c a d b N y g α s) (hN : N < 8000) (hw : wK c a 1 = true) (x3 : gX26_operandOf (nI to) s = some ((), s')) : gX26_child (nI to) (nI 41) (nI (100000 + c.vs a)) (nI a) (maS s a) = some ((), s') := by
  have al := (wK_i hw).1
  have hO : wO c a = true := wO_t ⟨al, .inl (wK_i hw).2⟩
  have e41 : c.ks a = 1 := (wK_i hw).2
  have N0 := h.N0
  have N1 := h.k.N1
  have Nm : ls (maS s a) 8 = nI N := h.Nm
  unfold gX26_operandOf gX26_operandOf_15 at x3
  rw [M_op h hO hN, gl_bs] at x3
  simp only at x3
  rw [if_neg (by rw [nl0, pI_le (by omega) (by omega)]; omega)] at x3
  unfold gX26_child
  rw [M_make Nm (by omega), gl_bs]
  have e : mMk (maS s a) N (nI 41) (nI (100000 + c.vs a)) (nI a) = mOp c s N a := by unfold mOp; rw [e41]
  show (gX26_attach (nI to) (nI N) (mMk (maS s a) N (nI 41) (nI (100000 + c.vs a)) (nI a))).bind _ = _
  rw [e]
  rcases zz : gX26_attach (nI to) (nI N) (mOp c s N a) with _ | ⟨_, w⟩
  · rw [zz] at x3; simp [gl_bn] at x3
  · rw [zz, gl_bs] at x3; rw [gl_bs]; exact x3
theorem M_mbT (h : pR c a d b N y g α s) (hw : wK c a 1 = true) : gX26_mustBe (nI 1) s = some (nI 1, maS s a) := by
  have am := h.am
  have bm := h.bm
  have a5 := h.a5
  unfold gX26_mustBe gX26_mustBe_19 maS
  simp (disch := omega) only [gld, gst, glj, gsj, gpN0, gpN1, gl_x, gl_gi, pI_in', pI_clamp, pI_add, pI_mul, pI_sub, pI_succ, nmod_eq, pI_div, ni_neg, zn_neg, gnar0, gnar1, eq_self, ni_lt, ni_le, ni_eq, ni_zlt, ni_zle, ni_zeq, zn_lt, zn_le, zn_eq, zz_lt, zz_le, zz_eq, ni_zadd, zn_add, ni_zsub, zn_sub, ni_zmul, zn_mul, nZ_add, nZ_sub, nZ_mul, upd_same, upd_other, upd_upd, gl_bi, gl_mi, gl_bs, gl_ms, gl_bn, gl_mn, if_true, if_false, ↓reduceIte, not_true_eq_false, not_false_eq_true, true_and, and_true, false_and, and_false, and_self, or_false, false_or, or_self, or_true, true_or, Nat.not_lt_zero, Nat.reduceAdd, Nat.reduceMul, Nat.add_zero, Nat.zero_add, Nat.mul_zero, Nat.zero_mul, Nat.reduceEqDiff, Nat.reduceLT, Nat.reduceLeDiff, Nat.succ_ne_zero, ua_ua, us_us, tn_le, tn_nle, tn_lt, tn_nlt, tn_eq, tn_ne, tz_le, tz_nle, tz_lt, tz_nlt, tz_eq, tz_ne, ls_us, ls_uj, ls_ua, ls_ub, lj_us, lj_uj, lj_ua, lj_ub, la_us, la_uj, la_ua, la_ub, lb_us, lb_uj, lb_ua, lb_ub, nl0, nl1, nl2, nl3, nl4, nl5, nl6, nl7, nl8, nl9, nl10, nl11, nl12, nl13, nl14, nl15, nl16, nl17, nl18, nl19, nl20, nl21, nl22, nl23, nl24, nl25, nl26, nl27, nl28, nl29, nl30, nl31, nl32, nl33, nl34, nl35, nl36, nl37, nl38, nl39, nl40, nl41, nl42, nl43, nl44, nl45, nl46, nl47, nl48, nl49, nl50, nl51, nl52, nl53, nl54, nl55, nl56, nl57, nl58, nl59, nl60, nl61, nl62, nl63, nl64, nl65, nl66, nl67, nl68, nl69, nl70, nl71, nl72, nl73, nl74, nl75, nl76, nl77, nl78, nl79, nl80, nl82, nl83, nl84, nl85, nl86, nl88, nl90, nl96, nl97, nl99, nl100, nl101, nl104, nl112, nl115, nl120, nl121, nl122, nl126, nl127, nl128, nl160, nl200, nl201, nl202, nl255, nl256, nl300, nl320, nl322, nl400, nl500, nl600, nl640, nl732, nl968, nl999, nl1000, nl1001, nl1040, nl1440, nl1500, nl1501, nl1600, nl2000, nl2240, nl3131, nl4000, nl4095, nl4096, nl4960, nl5000, nl6000, nl6001, nl8000, nl9999, nl10000, nl10200, nl13520, nl14000, nl20000, nl32768, nl40000, nl46000, nl64000, nl65536, nl78000, nl100000, nl128000, nl400000, nl730000, am, bm, M_isK h.k h.mw, hw, b2n_t]
end PAZH
