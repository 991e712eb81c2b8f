/-! THE PURE LAYER: the parser: nodes of relations, on both sides. -/
def mM53 (s : zM) (N : Nat) (v w : Int32) (u : Nat) : zM := ua (mMk s N (nI 53) v w) 12 (upd (la (mMk s N (nI 53) v w) 12) N (nI u))
/-- M's other fields and rows stay -/
def mOt (s s' : zM) : Prop := (∀ k, ¬ (k = 8 ∨ k = 41) → ls s' k = ls s k) ∧ (∀ j, ¬ (9 ≤ j ∧ j ≤ 16) → la s' j = la s j)
def xOt (c : pC) (α β : zS) : Prop := zA β 40 15 c.p = zA α 40 15 c.p ∧ zI β 40 16 c.p = zI α 40 16 c.p
section PAO
variable {c : pC} {G : xQ} {α β γ αs : zS} {s s' s2 ss : zM} {a a1 a' d b b' N N' N2 Ns k t t2 u w wh q r F F1 F' f y to m n : Nat} {g g' g2 gs : pG} {v v' kv : Int32} {l ts : List Nat}
theorem mOt.rf : mOt s s := ⟨fun _ _ => rfl, fun _ _ => rfl⟩
theorem mOt.tr (h : mOt s s') (h' : mOt s' s2) : mOt s s2 := ⟨fun k hk => (h'.1 k hk).trans (h.1 k hk), fun j hj => (h'.2 j hj).trans (h.2 j hj)⟩
theorem mOt.pl (h : mOt s s') : pPl s s' := ⟨h.1 45 (by decide), h.2 46 (by decide), h.2 47 (by decide), h.2 48 (by decide)⟩
theorem mOt.ma : mOt s (maS s a) := ⟨fun k hk => by unfold maS; rw [ls_us, if_neg (by omega)], fun _ _ => rfl⟩
theorem mOt.mk0 : mOt s (mMk s N kv v v') := ⟨fun k hk => by show ls (us s 8 (nI (N + 1))) k = _; rw [ls_us, if_neg (by omega)], fun j hj => by
  unfold mMk
  rw [la_ua, if_neg (by omega), la_ua, if_neg (by omega), la_ua, if_neg (by omega), la_ua, if_neg (by omega), la_ua, if_neg (by omega), la_ua, if_neg (by omega), la_ua, if_neg (by omega), la_ua, if_neg (by omega)]
  rfl⟩
theorem mOt.at : mOt s (mAtS s to l t) := ⟨fun _ _ => mAtS_ls, fun j hj => mAtS_la (by omega)⟩
theorem mOt.m53 : mOt s (mM53 s N v v' u) := by
  refine mOt.mk0.tr (s' := mMk s N (nI 53) v v') ⟨fun _ _ => rfl, fun j hj => ?_⟩
  unfold mM53
  rw [la_ua, if_neg (by omega)]
theorem xOt.rf : xOt c α α := ⟨rfl, rfl⟩
theorem xOt.tr (h : xOt c α β) (h' : xOt c β γ) : xOt c α γ := ⟨h'.1.trans h.1, h'.2.trans h.2⟩
theorem xOt.eq (h : β.2 c.p = α.2 c.p) : xOt c α β := ⟨zA_eq h _ _, zI_eq h _ _⟩
theorem xOt.xa : xOt c α (xaS c α a) := ⟨zA_zwI _ _ _ _ _ _, by unfold xaS; rw [zI_zwI, if_neg (by omega)]⟩
theorem cSb.go (h : cSb c N g α s) (hn : N ≤ N') (ho : ∀ t, t < N → g'.oa t = g.oa t) (hx : xOt c α β) (h5 : ls s' 55 = ls s 55) (h6 : ls s' 56 = ls s 56) : cSb c N' g' β s' := by
  rcases h with ⟨z1, z2⟩ | ⟨u, z1, z2, z3, z4, z5⟩
  · exact .inl ⟨h5.trans z1, hx.1.trans z2⟩
  · exact .inr ⟨u, z1, by omega, h5.trans z3, by rw [ho u z2]; exact hx.1.trans z4, by rw [hx.2, h6]; exact z5⟩
theorem mM53_la {j : Nat} (h1 : 9 ≤ j) (h2 : j ≤ 16) : ∀ i, la (mM53 s N v v' u) j i = if i = N then (if j = 9 then nI 53 else if j = 10 then v else if j = 11 then v' else if j = 12 then nI u else nI 0) else la s j i := fun i => by
  unfold mM53
  rw [la_ua]
  by_cases e : j = 12
  · subst e
    rw [if_pos rfl]
    unfold upd
    by_cases ei : i = N
    · rw [if_pos ei, if_pos ei]; rfl
    · rw [if_neg ei, if_neg ei, mMk_la (by decide) (by decide), if_neg ei]
  · rw [if_neg e, mMk_la h1 h2]
    by_cases ei : i = N
    · rw [if_pos ei, if_pos ei]
      by_cases e9 : j = 9
      · rw [if_pos e9, if_pos e9]
      · rw [if_neg e9, if_neg e9]
        by_cases e10 : j = 10
        · rw [if_pos e10, if_pos e10]
        · rw [if_neg e10, if_neg e10]
          by_cases e11 : j = 11
          · rw [if_pos e11, if_pos e11]
          · rw [if_neg e11, if_neg e11, if_neg e]
    · rw [if_neg ei, if_neg ei]
/-- both sides make a relation's node -/
theorem pR.new53 (h : pR c a d b N y g α s) (hq : xNw c α q) (h1 : c.N0 ≤ u) (h2 : u < N) : ∃ β, hX43_init G (some q) (nI 53) v v' α = some ((), β) ∧ zkd β q = 45 ∧ pR c a d (b + 1) (N + 1) y (g.push N q r) (zwA β 44 7 q (some (g.oa u))) (mM53 s N v v' u) ∧ (∀ x, x ≠ q → x ≠ q + 1 → β.2 x = α.2 x) ∧ zn β = q + 3 := by
  obtain ⟨β, x1, x2, x3, x4, x5, x6, x7, x8, x9, x10, x11, x12, x13⟩ := X_init (G := G) (kv := nI 53) (v := v) (v' := v') hq
  have lo := hq.lo
  have n := hq.n
  have hp := h.k.p
  have ep : (zwA β 44 7 q (some (g.oa u))).2 c.p = α.2 c.p := (zwA_ne (by omega)).trans (x10 _ (by omega) (by omega))
  have zcb := h.zcb
  have zwb := h.zwb
  have Nb := h.Nb
  have yN := h.yN
  have la0 := fun j (h1 : 9 ≤ j) (h2 : j ≤ 16) i => mM53_la (s := s) (N := N) (v := v) (v' := v') (u := u) h1 h2 i
  refine ⟨β, x1, x2, pR.mk h.k (h.x.nw h.k (by show zn α ≤ zn β; omega) fun x hx => ?_) (mKp.mk (fun k hk => ?_) (fun k t k1 k2 ht => ?_) (fun k hk => ?_)) ?_ ?_ ?_ ?_ ?_ rfl h.al h.a0 h.nl (by have := h.N0; omega) (by omega) (by show zc β + _ ≤ _; omega) (by show zw β + _ ≤ _; omega) (by omega) ?_, x10, x11⟩
  · have : zn (zwA β 44 7 q (some (g.oa u))) = zn β := rfl
    rw [this] at hx
    rw [zwA_ne (by omega)]
    exact x10 x (by omega) (by omega)
  · rw [mOt.m53.1 k (by omega)]; exact h.m.I k hk
  · have N0 := h.N0
    rw [la0 k k1 k2, if_neg (by omega)]; exact h.m.A k t k1 k2 ht
  · rw [mOt.m53.2 k (by omega)]; exact h.m.B k hk
  · rw [zI_eq ep]; exact h.ax
  · rw [zI_eq ep]; exact h.nx
  · exact h.am
  · exact h.nm
  · exact h.bm
  · refine h.g.push (s' := mM53 s N v v' u) h.N0 (by omega) lo (by omega) (fun k t h1 h2 h3 h4 => ?_) (fun t h1 h2 => ?_) (by show q + 2 < zn β; omega) (by rw [zkd_zwA]; exact x2) (by rw [zA_zwA, if_neg (by omega)]; exact x3) (by rw [zkd_zwA]; exact x4) (by rw [zL_zwA]; exact x5) ?_ ?_ ?_ (.inl ⟨?_, u, h1, h2, ?_, ?_⟩) ?_ ?_
    · rw [la0 k h1 h2, if_neg (by omega)]
    · have := (h.g.nd t h1 h2).hi
      exact ⟨(zwA_ne (by omega)).trans (x10 _ (by omega) (by omega)), (zwA_ne (by omega)).trans (x10 _ (by omega) (by omega))⟩
    · rw [zI_zwA, x6, la0 9 (by decide) (by decide), if_pos rfl, if_pos rfl]
    · rw [zI_zwA, x7, la0 10 (by decide) (by decide), if_pos rfl]; rfl
    · rw [zI_zwA, x8, la0 11 (by decide) (by decide), if_pos rfl]; rfl
    · rw [la0 9 (by decide) (by decide), if_pos rfl, if_pos rfl]
    · rw [la0 12 (by decide) (by decide), if_pos rfl]; rfl
    · rw [zA_zwA, if_pos ⟨rfl, rfl, rfl⟩]
    · rw [la0 13 (by decide) (by decide), if_pos rfl]; rfl
    · rw [la0 14 (by decide) (by decide), if_pos rfl]; rfl
/-! frames, step by step -/
theorem pY.adv (h : pY c N g α s N' g' β s') : pY c N g α s N' g' (xaS c β a) (maS s' a) := (h.m (fun _ _ _ => rfl) (maS_pl (a := a))).xp (fun q hq => zwI_ne hq) (Nat.le_refl _)
theorem pY.new {r : Nat} (h : pY c N g α s N' g' β s') (hx : ∀ x, x < zn α → x ≠ c.p → γ.2 x = β.2 x) (hn : zn β ≤ zn γ) (hq : zn α ≤ q) (hs : ∀ j i, 9 ≤ j → j ≤ 16 → i < N' → la s2 j i = la s' j i) (hp : pPl s' s2) : pY c N g α s (N' + 1) (g'.push N' q r) γ s2 := by
  have n := h.x.n
  refine pY.mk (pX.mk (by omega) (fun t ht => ?_) (fun t ht => ?_) (fun t ht => ?_) (fun t ht => ?_) (h.x.pl.tr hp) (fun t ht e => (hs 10 t (by decide) (by decide) (by omega)).trans (h.x.w10 t ht e))) (by have := h.nn; omega) (fun x h1 h2 => (hx x h1 h2).trans (h.fx x h1 h2)) (fun j i h1 h2 h3 => (hs j i h1 h2 (by omega)).trans (h.fm j i h1 h2 h3)) (fun t ht => ?_) (fun t ht ht' => ?_)
  · rw [push_oa, if_neg (by omega)]; exact h.x.oa t ht
  · rw [push_r, if_neg (by omega)]; exact h.x.r t ht
  · exact (hs 9 t (by decide) (by decide) (by omega)).trans (h.x.kd t ht)
  · exact (hs 16 t (by decide) (by decide) (by omega)).trans (h.x.up t ht)
  · rw [push_ch, if_neg (by omega)]; exact h.fc t ht
  · rw [push_oa]
    split
    · exact hq
    · exact h.nw t ht (by omega)
theorem pY.add (h : pY c N g α s N' g' β s') (hx : ∀ x, x < zn α → x ≠ c.p → γ.2 x = β.2 x) (hn : zn β ≤ zn γ) (h1 : N ≤ to) (h2 : N ≤ t) (h3 : l ≠ [] → N ≤ l.getLastD 0) : pY c N g α s N' (g'.add to t) γ (mAtS s' to l t) := by
  have old : ∀ j i, i < N → la (mAtS s' to l t) j i = la s' j i := fun j i hi => mAtS_old (by omega) (by omega) (fun e => by have := h3 e; omega)
  exact pY.mk (pX.mk h.x.n h.x.oa h.x.r (fun t ht => (old 9 t ht).trans (h.x.kd t ht)) (fun t ht => (old 16 t ht).trans (h.x.up t ht)) (h.x.pl.tr mAtS_pl) (fun t ht e => (old 10 t ht).trans (h.x.w10 t ht e))) (by have := h.nn; omega) (fun x h1 h2 => (hx x h1 h2).trans (h.fx x h1 h2)) (fun j i e1 e2 e3 => (old j i e3).trans (h.fm j i e1 e2 e3)) (fun t ht => by rw [add_ch, if_neg (by omega)]; exact h.fc t ht) h.nw
/-- a node is laid below another, with frames -/
theorem pR.addY (h : pR c a d b N y g α s) (hY : pY c Ns gs αs ss N g α s) (hN : N ≤ 8000) (g1 : c.N0 ≤ Ns) (h1 : Ns ≤ to) (h2 : to < N) (h3 : Ns ≤ t) (h4 : t < N) (hr : g.r t < g.r to) (h0 : la s 16 t = nI 0) (hy : t ≠ y) (hl : ∀ u, u ∈ g.ch to → Ns ≤ u) : ∃ β, hX43_add G (some (g.oa to)) (some (g.oa t)) α = some (some (g.oa t), β) ∧ gX26_attach (nI to) (nI t) s = some ((), mAtS s to (g.ch to) t) ∧ pR c a d (b + 1) N y (g.add to t) β (mAtS s to (g.ch to) t) ∧ pY c Ns gs αs ss N (g.add to t) β (mAtS s to (g.ch to) t) ∧ xOt c α β := by
  obtain ⟨β, x1, x2, x3⟩ := h.add (G := G) hN (by omega) h2 (by omega) h4 hr h0 hy
  obtain ⟨β', z1, z2, z3, z4, z5⟩ := X_addN (G := G) h (by omega) h2 (by omega) h4 hN
  rw [z1] at x1
  have e : β' = β := (Prod.mk.inj (Option.some.inj x1)).2
  subst e
  have lo := h.old (t := to) (by omega) h2
  have lo' := h.old (t := t) (by omega) h4
  have w1 := hY.nw to h1 h2
  have w2 := hY.nw t h3 h4
  exact ⟨β', z1, x2, x3, hY.add (fun x h1 h2 => z2.fr x (by omega) (by omega)) z2.n h1 h3 (fun e => hl _ (last_mem e)), xOt.eq (z2.fr _ (fun z => lo.2.2 z.symm) (fun z => lo'.2.1 z.symm))⟩
/-- an operand below node to, with frames -/
theorem pR.operandY (h : pR c a d b N y g α s) (hY : pY c Ns gs αs ss N g α s) (hb : pB c b a 0) (g1 : c.N0 ≤ Ns) (h1 : Ns ≤ to) (h2 : to < N) (hr : 0 < g.r to) (hy : y ≠ N) (hl : ∀ u, u ∈ g.ch to → Ns ≤ u) : (∃ β γ s' g', hX4_operand G (some c.p) (nI 1) α = some (.inl (some (zn α)), β) ∧ zkd β (g.oa to) = 45 ∧ hX43_add G (some (g.oa to)) (some (zn α)) β = some (some (zn α), γ) ∧ gX26_operandOf (nI to) s = some ((), s') ∧ pR c (a + 1) d (b + 3) (N + 1) y g' γ s' ∧ pY c Ns gs αs ss (N + 1) g' γ s' ∧ xOt c α γ ∧ mOt s s' ∧ (∀ t, t < N → g'.oa t = g.oa t ∧ g'.r t = g.r t ∧ la s' 16 t = la s 16 t)) ∨ (∃ e β s' w, hX4_operand G (some c.p) (nI 1) α = some (.inr e, β) ∧ zthr β e 3 = true ∧ gX26_operandOf (nI to) s = some ((), s') ∧ pE c 1 w β s' ∧ pPl s s') := by
  rcases h.operandOf (G := G) hb (by omega) h2 hr hy with ⟨hO, _⟩ | R
  · refine .inl ?_
    obtain ⟨β, x1, x2, x3, x4⟩ := h.op1 (G := G) (nm := true) hO (.inl rfl)
    have x1' : hX4_operand G (some c.p) (nI 1) α = some (.inl (some (zn α)), β) := x1
    have hN := h.N8 hb
    have N0 := h.N0
    have nnY := hY.nn
    have e1 : (g.push N (zn α) 0).oa to = g.oa to := by rw [push_oa, if_neg (by omega)]
    have e2 : (g.push N (zn α) 0).oa N = zn α := by rw [push_oa, if_pos rfl]
    have e3 : (g.push N (zn α) 0).ch to = g.ch to := by rw [push_ch, if_neg (by omega)]
    have zb : zn α ≤ zn β := by
      have := (x2.g.nd N h.N0 (Nat.lt_succ_self N)).hi
      rw [e2] at this; omega
    have Y1 : pY c Ns gs αs ss (N + 1) (g.push N (zn α) 0) β (mOp c s N a) := (hY.m (s2 := maS s a) (fun _ _ _ => rfl) maS_pl).new (fun x z1 z2 => x3 x (by omega) z2) zb nnY (fun j i z1 z2 z3 => by unfold mOp; rw [mMk_la z1 z2, if_neg (by omega)]) mMk_pl
    have xo : xOt c α β := xOt.xa.tr (xOt.eq x4)
    obtain ⟨γ, y1, y2, y3, y4, y5⟩ := x2.addY (G := G) Y1 (by omega) g1 h1 (by omega) (t := N) hY.x.n (by omega) (by rw [push_r, push_r, if_pos rfl, if_neg (by omega)]; exact hr) mMk_16 (by omega) (by rw [e3]; exact hl)
    rw [e1, e2] at y1
    rw [e3] at y2 y3 y4
    refine ⟨β, γ, _, _, x1', ?_, y1, ?_, y3, y4, xo.tr y5, (mOt.ma (a := a)).tr (mOt.mk0.tr mOt.at), fun t ht => ⟨by rw [add_oa, push_oa, if_neg (by omega)], by rw [add_r, push_r, if_neg (by omega)], ?_⟩⟩
    · have := (x2.g.nd to (by omega) (by omega)).kn
      rw [e1] at this; exact this
    · unfold gX26_operandOf gX26_operandOf_15
      simp (disch := omega) only [gld, gst, glj, gsj, gpN0, gpN1, gl_x, gl_gi, pI_in', pI_clamp, pI_add, pI_mul, pI_sub, pI_succ, nmod_eq, pI_div, ni_neg, zn_neg, gnar0, gnar1, eq_self, ni_lt, ni_le, ni_eq, ni_zlt, ni_zle, ni_zeq, zn_lt, zn_le, zn_eq, zz_lt, zz_le, zz_eq, ni_zadd, zn_add, ni_zsub, zn_sub, ni_zmul, zn_mul, nZ_add, nZ_sub, nZ_mul, upd_same, upd_other, upd_upd, gl_bi, gl_mi, gl_bs, gl_ms, gl_bn, gl_mn, if_true, if_false, ↓reduceIte, not_true_eq_false, not_false_eq_true, true_and, and_true, false_and, and_false, and_self, or_false, false_or, or_self, or_true, true_or, Nat.not_lt_zero, Nat.reduceAdd, Nat.reduceMul, Nat.add_zero, Nat.zero_add, Nat.mul_zero, Nat.zero_mul, Nat.reduceEqDiff, Nat.reduceLT, Nat.reduceLeDiff, Nat.succ_ne_zero, ua_ua, us_us, tn_le, tn_nle, tn_lt, tn_nlt, tn_eq, tn_ne, tz_le, tz_nle, tz_lt, tz_nlt, tz_eq, tz_ne, ls_us, ls_uj, ls_ua, ls_ub, lj_us, lj_uj, lj_ua, lj_ub, la_us, la_uj, la_ua, la_ub, lb_us, lb_uj, lb_ua, lb_ub, nl0, nl1, nl2, nl3, nl4, nl5, nl6, nl7, nl8, nl9, nl10, nl11, nl12, nl13, nl14, nl15, nl16, nl17, nl18, nl19, nl20, nl21, nl22, nl23, nl24, nl25, nl26, nl27, nl28, nl29, nl30, nl31, nl32, nl33, nl34, nl35, nl36, nl37, nl38, nl39, nl40, nl41, nl42, nl43, nl44, nl45, nl46, nl47, nl48, nl49, nl50, nl51, nl52, nl53, nl54, nl55, nl56, nl57, nl58, nl59, nl60, nl61, nl62, nl63, nl64, nl65, nl66, nl67, nl68, nl69, nl70, nl71, nl72, nl73, nl74, nl75, nl76, nl77, nl78, nl79, nl80, nl82, nl83, nl84, nl85, nl86, nl88, nl90, nl96, nl97, nl99, nl100, nl101, nl104, nl112, nl115, nl120, nl121, nl122, nl126, nl127, nl128, nl160, nl200, nl201, nl202, nl255, nl256, nl300, nl320, nl322, nl400, nl500, nl600, nl640, nl732, nl968, nl999, nl1000, nl1001, nl1040, nl1440, nl1500, nl1501, nl1600, nl2000, nl2240, nl3131, nl4000, nl4095, nl4096, nl4960, nl5000, nl6000, nl6001, nl8000, nl9999, nl10000, nl10200, nl13520, nl14000, nl20000, nl32768, nl40000, nl46000, nl64000, nl65536, nl78000, nl100000, nl128000, nl400000, nl730000, M_op h hO (by omega), y2]
    · have A := mAtS_at (s := mOp c s N a) (to := to) (l := g.ch to) (t := N)
      rw [A.r16, upd_other (by omega)]
      unfold mOp
      rw [mMk_la (by decide) (by decide), if_neg (by omega)]
      rfl
  · exact .inr R
end PAO
