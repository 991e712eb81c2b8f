/-! THE PURE LAYER: the parser: relations, whole. -/
/-- what reading a relation comes to -/
def qR (c : pC) (a d b N y : Nat) (g : pG) (α : zS) (s : zM) (fX : zF ((Option Nat) ⊕ Nat)) (T : gF Int32) : Prop := (∃ β t s' a' b' N' g', fX = some (.inl (some (g'.oa t)), β) ∧ T = some (nI t, s') ∧ pQ c a d b N y g α s a' b' N' t g' β s' ∧ (∀ m jn, qT m jn s s')) ∨ pFl c s fX T
section PAR
variable {c : pC} {G : xQ} {α β γ αs : zS} {s s' s2 ss : zM} {a a1 a' d b b' N N' N2 Ns k t t2 u w wh q r F F1 F' f y to m n jn : Nat} {g g' g2 gs : pG} {v v' kv : Int32} {l ts : List Nat}
theorem mOp_la {j : Nat} (h1 : 9 ≤ j) (h2 : j ≤ 16) : ∀ i, la (mOp c s N a) j i = if i = N then (if j = 9 then nI 41 else if j = 10 then nI (100000 * c.ks a + c.vs a) else if j = 11 then nI a else nI 0) else la s j i := fun i => by
  unfold mOp
  rw [mMk_la h1 h2]
  rfl
theorem mOp_ot : mOt s (mOp c s N a) := (mOt.ma (a := a)).tr mOt.mk0
/-- behind an operand comes a comparison -/
theorem rel_B1 (h : pR c a d b N y g α s) (hb : pB c b a 20) (hN : N + 2 < 8000) (h1 : pR c (a + 1) d (b + 2) (N + 1) y (g.push N (zn α) 0) β (mOp c s N a)) (Y1 : pY c N g α s (N + 1) (g.push N (zn α) 0) β (mOp c s N a)) (n1 : zn α < zn β) : qR c a d b N y g α s (zcase (hX4_compare G (some c.p) (zwA β 40 15 c.p (some (zn α)))) (fun p19 => hX4_relation_65 G (some c.p) (nI a) (some (zn α)) p19.2) (fun p20 => if zthr p20.2 p20.1 3 = true then some (.inr p20.1, p20.2) else none)) (gFO1 (nI N) (mOp c s N a)) := by
  have N0 := h.N0
  have N1 := h.k.N1
  have yN := h.yN
  have hp0 := h.k.p
  have hn0 := h.x.n
  have al1 := h1.al
  have h11 : la (mOp c s N a) 11 N = nI a := by rw [mOp_la (by decide) (by decide), if_pos rfl]; rfl
  have M0 := M_FO1 (o := N) h1.Nm (by omega) (Nat.lt_succ_self N) h11
  have srK := mRB_K (o := N) (v := nI a) (N := N + 1) h1.m (by omega) N0 (by omega)
  have sr41 : ls (mRB (mOp c s N a) (N + 1) (nI a) N) 41 = nI (a + 1) := by
    unfold mRB
    rw [ls_us, if_neg (by decide), ls_ua, mAtS_ls]; exact h1.am
  have sr43 : ls (mRB (mOp c s N a) (N + 1) (nI a) N) 43 = nI 0 := by
    unfold mRB
    rw [ls_us, if_neg (by decide), ls_ua, mAtS_ls]; exact h1.bm
  have sr8 : ls (mRB (mOp c s N a) (N + 1) (nI a) N) 8 = nI (N + 1 + 1) := by
    unfold mRB
    rw [ls_us, if_neg (by decide), ls_ua, mAtS_ls]; rfl
  have es := fun a' n => mRB_eq (s := mOp c s N a) (N := N + 1) (v := nI a) (o := N) (a' := a') (n := n) (by omega)
  have srp := mRB_pl (s := mOp c s N a) (N := N + 1) (v := nI a) (o := N)
  generalize hsr : mRB (mOp c s N a) (N + 1) (nI a) N = sr at *
  have M1 := M_compare (c := c) (s := sr) (a := a + 1) (t := N + 1) h.k (srK.wd h.k) sr41 sr43 al1 (by omega)
  have XC := X_compare (G := G) (h1.sub (r := some (zn α))) (by unfold pB at *; omega)
  rcases hc : wCm c (a + 1) with ⟨a', n⟩ | a'
  · rw [hc] at M1 XC
    obtain ⟨β2, x1, x2, x3, x4, x5, x6, x7⟩ := XC
    simp only at M1
    rw [es] at M1
    have h2 : pR c a' d (b + 2) (N + 1) y (g.push N (zn α) 0) β2 (us (mCmp (mOp c s N a) a' n) 55 (nI N)) := x2.cmpM.tmp (fun k hk => by rw [ls_us, if_neg (by omega)]) (fun _ _ => rfl)
    have x5' : zn β2 = zn β := x5
    obtain ⟨h3, hq⟩ := h2.cell
    obtain ⟨β3, y1, ykd, y2, y3, y4⟩ := h3.new53 (G := G) (r := 1) (v := nI n) (v' := nI a) (u := N) hq N0 (Nat.lt_succ_self N)
    have eN : (g.push N (zn α) 0).oa N = zn α := by rw [push_oa, if_pos rfl]
    rw [eN] at y2
    have pl2 : pPl (mOp c s N a) (us (mCmp (mOp c s N a) a' n) 55 (nI N)) := ⟨rfl, rfl, rfl, rfl⟩
    have x4' : ∀ x, x ≠ c.p → β2.2 x = β.2 x := fun x hx => by rw [x4 x hx, zwA_ne hx]
    have Y2 : pY c N g α s (N + 1) (g.push N (zn α) 0) β2 (us (mCmp (mOp c s N a) a' n) 55 (nI N)) := (Y1.m (s2 := us (mCmp (mOp c s N a) a' n) 55 (nI N)) (fun _ _ _ => rfl) pl2).xp x4' (by omega)
    have fx3 : ∀ x, x < zn α → x ≠ c.p → (zwA β3 44 7 (zn β2) (some (zn α))).2 x = β2.2 x := fun x z1 z2 => by
      rw [zwA_ne (by omega), y3 x (by omega) (by omega), zmk_ne (by omega)]
    have Y3 : pY c N g α s (N + 1 + 1) ((g.push N (zn α) 0).push (N + 1) (zn β2) 1) (zwA β3 44 7 (zn β2) (some (zn α))) (mM53 (us (mCmp (mOp c s N a) a' n) 55 (nI N)) (N + 1) (nI n) (nI a) N) := Y2.new fx3 (by show zn β2 ≤ zn β3; omega) (by omega) (fun j i z1 z2 z3 => by rw [mM53_la z1 z2, if_neg (by omega)]) mOt.m53.pl
    have oN1 : ((g.push N (zn α) 0).push (N + 1) (zn β2) 1).oa (N + 1) = zn β2 := by rw [push_oa, if_pos rfl]
    have oN : ((g.push N (zn α) 0).push (N + 1) (zn β2) 1).oa N = zn α := by rw [push_oa, if_neg (by omega), eN]
    have cN1 : ((g.push N (zn α) 0).push (N + 1) (zn β2) 1).ch (N + 1) = [] := by rw [push_ch, if_pos rfl]
    have rN1 : ((g.push N (zn α) 0).push (N + 1) (zn β2) 1).r (N + 1) = 1 := by rw [push_r, if_pos rfl]
    have rN : ((g.push N (zn α) 0).push (N + 1) (zn β2) 1).r N = 0 := by rw [push_r, if_neg (by omega), push_r, if_pos rfl]
    have loose : la (mM53 (us (mCmp (mOp c s N a) a' n) 55 (nI N)) (N + 1) (nI n) (nI a) N) 16 N = nI 0 := by
      rw [mM53_la (by decide) (by decide), if_neg (by omega)]
      show la (mOp c s N a) 16 N = _
      exact mMk_16
    obtain ⟨β4, z1, z2, z3, z4, z5⟩ := y2.addY (G := G) Y3 (by omega) N0 (to := N + 1) (t := N) (by omega) (by omega) (Nat.le_refl N) (by omega) (by rw [rN1, rN]; decide) loose (by omega) (by rw [cN1]; intro u hu; simp at hu)
    rw [cN1] at z2 z3 z4
    rw [oN1, oN] at z1
    have cN2 : (((g.push N (zn α) 0).push (N + 1) (zn β2) 1).add (N + 1) N).ch (N + 1) = [N] := by rw [add_ch, if_pos rfl, cN1]; rfl
    have hbb : pB c (b + 2 + 1 + 1 + 1) a' 10 := by unfold pB at *; omega
    have ep3 : (zwA β3 44 7 (zn β2) (some (zn α))).2 c.p = β2.2 c.p := (zwA_ne (by omega)).trans ((y3 _ (by omega) (by omega)).trans (zmk_ne (by omega)))
    have X1 : ∀ R, hX4_operand G (some c.p) (nI 1) β4 = R → zcase (hX4_compare G (some c.p) (zwA β 40 15 c.p (some (zn α)))) (fun p19 => hX4_relation_65 G (some c.p) (nI a) (some (zn α)) p19.2) (fun p20 => if zthr p20.2 p20.1 3 = true then some (.inr p20.1, p20.2) else none) = zcase R (fun p1 => if zis G p1.2 (some (zn β2)) 45 = true then (hX43_add G (some (zn β2)) p1.1 p1.2).bind fun p2 => some (.inl (some (zn β2)), p2.2) else none) (fun p3 => if zthr p3.2 p3.1 3 = true then some (.inr p3.1, p3.2) else none) := fun R hR => by
      have kp3 := h3.kp
      have k16 : zI (zmk β2 45 0 9) 40 16 c.p = nI n := by rw [zI_eq (zmk_ne (by omega))]; exact x7
      have kd := hq.kd
      have kp4 : zkd β3 c.p = 41 := by rw [zkd_eq (y3 _ (by omega) (by omega))]; exact kp3
      have k15 : zA β3 40 15 c.p = some (zn α) := by rw [zA_eq (y3 _ (by omega) (by omega)), zA_eq (zmk_ne (by omega)), x6, zA_zwA, if_pos ⟨rfl, rfl, rfl⟩]
      have kdw : zkd (zwA β3 44 7 (zn β2) (some (zn α))) (zn β2) = 45 := by rw [zkd_zwA]; exact ykd
      have kp6 := z3.kp
      rw [x1, zc_l, ← hR]
      unfold hX4_relation_65 hX4_relation_98
      simp (disch := omega) only [gld, gst, glj, gsj, gpN0, gpN1, gl_x, gl_gi, pI_in', pI_clamp, pI_add, pI_mul, pI_sub, pI_succ, nmod_eq, pI_div, ni_neg, zn_neg, gnar0, gnar1, eq_self, ni_lt, ni_le, ni_eq, ni_zlt, ni_zle, ni_zeq, zn_lt, zn_le, zn_eq, zz_lt, zz_le, zz_eq, ni_zadd, zn_add, ni_zsub, zn_sub, ni_zmul, zn_mul, nZ_add, nZ_sub, nZ_mul, upd_same, upd_other, upd_upd, gl_bi, gl_mi, gl_bs, gl_ms, gl_bn, gl_mn, if_true, if_false, ↓reduceIte, not_true_eq_false, not_false_eq_true, true_and, and_true, false_and, and_false, and_self, or_false, false_or, or_self, or_true, true_or, Nat.not_lt_zero, Nat.reduceAdd, Nat.reduceMul, Nat.add_zero, Nat.zero_add, Nat.mul_zero, Nat.zero_mul, Nat.reduceEqDiff, Nat.reduceLT, Nat.reduceLeDiff, Nat.succ_ne_zero, ua_ua, us_us, tn_le, tn_nle, tn_lt, tn_nlt, tn_eq, tn_ne, tz_le, tz_nle, tz_lt, tz_nlt, tz_eq, tz_ne, kfI, kfJ, kfA, kpI, kpA, kis, kal, kald, kcald, kaald, Option.some.injEq, ls_us, ls_uj, ls_ua, ls_ub, lj_us, lj_uj, lj_ua, lj_ub, la_us, la_uj, la_ua, la_ub, lb_us, lb_uj, lb_ua, lb_ub, nl0, nl1, nl2, nl3, nl4, nl5, nl6, nl7, nl8, nl9, nl10, nl11, nl12, nl13, nl14, nl15, nl16, nl17, nl18, nl19, nl20, nl21, nl22, nl23, nl24, nl25, nl26, nl27, nl28, nl29, nl30, nl31, nl32, nl33, nl34, nl35, nl36, nl37, nl38, nl39, nl40, nl41, nl42, nl43, nl44, nl45, nl46, nl47, nl48, nl49, nl50, nl51, nl52, nl53, nl54, nl55, nl56, nl57, nl58, nl59, nl60, nl61, nl62, nl63, nl64, nl65, nl66, nl67, nl68, nl69, nl70, nl71, nl72, nl73, nl74, nl75, nl76, nl77, nl78, nl79, nl80, nl82, nl83, nl84, nl85, nl86, nl88, nl90, nl96, nl97, nl99, nl100, nl101, nl104, nl112, nl115, nl120, nl121, nl122, nl126, nl127, nl128, nl160, nl200, nl201, nl202, nl255, nl256, nl300, nl320, nl322, nl400, nl500, nl600, nl640, nl732, nl968, nl999, nl1000, nl1001, nl1040, nl1440, nl1500, nl1501, nl1600, nl2000, nl2240, nl3131, nl4000, nl4095, nl4096, nl4960, nl5000, nl6000, nl6001, nl8000, nl9999, nl10000, nl10200, nl13520, nl14000, nl20000, nl32768, nl40000, nl46000, nl64000, nl65536, nl78000, nl100000, nl128000, nl400000, nl730000, znO_e, k16, y1, k15, z1, reduceCtorEq]
    rcases z3.operandY (G := G) z4 (hbb.le (by omega)) N0 (to := N + 1) (by omega) (by omega) (by rw [add_r, rN1]; decide) (by omega) (by rw [cN2]; intro u hu; rw [List.mem_singleton] at hu; omega) with ⟨β5, γ, s', g', w1, w2, w3, w4, w5, w6, w7, w8, w9⟩ | ⟨e, β5, s', w, w1, w2, w3, w4, w5⟩
    · rw [add_oa, oN1] at w2 w3
      obtain ⟨wN1, wN2, wN3⟩ := w9 (N + 1) (by omega)
      rw [add_oa, oN1] at wN1
      rw [add_r, rN1] at wN2
      have wN := (w9 N (by omega)).1
      rw [add_oa, oN] at wN
      have l55 : ls s' 55 = nI N := by rw [w8.1 55 (by decide), mAtS_ls]; rfl
      have l56 : ls s' 56 = nI n := by rw [w8.1 56 (by decide), mAtS_ls]; rfl
      refine .inl ⟨γ, N + 1, s', a' + 1, b + 2 + 1 + 1 + 1 + 3, N + 1 + 1 + 1, g', ?_, ?_, pQ.mk w5 w6 ?_ (by omega) (by omega) ?_ (by rw [wN2]; omega) (by omega) (by omega), fun m jn => ?_⟩
      · rw [X1 _ w1, zc_l, if_pos (of_eq_true (kis w2 (by decide))), wN1]
        show ((hX43_add G (some (zn β2)) (some (zn β4)) β5).bind _) = _
        rw [w3, gl_bs]
      · rw [M0, M1, w4, gl_bs, gl_bs]
      · refine .inr ⟨N, N0, by omega, l55, ?_, ?_⟩
        · rw [wN, w7.1, z5.1, zA_eq ep3, x6, zA_zwA, if_pos ⟨rfl, rfl, rfl⟩]
        · rw [l56, w7.2, z5.2, zI_eq ep3, x7]
      · rw [wN3, (mAtS_at (l := [])).r16, upd_other (by omega), mM53_la (by decide) (by decide), if_pos rfl]; rfl
      · have q1 : qT m jn s (mOp c s N a) := mOp_ot.qq
        have q2 : qT m jn (mOp c s N a) (us (mCmp (mOp c s N a) a' n) 55 (nI N)) := ⟨rfl, rfl, fun _ _ => rfl, fun _ _ _ _ _ => rfl⟩
        exact ((q1.tr q2).tr ((mOt.m53 (N := N + 1) (v := nI n) (v' := nI a) (u := N)).tr (mOt.at (to := N + 1) (l := []) (t := N))).qq).tr w8.qq
    · refine .inr ⟨e, β5, nI (N + 1), s', 1, w, ?_, w2, ?_, w4, ?_⟩
      · rw [X1 _ w1, zc_r, if_pos w2]
      · rw [M0, M1, w3, gl_bs, gl_bs]
      · exact Y1.x.pl.tr (pl2.tr (mOt.m53.pl.tr (mAtS_pl.tr w5)))
  · rw [hc] at M1 XC
    obtain ⟨e, β2, x1, x2, x3, x4, _⟩ := XC
    simp only at M1
    obtain ⟨s', z1, z2, z3⟩ := x3 (us sr 41 (nI a')) (N + 1 + 1) (srK.us1 (by omega)) sr43 sr8 (by omega) (by omega)
    refine .inr ⟨e, β2, nI (N + 1), s', 1, a', ?_, x2, ?_, z2, Y1.x.pl.tr (srp.tr ((show pPl sr (us sr 41 (nI a')) from ⟨rfl, rfl, rfl, rfl⟩).tr z3))⟩
    · rw [x1, zc_r, if_pos x2]
    · rw [M0, M1, z1, gl_bs, gl_bs]
/-- an operand alone -/
theorem rel_B2 (h : pR c a d b N y g α s) (hb : pB c b a 20) (hS : cSb c N g α s) (hO : wO c a = true) (hN : N + 2 < 8000) (h1 : pR c (a + 1) d (b + 2) (N + 1) y (g.push N (zn α) 0) β (mOp c s N a)) (Y1 : pY c N g α s (N + 1) (g.push N (zn α) 0) β (mOp c s N a)) (O1 : xOt c α β) (f1 : ∀ x, x < zn α → x ≠ c.p → β.2 x = α.2 x) (n1 : zn α < zn β) : qR c a d b N y g α s (zcase (hX4_alone G (some c.p) (some (zn α)) β) (fun p21 => some (.inl (p21.1), p21.2)) (fun p22 => if zthr p22.2 p22.1 3 = true then some (.inr p22.1, p22.2) else none)) (gFO2 (nI N) (mOp c s N a)) := by
  have N0 := h.N0
  have N1 := h.k.N1
  have yN := h.yN
  have hp0 := h.k.p
  have hn0 := h.x.n
  have kp1 := h1.kp
  have am1 := h1.am
  have a51 := h1.a5
  obtain ⟨oa1, oa2⟩ := wO_i hO
  have vb := h.k.vs a oa1
  have eN : (g.push N (zn α) 0).oa N = zn α := by rw [push_oa, if_pos rfl]
  have oN := h1.g.nd N N0 (Nat.lt_succ_self N)
  have vl : zI β 44 1 ((g.push N (zn α) 0).oa N) = la (mOp c s N a) 10 N := oN.vl.resolve_right (fun z => by
    have := z.1
    rw [mOp_la (by decide) (by decide), if_pos rfl, if_pos rfl, pI_inj (by decide) (by decide)] at this
    omega)
  have wd := oN.wd
  have kn := oN.kn
  rw [eN] at vl wd kn
  rw [mOp_la (by decide) (by decide), if_pos rfl] at vl wd
  replace vl : zI β 44 1 (zn α) = nI (100000 * c.ks a + c.vs a) := vl
  replace wd : zI β 44 5 (zn α) = nI a := wd
  have h11 : la (mOp c s N a) 11 N = nI a := by rw [mOp_la (by decide) (by decide), if_pos rfl]; rfl
  have l55 : ls (mOp c s N a) 55 = ls s 55 := rfl
  have l56 : ls (mOp c s N a) 56 = ls s 56 := rfl
  have kb : c.ks a ≤ 3 := by omega
  have hdiv : nI (100000 * c.ks a + c.vs a) / (100000 : Int32) = nI (c.ks a) := by
    rw [nl100000, pI_div (by omega) (by decide) (by decide)]
    congr 1
    omega
  have hmod : nI (100000 * c.ks a + c.vs a) - nI (c.ks a) * (100000 : Int32) = nI (c.vs a) := by
    rw [nl100000, pI_mul, pI_sub (by omega)]
    congr 1
    omega
  rcases hS with ⟨z1, z2⟩ | ⟨u, u1, u2, u3, u4, u5⟩
  · have e15 : zA β 40 15 c.p = none := O1.1.trans z2
    have X0 : hX4_alone G (some c.p) (some (zn α)) β = hX4_alone_24 G (some (zn α)) (nI (b2n (wK c a 1))) (some c.p) β := by
      unfold hX4_alone
      rw [kfA kp1, e15, gl_bs, if_pos rfl, kfI kn, vl, gl_bs, if_neg (by first | decide | exact bT | exact n1n), hdiv]
      rcases e : wK c a 1 with _ | _
      · have : c.ks a ≠ 1 := fun z => by rw [wK_t oa1 z] at e; exact absurd e (by decide)
        rw [if_pos (by rw [nl1, pI_inj (by omega) (by decide)]; exact this)]
        rfl
      · rw [(wK_i e).2, if_neg (fun z => z rfl)]
        rfl
    have M0 : gFO2 (nI N) (mOp c s N a) = if wK c a 1 = true then some (nI N, mMk (maS s a) N (nI 54) (nI (c.vs a)) (nI a)) else (gX26_fail (nI 1) (nI (a + 1)) (mOp c s N a)).bind fun p16 => some (0, p16.2) := by
      have mk := M_isK (k := a) (a := 1) h1.k h1.mw (by omega) (by decide)
      unfold gFO2
      rw [gl_x, l55, z1, if_pos (by first | decide | exact bF | exact bT | exact n1n), gl_x, am1, nl1, pI_sub (by omega), Nat.add_sub_cancel, mk, gl_bs]
      rcases e : wK c a 1 with _ | _
      · rw [if_neg (fun z => z rfl), if_neg (by decide)]
        rw [gl_x, am1]
      · rw [if_pos (by first | decide | exact bF | exact bT | exact n1n), if_pos rfl, pgst (by omega) (by decide), gl_bs]
        have hw9 : mWd c (ua (mOp c s N a) 9 (upd (la (mOp c s N a) 9) N 54)) := mWd.mk h1.mw.fn h1.mw.rk h1.mw.rv
        rw [M_passedW h1.k hw9 am1 oa1, gl_bs]
        show ((gst (ua (mOp c s N a) 9 _) 10 8000 (nI N) (nI (c.vs a))).bind _) = _
        rw [pgst (by omega) (by decide), gl_bs]
        show some (nI N, ua (ua (mOp c s N a) 9 (upd (la (mOp c s N a) 9) N (nI 54))) 10 (upd (la (mOp c s N a) 10) N (nI (c.vs a)))) = _
        rw [m54_eq]
    rcases e : wK c a 1 with _ | _
    · rw [e] at X0 M0
      rw [if_neg (by first | decide | exact bT | exact n1n)] at M0
      obtain ⟨q, β2, s', v, y1, y2, y3, y4, y5⟩ := h1.no' (G := G) (by unfold pB at *; omega)
      rw [show nI (b2n false) = nI 0 from rfl] at X0
      refine .inr ⟨q, β2, 0, s', 1, v, ?_, y2, ?_, y4, Y1.x.pl.tr y5⟩
      · rw [X0]
        unfold hX4_alone_24
        rw [if_pos (of_eq_true (kis kp1 (by decide))), y1, zc_r, if_pos y2, zc_r, if_pos y2]
      · rw [M0, y3, gl_bs]
    · rw [e] at X0 M0
      rw [if_pos rfl] at M0
      rw [show nI (b2n true) = nI 1 from rfl] at X0
      have hg : pR c (a + 1) d (b + 2) N y g β (maS s a) := (h.adv oa1).bup (b' := b + 2) (by omega) |>.grow h1 (Nat.le_refl _) (fun x z1 z2 => by
        show β.2 x = (zwI α 40 3 c.p (nI (a + 1))).2 x
        rw [zwI_ne z2]; exact f1 x z1 z2) (by show zn α ≤ _; omega)
      obtain ⟨h3, hq⟩ := hg.cell
      obtain ⟨β3, y1, y2⟩ := h3.new (G := G) (kv := nI 54) (v := nI (c.vs a)) (v' := nI a) (r := 0) hq (by rw [ne_eq, pI_inj (by decide) (by decide)]; decide)
      obtain ⟨y3, y4⟩ := init_fr hq y1
      have fx3 : ∀ x, x < zn α → x ≠ c.p → β3.2 x = α.2 x := fun x z1 z2 => by
        rw [y3 x (by omega) (by omega), zmk_ne (by omega)]; exact f1 x z1 z2
      have ep3 : β3.2 c.p = β.2 c.p := (y3 _ (by omega) (by omega)).trans (zmk_ne (by omega))
      have Y3 : pY c N g α s (N + 1) (g.push N (zn β) 0) β3 (mMk (maS s a) N (nI 54) (nI (c.vs a)) (nI a)) := (pY.rf.m (s2 := maS s a) (fun _ _ _ => rfl) maS_pl).new fx3 (by omega) (by omega) (fun j i z1 z2 z3 => by rw [mMk_la z1 z2, if_neg (by omega)]) mMk_pl
      refine .inl ⟨β3, N, _, a + 1, b + 2 + 1 + 1, N + 1, g.push N (zn β) 0, ?_, M0, pQ.mk y2 Y3 (.inl ⟨z1, by rw [zA_eq ep3]; exact e15⟩) (Nat.le_refl N) (Nat.lt_succ_self N) mMk_16 (by rw [push_r, if_pos rfl]; omega) (by omega) (by omega), fun m jn => ((mOt.ma (a := a)).tr mOt.mk0).qq⟩
      rw [X0]
      unfold hX4_alone_24
      have kd4 := hq.kd
      have v4 : zI (zmk β 45 0 9) 44 1 (zn α) = nI (100000 * c.ks a + c.vs a) := by rw [zI_eq (zmk_ne (by omega))]; exact vl
      have w4 : zI (zmk β 45 0 9) 44 5 (zn α) = nI a := by rw [zI_eq (zmk_ne (by omega))]; exact wd
      have k4 : zkd (zmk β 45 0 9) (zn α) = 45 := by rw [zkd_eq (zmk_ne (by omega))]; exact kn
      rw [if_pos (of_eq_true (kis kp1 (by decide))), X_must1, zc_l]
      show zcase ((znO β 44 9).bind _) _ _ = _
      rw [znO_e, gl_bs]
      show zcase ((zfI (zmk β 45 0 9) (some (zn α)) 44 1).bind _) _ _ = _
      rw [kfI k4, v4, gl_bs, if_neg (by first | decide | exact bT | exact n1n), hdiv, hmod, kfI k4, w4, gl_bs]
      show zcase (if zis G (zmk β 45 0 9) (some (zn β)) 45 = true then (hX43_init G (some (zn β)) 54 (nI (c.vs a)) (nI a) (zmk β 45 0 9)).bind _ else none) _ _ = _
      rw [if_pos (of_eq_true (kis kd4 (by decide))), nl54, y1, gl_bs, zc_l, push_oa, if_pos rfl]
  · have e15 : zA β 40 15 c.p = some (g.oa u) := O1.1.trans u4
    have e16 : zI β 40 16 c.p = ls s 56 := O1.2.trans u5
    obtain ⟨h3, hq⟩ := h1.cell
    have ou : (g.push N (zn α) 0).oa u = g.oa u := by rw [push_oa, if_neg (by omega)]
    obtain ⟨β3, y1, ykd, y2, y3, y4⟩ := h3.new53 (G := G) (r := 1) (v := ls s 56) (v' := nI a) (u := u) hq u1 (by omega)
    rw [ou] at y2
    have fx3 : ∀ x, x < zn α → x ≠ c.p → (zwA β3 44 7 (zn β) (some (g.oa u))).2 x = β.2 x := fun x z1 z2 => by
      rw [zwA_ne (by omega), y3 x (by omega) (by omega), zmk_ne (by omega)]
    have Y3 : pY c N g α s (N + 1 + 1) ((g.push N (zn α) 0).push (N + 1) (zn β) 1) (zwA β3 44 7 (zn β) (some (g.oa u))) (mM53 (mOp c s N a) (N + 1) (ls s 56) (nI a) u) := Y1.new fx3 (by show zn β ≤ zn β3; omega) (by omega) (fun j i z1 z2 z3 => by rw [mM53_la z1 z2, if_neg (by omega)]) mOt.m53.pl
    have oN1 : ((g.push N (zn α) 0).push (N + 1) (zn β) 1).oa (N + 1) = zn β := by rw [push_oa, if_pos rfl]
    have oN : ((g.push N (zn α) 0).push (N + 1) (zn β) 1).oa N = zn α := by rw [push_oa, if_neg (by omega), eN]
    have ouu : ((g.push N (zn α) 0).push (N + 1) (zn β) 1).oa u = g.oa u := by rw [push_oa, if_neg (by omega), ou]
    have cN1 : ((g.push N (zn α) 0).push (N + 1) (zn β) 1).ch (N + 1) = [] := by rw [push_ch, if_pos rfl]
    have rN1 : ((g.push N (zn α) 0).push (N + 1) (zn β) 1).r (N + 1) = 1 := by rw [push_r, if_pos rfl]
    have rN : ((g.push N (zn α) 0).push (N + 1) (zn β) 1).r N = 0 := by rw [push_r, if_neg (by omega), push_r, if_pos rfl]
    have loose : la (mM53 (mOp c s N a) (N + 1) (ls s 56) (nI a) u) 16 N = nI 0 := by
      rw [mM53_la (by decide) (by decide), if_neg (by omega)]
      exact mMk_16
    obtain ⟨β4, z1, z2, z3, z4, z5⟩ := y2.addY (G := G) Y3 (by omega) N0 (to := N + 1) (t := N) (by omega) (by omega) (Nat.le_refl N) (by omega) (by rw [rN1, rN]; decide) loose (by omega) (by rw [cN1]; intro u hu; simp at hu)
    rw [cN1] at z2 z3 z4
    rw [oN1, oN] at z1
    have ep3 : (zwA β3 44 7 (zn β) (some (g.oa u))).2 c.p = β.2 c.p := (zwA_ne (by omega)).trans ((y3 _ (by omega) (by omega)).trans (zmk_ne (by omega)))
    refine .inl ⟨β4, N + 1, _, a + 1, b + 2 + 1 + 1 + 1, N + 1 + 1, _, ?_, ?_, pQ.mk z3 z4 (.inr ⟨u, u1, by omega, ?_, ?_, ?_⟩) (by omega) (by omega) ?_ (by rw [add_r, rN1]; omega) (by omega) (by omega), fun m jn => ?_⟩
    · rw [add_oa, oN1]
      unfold hX4_alone
      have kd4 := hq.kd
      have kp3 := h3.kp
      have w4 : zI (zmk β 45 0 9) 44 5 (zn α) = nI a := by rw [zI_eq (zmk_ne (by omega))]; exact wd
      have k4 : zkd (zmk β 45 0 9) (zn α) = 45 := by rw [zkd_eq (zmk_ne (by omega))]; exact kn
      have c4 : zI (zmk β 45 0 9) 40 16 c.p = ls s 56 := by rw [zI_eq (zmk_ne (by omega))]; exact e16
      have kp4 : zkd β3 c.p = 41 := by rw [zkd_eq (y3 _ (by omega) (by omega))]; exact kp3
      have k15 : zA β3 40 15 c.p = some (g.oa u) := by rw [zA_eq (y3 _ (by omega) (by omega)), zA_eq (zmk_ne (by omega))]; exact e15
      have kdw : zkd (zwA β3 44 7 (zn β) (some (g.oa u))) (zn β) = 45 := by rw [zkd_zwA]; exact ykd
      simp (disch := omega) only [gld, gst, glj, gsj, gpN0, gpN1, gl_x, gl_gi, pI_in', pI_clamp, pI_add, pI_mul, pI_sub, pI_succ, nmod_eq, pI_div, ni_neg, zn_neg, gnar0, gnar1, eq_self, ni_lt, ni_le, ni_eq, ni_zlt, ni_zle, ni_zeq, zn_lt, zn_le, zn_eq, zz_lt, zz_le, zz_eq, ni_zadd, zn_add, ni_zsub, zn_sub, ni_zmul, zn_mul, nZ_add, nZ_sub, nZ_mul, upd_same, upd_other, upd_upd, gl_bi, gl_mi, gl_bs, gl_ms, gl_bn, gl_mn, if_true, if_false, ↓reduceIte, not_true_eq_false, not_false_eq_true, true_and, and_true, false_and, and_false, and_self, or_false, false_or, or_self, or_true, true_or, Nat.not_lt_zero, Nat.reduceAdd, Nat.reduceMul, Nat.add_zero, Nat.zero_add, Nat.mul_zero, Nat.zero_mul, Nat.reduceEqDiff, Nat.reduceLT, Nat.reduceLeDiff, Nat.succ_ne_zero, ua_ua, us_us, tn_le, tn_nle, tn_lt, tn_nlt, tn_eq, tn_ne, tz_le, tz_nle, tz_lt, tz_nlt, tz_eq, tz_ne, kfI, kfJ, kfA, kpI, kpA, kis, kal, kald, kcald, kaald, Option.some.injEq, ls_us, ls_uj, ls_ua, ls_ub, lj_us, lj_uj, lj_ua, lj_ub, la_us, la_uj, la_ua, la_ub, lb_us, lb_uj, lb_ua, lb_ub, nl0, nl1, nl2, nl3, nl4, nl5, nl6, nl7, nl8, nl9, nl10, nl11, nl12, nl13, nl14, nl15, nl16, nl17, nl18, nl19, nl20, nl21, nl22, nl23, nl24, nl25, nl26, nl27, nl28, nl29, nl30, nl31, nl32, nl33, nl34, nl35, nl36, nl37, nl38, nl39, nl40, nl41, nl42, nl43, nl44, nl45, nl46, nl47, nl48, nl49, nl50, nl51, nl52, nl53, nl54, nl55, nl56, nl57, nl58, nl59, nl60, nl61, nl62, nl63, nl64, nl65, nl66, nl67, nl68, nl69, nl70, nl71, nl72, nl73, nl74, nl75, nl76, nl77, nl78, nl79, nl80, nl82, nl83, nl84, nl85, nl86, nl88, nl90, nl96, nl97, nl99, nl100, nl101, nl104, nl112, nl115, nl120, nl121, nl122, nl126, nl127, nl128, nl160, nl200, nl201, nl202, nl255, nl256, nl300, nl320, nl322, nl400, nl500, nl600, nl640, nl732, nl968, nl999, nl1000, nl1001, nl1040, nl1440, nl1500, nl1501, nl1600, nl2000, nl2240, nl3131, nl4000, nl4095, nl4096, nl4960, nl5000, nl6000, nl6001, nl8000, nl9999, nl10000, nl10200, nl13520, nl14000, nl20000, nl32768, nl40000, nl46000, nl64000, nl65536, nl78000, nl100000, nl128000, nl400000, nl730000, kfA kp1, e15, reduceCtorEq, znO_e, c4, w4, y1, k15, z1, zc_l]
    · unfold gFO2
      have mk := M_make (s := mOp c s N a) (N := N + 1) (kv := nI 53) (v := ls s 56) (v' := nI a) h1.Nm (by omega)
      have l55' : ls (mMk (mOp c s N a) (N + 1) (nI 53) (ls s 56) (nI a)) 55 = nI u := u3
      rw [gl_x, l55, u3, if_neg (by rw [nl0, pI_le (by omega) (by decide)]; omega), gl_x, l56, pgld (by omega) (by decide), gl_bs, h11, nl53, mk, gl_bs, gl_x, l55', pgst (by omega) (by decide), gl_bs]
      show ((gX26_attach (nI (N + 1)) (nI N) (mM53 (mOp c s N a) (N + 1) (ls s 56) (nI a) u)).bind _) = _
      rw [z2, gl_bs]
    · rw [mAtS_ls]; exact u3
    · rw [add_oa, ouu, z5.1, zA_eq ep3]; exact e15
    · rw [z5.2, zI_eq ep3, mAtS_ls]; exact e16
    · rw [(mAtS_at (l := [])).r16, upd_other (by omega), mM53_la (by decide) (by decide), if_pos rfl]; rfl
    · exact (mOp_ot.qq).tr ((mOt.m53 (N := N + 1) (v := ls s 56) (v' := nI a) (u := u)).tr (mOt.at (to := N + 1) (l := []) (t := N))).qq
/-- a relation -/
theorem pR.relation (h : pR c a d b N y g α s) (hb : pB c b a 20) (hS : cSb c N g α s) (hp : wS c a 0 = false) : qR c a d b N y g α s (hX4_relation G (some c.p) α) (gX26_factor_36 s) := by
  rcases hw : wX c a with _ | _
  · have a5 := h.a5
    have hb0 := hb.le (t := 0) (by omega)
    have hN := h.N8 (hb.le (t := 5) (by omega))
    have M0 : gX26_factor_36 s = (gX26_operand s).bind fun p4 => xlet (ls p4.2 43) fun x5 => if x5 = 0 then (gX26_isBehind p4.2).bind fun p6 => if p6.1 = 0 then gFO2 p4.1 p6.2 else gFO1 p4.1 p6.2 else some (0, p4.2) := by
      rw [M_f36 h hp, if_neg (by rw [hw]; decide)]
    rcases h.opY (G := G) hb0 with ⟨hO, β, x1, x2, h1, Y1, O1, f1, n1⟩ | ⟨e, β, u, s', wh, w, x1, x2, x3, x4, x5⟩
    · have a51 := h1.a5
      have M1 : gX26_factor_36 s = if wX c (a + 1) = true then gFO1 (nI N) (mOp c s N a) else gFO2 (nI N) (mOp c s N a) := by
        rw [M0, x2, gl_bs, gl_x, h1.bm, if_pos (show nI 0 = 0 from rfl)]
        show ((gX26_isBehind (mOp c s N a)).bind _) = _
        rw [M_isX h1.k h1.mw h1.am (by omega), gl_bs]
        rcases e : wX c (a + 1) with _ | _
        · rw [if_pos (by exact bF), if_neg (by first | decide | exact bT | exact n1n)]
        · rw [if_neg (by first | decide | exact bT | exact n1n), if_pos rfl]
      rw [M1, X_rel1 h hw h1 x1]
      rcases e : wX c (a + 1) with _ | _
      · rw [if_neg (by first | decide | exact bT | exact n1n), if_neg (by first | decide | exact bT | exact n1n)]
        exact rel_B2 h hb hS hO (by omega) h1 Y1 O1 f1 n1
      · rw [if_pos rfl, if_pos rfl]
        exact rel_B1 h hb (by omega) h1 Y1 n1
    · refine .inr ⟨e, β, 0, s', wh, w, ?_, x2, ?_, x4, x5⟩
      · have kp := h.kp
        have ax := h.ax
        have xX := X_isX (G := G) h.k h.xw ax (by omega)
        unfold hX4_relation
        rw [kfI kp, gl_bs, ax, if_pos (of_eq_true (kis kp (by decide))), xX, gl_bs, hw, if_pos (by exact bF)]
        show (if zis G α (some c.p) 41 = true then _ else _) = _
        rw [if_pos (of_eq_true (kis kp (by decide))), nl1, x1, zc_r, if_pos x2]
      · rw [M0, x3, gl_bs, gl_x, x4.b1, if_neg (by first | decide | exact bT | exact n1n)]
  · exact rel_A h hb hS hw hp
end PAR
