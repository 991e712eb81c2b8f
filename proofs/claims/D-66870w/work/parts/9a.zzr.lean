/-! THE PURE LAYER: the parser: one clause of an item. -/
section PAZZR
variable {c : pC} {G : xQ} {α β γ : zS} {s s' s1 s2 : zM} {a a1 a2 a3 a' b b' d e f N N' k o p q t to u w x y r : Nat} {g g' g2 : pG} {v v' kv : Int32} {P : Nat → Nat → pG → Prop}
/-- M's word -/
theorem M_de (h : pR c a d b N y g α s) (hk : wK c a 0 = true) : gX26_described2 v s = gX26_described2_30 v (nI a) (nI (c.vs a)) s := by
  have am := h.am
  have a5 := h.a5
  have n5 := h.k.n
  have al := (wK_i hk).1
  have rv := h.mw.rv a al
  unfold gX26_described2
  rw [gl_x, gl_x, am]
  show Option.bind (gX26_isKind (nI a) (nI 0) s) _ = _
  rw [M_isK h.k h.mw (by omega) (by decide), gl_bs, hk, if_neg (show ¬ nI (b2n true) = 0 from bT), gl_x, am, pgld (by omega) (by decide), gl_bs, rv]
theorem M_deN (h : pR c a d b N y g α s) (hk : wK c a 0 = false) : gX26_described2 v s = (gX26_fail (nI 1) (nI a) (us s 41 (nI (a + 1)))).bind fun p1 => gX26_described2_320 p1.2 := by
  have am := h.am
  have a5 := h.a5
  unfold gX26_described2
  rw [gl_x, gl_x, am]
  show Option.bind (gX26_isKind (nI a) (nI 0) s) _ = _
  rw [M_isK h.k h.mw (by omega) (by decide), gl_bs, hk, if_pos (show nI (b2n false) = 0 from rfl)]
  unfold gX26_described2_30
  rw [gl_x, am, gl_x, pI_succ, if_neg (by decide), if_neg (by decide), if_pos (by decide)]
  unfold gX26_described2_72 gX26_described2_73
  rw [if_pos (by decide)]
  rfl
theorem M_de59 {x : Nat} (hx : x = 0 ∨ x = 1) (h : gX26_meets (nI 67) s = some (nI x, s')) : gX26_described2_59 v v' kv s = gX26_described2_73 v v' kv (nI x) s' := by
  unfold gX26_described2_59
  show Option.bind (gX26_meets (nI 67) s) _ = _
  rw [h, gl_bs]
  rcases hx with z | z
  · rw [z, if_pos (show nI 0 = 0 from rfl)]; rfl
  · rw [z, if_neg (show ¬ nI 1 = 0 from n1n)]; rfl
theorem pR.part (h : pR c a d b N 0 g α s) (hb : pB c b a 4) (h1 : c.N0 ≤ t) (h2 : t < N) (hr : 1 < g.r t) : pJ c s (hX4_part G (some c.p) (some (g.oa t)) α) (gX26_described2 (nI t) s) (fun _ β _ s' => pO c a d b N 0 g s (a + 1) β s' (fun _ _ _ => True)) := by
  have kp := h.kp
  have ax := h.ax
  have am := h.am
  have a5 := h.a5
  have n5 := h.k.n
  have N0 := h.N0
  have N1 := h.k.N1
  have Xm : ∀ w, w < 100 → hX4_meets G (some c.p) (nI w) α = if wW c a w = true then some (nI 1, xaS c α a) else some (nI 0, α) := fun w hw => X_meets h (by omega)
  have ne : ∀ w v, wW c a w = true → v ≠ w → wW c a v = false := fun w v hw hv => by
    have := wW_i hw
    rw [← Bool.not_eq_true]
    exact fun z => hv (by have := wW_i z; omega)
  have us1 : us s 41 (nI (a + 1)) = maS s a := rfl
  by_cases w19 : wW c a 19 = true
  · have al := (wW_i w19).1
    have v19 := (wW_i w19).2.2
    have k0 : wK c a 0 = true := wK_t al (wW_i w19).2.1
    have R1 := h.adv al
    have kp1 := R1.kp
    obtain ⟨x, a2, β2, s2, z1, z2, R2, ha2, X2, hx⟩ := R1.meetsP (G := G) (w := 67) (by decide)
    have b2 : pB c b a2 1 := by unfold pB at *; omega
    have T := (R2.tkc (G := G) (k := 3) (t := t) (kv := nI 13) (v' := nI a) (by decide) b2 h1 h2 (by omega) (by decide)).pre (a := a) (a1 := a + 1) ((pX.ma (a := a)).tr X2) (by omega) (by omega)
    rw [M_de h k0, v19]
    unfold gX26_described2_30
    rw [gl_x, am, gl_x, pI_succ, if_pos (by decide), us1, M_de59 hx z2]
    unfold gX26_described2_73 hX4_part
    rw [if_neg (by decide), if_pos (by decide), kfI kp, gl_bs, ax, if_pos (of_eq_true (kis kp (by decide)))]
    show pJ c s (Option.bind (hX4_meets G (some c.p) (nI 19) α) _) _ _
    rw [Xm 19 (by decide), if_pos w19, gl_bs, if_neg (show ¬ nI 1 = 0 from n1n), if_pos (of_eq_true (kis kp1 (by decide)))]
    show pJ c s (Option.bind (hX4_meets G (some c.p) (nI 67) (xaS c α a)) _) _ _
    rw [z1, gl_bs]
    exact T
  have w19' : wW c a 19 = false := by rw [← Bool.not_eq_true]; exact w19
  unfold hX4_part
  rw [kfI kp, gl_bs, ax, if_pos (of_eq_true (kis kp (by decide)))]
  show pJ c s (Option.bind (hX4_meets G (some c.p) (nI 19) α) _) _ _
  rw [Xm 19 (by decide), if_neg w19, gl_bs, if_pos (show nI 0 = 0 from rfl), if_pos (of_eq_true (kis kp (by decide)))]
  show pJ c s (Option.bind (hX4_meets G (some c.p) (nI 20) α) _) _ _
  by_cases w20 : wW c a 20 = true
  · have al := (wW_i w20).1
    have v20 := (wW_i w20).2.2
    have k0 : wK c a 0 = true := wK_t al (wW_i w20).2.1
    have R1 := h.adv al
    have kp1 := R1.kp
    obtain ⟨x, a2, β2, s2, z1, z2, R2, ha2, X2, hx⟩ := R1.meetsP (G := G) (w := 67) (by decide)
    have b2 : pB c b a2 4 := by unfold pB at *; omega
    have T := (R2.val (G := G) (t := t) (v' := nI a) b2 h1 h2 hr).pre (a := a) (a1 := a + 1) ((pX.ma (a := a)).tr X2) (by omega) (by omega)
    rw [M_de h k0, v20]
    unfold gX26_described2_30
    rw [gl_x, am, gl_x, pI_succ, if_neg (by decide), if_pos (by decide), us1, M_de59 hx z2]
    unfold gX26_described2_73
    rw [if_neg (by decide), if_neg (by decide), if_pos (by decide)]
    rw [Xm 20 (by decide), if_pos w20, gl_bs, if_neg (show ¬ nI 1 = 0 from n1n)]
    show pJ c s (if zis G (xaS c α a) (some c.p) 41 = true then _ else _) _ _
    rw [if_pos (of_eq_true (kis kp1 (by decide)))]
    show pJ c s (Option.bind (hX4_meets G (some c.p) (nI 67) (xaS c α a)) _) _ _
    rw [z1, gl_bs]
    exact T
  have w20' : wW c a 20 = false := by rw [← Bool.not_eq_true]; exact w20
  rw [Xm 20 (by decide), if_neg w20, gl_bs, if_pos (show nI 0 = 0 from rfl), if_pos (of_eq_true (kis kp (by decide)))]
  show pJ c s (Option.bind (hX4_meets G (some c.p) (nI 22) α) _) _ _
  rw [Xm 22 (by decide)]
  by_cases w22 : wW c a 22 = true
  · have al := (wW_i w22).1
    have v22 := (wW_i w22).2.2
    have k0 : wK c a 0 = true := wK_t al (wW_i w22).2.1
    have R1 := h.adv al
    obtain ⟨R2, q2⟩ := R1.cell
    have kp2 := R2.kp
    have b2 : pB c (b + 1) (a + 1) 0 := by unfold pB at *; omega
    rw [if_pos w22, gl_bs, if_neg (show ¬ nI 1 = 0 from n1n), M_de h k0, v22]
    unfold gX26_described2_30
    rw [gl_x, am, gl_x, pI_succ, if_neg (by decide), if_neg (by decide), if_pos (by decide), us1]
    unfold gX26_described2_72 gX26_described2_73
    rw [if_neg (by decide), if_neg (by decide), if_neg (by decide), if_neg (by decide), if_pos (by decide)]
    show pJ c s (Option.bind (znO (xaS c α a) 44 9) _) _ _
    rw [znO_e, gl_bs]
    show pJ c s (if zis G (zmk (xaS c α a) 45 0 9) (some c.p) 41 = true then _ else _) _ _
    rw [if_pos (of_eq_true (kis kp2 (by decide)))]
    show pJ c s (zcase (hX4_take G (some c.p) (nI 2) (zmk (xaS c α a) 45 0 9)) _ _) _ _
    unfold gX26_occurs
    show pJ c s _ (Option.bind (Option.bind (gX26_mustBe (nI 2) (maS s a)) _) _) _
    rcases R2.takeZ (G := G) (k := 2) (by decide) b2 with ⟨e3, x3, m3, R3⟩ | ⟨e, β, s', w, x3, x4, m3, y1, y2⟩
    · have q3 := q2.adv R2.k (a := a + 1)
      have ps := M_passed R3 (by omega)
      rw [Nat.add_sub_cancel] at ps
      obtain ⟨β, γ, c1, c2, c3, c4, c5, c6, c7, c8, c9⟩ := R3.childR (G := G) (to := t) (r := 1) (kv := nI 15) (v := nI (c.vs (a + 1))) (v' := nI a) (b2.go (by omega)) h1 h2 hr (by omega) q3 (by decide)
      generalize (g.push N (zn (xaS c α a)) 1).add t N = g1 at c6 c7 c8 c9
      have kpγ := c6.kp
      rw [m3, gl_bs, if_pos (show ¬ nI 1 = 0 from n1n), ps, gl_bs]
      show pJ c s _ (Option.bind (Option.bind (gX26_make (nI 15) (nI (c.vs (a + 1))) (nI a) (maS (maS s a) (a + 1))) _) _) _
      rw [c4, gl_bs, c5, gl_bs]
      generalize mAtS (mMk (maS (maS s a) (a + 1)) N (nI 15) (nI (c.vs (a + 1))) (nI a)) t (g.ch t) N = s4 at c6 c7
      obtain ⟨x, a5', β5, s5, z1, z2, R5, ha5, X5, hx⟩ := c6.meetsP (G := G) (w := 23) (by decide)
      have kp5 := R5.kp
      have b5 : pB c (b + 1 + 2) a5' 4 := by unfold pB at *; omega
      have T := R5.ocD (G := G) (o := N) b5 N0 (Nat.lt_succ_self _) (by rw [c9]; decide)
      rw [c8] at T
      have XX : pX N g s (N + 1) g1 s5 := (((pX.ma (a := a)).tr pX.ma).tr c7).tr X5
      have T2 := (T.im (Q' := fun _ β _ s' => pO c a d b N 0 g s (a + 1) β s' (fun _ _ _ => True)) (fun _ δ _ s' z => by
        obtain ⟨a', b', N', g'', t1, t2, t3, t4, t5⟩ := z
        exact ⟨a', b', N', g'', t1, XX.tr t2, by omega, by omega, trivial⟩)).tr XX.pl
      rw [x3, zc_l]
      show pJ c s (if zis G (xaS c (zmk (xaS c α a) 45 0 9) (a + 1)) (some (zn (xaS c α a))) 45 = true then _ else _) _ _
      rw [if_pos (of_eq_true (kis q3.kd (by decide)))]
      show pJ c s (Option.bind (hX43_init G (some (zn (xaS c α a))) (nI 15) (nI (c.vs (a + 1))) (nI a) (xaS c (zmk (xaS c α a) 45 0 9) (a + 1))) _) _ _
      rw [c1, gl_bs, if_pos (of_eq_true (kis c2 (by decide))), c3, gl_bs, if_pos (of_eq_true (kis kpγ (by decide)))]
      show pJ c s (Option.bind (hX4_meets G (some c.p) (nI 23) γ) _) (Option.bind (Option.bind (gX26_meets (nI 23) s4) _) _) _
      rw [z1, gl_bs, if_pos (of_eq_true (kis kp5 (by decide))), z2, gl_bs]
      have E : ∀ {m : gF Unit}, (Option.bind m fun p18 => gX26_described2_320 p18.2) = m := fun {m} => by
        rcases m with _ | ⟨_, m⟩
        · rfl
        · rfl
      rw [E]
      rcases T2 with ⟨_, δ, _, s6, t1, t2, t3⟩ | ⟨e, δ, _, s6, wh, w, t1, t2, t3, t4, t5⟩
      · exact .inl ⟨(), δ, (), s6, t1, t2, t3⟩
      · exact .inr ⟨e, δ, (), s6, wh, w, t1, t2, t3, t4, t5⟩
    · refine .inr ⟨e, β, (), s', 1, w, ?_, x4, ?_, y1, maS_pl.tr y2⟩
      · rw [x3, zc_r, if_pos x4]
      · rw [m3, gl_bs, if_neg (show ¬ ¬ nI 0 = 0 from fun z => z rfl), gl_bs]
        rfl
  have w22' : wW c a 22 = false := by rw [← Bool.not_eq_true]; exact w22
  rw [if_neg w22, gl_bs, if_pos (show nI 0 = 0 from rfl), if_pos (of_eq_true (kis kp (by decide)))]
  show pJ c s (Option.bind (hX4_meets G (some c.p) (nI 26) α) _) _ _
  rw [Xm 26 (by decide)]
  by_cases w26 : wW c a 26 = true
  · have al := (wW_i w26).1
    have v26 := (wW_i w26).2.2
    have k0 : wK c a 0 = true := wK_t al (wW_i w26).2.1
    have R1 := h.adv al
    have b2 : pB c b (a + 1) 1 := by unfold pB at *; omega
    have T := (R1.tkc (G := G) (k := 1) (t := t) (kv := nI 18) (v' := nI a) (by decide) b2 h1 h2 (by omega) (by decide)).pre (a := a) (a1 := a + 1) (pX.ma (a := a)) (by omega) (by omega)
    rw [if_pos w26, gl_bs, if_neg (show ¬ nI 1 = 0 from n1n), M_de h k0, v26]
    unfold gX26_described2_30
    rw [gl_x, am, gl_x, pI_succ, if_neg (by decide), if_neg (by decide), if_pos (by decide), us1]
    unfold gX26_described2_72 gX26_described2_73
    rw [if_neg (by decide), if_neg (by decide), if_neg (by decide), if_neg (by decide), if_neg (by decide), if_neg (by decide), if_neg (by decide), if_neg (by decide), if_pos (by decide)]
    exact T
  have w26' : wW c a 26 = false := by rw [← Bool.not_eq_true]; exact w26
  rw [if_neg w26, gl_bs, if_pos (show nI 0 = 0 from rfl), if_pos (of_eq_true (kis kp (by decide)))]
  show pJ c s (zcase (hX4_need G (some c.p) (nI 27) α) _ _) _ _
  by_cases w27 : wW c a 27 = true
  · have al := (wW_i w27).1
    have v27 := (wW_i w27).2.2
    have k0 : wK c a 0 = true := wK_t al (wW_i w27).2.1
    have R1 := h.adv al
    have kp1 := R1.kp
    obtain ⟨x, a2, β2, s2, z1, z2, R2, ha2, X2, hx⟩ := R1.meetsP (G := G) (w := 67) (by decide)
    have b2 : pB c b a2 4 := by unfold pB at *; omega
    have T := (R2.usg (G := G) (t := t) (v' := nI a) b2 h1 h2 (by omega)).pre (a := a) (a1 := a + 1) ((pX.ma (a := a)).tr X2) (by omega) (by omega)
    have XN : hX4_need G (some c.p) (nI 27) α = some (.inl (), xaS c α a) := by
      have x1 := Xm 27 (by decide)
      rw [if_pos w27] at x1
      unfold hX4_need
      simp (disch := omega) only [gld, gst, glj, gsj, gpN0, gpN1, gl_x, gl_gi, pI_in', pI_clamp, pI_add, pI_mul, pI_sub, pI_succ, nmod_eq, pI_div, ni_neg, zn_neg, gnar0, gnar1, eq_self, ni_lt, ni_le, ni_eq, ni_zlt, ni_zle, ni_zeq, zn_lt, zn_le, zn_eq, zz_lt, zz_le, zz_eq, ni_zadd, zn_add, ni_zsub, zn_sub, ni_zmul, zn_mul, nZ_add, nZ_sub, nZ_mul, upd_same, upd_other, upd_upd, gl_bi, gl_mi, gl_bs, gl_ms, gl_bn, gl_mn, if_true, if_false, ↓reduceIte, not_true_eq_false, not_false_eq_true, true_and, and_true, false_and, and_false, and_self, or_false, false_or, or_self, or_true, true_or, Nat.not_lt_zero, Nat.reduceAdd, Nat.reduceMul, Nat.add_zero, Nat.zero_add, Nat.mul_zero, Nat.zero_mul, Nat.reduceEqDiff, Nat.reduceLT, Nat.reduceLeDiff, Nat.succ_ne_zero, ua_ua, us_us, tn_le, tn_nle, tn_lt, tn_nlt, tn_eq, tn_ne, tz_le, tz_nle, tz_lt, tz_nlt, tz_eq, tz_ne, kfI, kfJ, kfA, kpI, kpA, kis, kal, kald, kcald, kaald, Option.some.injEq, ls_us, ls_uj, ls_ua, ls_ub, lj_us, lj_uj, lj_ua, lj_ub, la_us, la_uj, la_ua, la_ub, lb_us, lb_uj, lb_ua, lb_ub, nl0, nl1, nl2, nl3, nl4, nl5, nl6, nl7, nl8, nl9, nl10, nl11, nl12, nl13, nl14, nl15, nl16, nl17, nl18, nl19, nl20, nl21, nl22, nl23, nl24, nl25, nl26, nl27, nl28, nl29, nl30, nl31, nl32, nl33, nl34, nl35, nl36, nl37, nl38, nl39, nl40, nl41, nl42, nl43, nl44, nl45, nl46, nl47, nl48, nl49, nl50, nl51, nl52, nl53, nl54, nl55, nl56, nl57, nl58, nl59, nl60, nl61, nl62, nl63, nl64, nl65, nl66, nl67, nl68, nl69, nl70, nl71, nl72, nl73, nl74, nl75, nl76, nl77, nl78, nl79, nl80, nl82, nl83, nl84, nl85, nl86, nl88, nl90, nl96, nl97, nl99, nl100, nl101, nl104, nl112, nl115, nl120, nl121, nl122, nl126, nl127, nl128, nl160, nl200, nl201, nl202, nl255, nl256, nl300, nl320, nl322, nl400, nl500, nl600, nl640, nl732, nl968, nl999, nl1000, nl1001, nl1040, nl1440, nl1500, nl1501, nl1600, nl2000, nl2240, nl3131, nl4000, nl4095, nl4096, nl4960, nl5000, nl6000, nl6001, nl8000, nl9999, nl10000, nl10200, nl13520, nl14000, nl20000, nl32768, nl40000, nl46000, nl64000, nl65536, nl78000, nl100000, nl128000, nl400000, nl730000, x1, X_must1, zc_l]
    rw [M_de h k0, v27]
    unfold gX26_described2_30
    rw [gl_x, am, gl_x, pI_succ, if_neg (by decide), if_neg (by decide), if_neg (by decide), us1, M_de59 hx z2]
    unfold gX26_described2_73
    rw [if_neg (by decide), if_neg (by decide), if_neg (by decide), if_neg (by decide), if_neg (by decide), if_neg (by decide), if_neg (by decide), if_neg (by decide), if_neg (by decide), if_pos (by decide), XN, zc_l, if_pos (of_eq_true (kis kp1 (by decide)))]
    show pJ c s (Option.bind (hX4_meets G (some c.p) (nI 67) (xaS c α a)) _) _ _
    rw [z1, gl_bs]
    exact T
  · have w27' : wW c a 27 = false := by rw [← Bool.not_eq_true]; exact w27
    obtain ⟨e, β, s', x1, x2, x3, x4, x5⟩ := h.noM (G := G) (v := nI (a + 1)) (hb.le (by decide))
    have XN : hX4_need G (some c.p) (nI 27) α = some (.inr e, β) := by
      have z1 := Xm 27 (by decide)
      rw [if_neg w27] at z1
      unfold hX4_need
      simp (disch := omega) only [gld, gst, glj, gsj, gpN0, gpN1, gl_x, gl_gi, pI_in', pI_clamp, pI_add, pI_mul, pI_sub, pI_succ, nmod_eq, pI_div, ni_neg, zn_neg, gnar0, gnar1, eq_self, ni_lt, ni_le, ni_eq, ni_zlt, ni_zle, ni_zeq, zn_lt, zn_le, zn_eq, zz_lt, zz_le, zz_eq, ni_zadd, zn_add, ni_zsub, zn_sub, ni_zmul, zn_mul, nZ_add, nZ_sub, nZ_mul, upd_same, upd_other, upd_upd, gl_bi, gl_mi, gl_bs, gl_ms, gl_bn, gl_mn, if_true, if_false, ↓reduceIte, not_true_eq_false, not_false_eq_true, true_and, and_true, false_and, and_false, and_self, or_false, false_or, or_self, or_true, true_or, Nat.not_lt_zero, Nat.reduceAdd, Nat.reduceMul, Nat.add_zero, Nat.zero_add, Nat.mul_zero, Nat.zero_mul, Nat.reduceEqDiff, Nat.reduceLT, Nat.reduceLeDiff, Nat.succ_ne_zero, ua_ua, us_us, tn_le, tn_nle, tn_lt, tn_nlt, tn_eq, tn_ne, tz_le, tz_nle, tz_lt, tz_nlt, tz_eq, tz_ne, kfI, kfJ, kfA, kpI, kpA, kis, kal, kald, kcald, kaald, Option.some.injEq, ls_us, ls_uj, ls_ua, ls_ub, lj_us, lj_uj, lj_ua, lj_ub, la_us, la_uj, la_ua, la_ub, lb_us, lb_uj, lb_ua, lb_ub, nl0, nl1, nl2, nl3, nl4, nl5, nl6, nl7, nl8, nl9, nl10, nl11, nl12, nl13, nl14, nl15, nl16, nl17, nl18, nl19, nl20, nl21, nl22, nl23, nl24, nl25, nl26, nl27, nl28, nl29, nl30, nl31, nl32, nl33, nl34, nl35, nl36, nl37, nl38, nl39, nl40, nl41, nl42, nl43, nl44, nl45, nl46, nl47, nl48, nl49, nl50, nl51, nl52, nl53, nl54, nl55, nl56, nl57, nl58, nl59, nl60, nl61, nl62, nl63, nl64, nl65, nl66, nl67, nl68, nl69, nl70, nl71, nl72, nl73, nl74, nl75, nl76, nl77, nl78, nl79, nl80, nl82, nl83, nl84, nl85, nl86, nl88, nl90, nl96, nl97, nl99, nl100, nl101, nl104, nl112, nl115, nl120, nl121, nl122, nl126, nl127, nl128, nl160, nl200, nl201, nl202, nl255, nl256, nl300, nl320, nl322, nl400, nl500, nl600, nl640, nl732, nl968, nl999, nl1000, nl1001, nl1040, nl1440, nl1500, nl1501, nl1600, nl2000, nl2240, nl3131, nl4000, nl4095, nl4096, nl4960, nl5000, nl6000, nl6001, nl8000, nl9999, nl10000, nl10200, nl13520, nl14000, nl20000, nl32768, nl40000, nl46000, nl64000, nl65536, nl78000, nl100000, nl128000, nl400000, nl730000, z1, x1, zc_r, x2]
    refine .inr ⟨e, β, (), s', 1, a, ?_, x2, ?_, x4, x5⟩
    · rw [XN, zc_r, if_pos x2]
    · rcases k0 : wK c a 0 with _ | _
      · rw [M_deN h k0, x3, gl_bs]
        rfl
      · have al := (wK_i k0).1
        have ks := (wK_i k0).2
        have v9 := h.k.vs a al
        have nv : ∀ w, wW c a w = false → c.vs a ≠ w := fun w hw z => by
          have : wW c a w = true := decide_eq_true ⟨al, ks, z⟩
          rw [hw] at this
          exact absurd this (by decide)
        have n19 := nv 19 w19'
        have n20 := nv 20 w20'
        have n22 := nv 22 w22'
        have n26 := nv 26 w26'
        have n27 := nv 27 w27'
        have ni : ∀ w, w < 100 → c.vs a ≠ w → ¬ nI (c.vs a) = nI w := fun w hw z y => by
          rw [pI_inj (by omega) (by omega)] at y
          exact z y
        rw [M_de h k0]
        unfold gX26_described2_30
        rw [gl_x, am, gl_x, pI_succ, if_neg (show ¬ nI (c.vs a) = 19 from ni 19 (by decide) n19), if_neg (show ¬ nI (c.vs a) = 20 from ni 20 (by decide) n20), if_pos (show ¬ nI (c.vs a) = 27 from ni 27 (by decide) n27)]
        unfold gX26_described2_72 gX26_described2_73
        have F : gX26_described2_313 (nI a) (us s 41 (nI (a + 1))) = some ((), s') := by
          unfold gX26_described2_313
          show Option.bind (gX26_fail (nI 1) (nI a) (us s 41 (nI (a + 1)))) _ = _
          rw [x3, gl_bs]
          rfl
        by_cases o : c.vs a < 19 ∨ 27 < c.vs a
        · rw [if_pos, F]
          rw [show (19 : Int32) = nI 19 from rfl, show (27 : Int32) = nI 27 from rfl, pI_lt (by omega) (by decide), pI_lt (by decide) (by omega)]
          exact o
        · rw [if_neg (by
            rw [show (19 : Int32) = nI 19 from rfl, show (27 : Int32) = nI 27 from rfl, pI_lt (by omega) (by decide), pI_lt (by decide) (by omega)]
            exact o), if_neg (show ¬ nI (c.vs a) = 19 from ni 19 (by decide) n19), if_neg (show ¬ nI (c.vs a) = 20 from ni 20 (by decide) n20)]
          rcases (show c.vs a = 21 ∨ c.vs a = 23 ∨ c.vs a = 24 ∨ c.vs a = 25 by omega) with z | z | z | z
          · rw [z, if_pos (by decide), F]
          · rw [z, if_neg (by decide), if_neg (by decide), if_pos (by decide), F]
          · rw [z, if_neg (by decide), if_neg (by decide), if_neg (by decide), if_pos (by decide), F]
          · rw [z, if_neg (by decide), if_neg (by decide), if_neg (by decide), if_neg (by decide), if_pos (by decide), F]
end PAZZR
