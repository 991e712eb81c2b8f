/-! THE PURE LAYER: the parser: what describes an item, whole. -/
section PAZZQ
variable {c : pC} {G : xQ} {α β γ : zS} {s s' s1 s2 : zM} {a a1 a2 a3 a' b b' d e f N N' k o p q t to u w x y r : Nat} {g g' g2 : pG} {v v' kv : Int32} {P : Nat → Nat → pG → Prop}
/-- OCCURS: INDEXED BY -/
theorem pR.ocT (h : pR c a d b N 0 g α s) (hb : pB c b a 4) (h1 : c.N0 ≤ o) (h2 : o < N) (hr : 0 < g.r o) : pJ c s (hX4_part_203 G (some c.p) (some (g.oa o)) α) (gX26_occurs_69 (nI o) s) (fun _ β _ s' => pO c a d b N 0 g s a β s' (fun _ _ _ => True)) := by
  have kp := h.kp
  unfold hX4_part_203 gX26_occurs_69
  rw [if_pos (of_eq_true (kis kp (by decide)))]
  show pJ c s (Option.bind (hX4_meets G (some c.p) (nI 10) α) _) (Option.bind (gX26_meets (nI 10) s) _) _
  rcases h.meets (G := G) (w := 10) (by decide) with ⟨ew, z1, m1, R3⟩ | ⟨ew, z1, m1⟩
  · have kp3 := R3.kp
    rw [z1, gl_bs, if_neg (show ¬ nI 1 = 0 from n1n), if_pos (of_eq_true (kis kp3 (by decide))), m1, gl_bs, if_neg (show ¬ nI 1 = 0 from n1n)]
    obtain ⟨x, a4, β4, s4, w1, w2, R4, ha4, X4, _⟩ := R3.meetsP (G := G) (w := 25) (by decide)
    have kp4 := R4.kp
    show pJ c s (Option.bind (hX4_meets G (some c.p) (nI 25) (xaS c α a)) _) (Option.bind (gX26_meets (nI 25) (maS s a)) _) _
    rw [w1, gl_bs, if_pos (of_eq_true (kis kp4 (by decide))), w2, gl_bs]
    have b4 : pB c b a4 4 := by unfold pB at *; omega
    show pJ c s (zcase (hX4_names G (some c.p) (some (g.oa o)) (nI 17) β4) _ _) (Option.bind (gX26_names (nI o) (nI 17) s4) _) _
    rcases R4.names (G := G) (k := 17) (to := o) (by decide) (by decide) (by decide) b4 h1 h2 hr (Nat.zero_le _) with ⟨_, γ, _, s7, x1, x2, a7, b7, N7, g7, x3, x4, x5, x6, _⟩ | ⟨e, γ, _, s7, wh, w, x1, x2, x3, x4, x5⟩
    · refine .inl ⟨(), γ, (), s7, ?_, ?_, a7, b7, N7, g7, x3, ((pX.ma (a := a)).tr X4).tr x4, by omega, by omega, trivial⟩
      · rw [x1, zc_l]; rfl
      · rw [x2, gl_bs]; rfl
    · refine .inr ⟨e, γ, (), s7, wh, w, ?_, x2, ?_, x4, (maS_pl.tr X4.pl).tr x5⟩
      · rw [x1, zc_r, if_pos x2]
      · rw [x3, gl_bs]; rfl
  · rw [z1, gl_bs, if_pos (show nI 0 = 0 from rfl), m1, gl_bs, if_pos (show nI 0 = 0 from rfl)]
    exact .inl ⟨(), α, (), s, rfl, rfl, a, b, N, g, h, pX.rf, Nat.le_refl _, Nat.le_refl _, trivial⟩
theorem ocB (h : ls s 43 = nI 1) : gX26_occurs_69 v s = some ((), s) := by
  unfold gX26_occurs_69
  rw [Bd_meets h, gl_bs, if_pos (show nI 0 = 0 from rfl)]
  rfl
/-- OCCURS: DEPENDING and what comes behind it -/
theorem pR.ocD (h : pR c a d b N 0 g α s) (hb : pB c b a 4) (h1 : c.N0 ≤ o) (h2 : o < N) (hr : 0 < g.r o) : pJ c s ((hX4_meets G (some c.p) (nI 24) α).bind fun p37 =>
                          if p37.1 = 0 then
                            hX4_part_203 G (some c.p) (some (g.oa o)) p37.2
                          else
                            (zfI p37.2 (some c.p) 40 3).bind fun x38 =>
                            if zis G p37.2 (some c.p) 41 = true then
                              (hX4_isKind G (some c.p) x38 (nI 1) p37.2).bind fun p39 =>
                              if zis G p39.2 (some c.p) 41 = true then
                                zcase (hX4_must G (some c.p) p39.1 p39.2) (fun p40 =>
                                  (znO p40.2 44 9).bind fun p41 =>
                                  (zfA p41.2 (some c.p) 40 1).bind fun r42 =>
                                  (zfI p41.2 (some c.p) 40 3).bind fun x43 =>
                                  (ziald p41.2 r42 x43).bind fun x44 =>
                                  (zfI p41.2 (some c.p) 40 3).bind fun x45 =>
                                  if zis G p41.2 p41.1 45 = true then
                                    (hX43_init G p41.1 (nI 16) x44 x45 p41.2).bind fun p46 =>
                                    if zis G p46.2 (some (g.oa o)) 45 = true then
                                      (hX43_add G (some (g.oa o)) p41.1 p46.2).bind fun p47 =>
                                      (zfI p47.2 (some c.p) 40 3).bind fun x48 =>
                                      (zpI p47.2 (some c.p) 40 3 (x48 + (1 : Int32))).bind fun σ49 =>
                                      hX4_part_203 G (some c.p) (some (g.oa o)) σ49
                                    else none
                                  else none) (fun p50 =>
                                  if zthr p50.2 p50.1 3 = true then
                                    some (.inr p50.1, p50.2)
                                  else none)
                              else none
                            else none) ((gX26_meets (nI 24) s).bind fun p9 =>
    if p9.1 = 0 then
      gX26_occurs_69 (nI o) p9.2
    else
      (gX26_mustBe (nI 1) p9.2).bind fun p10 =>
      if p10.1 = 0 then
        gX26_occurs_69 (nI o) p10.2
      else
        (gX26_passed p10.2).bind fun p11 =>
        xlet (ls p11.2 41) fun x12 =>
        (gX26_child (nI o) (nI 16) p11.1 (x12 - (1 : Int32)) p11.2).bind fun p13 =>
        gX26_occurs_69 (nI o) p13.2) (fun _ β _ s' => pO c a d b N 0 g s a β s' (fun _ _ _ => True)) := by
  have N0 := h.N0
  have N1 := h.k.N1
  rcases h.meets (G := G) (w := 24) (by decide) with ⟨ew, z1, m1, R3⟩ | ⟨ew, z1, m1⟩
  · have kp3 := R3.kp
    have ax3 := R3.ax
    have am3 := R3.am
    have bm3 := R3.bm
    have a5 := R3.a5
    have b3 : pB c b (a + 1) 4 := by unfold pB at *; omega
    rw [z1, gl_bs, if_neg (show ¬ nI 1 = 0 from n1n), kfI kp3, gl_bs, ax3, if_pos (of_eq_true (kis kp3 (by decide))), X_isK R3.k R3.xw (by omega) (by decide), gl_bs, m1, gl_bs, if_neg (show ¬ nI 1 = 0 from n1n), if_pos (of_eq_true (kis kp3 (by decide)))]
    rcases ek : wK c (a + 1) 1 with _ | _
    · obtain ⟨q, β, s', w, y1, y2, y3, y4, y5⟩ := R3.no' (G := G) (b3.le (by decide))
      have MB : gX26_mustBe (nI 1) (maS s a) = some (nI 0, s') := by
        unfold gX26_mustBe gX26_mustBe_19
        simp (disch := omega) only [gld, gst, glj, gsj, gpN0, gpN1, gl_x, gl_gi, pI_in', pI_clamp, pI_add, pI_mul, pI_sub, pI_succ, nmod_eq, pI_div, ni_neg, zn_neg, gnar0, gnar1, eq_self, ni_lt, ni_le, ni_eq, ni_zlt, ni_zle, ni_zeq, zn_lt, zn_le, zn_eq, zz_lt, zz_le, zz_eq, ni_zadd, zn_add, ni_zsub, zn_sub, ni_zmul, zn_mul, nZ_add, nZ_sub, nZ_mul, upd_same, upd_other, upd_upd, gl_bi, gl_mi, gl_bs, gl_ms, gl_bn, gl_mn, if_true, if_false, ↓reduceIte, not_true_eq_false, not_false_eq_true, true_and, and_true, false_and, and_false, and_self, or_false, false_or, or_self, or_true, true_or, Nat.not_lt_zero, Nat.reduceAdd, Nat.reduceMul, Nat.add_zero, Nat.zero_add, Nat.mul_zero, Nat.zero_mul, Nat.reduceEqDiff, Nat.reduceLT, Nat.reduceLeDiff, Nat.succ_ne_zero, ua_ua, us_us, tn_le, tn_nle, tn_lt, tn_nlt, tn_eq, tn_ne, tz_le, tz_nle, tz_lt, tz_nlt, tz_eq, tz_ne, ls_us, ls_uj, ls_ua, ls_ub, lj_us, lj_uj, lj_ua, lj_ub, la_us, la_uj, la_ua, la_ub, lb_us, lb_uj, lb_ua, lb_ub, nl0, nl1, nl2, nl3, nl4, nl5, nl6, nl7, nl8, nl9, nl10, nl11, nl12, nl13, nl14, nl15, nl16, nl17, nl18, nl19, nl20, nl21, nl22, nl23, nl24, nl25, nl26, nl27, nl28, nl29, nl30, nl31, nl32, nl33, nl34, nl35, nl36, nl37, nl38, nl39, nl40, nl41, nl42, nl43, nl44, nl45, nl46, nl47, nl48, nl49, nl50, nl51, nl52, nl53, nl54, nl55, nl56, nl57, nl58, nl59, nl60, nl61, nl62, nl63, nl64, nl65, nl66, nl67, nl68, nl69, nl70, nl71, nl72, nl73, nl74, nl75, nl76, nl77, nl78, nl79, nl80, nl82, nl83, nl84, nl85, nl86, nl88, nl90, nl96, nl97, nl99, nl100, nl101, nl104, nl112, nl115, nl120, nl121, nl122, nl126, nl127, nl128, nl160, nl200, nl201, nl202, nl255, nl256, nl300, nl320, nl322, nl400, nl500, nl600, nl640, nl732, nl968, nl999, nl1000, nl1001, nl1040, nl1440, nl1500, nl1501, nl1600, nl2000, nl2240, nl3131, nl4000, nl4095, nl4096, nl4960, nl5000, nl6000, nl6001, nl8000, nl9999, nl10000, nl10200, nl13520, nl14000, nl20000, nl32768, nl40000, nl46000, nl64000, nl65536, nl78000, nl100000, nl128000, nl400000, nl730000, am3, bm3, M_isK R3.k R3.mw, ek, b2n_f, y3]
      refine .inr ⟨q, β, (), s', 1, w, ?_, y2, ?_, y4, maS_pl.tr y5⟩
      · show zcase (hX4_must G (some c.p) (nI 0) (xaS c α a)) _ _ = _
        rw [y1, zc_r, if_pos y2]
      · rw [MB, gl_bs, if_pos (show nI 0 = 0 from rfl)]
        exact ocB y4.b1
    · have al := (wK_i ek).1
      have R4 := R3.adv al
      have ps := M_passed R4 (by omega)
      rw [Nat.add_sub_cancel] at ps
      have MB : gX26_mustBe (nI 1) (maS s a) = some (nI 1, maS (maS s a) (a + 1)) := by
        have : us (maS s a) 41 (nI (a + 1 + 1)) = maS (maS s a) (a + 1) := rfl
        unfold gX26_mustBe gX26_mustBe_19
        simp (disch := omega) only [gld, gst, glj, gsj, gpN0, gpN1, gl_x, gl_gi, pI_in', pI_clamp, pI_add, pI_mul, pI_sub, pI_succ, nmod_eq, pI_div, ni_neg, zn_neg, gnar0, gnar1, eq_self, ni_lt, ni_le, ni_eq, ni_zlt, ni_zle, ni_zeq, zn_lt, zn_le, zn_eq, zz_lt, zz_le, zz_eq, ni_zadd, zn_add, ni_zsub, zn_sub, ni_zmul, zn_mul, nZ_add, nZ_sub, nZ_mul, upd_same, upd_other, upd_upd, gl_bi, gl_mi, gl_bs, gl_ms, gl_bn, gl_mn, if_true, if_false, ↓reduceIte, not_true_eq_false, not_false_eq_true, true_and, and_true, false_and, and_false, and_self, or_false, false_or, or_self, or_true, true_or, Nat.not_lt_zero, Nat.reduceAdd, Nat.reduceMul, Nat.add_zero, Nat.zero_add, Nat.mul_zero, Nat.zero_mul, Nat.reduceEqDiff, Nat.reduceLT, Nat.reduceLeDiff, Nat.succ_ne_zero, ua_ua, us_us, tn_le, tn_nle, tn_lt, tn_nlt, tn_eq, tn_ne, tz_le, tz_nle, tz_lt, tz_nlt, tz_eq, tz_ne, ls_us, ls_uj, ls_ua, ls_ub, lj_us, lj_uj, lj_ua, lj_ub, la_us, la_uj, la_ua, la_ub, lb_us, lb_uj, lb_ua, lb_ub, nl0, nl1, nl2, nl3, nl4, nl5, nl6, nl7, nl8, nl9, nl10, nl11, nl12, nl13, nl14, nl15, nl16, nl17, nl18, nl19, nl20, nl21, nl22, nl23, nl24, nl25, nl26, nl27, nl28, nl29, nl30, nl31, nl32, nl33, nl34, nl35, nl36, nl37, nl38, nl39, nl40, nl41, nl42, nl43, nl44, nl45, nl46, nl47, nl48, nl49, nl50, nl51, nl52, nl53, nl54, nl55, nl56, nl57, nl58, nl59, nl60, nl61, nl62, nl63, nl64, nl65, nl66, nl67, nl68, nl69, nl70, nl71, nl72, nl73, nl74, nl75, nl76, nl77, nl78, nl79, nl80, nl82, nl83, nl84, nl85, nl86, nl88, nl90, nl96, nl97, nl99, nl100, nl101, nl104, nl112, nl115, nl120, nl121, nl122, nl126, nl127, nl128, nl160, nl200, nl201, nl202, nl255, nl256, nl300, nl320, nl322, nl400, nl500, nl600, nl640, nl732, nl968, nl999, nl1000, nl1001, nl1040, nl1440, nl1500, nl1501, nl1600, nl2000, nl2240, nl3131, nl4000, nl4095, nl4096, nl4960, nl5000, nl6000, nl6001, nl8000, nl9999, nl10000, nl10200, nl13520, nl14000, nl20000, nl32768, nl40000, nl46000, nl64000, nl65536, nl78000, nl100000, nl128000, nl400000, nl730000, am3, bm3, M_isK R3.k R3.mw, ek, b2n_t, this]
      obtain ⟨R5, q5⟩ := R3.cell
      have kp5 := R5.kp
      have ax5 := R5.ax
      obtain ⟨v1, v2⟩ := X_wv R5 al
      have hN := h.N8 hb
      have b5 : pB c (b + 1) (a + 1) 0 := by unfold pB at *; omega
      obtain ⟨β, γ, g', c1, c2, c3, c4, c5, c6⟩ := R5.childA (G := G) (to := o) (kv := nI 16) (v := nI (c.vs (a + 1))) (v' := nI (a + 1)) b5 h1 h2 hr (by omega) q5 (by decide)
      have R6 := c5.adv al
      have am4 := R4.am
      have MC : gX26_child (nI o) (nI 16) (nI (c.vs (a + 1))) (nI (a + 1)) (maS (maS s a) (a + 1)) = some ((), maS (mAtS (mMk (maS s a) N (nI 16) (nI (c.vs (a + 1))) (nI (a + 1))) o (g.ch o) N) (a + 1)) := by
        rw [M_childAt R4 (by omega) h1 h2, mMk_ma, mAtS_ma]
      have kpγ := c5.kp
      have axγ := c5.ax
      have o6 := c6.oa o h2
      have r6 := c6.r o h2
      have b6 : pB c (b + 1 + 2) (a + 1 + 1) 4 := by unfold pB at *; omega
      have T := (R6.ocT (G := G) (o := o) b6 h1 (by omega) (by rw [r6]; exact hr)).im (Q' := fun _ β _ s' => pO c a d b N 0 g s a β s' (fun _ _ _ => True)) (fun _ δ _ s' z => by
        obtain ⟨a', b', N', g'', t1, t2, t3, t4, t5⟩ := z
        exact ⟨a', b', N', g'', t1, (((pX.ma (a := a)).tr c6).m (s2 := maS (mAtS (mMk (maS s a) N (nI 16) (nI (c.vs (a + 1))) (nI (a + 1))) o (g.ch o) N) (a + 1)) (fun _ _ => rfl) (fun _ _ => rfl) maS_pl).tr t2, by omega, by omega, trivial⟩)
      have T' := T.tr (s := s) ((pX.ma (N := N) (g := g) (s := s) (a := a)).pl.tr (c6.pl.tr maS_pl))
      rw [o6] at T'
      rw [show nI (b2n true) = nI 1 from rfl, X_must1, zc_l, MB, gl_bs, if_neg (show ¬ nI 1 = 0 from n1n), ps, gl_bs, gl_x, am4, nl1, pI_sub (by omega), Nat.add_sub_cancel, MC, gl_bs]
      show pJ c s (Option.bind (znO (xaS c α a) 44 9) _) _ _
      rw [znO_e, gl_bs]
      show pJ c s (Option.bind (zfA (zmk (xaS c α a) 45 0 9) (some c.p) 40 1) _) _ _
      rw [v1, gl_bs]
      show pJ c s (Option.bind (zfI (zmk (xaS c α a) 45 0 9) (some c.p) 40 3) _) _ _
      rw [kfI kp5, gl_bs, ax5, v2, gl_bs, gl_bs, if_pos (of_eq_true (kis q5.kd (by decide)))]
      show pJ c s (Option.bind (hX43_init G (some (zn (xaS c α a))) (nI 16) (nI (c.vs (a + 1))) (nI (a + 1)) (zmk (xaS c α a) 45 0 9)) _) _ _
      rw [c1, gl_bs, if_pos (of_eq_true (kis c2 (by decide))), c3, gl_bs, kfI kpγ, gl_bs, axγ, kpI kpγ, gl_bs, show nI (a + 1) + nI 1 = nI (a + 1 + 1) from pI_succ _]
      exact T'
  · have T := h.ocT (G := G) hb h1 h2 hr
    rw [z1, gl_bs, if_pos (show nI 0 = 0 from rfl), m1, gl_bs, if_pos (show nI 0 = 0 from rfl)]
    exact T
/-- USAGE: behind IS -/
theorem pR.usg (h : pR c a d b N 0 g α s) (hb : pB c b a 4) (h1 : c.N0 ≤ t) (h2 : t < N) (hr : 0 < g.r t) : pJ c s ((zfI α (some c.p) 40 3).bind fun x22 =>
                        if zis G α (some c.p) 41 = true then
                          (hX4_isWord G (some c.p) x22 (nI 28) α).bind fun p23 =>
                          if ¬ p23.1 = 0 then
                            hX4_part_301 G (some c.p) (some (g.oa t)) v' (some c.p) p23.2
                          else
                            (zfI p23.2 (some c.p) 40 3).bind fun x24 =>
                            if zis G p23.2 (some c.p) 41 = true then
                              (hX4_isWord G (some c.p) x24 (nI 29) p23.2).bind fun p25 =>
                              if p25.1 = 0 then
                                hX4_part_306 G (some c.p) (some (g.oa t)) v' (nI 0) (some c.p) p25.2
                              else
                                hX4_part_301 G (some c.p) (some (g.oa t)) v' (some c.p) p25.2
                            else none
                        else none) (xlet (ls s 41) fun x22 =>
                      (gX26_isWord x22 (nI 28) s).bind fun p23 =>
                      if ¬ p23.1 = 0 then
                        gX26_described2_250 (nI t) v' p23.2
                      else
                        xlet (ls p23.2 41) fun x24 =>
                        (gX26_isWord x24 (nI 29) p23.2).bind fun p25 =>
                        if p25.1 = 0 then
                          gX26_described2_255 (nI t) v' (nI 0) p25.2
                        else
                          gX26_described2_250 (nI t) v' p25.2) (fun _ β _ s' => pO c a d b N 0 g s (a + 1) β s' (fun _ _ _ => True)) := by
  have kp := h.kp
  have ax := h.ax
  have am := h.am
  have a5 := h.a5
  have N0 := h.N0
  have N1 := h.k.N1
  have good : a < c.n → 28 ≤ c.vs a → pJ c s (hX4_part_301 G (some c.p) (some (g.oa t)) v' (some c.p) α) (gX26_described2_250 (nI t) v' s) (fun _ β _ s' => pO c a d b N 0 g s (a + 1) β s' (fun _ _ _ => True)) := fun al v28 => by
    obtain ⟨R5, q5⟩ := h.cell
    have kp5 := R5.kp
    have ax5 := R5.ax
    have v5 := h.k.vs a al
    have n5 := h.k.n
    have rv := h.mw.rv a al
    obtain ⟨v1, v2⟩ := X_wv R5 al
    have b5 : pB c (b + 1) a 0 := by unfold pB at *; omega
    obtain ⟨β, γ, g', c1, c2, c3, c4, c5, c6⟩ := R5.childA (G := G) (to := t) (kv := nI 19) (v := nI (c.vs a - 28)) (v' := v') b5 h1 h2 hr (by omega) q5 (by decide)
    have R6 := c5.adv al
    have kpγ := c5.kp
    have axγ := c5.ax
    have amγ := c5.am
    refine .inl ⟨(), _, (), _, ?_, ?_, a + 1, b + 1 + 2, N + 1, g', R6, c6.m (fun _ _ => rfl) (fun _ _ => rfl) maS_pl, Nat.le_refl _, by omega, trivial⟩
    · unfold hX4_part_301 hX4_part_306
      rw [if_pos (of_eq_true (kis kp (by decide)))]
      show zcase (hX4_must G (some c.p) (nI 1) α) _ _ = _
      rw [X_must1, zc_l]
      show Option.bind (znO α 44 9) _ = _
      rw [znO_e, gl_bs]
      show Option.bind (zfA (zmk α 45 0 9) (some c.p) 40 1) _ = _
      rw [v1, gl_bs]
      show Option.bind (zfI (zmk α 45 0 9) (some c.p) 40 3) _ = _
      rw [kfI kp5, gl_bs, ax5, v2, gl_bs, if_pos (of_eq_true (kis q5.kd (by decide)))]
      show Option.bind (hX43_init G (some (zn α)) (nI 19) (nI (c.vs a) - nI 28) v' (zmk α 45 0 9)) _ = _
      rw [pI_sub (by omega), c1, gl_bs, if_pos (of_eq_true (kis c2 (by decide))), c3, gl_bs, kfI kpγ, gl_bs, axγ, kpI kpγ, gl_bs, pI_succ]
      rfl
    · unfold gX26_described2_250 gX26_described2_255 gX26_described2_282
      rw [if_neg (show ¬ (1 : Int32) = 0 from by decide), gl_x, am, pgld (by omega) (by decide), gl_bs, rv]
      show Option.bind (gX26_child (nI t) (nI 19) (nI (c.vs a) - nI 28) v' s) _ = _
      rw [pI_sub (by omega), c4, gl_bs, if_neg (show ¬ (1 : Int32) = 0 from by decide), gl_x, amγ, gl_x, pI_succ]
      rfl
  rw [kfI kp, gl_bs, ax, if_pos (of_eq_true (kis kp (by decide))), X_isW h.k h.xw (by omega) (by decide), gl_bs, gl_x, am, M_isW h.k h.mw (by omega) (by decide), gl_bs]
  rcases e28 : wW c a 28 with _ | _
  · rw [if_neg (show ¬ ¬ nI (b2n false) = 0 from fun z => z rfl), if_neg (show ¬ ¬ nI (b2n false) = 0 from fun z => z rfl), gl_x]
    show pJ c s (Option.bind (zfI α (some c.p) 40 3) _) (Option.bind (gX26_isWord (ls s 41) (nI 29) s) _) _
    rw [kfI kp, gl_bs, ax, if_pos (of_eq_true (kis kp (by decide))), X_isW h.k h.xw (by omega) (by decide), gl_bs, am, M_isW h.k h.mw (by omega) (by decide), gl_bs]
    rcases e29 : wW c a 29 with _ | _
    · rw [if_pos (show nI (b2n false) = 0 from rfl), if_pos (show nI (b2n false) = 0 from rfl)]
      obtain ⟨q, β, s', w, y1, y2, y3, y4, y5⟩ := h.no' (G := G) (hb.le (by decide))
      refine .inr ⟨q, β, (), s', 1, w, ?_, y2, ?_, y4, y5⟩
      · unfold hX4_part_306
        rw [if_pos (of_eq_true (kis kp (by decide))), y1, zc_r, if_pos y2]
      · unfold gX26_described2_255 gX26_described2_282
        rw [if_pos (show nI 0 = 0 from rfl), if_pos (show nI 0 = 0 from rfl), gl_x, am]
        show Option.bind (gX26_fail (nI 1) (nI a) s) _ = _
        rw [y3, gl_bs]
        rfl
    · rw [if_neg (show ¬ nI (b2n true) = 0 from bT), if_neg (show ¬ nI (b2n true) = 0 from bT)]
      exact good (wW_i e29).1 (by have := (wW_i e29).2.2; omega)
  · rw [if_pos (show ¬ nI (b2n true) = 0 from bT), if_pos (show ¬ nI (b2n true) = 0 from bT)]
    exact good (wW_i e28).1 (by have := (wW_i e28).2.2; omega)
end PAZZQ
