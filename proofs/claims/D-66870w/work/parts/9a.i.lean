/-! THE PURE LAYER: the parser: sums, part by part. -/
section PAI
variable {c : pC} {G : xQ} {α β γ αs : zS} {s s' s2 ss : zM} {a a1 a' d b b' N N' N2 Ns as bs k t t2 u w wh q r F F1 F' sg f y : Nat} {g g' g2 gs : pG} {v v' kv : Int32} {l ts : List Nat}
/-- the rest of M's turn behind a unit: the sign -/
theorem M_rest (h : pR c a d b N 0 g α s) : ((gX26_isKind (nI a) (nI 5) s).bind fun p44 => if p44.1 = 0 then gX26_behindUnit_81 v p44.2 else xlet (ls p44.2 41) fun x46 => (gld p44.2 3 1500 x46).bind fun x47 => (gX26_in x47 5 8 p44.2).bind fun p48 => if p48.1 = 0 then gX26_behindUnit_81 v p48.2 else xlet (ls p48.2 41) fun x50 => (gld p48.2 3 1500 x50).bind fun x51 => gX26_behindUnit_82 v x51 p48.2) = gX26_behindUnit_82 v (nI (wG c a)) s := by
  have am := h.am
  have a5 := h.a5
  unfold gX26_behindUnit_81
  rcases M_sg h with ⟨e, _⟩ | ⟨e1, e2, e3, e4, e5, e6⟩
  · by_cases e7 : wK c a 5 = true
    · have e8 := wK_i e7
      have rv := h.mw.rv a e8.1
      have v5 := h.k.vs a e8.1
      have dz : decide (5 ≤ c.vs a ∧ c.vs a ≤ 8) = false := decide_eq_false (fun z => by
        have : wG c a = c.vs a := if_pos ⟨e8.1, e8.2, z⟩
        omega)
      simp (disch := omega) only [gld, gst, glj, gsj, gpN0, gpN1, gl_x, gl_gi, pI_in', pI_clamp, pI_add, pI_mul, pI_sub, pI_succ, nmod_eq, pI_div, ni_neg, zn_neg, gnar0, gnar1, eq_self, ni_lt, ni_le, ni_eq, ni_zlt, ni_zle, ni_zeq, zn_lt, zn_le, zn_eq, zz_lt, zz_le, zz_eq, ni_zadd, zn_add, ni_zsub, zn_sub, ni_zmul, zn_mul, nZ_add, nZ_sub, nZ_mul, upd_same, upd_other, upd_upd, gl_bi, gl_mi, gl_bs, gl_ms, gl_bn, gl_mn, if_true, if_false, ↓reduceIte, not_true_eq_false, not_false_eq_true, true_and, and_true, false_and, and_false, and_self, or_false, false_or, or_self, or_true, true_or, Nat.not_lt_zero, Nat.reduceAdd, Nat.reduceMul, Nat.add_zero, Nat.zero_add, Nat.mul_zero, Nat.zero_mul, Nat.reduceEqDiff, Nat.reduceLT, Nat.reduceLeDiff, Nat.succ_ne_zero, ua_ua, us_us, tn_le, tn_nle, tn_lt, tn_nlt, tn_eq, tn_ne, tz_le, tz_nle, tz_lt, tz_nlt, tz_eq, tz_ne, ls_us, ls_uj, ls_ua, ls_ub, lj_us, lj_uj, lj_ua, lj_ub, la_us, la_uj, la_ua, la_ub, lb_us, lb_uj, lb_ua, lb_ub, nl0, nl1, nl2, nl3, nl4, nl5, nl6, nl7, nl8, nl9, nl10, nl11, nl12, nl13, nl14, nl15, nl16, nl17, nl18, nl19, nl20, nl21, nl22, nl23, nl24, nl25, nl26, nl27, nl28, nl29, nl30, nl31, nl32, nl33, nl34, nl35, nl36, nl37, nl38, nl39, nl40, nl41, nl42, nl43, nl44, nl45, nl46, nl47, nl48, nl49, nl50, nl51, nl52, nl53, nl54, nl55, nl56, nl57, nl58, nl59, nl60, nl61, nl62, nl63, nl64, nl65, nl66, nl67, nl68, nl69, nl70, nl71, nl72, nl73, nl74, nl75, nl76, nl77, nl78, nl79, nl80, nl82, nl83, nl84, nl85, nl86, nl88, nl90, nl96, nl97, nl99, nl100, nl101, nl104, nl112, nl115, nl120, nl121, nl122, nl126, nl127, nl128, nl160, nl200, nl201, nl202, nl255, nl256, nl300, nl320, nl322, nl400, nl500, nl600, nl640, nl732, nl968, nl999, nl1000, nl1001, nl1040, nl1440, nl1500, nl1501, nl1600, nl2000, nl2240, nl3131, nl4000, nl4095, nl4096, nl4960, nl5000, nl6000, nl6001, nl8000, nl9999, nl10000, nl10200, nl13520, nl14000, nl20000, nl32768, nl40000, nl46000, nl64000, nl65536, nl78000, nl100000, nl128000, nl400000, nl730000, M_isK h.k h.mw, e7, b2n_t, am, rv, M_in, dz, dec_t, dec_f, b2n_f, e]
    · rw [Bool.not_eq_true] at e7
      simp (disch := omega) only [gld, gst, glj, gsj, gpN0, gpN1, gl_x, gl_gi, pI_in', pI_clamp, pI_add, pI_mul, pI_sub, pI_succ, nmod_eq, pI_div, ni_neg, zn_neg, gnar0, gnar1, eq_self, ni_lt, ni_le, ni_eq, ni_zlt, ni_zle, ni_zeq, zn_lt, zn_le, zn_eq, zz_lt, zz_le, zz_eq, ni_zadd, zn_add, ni_zsub, zn_sub, ni_zmul, zn_mul, nZ_add, nZ_sub, nZ_mul, upd_same, upd_other, upd_upd, gl_bi, gl_mi, gl_bs, gl_ms, gl_bn, gl_mn, if_true, if_false, ↓reduceIte, not_true_eq_false, not_false_eq_true, true_and, and_true, false_and, and_false, and_self, or_false, false_or, or_self, or_true, true_or, Nat.not_lt_zero, Nat.reduceAdd, Nat.reduceMul, Nat.add_zero, Nat.zero_add, Nat.mul_zero, Nat.zero_mul, Nat.reduceEqDiff, Nat.reduceLT, Nat.reduceLeDiff, Nat.succ_ne_zero, ua_ua, us_us, tn_le, tn_nle, tn_lt, tn_nlt, tn_eq, tn_ne, tz_le, tz_nle, tz_lt, tz_nlt, tz_eq, tz_ne, ls_us, ls_uj, ls_ua, ls_ub, lj_us, lj_uj, lj_ua, lj_ub, la_us, la_uj, la_ua, la_ub, lb_us, lb_uj, lb_ua, lb_ub, nl0, nl1, nl2, nl3, nl4, nl5, nl6, nl7, nl8, nl9, nl10, nl11, nl12, nl13, nl14, nl15, nl16, nl17, nl18, nl19, nl20, nl21, nl22, nl23, nl24, nl25, nl26, nl27, nl28, nl29, nl30, nl31, nl32, nl33, nl34, nl35, nl36, nl37, nl38, nl39, nl40, nl41, nl42, nl43, nl44, nl45, nl46, nl47, nl48, nl49, nl50, nl51, nl52, nl53, nl54, nl55, nl56, nl57, nl58, nl59, nl60, nl61, nl62, nl63, nl64, nl65, nl66, nl67, nl68, nl69, nl70, nl71, nl72, nl73, nl74, nl75, nl76, nl77, nl78, nl79, nl80, nl82, nl83, nl84, nl85, nl86, nl88, nl90, nl96, nl97, nl99, nl100, nl101, nl104, nl112, nl115, nl120, nl121, nl122, nl126, nl127, nl128, nl160, nl200, nl201, nl202, nl255, nl256, nl300, nl320, nl322, nl400, nl500, nl600, nl640, nl732, nl968, nl999, nl1000, nl1001, nl1040, nl1440, nl1500, nl1501, nl1600, nl2000, nl2240, nl3131, nl4000, nl4095, nl4096, nl4960, nl5000, nl6000, nl6001, nl8000, nl9999, nl10000, nl10200, nl13520, nl14000, nl20000, nl32768, nl40000, nl46000, nl64000, nl65536, nl78000, nl100000, nl128000, nl400000, nl730000, M_isK h.k h.mw, e7, b2n_f, e]
  · have rv := h.mw.rv a e1
    have dz : decide (5 ≤ wG c a ∧ wG c a ≤ 8) = true := decide_eq_true ⟨e2, e3⟩
    simp (disch := omega) only [gld, gst, glj, gsj, gpN0, gpN1, gl_x, gl_gi, pI_in', pI_clamp, pI_add, pI_mul, pI_sub, pI_succ, nmod_eq, pI_div, ni_neg, zn_neg, gnar0, gnar1, eq_self, ni_lt, ni_le, ni_eq, ni_zlt, ni_zle, ni_zeq, zn_lt, zn_le, zn_eq, zz_lt, zz_le, zz_eq, ni_zadd, zn_add, ni_zsub, zn_sub, ni_zmul, zn_mul, nZ_add, nZ_sub, nZ_mul, upd_same, upd_other, upd_upd, gl_bi, gl_mi, gl_bs, gl_ms, gl_bn, gl_mn, if_true, if_false, ↓reduceIte, not_true_eq_false, not_false_eq_true, true_and, and_true, false_and, and_false, and_self, or_false, false_or, or_self, or_true, true_or, Nat.not_lt_zero, Nat.reduceAdd, Nat.reduceMul, Nat.add_zero, Nat.zero_add, Nat.mul_zero, Nat.zero_mul, Nat.reduceEqDiff, Nat.reduceLT, Nat.reduceLeDiff, Nat.succ_ne_zero, ua_ua, us_us, tn_le, tn_nle, tn_lt, tn_nlt, tn_eq, tn_ne, tz_le, tz_nle, tz_lt, tz_nlt, tz_eq, tz_ne, ls_us, ls_uj, ls_ua, ls_ub, lj_us, lj_uj, lj_ua, lj_ub, la_us, la_uj, la_ua, la_ub, lb_us, lb_uj, lb_ua, lb_ub, nl0, nl1, nl2, nl3, nl4, nl5, nl6, nl7, nl8, nl9, nl10, nl11, nl12, nl13, nl14, nl15, nl16, nl17, nl18, nl19, nl20, nl21, nl22, nl23, nl24, nl25, nl26, nl27, nl28, nl29, nl30, nl31, nl32, nl33, nl34, nl35, nl36, nl37, nl38, nl39, nl40, nl41, nl42, nl43, nl44, nl45, nl46, nl47, nl48, nl49, nl50, nl51, nl52, nl53, nl54, nl55, nl56, nl57, nl58, nl59, nl60, nl61, nl62, nl63, nl64, nl65, nl66, nl67, nl68, nl69, nl70, nl71, nl72, nl73, nl74, nl75, nl76, nl77, nl78, nl79, nl80, nl82, nl83, nl84, nl85, nl86, nl88, nl90, nl96, nl97, nl99, nl100, nl101, nl104, nl112, nl115, nl120, nl121, nl122, nl126, nl127, nl128, nl160, nl200, nl201, nl202, nl255, nl256, nl300, nl320, nl322, nl400, nl500, nl600, nl640, nl732, nl968, nl999, nl1000, nl1001, nl1040, nl1440, nl1500, nl1501, nl1600, nl2000, nl2240, nl3131, nl4000, nl4095, nl4096, nl4960, nl5000, nl6000, nl6001, nl8000, nl9999, nl10000, nl10200, nl13520, nl14000, nl20000, nl32768, nl40000, nl46000, nl64000, nl65536, nl78000, nl100000, nl128000, nl400000, nl730000, M_isK h.k h.mw, wK_t e1 e4, b2n_t, am, rv, M_in, e5, dz, dec_t, dec_f]
/-- M behind a unit, told by what joins -/
theorem M_2b {t0 : Nat} {s1 : zM} (h49 : ls s 49 = nI (k + 1)) (hk : k ≤ 40) (h52 : la s 52 k = v) (h53 : la s 53 k = v') (hj : gX26_joined v v' (nI t) s = some (nI t0, s1)) (h' : pR c a d b N 0 g α (ua (ua s1 52 (upd (la s1 52) k (nI t0))) 53 (upd (la s1 53) k (nI 0)))) : gX26_behindUnit_2b (nI t) s = gX26_behindUnit_82 (nI k) (nI (wG c a)) (ua (ua s1 52 (upd (la s1 52) k (nI t0))) 53 (upd (la s1 53) k (nI 0))) := by
  unfold gX26_behindUnit_2b
  rw [gl_x, gl_x, h49, nl1, pI_sub (by omega), Nat.add_sub_cancel, pgld (by omega) (by decide), gl_bs, pgld (by omega) (by decide), gl_bs, h52, h53, hj, gl_bs, pgst (by omega) (by decide), gl_bs]
  show ((gst _ 53 64 (nI k) (nI 0)).bind _) = _
  rw [pgst (by omega) (by decide), gl_bs]
  show (xlet (ls (ua (ua s1 52 (upd (la s1 52) k (nI t0))) 53 (upd (la s1 53) k (nI 0))) 41) _) = _
  rw [gl_x, h'.am, nl5]
  exact M_rest h'
/-- M behind a product: the sum so far -/
theorem M_82 {t0 : Nat} {s1 : zM} (hk : k ≤ 40) (hsg : sg ≤ 6) (h50 : la s 50 k = v) (h51 : la s 51 k = v') (h52 : la s 52 k = nI t) (hj : gX26_joined v v' (nI t) s = some (nI t0, s1)) : gX26_behindUnit_82 (nI k) (nI sg) s = if sg = 0 then mSe (nI k) (ua (ua s1 50 (upd (la s1 50) k (nI t0))) 51 (upd (la s1 51) k (nI sg))) else some (.inr (nI 0), us (ua (ua s1 50 (upd (la s1 50) k (nI t0))) 51 (upd (la s1 51) k (nI sg))) 41 (ls s1 41 + 1)) := by
  unfold gX26_behindUnit_82
  rw [nl6, if_pos (by rw [pI_le (by omega) (by decide)]; exact hsg), pgld (by omega) (by decide), gl_bs, pgld (by omega) (by decide), gl_bs, pgld (by omega) (by decide), gl_bs, h50, h51, h52, hj, gl_bs, pgst (by omega) (by decide), gl_bs]
  show ((gst _ 51 64 (nI k) (nI sg)).bind _) = _
  rw [pgst (by omega) (by decide), gl_bs]
  by_cases e : sg = 0
  · rw [if_pos e, e, if_pos (by decide)]
    rfl
  · rw [if_neg e, if_neg (by rw [nl0, pI_le (by omega) (by decide)]; omega)]
    rfl
/-- M behind a unit and a sign of products -/
theorem M_82x (hk : k ≤ 40) (h1 : 6 < sg) (h2 : sg < 100) : gX26_behindUnit_82 (nI k) (nI sg) s = some (.inr (nI 0), us (ua s 53 (upd (la s 53) k (nI sg))) 41 (ls s 41 + 1)) := by
  unfold gX26_behindUnit_82
  rw [nl6, if_neg (by rw [pI_le (by omega) (by decide)]; omega)]
  show (ginr ((gst s 53 64 (nI k) (nI sg)).bind _)) = _
  rw [pgst (by omega) (by decide), gl_bs]
  rfl
/-- rows of brackets are temporary -/
theorem pR.ua5 {j : Nat} {x : Nat → Int32} (h : pR c a d b N y g α s) (hj : 50 ≤ j ∧ j ≤ 53) : pR c a d b N y g α (ua s j x) := h.tmp (fun _ _ => rfl) (fun i hi => by rw [la_ua, if_neg (by omega)])
theorem pY.ua5 {j : Nat} {x : Nat → Int32} (h : pY c N g α s N' g' β s') (hj : 50 ≤ j ∧ j ≤ 53) : pY c N g α s N' g' β (ua s' j x) := h.m (fun i h1 h2 => by rw [la_ua, if_neg (by omega)]) ⟨rfl, by rw [la_ua, if_neg (by omega)], by rw [la_ua, if_neg (by omega)], by rw [la_ua, if_neg (by omega)]⟩
theorem pI_1 : nI a + 1 = nI (a + 1) := pI_succ a
/-- X's node of two: made, with the left one below it -/
theorem X_both (h : pR c a d b N 0 g α s) (hb : pB c b a 8) (ha : a < c.n) (h1 : c.N0 ≤ t) (h2 : t < N) (h0 : la s 16 t = nI 0) (i2 : Nat) (hi2 : i2 ≤ 1) (FB : (Option Nat) → (Option Nat) → Int32 → zS → zF ((Option Nat) ⊕ Nat)) (FP FS FU : (Option Nat) → zS → zF ((Option Nat) ⊕ Nat)) : ∃ α1, hX4_both_r G FB FP FS FU (some c.p) (some (g.oa t)) (nI i2) α = zcase ((if i2 = 0 then FU else FP) (some c.p) α1) (fun p11 => if zis G p11.2 (some (zn α)) 45 = true then (hX43_add G (some (zn α)) p11.1 p11.2).bind fun p1 => some (.inl (some (zn α)), p1.2) else none) (fun p12 => if zthr p12.2 p12.1 3 = true then some (.inr p12.1, p12.2) else none) ∧ pR c (a + 1) d (b + 3) N 0 g α1 (maS s a) ∧ pxL c α1 (zn α) (nI 55) (nI (c.vs a)) (la s 11 t) [g.oa t] ∧ (∀ x, x < zn α → x ≠ c.p → x ≠ g.oa t → α1.2 x = α.2 x) ∧ zn α < zn α1 := by
  have a5 := h.a5
  have hN := h.N8 hb
  obtain ⟨h4, hq⟩ := h.cell
  have ot := h4.g.nd t h1 h2
  have wd := ot.wd
  have kn := ot.kn
  have hi := (h.g.nd t h1 h2).hi
  have lo := (h.g.nd t h1 h2).lo
  have hp := h.k.p
  have hn := h.x.n
  obtain ⟨β, x1, x2, x3, x4, x5⟩ := h4.lone (G := G) (kv := nI 55) (v := nI (c.vs a)) (v' := la s 11 t) hq
  have x6 := x2.adv ha
  have oq : ∀ t, c.N0 ≤ t → t < N → g.oa t ≠ zn α := fun t h1 h2 => by
    have := (h.g.nd t h1 h2).hi
    omega
  have x3' : pxL c (xaS c β a) (zn α) (nI 55) (nI (c.vs a)) (la s 11 t) [] := x3.fr (fun x _ hx => zwI_ne hx) (Nat.le_refl _) hp x2.kp
  obtain ⟨γ, y1, y2, y3, y4, y5⟩ := x6.ladd (G := G) x3' (by simp) h1 h2 (by omega) h0 oq (by simp)
  refine ⟨γ, ?_, y2, y3, fun x z1 z2 z3 => ?_, ?_⟩
  · obtain ⟨v1, v2⟩ := X_wv h4 ha
    have kp4 := h4.kp
    have ax4 := h4.ax
    have kd4 := hq.kd
    have kp2 := x2.kp
    have ax2 := x2.ax
    have kn6 := x3'.kn
    have kpg := y2.kp
    unfold hX4_both_r hX4_both_55
    rw [znO_e, gl_bs]
    show (zfA (zmk α 45 0 9) (some c.p) 40 1).bind _ = _
    rw [v1, gl_bs]
    show (zfI (zmk α 45 0 9) (some c.p) 40 3).bind _ = _
    rw [kfI kp4, ax4, gl_bs]
    show (ziald (zmk α 45 0 9) (some c.va) (nI a)).bind _ = _
    rw [v2, gl_bs]
    show (zfI (zmk α 45 0 9) (some (g.oa t)) 44 5).bind _ = _
    rw [kfI kn, wd, gl_bs]
    show (if zis G (zmk α 45 0 9) (some (zn α)) 45 = true then _ else _) = _
    rw [if_pos (of_eq_true (kis kd4 (by decide))), nl55]
    show (hX43_init G (some (zn α)) (nI 55) (nI (c.vs a)) (la s 11 t) (zmk α 45 0 9)).bind _ = _
    rw [x1, gl_bs]
    show (zfI β (some c.p) 40 3).bind _ = _
    rw [kfI kp2, ax2, gl_bs]
    show (zpI β (some c.p) 40 3 (nI a + 1)).bind _ = _
    rw [kpI kp2, gl_bs, pI_succ]
    show (if zis G (xaS c β a) (some (zn α)) 45 = true then _ else _) = _
    rw [if_pos (of_eq_true (kis kn6 (by decide)))]
    show (hX43_add G (some (zn α)) (some (g.oa t)) (xaS c β a)).bind _ = _
    rw [y1, gl_bs]
    by_cases e : i2 = 0
    · rw [if_pos e, if_pos (by rw [e]; rfl)]
      show (if zis G γ (some c.p) 41 = true then _ else _) = _
      rw [if_pos (of_eq_true (kis kpg (by decide)))]
    · rw [if_neg e, if_neg (by rw [nl0, pI_inj (by omega) (by decide)]; exact e)]
      show (if zis G γ (some c.p) 41 = true then _ else _) = _
      rw [if_pos (of_eq_true (kis kpg (by decide)))]
  · rw [y5 x (by omega) z3]
    show (zwI β 40 3 c.p (nI (a + 1))).2 x = _
    rw [zwI_ne z2, x4 x (by omega) (by omega)]
    exact zmk_ne z1
  · have : zn β ≤ zn γ := y4
    have : zn (zmk α 45 0 9) ≤ zn β := x5
    have : zn (zmk α 45 0 9) = zn α + 1 := rfl
    omega
/-- the right one is read: X lays it below, M makes the node with both -/
theorem pR.both (h : pR c a' d b' N' 0 g' β s') (hY : pY c Ns gs αs ss N' g' β s') (hb : pB c b' a' 4) (hl : pxL c β q (nI 55) (nI sg) v [g'.oa t]) (h1 : Ns ≤ t) (h2 : t < N') (h0 : la s' 16 t = nI 0) (g1 : c.N0 ≤ Ns) (h3 : Ns ≤ t2) (h4 : t2 < N') (h5 : la s' 16 t2 = nI 0) (ne : t ≠ t2) (hq : ∀ t, c.N0 ≤ t → t < N' → g'.oa t ≠ q) (hqs : zn αs ≤ q) (ht2 : zn αs ≤ g'.oa t2) (hsg : 0 < sg) (hs9 : sg < 100) (hv : v = la s' 11 t) (r1 : g'.r t < r) (r2 : g'.r t2 < r) : ∃ γ g2, hX43_add G (some q) (some (g'.oa t2)) β = some (some (g'.oa t2), γ) ∧ gX26_joined (nI t) (nI sg) (nI t2) s' = some (nI N', mAts (mMk s' N' (nI 55) (nI sg) (la s' 11 t)) N' [] [t, t2]) ∧ pR c a' d (b' + 2) (N' + 1) 0 g2 γ (mAts (mMk s' N' (nI 55) (nI sg) (la s' 11 t)) N' [] [t, t2]) ∧ pY c Ns gs αs ss (N' + 1) g2 γ (mAts (mMk s' N' (nI 55) (nI sg) (la s' 11 t)) N' [] [t, t2]) ∧ g2.oa N' = q ∧ g2.r N' = r ∧ la (mAts (mMk s' N' (nI 55) (nI sg) (la s' 11 t)) N' [] [t, t2]) 16 N' = nI 0 := by
  have hN := h.N8 hb
  have o2 := h.g.nd t2 (by omega) h4
  have nin : g'.oa t2 ∉ [g'.oa t] := by
    rw [List.mem_singleton]
    exact fun z => ne (h.g.inj t2 t (by omega) h4 (by omega) h2 z).symm
  obtain ⟨γ, x1, x2, x3, x4, x5⟩ := h.ladd (G := G) hl (by simp) (by omega) h4 (by omega) h5 hq nin
  have hY2 : pY c Ns gs αs ss N' g' γ s' := hY.xs (fun x z1 z2 => x5 x (by omega) (by omega)) x4
  subst hv
  have x2' := x2.bup (b' := b' + 2) (by omega)
  have Nb := h.Nb
  obtain ⟨y1, y2, y3⟩ := x2'.many (r := r) (ts := [t, t2]) (kv := nI 55) (v := nI sg) (v' := la s' 11 t) (by omega) (by omega) (by rw [ne_eq, pI_inj (by decide) (by decide)]; decide) x3 hq (by simp [ne]) (fun x hx => by
    simp only [List.mem_cons, List.not_mem_nil, or_false] at hx
    rcases hx with rfl | rfl
    · exact ⟨by omega, h2, r1, h0⟩
    · exact ⟨by omega, h4, r2, h5⟩)
  refine ⟨γ, _, x1, M_joined h (by omega) (by omega) h2 h4 hsg hs9, y1, hY2.many (fun x hx => ?_) hqs, ?_, ?_, ?_⟩
  · simp only [List.mem_cons, List.not_mem_nil, or_false] at hx
    rcases hx with rfl | rfl <;> assumption
  · rw [gAdds_oa, push_oa, if_pos rfl]
  · rw [gAdds_r, push_r, if_pos rfl]
  · have A1 := mAtS_at (s := mMk s' N' (nI 55) (nI sg) (la s' 11 t)) (to := N') (l := []) (t := t)
    have A2 := mAtS_at (s := mAtS (mMk s' N' (nI 55) (nI sg) (la s' 11 t)) N' [] t) (to := N') (l := [t]) (t := t2)
    show la (mAtS (mAtS (mMk s' N' (nI 55) (nI sg) (la s' 11 t)) N' [] t) N' [t] t2) 16 N' = _
    rw [A2.r16, upd_other (by omega), A1.r16, upd_other (by omega)]
    exact mMk_16
end PAI
