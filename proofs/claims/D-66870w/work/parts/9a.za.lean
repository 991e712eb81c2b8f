/-! THE PURE LAYER: the parser: statements without lists. -/
def sQ (c : pC) (a d b N : Nat) (g : pG) (s : zM) (K F ea eb ef : Nat) (a' b' N' : Nat) (g' : pG) (β : zS) (s' : zM) (F' : Nat) : Prop := (pR c a' d b' N' 0 g' β s') ∧ (pX0 N g s N' g' s') ∧ (pv K s s') ∧ (a + ea ≤ a') ∧ (b' + 10 * a + eb ≤ b + 10 * a') ∧ (F + 10 * a + eb ≤ F' + 10 * a' + ef)
theorem sQ.R {c : pC} {a d b N : Nat} {g : pG} {s : zM} {K F ea eb ef : Nat} {a' b' N' : Nat} {g' : pG} {β : zS} {s' : zM} {F' : Nat} (h : sQ c a d b N g s K F ea eb ef a' b' N' g' β s' F') : pR c a' d b' N' 0 g' β s' := by
  unfold sQ at h
  exact h.1
theorem sQ.X {c : pC} {a d b N : Nat} {g : pG} {s : zM} {K F ea eb ef : Nat} {a' b' N' : Nat} {g' : pG} {β : zS} {s' : zM} {F' : Nat} (h : sQ c a d b N g s K F ea eb ef a' b' N' g' β s' F') : pX0 N g s N' g' s' := by
  unfold sQ at h
  exact h.2.1
theorem sQ.V {c : pC} {a d b N : Nat} {g : pG} {s : zM} {K F ea eb ef : Nat} {a' b' N' : Nat} {g' : pG} {β : zS} {s' : zM} {F' : Nat} (h : sQ c a d b N g s K F ea eb ef a' b' N' g' β s' F') : pv K s s' := by
  unfold sQ at h
  exact h.2.2.1
theorem sQ.a1 {c : pC} {a d b N : Nat} {g : pG} {s : zM} {K F ea eb ef : Nat} {a' b' N' : Nat} {g' : pG} {β : zS} {s' : zM} {F' : Nat} (h : sQ c a d b N g s K F ea eb ef a' b' N' g' β s' F') : a + ea ≤ a' := by
  unfold sQ at h
  exact h.2.2.2.1
theorem sQ.b1 {c : pC} {a d b N : Nat} {g : pG} {s : zM} {K F ea eb ef : Nat} {a' b' N' : Nat} {g' : pG} {β : zS} {s' : zM} {F' : Nat} (h : sQ c a d b N g s K F ea eb ef a' b' N' g' β s' F') : b' + 10 * a + eb ≤ b + 10 * a' := by
  unfold sQ at h
  exact h.2.2.2.2.1
theorem sQ.f1 {c : pC} {a d b N : Nat} {g : pG} {s : zM} {K F ea eb ef : Nat} {a' b' N' : Nat} {g' : pG} {β : zS} {s' : zM} {F' : Nat} (h : sQ c a d b N g s K F ea eb ef a' b' N' g' β s' F') : F + 10 * a + eb ≤ F' + 10 * a' + ef := by
  unfold sQ at h
  exact h.2.2.2.2.2
theorem sQ.mk {c : pC} {a d b N : Nat} {g : pG} {s : zM} {K F ea eb ef : Nat} {a' b' N' : Nat} {g' : pG} {β : zS} {s' : zM} {F' : Nat} (x0 : pR c a' d b' N' 0 g' β s') (x1 : pX0 N g s N' g' s') (x2 : pv K s s') (x3 : a + ea ≤ a') (x4 : b' + 10 * a + eb ≤ b + 10 * a') (x5 : F + 10 * a + eb ≤ F' + 10 * a' + ef) : sQ c a d b N g s K F ea eb ef a' b' N' g' β s' F' := by
  unfold sQ
  exact ⟨x0, x1, x2, x3, x4, x5⟩
/-- X goes on, and M comes to its loop again with K things piled; or both fail -/
def sS (c : pC) (a d b N : Nat) (g : pG) (s : zM) (K F ea eb ef : Nat) (fX : zF (Unit ⊕ Nat)) (T : gF Unit) : Prop := (∃ β F' s' a' b' N' g', fX = some (.inl (), β) ∧ T = mS F' s' ∧ sQ c a d b N g s K F ea eb ef a' b' N' g' β s' F') ∨ sE c fX T
section PAZA
variable {c : pC} {G : xQ} {α β γ αs δ : zS} {s s' s2 ss : zM} {a a1 a' d b b' N N' N2 Ns as bs k t t2 u w wh q r F F1 F' Fs f y to n jn o K : Nat} {g g' g2 gs : pG} {v v' kv : Int32} {l ts : List Nat}
theorem s446 {FA FB FE FL FP FS : (Option Nat) → (Option Nat) → zS → zF (Unit ⊕ Nat)} : hX4_statement_446 G FA FB FE FL FP FS α = some (.inl (), α) := rfl
theorem s521 : gX26_statement_521 s = some ((), s) := rfl
/-- faults answer 0 -/
theorem pR.takeZ (h : pR c a d b N y g α s) (hk : k < 6) (hb : pB c b a 0) : (wK c a k = true ∧ hX4_take G (some c.p) (nI k) α = some (.inl (nI (c.vs a)), xaS c α a) ∧ gX26_mustBe (nI k) s = some (nI 1, maS s a) ∧ pR c (a + 1) d b N y g (xaS c α a) (maS s a)) ∨ (∃ e β s' w, hX4_take G (some c.p) (nI k) α = some (.inr e, β) ∧ zthr β e 3 = true ∧ gX26_mustBe (nI k) s = some (nI 0, s') ∧ pE c 1 w β s' ∧ pPl s s') := by
  have kp := h.kp
  have ax := h.ax
  have am := h.am
  have a5 := h.a5
  have bm := h.bm
  rcases h.takeJ (G := G) hk hb with ⟨v, β, u, s', x1, x2, x3, x4, x5, x6, x7, x8⟩ | ⟨e', β', u', s'', wh', w', y1, y2, y3, y4, y5⟩
  · subst x4 x5 x6 x7
    exact .inl ⟨x3, x1, x2, x8⟩
  · rcases e : wK c a k with _ | _
    · obtain ⟨q, β, s', v, x2, x3, m2, x4, x5⟩ := h.no' (G := G) hb
      refine .inr ⟨q, β, s', v, ?_, x3, ?_, x4, x5⟩
      · unfold hX4_take
        simp (disch := omega) only [gld, gst, glj, gsj, gpN0, gpN1, gl_x, gl_gi, pI_in', pI_clamp, pI_add, pI_mul, pI_sub, pI_succ, nmod_eq, pI_div, ni_neg, zn_neg, gnar0, gnar1, eq_self, ni_lt, ni_le, ni_eq, ni_zlt, ni_zle, ni_zeq, zn_lt, zn_le, zn_eq, zz_lt, zz_le, zz_eq, ni_zadd, zn_add, ni_zsub, zn_sub, ni_zmul, zn_mul, nZ_add, nZ_sub, nZ_mul, upd_same, upd_other, upd_upd, gl_bi, gl_mi, gl_bs, gl_ms, gl_bn, gl_mn, if_true, if_false, ↓reduceIte, not_true_eq_false, not_false_eq_true, true_and, and_true, false_and, and_false, and_self, or_false, false_or, or_self, or_true, true_or, Nat.not_lt_zero, Nat.reduceAdd, Nat.reduceMul, Nat.add_zero, Nat.zero_add, Nat.mul_zero, Nat.zero_mul, Nat.reduceEqDiff, Nat.reduceLT, Nat.reduceLeDiff, Nat.succ_ne_zero, ua_ua, us_us, tn_le, tn_nle, tn_lt, tn_nlt, tn_eq, tn_ne, tz_le, tz_nle, tz_lt, tz_nlt, tz_eq, tz_ne, kfI, kfJ, kfA, kpI, kpA, kis, kal, kald, kcald, kaald, Option.some.injEq, ls_us, ls_uj, ls_ua, ls_ub, lj_us, lj_uj, lj_ua, lj_ub, la_us, la_uj, la_ua, la_ub, lb_us, lb_uj, lb_ua, lb_ub, nl0, nl1, nl2, nl3, nl4, nl5, nl6, nl7, nl8, nl9, nl10, nl11, nl12, nl13, nl14, nl15, nl16, nl17, nl18, nl19, nl20, nl21, nl22, nl23, nl24, nl25, nl26, nl27, nl28, nl29, nl30, nl31, nl32, nl33, nl34, nl35, nl36, nl37, nl38, nl39, nl40, nl41, nl42, nl43, nl44, nl45, nl46, nl47, nl48, nl49, nl50, nl51, nl52, nl53, nl54, nl55, nl56, nl57, nl58, nl59, nl60, nl61, nl62, nl63, nl64, nl65, nl66, nl67, nl68, nl69, nl70, nl71, nl72, nl73, nl74, nl75, nl76, nl77, nl78, nl79, nl80, nl82, nl83, nl84, nl85, nl86, nl88, nl90, nl96, nl97, nl99, nl100, nl101, nl104, nl112, nl115, nl120, nl121, nl122, nl126, nl127, nl128, nl160, nl200, nl201, nl202, nl255, nl256, nl300, nl320, nl322, nl400, nl500, nl600, nl640, nl732, nl968, nl999, nl1000, nl1001, nl1040, nl1440, nl1500, nl1501, nl1600, nl2000, nl2240, nl3131, nl4000, nl4095, nl4096, nl4960, nl5000, nl6000, nl6001, nl8000, nl9999, nl10000, nl10200, nl13520, nl14000, nl20000, nl32768, nl40000, nl46000, nl64000, nl65536, nl78000, nl100000, nl128000, nl400000, nl730000, ax, X_isK h.k h.xw, e, b2n_f, x2, zc_r, x3]
      · unfold gX26_mustBe gX26_mustBe_19
        simp (disch := omega) only [gld, gst, glj, gsj, gpN0, gpN1, gl_x, gl_gi, pI_in', pI_clamp, pI_add, pI_mul, pI_sub, pI_succ, nmod_eq, pI_div, ni_neg, zn_neg, gnar0, gnar1, eq_self, ni_lt, ni_le, ni_eq, ni_zlt, ni_zle, ni_zeq, zn_lt, zn_le, zn_eq, zz_lt, zz_le, zz_eq, ni_zadd, zn_add, ni_zsub, zn_sub, ni_zmul, zn_mul, nZ_add, nZ_sub, nZ_mul, upd_same, upd_other, upd_upd, gl_bi, gl_mi, gl_bs, gl_ms, gl_bn, gl_mn, if_true, if_false, ↓reduceIte, not_true_eq_false, not_false_eq_true, true_and, and_true, false_and, and_false, and_self, or_false, false_or, or_self, or_true, true_or, Nat.not_lt_zero, Nat.reduceAdd, Nat.reduceMul, Nat.add_zero, Nat.zero_add, Nat.mul_zero, Nat.zero_mul, Nat.reduceEqDiff, Nat.reduceLT, Nat.reduceLeDiff, Nat.succ_ne_zero, ua_ua, us_us, tn_le, tn_nle, tn_lt, tn_nlt, tn_eq, tn_ne, tz_le, tz_nle, tz_lt, tz_nlt, tz_eq, tz_ne, ls_us, ls_uj, ls_ua, ls_ub, lj_us, lj_uj, lj_ua, lj_ub, la_us, la_uj, la_ua, la_ub, lb_us, lb_uj, lb_ua, lb_ub, nl0, nl1, nl2, nl3, nl4, nl5, nl6, nl7, nl8, nl9, nl10, nl11, nl12, nl13, nl14, nl15, nl16, nl17, nl18, nl19, nl20, nl21, nl22, nl23, nl24, nl25, nl26, nl27, nl28, nl29, nl30, nl31, nl32, nl33, nl34, nl35, nl36, nl37, nl38, nl39, nl40, nl41, nl42, nl43, nl44, nl45, nl46, nl47, nl48, nl49, nl50, nl51, nl52, nl53, nl54, nl55, nl56, nl57, nl58, nl59, nl60, nl61, nl62, nl63, nl64, nl65, nl66, nl67, nl68, nl69, nl70, nl71, nl72, nl73, nl74, nl75, nl76, nl77, nl78, nl79, nl80, nl82, nl83, nl84, nl85, nl86, nl88, nl90, nl96, nl97, nl99, nl100, nl101, nl104, nl112, nl115, nl120, nl121, nl122, nl126, nl127, nl128, nl160, nl200, nl201, nl202, nl255, nl256, nl300, nl320, nl322, nl400, nl500, nl600, nl640, nl732, nl968, nl999, nl1000, nl1001, nl1040, nl1440, nl1500, nl1501, nl1600, nl2000, nl2240, nl3131, nl4000, nl4095, nl4096, nl4960, nl5000, nl6000, nl6001, nl8000, nl9999, nl10000, nl10200, nl13520, nl14000, nl20000, nl32768, nl40000, nl46000, nl64000, nl65536, nl78000, nl100000, nl128000, nl400000, nl730000, am, bm, M_isK h.k h.mw, e, b2n_f, m2]
    · rcases h.take (G := G) hk hb with ⟨e', x1, m1, h1⟩ | ⟨q, β, s', v, x2, x3, m2, x4⟩
      · rw [x1] at y1
        exact absurd (Prod.mk.inj (Option.some.inj y1)).1 (by simp)
      · exfalso
        unfold gX26_mustBe gX26_mustBe_19 at m2
        refine absurd m2 ?_
        simp (disch := omega) only [gld, gst, glj, gsj, gpN0, gpN1, gl_x, gl_gi, pI_in', pI_clamp, pI_add, pI_mul, pI_sub, pI_succ, nmod_eq, pI_div, ni_neg, zn_neg, gnar0, gnar1, eq_self, ni_lt, ni_le, ni_eq, ni_zlt, ni_zle, ni_zeq, zn_lt, zn_le, zn_eq, zz_lt, zz_le, zz_eq, ni_zadd, zn_add, ni_zsub, zn_sub, ni_zmul, zn_mul, nZ_add, nZ_sub, nZ_mul, upd_same, upd_other, upd_upd, gl_bi, gl_mi, gl_bs, gl_ms, gl_bn, gl_mn, if_true, if_false, ↓reduceIte, not_true_eq_false, not_false_eq_true, true_and, and_true, false_and, and_false, and_self, or_false, false_or, or_self, or_true, true_or, Nat.not_lt_zero, Nat.reduceAdd, Nat.reduceMul, Nat.add_zero, Nat.zero_add, Nat.mul_zero, Nat.zero_mul, Nat.reduceEqDiff, Nat.reduceLT, Nat.reduceLeDiff, Nat.succ_ne_zero, ua_ua, us_us, tn_le, tn_nle, tn_lt, tn_nlt, tn_eq, tn_ne, tz_le, tz_nle, tz_lt, tz_nlt, tz_eq, tz_ne, ls_us, ls_uj, ls_ua, ls_ub, lj_us, lj_uj, lj_ua, lj_ub, la_us, la_uj, la_ua, la_ub, lb_us, lb_uj, lb_ua, lb_ub, nl0, nl1, nl2, nl3, nl4, nl5, nl6, nl7, nl8, nl9, nl10, nl11, nl12, nl13, nl14, nl15, nl16, nl17, nl18, nl19, nl20, nl21, nl22, nl23, nl24, nl25, nl26, nl27, nl28, nl29, nl30, nl31, nl32, nl33, nl34, nl35, nl36, nl37, nl38, nl39, nl40, nl41, nl42, nl43, nl44, nl45, nl46, nl47, nl48, nl49, nl50, nl51, nl52, nl53, nl54, nl55, nl56, nl57, nl58, nl59, nl60, nl61, nl62, nl63, nl64, nl65, nl66, nl67, nl68, nl69, nl70, nl71, nl72, nl73, nl74, nl75, nl76, nl77, nl78, nl79, nl80, nl82, nl83, nl84, nl85, nl86, nl88, nl90, nl96, nl97, nl99, nl100, nl101, nl104, nl112, nl115, nl120, nl121, nl122, nl126, nl127, nl128, nl160, nl200, nl201, nl202, nl255, nl256, nl300, nl320, nl322, nl400, nl500, nl600, nl640, nl732, nl968, nl999, nl1000, nl1001, nl1040, nl1440, nl1500, nl1501, nl1600, nl2000, nl2240, nl3131, nl4000, nl4095, nl4096, nl4960, nl5000, nl6000, nl6001, nl8000, nl9999, nl10000, nl10200, nl13520, nl14000, nl20000, nl32768, nl40000, nl46000, nl64000, nl65536, nl78000, nl100000, nl128000, nl400000, nl730000, am, bm, M_isK h.k h.mw, e, b2n_t]
        exact n10
theorem pR.needZ (h : pR c a d b N y g α s) (hw : w < 100000) (hb : pB c b a 0) : (wW c a w = true ∧ hX4_need G (some c.p) (nI w) α = some (.inl (), xaS c α a) ∧ gX26_must (nI w) s = some (nI 1, maS s a) ∧ pR c (a + 1) d b N y g (xaS c α a) (maS s a)) ∨ (∃ e β s' w', hX4_need G (some c.p) (nI w) α = some (.inr e, β) ∧ zthr β e 3 = true ∧ gX26_must (nI w) s = some (nI 0, s') ∧ pE c 1 w' β s' ∧ pPl s s') := by
  have kp := h.kp
  have am := h.am
  rcases h.meets (G := G) hw with ⟨e, x1, m1, h1⟩ | ⟨e, x1, m1⟩
  · rcases h.need (G := G) hw hb with ⟨e, x1, m1, h1⟩ | ⟨q, β, s', v, x2, x3, m2, x4⟩
    · exact .inl ⟨e, x1, m1, h1⟩
    · exfalso
      unfold gX26_must gX26_must_20 gX26_must_25 at m2
      rw [m1] at m2
      simp only [gl_bs] at m2
      refine absurd m2 ?_
      simp (disch := omega) only [gld, gst, glj, gsj, gpN0, gpN1, gl_x, gl_gi, pI_in', pI_clamp, pI_add, pI_mul, pI_sub, pI_succ, nmod_eq, pI_div, ni_neg, zn_neg, gnar0, gnar1, eq_self, ni_lt, ni_le, ni_eq, ni_zlt, ni_zle, ni_zeq, zn_lt, zn_le, zn_eq, zz_lt, zz_le, zz_eq, ni_zadd, zn_add, ni_zsub, zn_sub, ni_zmul, zn_mul, nZ_add, nZ_sub, nZ_mul, upd_same, upd_other, upd_upd, gl_bi, gl_mi, gl_bs, gl_ms, gl_bn, gl_mn, if_true, if_false, ↓reduceIte, not_true_eq_false, not_false_eq_true, true_and, and_true, false_and, and_false, and_self, or_false, false_or, or_self, or_true, true_or, Nat.not_lt_zero, Nat.reduceAdd, Nat.reduceMul, Nat.add_zero, Nat.zero_add, Nat.mul_zero, Nat.zero_mul, Nat.reduceEqDiff, Nat.reduceLT, Nat.reduceLeDiff, Nat.succ_ne_zero, ua_ua, us_us, tn_le, tn_nle, tn_lt, tn_nlt, tn_eq, tn_ne, tz_le, tz_nle, tz_lt, tz_nlt, tz_eq, tz_ne, ls_us, ls_uj, ls_ua, ls_ub, lj_us, lj_uj, lj_ua, lj_ub, la_us, la_uj, la_ua, la_ub, lb_us, lb_uj, lb_ua, lb_ub, nl0, nl1, nl2, nl3, nl4, nl5, nl6, nl7, nl8, nl9, nl10, nl11, nl12, nl13, nl14, nl15, nl16, nl17, nl18, nl19, nl20, nl21, nl22, nl23, nl24, nl25, nl26, nl27, nl28, nl29, nl30, nl31, nl32, nl33, nl34, nl35, nl36, nl37, nl38, nl39, nl40, nl41, nl42, nl43, nl44, nl45, nl46, nl47, nl48, nl49, nl50, nl51, nl52, nl53, nl54, nl55, nl56, nl57, nl58, nl59, nl60, nl61, nl62, nl63, nl64, nl65, nl66, nl67, nl68, nl69, nl70, nl71, nl72, nl73, nl74, nl75, nl76, nl77, nl78, nl79, nl80, nl82, nl83, nl84, nl85, nl86, nl88, nl90, nl96, nl97, nl99, nl100, nl101, nl104, nl112, nl115, nl120, nl121, nl122, nl126, nl127, nl128, nl160, nl200, nl201, nl202, nl255, nl256, nl300, nl320, nl322, nl400, nl500, nl600, nl640, nl732, nl968, nl999, nl1000, nl1001, nl1040, nl1440, nl1500, nl1501, nl1600, nl2000, nl2240, nl3131, nl4000, nl4095, nl4096, nl4960, nl5000, nl6000, nl6001, nl8000, nl9999, nl10000, nl10200, nl13520, nl14000, nl20000, nl32768, nl40000, nl46000, nl64000, nl65536, nl78000, nl100000, nl128000, nl400000, nl730000]
      exact n10
  · obtain ⟨q, β, s', v, x2, x3, m2, x4, x5⟩ := h.no' (G := G) hb
    refine .inr ⟨q, β, s', v, ?_, x3, ?_, x4, x5⟩
    · unfold hX4_need
      simp (disch := omega) only [gld, gst, glj, gsj, gpN0, gpN1, gl_x, gl_gi, pI_in', pI_clamp, pI_add, pI_mul, pI_sub, pI_succ, nmod_eq, pI_div, ni_neg, zn_neg, gnar0, gnar1, eq_self, ni_lt, ni_le, ni_eq, ni_zlt, ni_zle, ni_zeq, zn_lt, zn_le, zn_eq, zz_lt, zz_le, zz_eq, ni_zadd, zn_add, ni_zsub, zn_sub, ni_zmul, zn_mul, nZ_add, nZ_sub, nZ_mul, upd_same, upd_other, upd_upd, gl_bi, gl_mi, gl_bs, gl_ms, gl_bn, gl_mn, if_true, if_false, ↓reduceIte, not_true_eq_false, not_false_eq_true, true_and, and_true, false_and, and_false, and_self, or_false, false_or, or_self, or_true, true_or, Nat.not_lt_zero, Nat.reduceAdd, Nat.reduceMul, Nat.add_zero, Nat.zero_add, Nat.mul_zero, Nat.zero_mul, Nat.reduceEqDiff, Nat.reduceLT, Nat.reduceLeDiff, Nat.succ_ne_zero, ua_ua, us_us, tn_le, tn_nle, tn_lt, tn_nlt, tn_eq, tn_ne, tz_le, tz_nle, tz_lt, tz_nlt, tz_eq, tz_ne, kfI, kfJ, kfA, kpI, kpA, kis, kal, kald, kcald, kaald, Option.some.injEq, ls_us, ls_uj, ls_ua, ls_ub, lj_us, lj_uj, lj_ua, lj_ub, la_us, la_uj, la_ua, la_ub, lb_us, lb_uj, lb_ua, lb_ub, nl0, nl1, nl2, nl3, nl4, nl5, nl6, nl7, nl8, nl9, nl10, nl11, nl12, nl13, nl14, nl15, nl16, nl17, nl18, nl19, nl20, nl21, nl22, nl23, nl24, nl25, nl26, nl27, nl28, nl29, nl30, nl31, nl32, nl33, nl34, nl35, nl36, nl37, nl38, nl39, nl40, nl41, nl42, nl43, nl44, nl45, nl46, nl47, nl48, nl49, nl50, nl51, nl52, nl53, nl54, nl55, nl56, nl57, nl58, nl59, nl60, nl61, nl62, nl63, nl64, nl65, nl66, nl67, nl68, nl69, nl70, nl71, nl72, nl73, nl74, nl75, nl76, nl77, nl78, nl79, nl80, nl82, nl83, nl84, nl85, nl86, nl88, nl90, nl96, nl97, nl99, nl100, nl101, nl104, nl112, nl115, nl120, nl121, nl122, nl126, nl127, nl128, nl160, nl200, nl201, nl202, nl255, nl256, nl300, nl320, nl322, nl400, nl500, nl600, nl640, nl732, nl968, nl999, nl1000, nl1001, nl1040, nl1440, nl1500, nl1501, nl1600, nl2000, nl2240, nl3131, nl4000, nl4095, nl4096, nl4960, nl5000, nl6000, nl6001, nl8000, nl9999, nl10000, nl10200, nl13520, nl14000, nl20000, nl32768, nl40000, nl46000, nl64000, nl65536, nl78000, nl100000, nl128000, nl400000, nl730000, x1, x2, zc_r, x3]
    · unfold gX26_must gX26_must_20 gX26_must_25
      simp (disch := omega) only [gld, gst, glj, gsj, gpN0, gpN1, gl_x, gl_gi, pI_in', pI_clamp, pI_add, pI_mul, pI_sub, pI_succ, nmod_eq, pI_div, ni_neg, zn_neg, gnar0, gnar1, eq_self, ni_lt, ni_le, ni_eq, ni_zlt, ni_zle, ni_zeq, zn_lt, zn_le, zn_eq, zz_lt, zz_le, zz_eq, ni_zadd, zn_add, ni_zsub, zn_sub, ni_zmul, zn_mul, nZ_add, nZ_sub, nZ_mul, upd_same, upd_other, upd_upd, gl_bi, gl_mi, gl_bs, gl_ms, gl_bn, gl_mn, if_true, if_false, ↓reduceIte, not_true_eq_false, not_false_eq_true, true_and, and_true, false_and, and_false, and_self, or_false, false_or, or_self, or_true, true_or, Nat.not_lt_zero, Nat.reduceAdd, Nat.reduceMul, Nat.add_zero, Nat.zero_add, Nat.mul_zero, Nat.zero_mul, Nat.reduceEqDiff, Nat.reduceLT, Nat.reduceLeDiff, Nat.succ_ne_zero, ua_ua, us_us, tn_le, tn_nle, tn_lt, tn_nlt, tn_eq, tn_ne, tz_le, tz_nle, tz_lt, tz_nlt, tz_eq, tz_ne, ls_us, ls_uj, ls_ua, ls_ub, lj_us, lj_uj, lj_ua, lj_ub, la_us, la_uj, la_ua, la_ub, lb_us, lb_uj, lb_ua, lb_ub, nl0, nl1, nl2, nl3, nl4, nl5, nl6, nl7, nl8, nl9, nl10, nl11, nl12, nl13, nl14, nl15, nl16, nl17, nl18, nl19, nl20, nl21, nl22, nl23, nl24, nl25, nl26, nl27, nl28, nl29, nl30, nl31, nl32, nl33, nl34, nl35, nl36, nl37, nl38, nl39, nl40, nl41, nl42, nl43, nl44, nl45, nl46, nl47, nl48, nl49, nl50, nl51, nl52, nl53, nl54, nl55, nl56, nl57, nl58, nl59, nl60, nl61, nl62, nl63, nl64, nl65, nl66, nl67, nl68, nl69, nl70, nl71, nl72, nl73, nl74, nl75, nl76, nl77, nl78, nl79, nl80, nl82, nl83, nl84, nl85, nl86, nl88, nl90, nl96, nl97, nl99, nl100, nl101, nl104, nl112, nl115, nl120, nl121, nl122, nl126, nl127, nl128, nl160, nl200, nl201, nl202, nl255, nl256, nl300, nl320, nl322, nl400, nl500, nl600, nl640, nl732, nl968, nl999, nl1000, nl1001, nl1040, nl1440, nl1500, nl1501, nl1600, nl2000, nl2240, nl3131, nl4000, nl4095, nl4096, nl4960, nl5000, nl6000, nl6001, nl8000, nl9999, nl10000, nl10200, nl13520, nl14000, nl20000, nl32768, nl40000, nl46000, nl64000, nl65536, nl78000, nl100000, nl128000, nl400000, nl730000, m1, am, m2]
theorem Bd_444 (h : ls s 43 = nI 1) : gX26_statement_444 v s = some ((), s) := by
  unfold gX26_statement_444
  rw [show xLim = 999999999 + 1 from rfl]
  refine gl_done ?_
  unfold gX26_statement_444b
  rw [gl_x, h, if_pos (by exact n1n)]
  rfl
/-- DISPLAY -/
theorem st_29 (h : pR c a d b N 0 g α s) (hb : pB c b a 0) (h1 : c.N0 ≤ t) (h2 : t < N) (hr : 0 < g.r t) (h45 : ls s 45 = nI K) (hF : 0 < F) : sS c a d b N g s K F 0 0 0 (xVf c G f 29 (g.oa t) α) ((mVb (nI 29) (nI t) s).bind fun p => mS F p.2) := by
  obtain ⟨F, rfl⟩ : ∃ x, F = x + 1 := ⟨F - 1, by omega⟩
  have kp := h.kp
  rw [xV_29, mV_29, if_pos (of_eq_true (kis kp (by decide)))]
  rcases h.operands (G := G) (to := t) hb h1 h2 hr (by omega) with ⟨β, s1, s', x1, x2, x3, a', b', N', g', R, X, e1, e2, e3⟩ | ⟨e, β, s', w, x1, x2, x3, x4, x5⟩
  · refine .inl ⟨β, F + 1, s', a', b', N', g', ?_, ?_, sQ.mk R X.x0 (X.pl.pv h45) (by omega) (by omega) (by omega)⟩
    · rw [x1, zc_l, s446]
    · rw [x2, gl_bs]
      show (Option.bind (gX26_statement_444 (nI t) s1) _) = _
      rw [x3, gl_bs]
  · refine .inr ⟨e, β, s', 1, w, ?_, x2, ?_, x4⟩
    · rw [x1, zc_r, if_pos x2]
    · rw [x3, gl_bs]
      show (Option.bind (gX26_statement_444 (nI t) s') _) = _
      rw [Bd_444 x4.b1, gl_bs]
      exact mS_bad x4.b1
/-- MOVE -/
theorem st_36 (h : pR c a d b N 0 g α s) (hb : pB c b a 4) (h1 : c.N0 ≤ t) (h2 : t < N) (hr : 0 < g.r t) (h45 : ls s 45 = nI K) (hF : 0 < F) : sS c a d b N g s K F 0 0 0 (xVf c G f 36 (g.oa t) α) ((mVb (nI 36) (nI t) s).bind fun p => mS F p.2) := by
  obtain ⟨F, rfl⟩ : ∃ x, F = x + 1 := ⟨F - 1, by omega⟩
  have kp := h.kp
  rw [xV_36, mV_36, if_pos (of_eq_true (kis kp (by decide))), nl1, nl48, nl41]
  rcases h.operandOf (G := G) (to := t) (hb.le (by omega)) h1 h2 hr (by omega) with ⟨hO, β, γ, s1, N1, g1, x1, x2, x3, x4, x5, x6⟩ | ⟨e, β, s', w, x1, x2, x3, x4, x5⟩
  · have kp5 := x5.kp
    have o1 := x6.oa t h2
    have r1 := x6.r t h2
    have n1 := x6.n
    rw [x1, zc_l, if_pos (of_eq_true (kis x2 (by decide)))]
    show sS c a d b N g s K (F + 1) 0 0 0 (Option.bind (hX43_add G (some (g.oa t)) (some (zn α)) β) _) _
    rw [x3, gl_bs]
    show sS c a d b N g s K (F + 1) 0 0 0 (if zis G γ (some c.p) 41 = true then _ else _) _
    rw [if_pos (of_eq_true (kis kp5 (by decide))), x4, gl_bs]
    show sS c a d b N g s K (F + 1) 0 0 0 (zcase (hX4_need G (some c.p) (nI 48) γ) _ _) (Option.bind (Option.bind (gX26_must (nI 48) s1) _) _)
    rcases x5.needZ (G := G) (w := 48) (by decide) (by unfold pB at *; omega) with ⟨y3, y1, y2, y7⟩ | ⟨e, β2, s', w, y1, y2, y3, y4, y5⟩
    · have kp7 := y7.kp
      rw [y1, zc_l, y2, gl_bs]
      show sS c a d b N g s K (F + 1) 0 0 0 (if zis G (xaS c γ (a + 1)) (some c.p) 41 = true then _ else _) (Option.bind (if nI 1 = 0 then _ else (Option.bind (gX26_names (nI t) (nI 41) (maS s1 (a + 1))) _)) _)
      rw [if_pos (of_eq_true (kis kp7 (by decide))), if_neg (by exact n1n)]
      rcases y7.targets (G := G) (to := t) (by unfold pB at *; omega) h1 (by omega) (by rw [r1]; exact hr) (by omega) with ⟨v, β3, u3, s3, z1, z2, a', b', N', g', R, X, e1, e2, e3⟩ | ⟨e, β3, u3, s', wh, w, z1, z2, z3, z4, z5⟩
      · rw [o1] at z1
        have XX := (x6.tr (pX.ma (a := a + 1))).tr X
        refine .inl ⟨β3, F + 1, s3, a', b', N', g', ?_, ?_, sQ.mk R XX.x0 (XX.pl.pv h45) (by omega) (by omega) (by omega)⟩
        · show zcase (hX4_targets G (some c.p) (some (g.oa t)) (xaS c γ (a + 1))) _ _ = _
          rw [z1, zc_l, s446]
        · rw [z2, gl_bs, s521, gl_bs]
      · rw [o1] at z1
        refine .inr ⟨e, β3, s', wh, w, ?_, z2, ?_, z4⟩
        · show zcase (hX4_targets G (some c.p) (some (g.oa t)) (xaS c γ (a + 1))) _ _ = _
          rw [z1, zc_r, if_pos z2]
        · rw [z3, gl_bs, s521, gl_bs]
          exact mS_bad z4.b1
    · refine .inr ⟨e, β2, s', 1, w, ?_, y2, ?_, y4⟩
      · rw [y1, zc_r, if_pos y2]
      · rw [y3, gl_bs, if_pos (show (nI 0, s').1 = 0 from rfl), s521, gl_bs]
        exact mS_bad y4.b1
  · refine .inr ⟨e, β, s', 1, w, ?_, x2, ?_, x4⟩
    · rw [x1, zc_r, if_pos x2]
    · rw [x3, gl_bs]
      show (Option.bind (Option.bind (gX26_must (nI 48) s') _) _) = _
      rw [Bd_must x4.b1, gl_bs, if_pos (show (nI 0, s').1 = 0 from rfl), s521, gl_bs]
      exact mS_bad x4.b1
/-- a name is a statement's value -/
theorem pR.nameV (h : pR c a d b N 0 g α s) (hb : pB c b a 0) (h1 : c.N0 ≤ t) (h2 : t < N) (hN : N < 8000) (hk9 : ¬ pW (la s 9 t)) : (∃ β, hX4_take G (some c.p) (nI 1) α = some (.inl (nI (c.vs a)), xaS c α a) ∧ gX26_mustBe (nI 1) s = some (nI 1, maS s a) ∧ gX26_passed (maS s a) = some (nI (c.vs a), maS s a) ∧ zpI (xaS c α a) (some (g.oa t)) 44 1 (nI (c.vs a)) = some β ∧ gst (maS s a) 10 8000 (nI t) (nI (c.vs a)) = some (ua (maS s a) 10 (upd (la (maS s a) 10) t (nI (c.vs a)))) ∧ pR c (a + 1) d b N 0 g β (ua (maS s a) 10 (upd (la (maS s a) 10) t (nI (c.vs a)))) ∧ pX N g s N g (ua (maS s a) 10 (upd (la (maS s a) 10) t (nI (c.vs a))))) ∨ (∃ e β s' w, hX4_take G (some c.p) (nI 1) α = some (.inr e, β) ∧ zthr β e 3 = true ∧ gX26_mustBe (nI 1) s = some (nI 0, s') ∧ pE c 1 w β s' ∧ pPl s s') := by
  rcases h.takeZ (G := G) (k := 1) (by decide) hb with ⟨x3, x1, x2, x8⟩ | F
  · have ps := M_passed x8 (by omega)
    rw [Nat.add_sub_cancel] at ps
    have kn := (x8.g.nd t h1 h2).kn
    refine .inl ⟨zwI (xaS c α a) 44 1 (g.oa t) (nI (c.vs a)), x1, x2, ps, kpI kn, pgst (by omega) (by decide), x8.nodeI h1 h2 (.inl ⟨rfl, rfl⟩), pX.ma.m (fun t _ => ?_) (fun t _ => ?_) (pPl.nodeI (.inl rfl)) (fun u _ e => by
      rw [la_ua, if_pos rfl]
      exact upd_other (fun z => hk9 (by rw [← z]; exact e)))⟩
    · rw [la_ua, if_neg (by decide)]
    · rw [la_ua, if_neg (by decide)]
  · exact .inr F
/-- GO -/
theorem st_43 (h : pR c a d b N 0 g α s) (hb : pB c b a 0) (h1 : c.N0 ≤ t) (h2 : t < N) (hN : N < 8000) (hk9 : ¬ pW (la s 9 t)) (h45 : ls s 45 = nI K) (hF : 0 < F) : sS c a d b N g s K F 0 0 0 (xVf c G f 43 (g.oa t) α) ((mVb (nI 43) (nI t) s).bind fun p => mS F p.2) := by
  obtain ⟨F, rfl⟩ : ∃ x, F = x + 1 := ⟨F - 1, by omega⟩
  have kp := h.kp
  rw [xV_43, mV_43, if_pos (of_eq_true (kis kp (by decide))), nl48, nl1]
  have key : ∀ {a0 : Nat} {α0 : zS} {s0 : zM}, pR c a0 d b N 0 g α0 s0 → a ≤ a0 → pX N g s N g s0 → sS c a d b N g s K (F + 1) 0 0 0 (if zis G α0 (some c.p) 41 = true then zcase (hX4_take G (some c.p) (nI 1) α0) (fun p55 => (zpI p55.2 (some (g.oa t)) 44 1 p55.1).bind fun σ56 => hX4_statement_446 G (rrX4_add G f).1 (rrX4_add G f).2.1 (rrX4_add G f).2.2.1 (rrX4_add G f).2.2.2.1 (rrX4_add G f).2.2.2.2.1 (rrX4_add G f).2.2.2.2.2 σ56) (fun p57 => if zthr p57.2 p57.1 3 = true then some (.inr p57.1, p57.2) else none) else none) (Option.bind ((gX26_mustBe (nI 1) s0).bind fun p34 => if p34.1 = 0 then gX26_statement_521 p34.2 else (gX26_passed p34.2).bind fun p36 => (gst p36.2 10 8000 (nI t) p36.1).bind fun s37 => gX26_statement_521 s37) fun p => mS (F + 1) p.2) := by
    intro a0 α0 s0 h0 ha X0
    rw [if_pos (of_eq_true (kis h0.kp (by decide)))]
    rcases h0.nameV (G := G) (t := t) (by unfold pB at *; omega) h1 h2 hN (by rw [X0.kd t h2]; exact hk9) with ⟨β, x1, x2, x3, x4, x5, x6, x7⟩ | ⟨e, β, s', w, x1, x2, x3, x4, x5⟩
    · refine .inl ⟨β, F + 1, _, a0 + 1, b, N, g, ?_, ?_, sQ.mk x6 (X0.tr x7).x0 ((X0.tr x7).pl.pv h45) (by omega) (by omega) (by omega)⟩
      · rw [x1, zc_l]
        show (Option.bind (zpI (xaS c α0 a0) (some (g.oa t)) 44 1 (nI (c.vs a0))) _) = _
        rw [x4, gl_bs, s446]
      · rw [x2, gl_bs, if_neg (by exact n1n)]
        show Option.bind (Option.bind (gX26_passed (maS s0 a0)) _) _ = _
        rw [x3, gl_bs]
        show Option.bind (Option.bind (gst (maS s0 a0) 10 8000 (nI t) (nI (c.vs a0))) _) _ = _
        rw [x5, gl_bs, s521, gl_bs]
    · refine .inr ⟨e, β, s', 1, w, ?_, x2, ?_, x4⟩
      · rw [x1, zc_r, if_pos x2]
      · rw [x3, gl_bs, if_pos (show (nI 0, s').1 = 0 from rfl), s521, gl_bs]
        exact mS_bad x4.b1
  rcases h.meets (G := G) (w := 48) (by decide) with ⟨e, x1, m1, h3⟩ | ⟨e, x1, m1⟩
  · rw [x1, gl_bs, m1, gl_bs]
    exact key h3 (by omega) pX.ma
  · rw [x1, gl_bs, m1, gl_bs]
    exact key h (by omega) pX.rf
/-- STOP -/
theorem st_44 (h : pR c a d b N 0 g α s) (hb : pB c b a 0) (h45 : ls s 45 = nI K) (hF : 0 < F) : sS c a d b N g s K F 0 0 0 (xVf c G f 44 q α) ((mVb (nI 44) (nI t) s).bind fun p => mS F p.2) := by
  obtain ⟨F, rfl⟩ : ∃ x, F = x + 1 := ⟨F - 1, by omega⟩
  have kp := h.kp
  rw [xV_44, mV_44, if_pos (of_eq_true (kis kp (by decide))), nl63]
  rcases h.needZ (G := G) (w := 63) (by decide) hb with ⟨y3, y1, y2, y7⟩ | ⟨e, β2, s', w, y1, y2, y3, y4, y5⟩
  · refine .inl ⟨_, F + 1, maS s a, a + 1, b, N, g, ?_, ?_, sQ.mk y7 pX.ma.x0 (maS_pl.pv h45) (by omega) (by omega) (by omega)⟩
    · rw [y1, zc_l, s446]
    · rw [y2, gl_bs, s521, gl_bs]
  · refine .inr ⟨e, β2, s', 1, w, ?_, y2, ?_, y4⟩
    · rw [y1, zc_r, if_pos y2]
    · rw [y3, gl_bs, s521, gl_bs]
      exact mS_bad y4.b1
/-- verbs without anything -/
theorem st_45 (h : pR c a d b N 0 g α s) (h45 : ls s 45 = nI K) : sS c a d b N g s K F 0 0 0 (xVf c G f 45 q α) ((mVb (nI 45) (nI t) s).bind fun p => mS F p.2) := by
  rw [xV_45, mV_45]
  exact .inl ⟨α, F, s, a, b, N, g, rfl, rfl, sQ.mk h pX0.rf (pv.rf h45) (by omega) (by omega) (by omega)⟩
theorem st_46 (h : pR c a d b N 0 g α s) (h45 : ls s 45 = nI K) : sS c a d b N g s K F 0 0 0 (xVf c G f 46 q α) ((mVb (nI 46) (nI t) s).bind fun p => mS F p.2) := by
  rw [xV_46, mV_46]
  exact .inl ⟨α, F, s, a, b, N, g, rfl, rfl, sQ.mk h pX0.rf (pv.rf h45) (by omega) (by omega) (by omega)⟩
/-- a flag, by the word that comes -/
theorem pR.flagJ (h : pR c a d b N y g α s) (h1 : c.N0 ≤ t) (h2 : t < N) (hN : N ≤ 8000) (hk : la s 9 t ≠ nI 53) (hw : w < 1000) : ∃ e a' β s1, hX4_scopeEnd G (some c.p) (some (g.oa t)) (nI w) α = some ((), β) ∧ gX26_meets (nI w) s = some (nI (b2n e), s1) ∧ pR c a' d b N y g β (ua s1 12 (upd (la s1 12) t (nI (b2n e)))) ∧ a ≤ a' ∧ pX N g s N g (ua s1 12 (upd (la s1 12) t (nI (b2n e)))) := by
  have kp := h.kp
  rcases h.meets (G := G) (w := w) (by omega) with ⟨e, x1, m1, h3⟩ | ⟨e, x1, m1⟩
  · have kn := (h3.g.nd t h1 h2).kn
    refine ⟨true, a + 1, zwI (xaS c α a) 44 2 (g.oa t) (nI (b2n true)), maS s a, ?_, m1, h3.nodeI h1 h2 (.inr ⟨rfl, rfl, hk⟩), by omega, pX.ma.m (fun t _ => ?_) (fun t _ => ?_) (pPl.nodeI (.inr rfl))⟩
    · unfold hX4_scopeEnd hX4_scopeEnd_14
      rw [if_pos (of_eq_true (kis kp (by decide))), x1, gl_bs, if_neg (by exact n1n)]
      show Option.bind (zpI (xaS c α a) (some (g.oa t)) 44 2 1) _ = _
      rw [kpI kn, gl_bs]
      rfl
    · rw [la_ua, if_neg (by decide)]
    · rw [la_ua, if_neg (by decide)]
  · have kn := (h.g.nd t h1 h2).kn
    refine ⟨false, a, zwI α 44 2 (g.oa t) (nI (b2n false)), s, ?_, m1, h.nodeI h1 h2 (.inr ⟨rfl, rfl, hk⟩), by omega, pX.rf.m (fun t _ => ?_) (fun t _ => ?_) (pPl.nodeI (.inr rfl))⟩
    · unfold hX4_scopeEnd hX4_scopeEnd_14
      rw [if_pos (of_eq_true (kis kp (by decide))), x1, gl_bs, if_pos (show (nI 0, α).1 = 0 from rfl)]
      show Option.bind (zpI α (some (g.oa t)) 44 2 0) _ = _
      rw [kpI kn, gl_bs]
      rfl
    · rw [la_ua, if_neg (by decide)]
    · rw [la_ua, if_neg (by decide)]
/-- COMPUTE -/
theorem st_47 (h : pR c a d b N 0 g α s) (hb : pB c b a 14) (h1 : c.N0 ≤ t) (h2 : t < N) (hr : 1100 < g.r t) (hk : la s 9 t ≠ nI 53) (hk9 : ¬ pW (la s 9 t)) (h45 : ls s 45 = nI K) (hF : 0 < F) : sS c a d b N g s K F 0 0 0 (xVf c G f 47 (g.oa t) α) ((mVb (nI 47) (nI t) s).bind fun p => mS F p.2) := by
  obtain ⟨F, rfl⟩ : ∃ x, F = x + 1 := ⟨F - 1, by omega⟩
  have kp := h.kp
  have N0 := h.N0
  have N1 := h.k.N1
  have hN := h.N8 hb
  have M0 : ((mVb (nI 47) (nI t) s).bind fun p => mS (F + 1) p.2) = (gX26_compute (nI t) s).bind fun p => mS (F + 1) p.2 := by
    rw [mV_47]
    exact gu_as (f := fun s => mS (F + 1) s)
  rw [M0, xV_47, if_pos (of_eq_true (kis kp (by decide))), nl1]
  unfold gX26_compute
  rw [nl1]
  rcases h.nameV (G := G) (t := t) (hb.le (by omega)) h1 h2 (by omega) hk9 with ⟨β, x1, x2, x3, x4, x5, x6, x7⟩ | ⟨e, β, s', w, x1, x2, x3, x4, x5⟩
  · rw [x1, zc_l, x2, gl_bs, if_pos (by exact n1n)]
    show sS c a d b N g s K (F + 1) 0 0 0 (Option.bind (zpI (xaS c α a) (some (g.oa t)) 44 1 (nI (c.vs a))) _) (Option.bind (Option.bind (gX26_passed (maS s a)) _) _)
    rw [x4, gl_bs, x3, gl_bs]
    show sS c a d b N g s K (F + 1) 0 0 0 _ (Option.bind (Option.bind (gst (maS s a) 10 8000 (nI t) (nI (c.vs a))) _) _)
    rw [x5, gl_bs]
    generalize ua (maS s a) 10 (upd (la (maS s a) 10) t (nI (c.vs a))) = s1 at *
    have kp6 := x6.kp
    have ax6 := x6.ax
    have am6 := x6.am
    have a56 := x6.a5
    rw [kfI kp6, ax6, gl_bs, if_pos (of_eq_true (kis kp6 (by decide))), nl2, X_isS x6.k x6.xw (by omega) (by decide), gl_bs, gl_x, am6, M_isS x6.k x6.mw (by omega) (by decide), gl_bs]
    show sS c a d b N g s K (F + 1) 0 0 0 (if zis G β (some c.p) 41 = true then _ else _) _
    rw [if_pos (of_eq_true (kis kp6 (by decide)))]
    rcases e2 : wS c (a + 1) 2 with _ | _
    · obtain ⟨e, β2, s', w, z1, z2, z3, z4, z5⟩ := x6.no' (G := G) (by unfold pB at *; omega)
      refine .inr ⟨e, β2, s', 1, w, ?_, z2, ?_, z4⟩
      · show zcase (hX4_must G (some c.p) (nI 0) β) _ _ = _
        rw [z1, zc_r, if_pos z2]
      · rw [if_neg (fun z => z rfl)]
        show Option.bind (xlet (ls s1 41) _) _ = _
        rw [gl_x, am6, z3, gl_bs, gl_bs]
        exact mS_bad z4.b1
    · have x8 := x6.adv (wS_i e2).1
      have kp8 := x8.kp
      have NX := x7.n
      rw [if_pos (by exact bT)]
      show sS c a d b N g s K (F + 1) 0 0 0 (zcase (hX4_must G (some c.p) (nI 1) β) _ _) (Option.bind (xlet (ls s1 41) _) _)
      rw [X_must1, zc_l, gl_x, am6, gl_x, pI_add]
      show sS c a d b N g s K (F + 1) 0 0 0 (Option.bind (zfI β (some c.p) 40 3) _) (Option.bind (Option.bind (gX26_sum (maS s1 (a + 1))) _) _)
      rw [kfI kp6, ax6, gl_bs]
      show sS c a d b N g s K (F + 1) 0 0 0 (Option.bind (zpI β (some c.p) 40 3 (nI (a + 1) + nI 1)) _) _
      rw [kpI kp6, gl_bs, pI_add]
      show sS c a d b N g s K (F + 1) 0 0 0 (if zis G (xaS c β (a + 1)) (some c.p) 41 = true then zcase (hX4_sum G xRec (some c.p) (xaS c β (a + 1))) _ _ else _) _
      rw [if_pos (of_eq_true (kis kp8 (by decide)))]
      rcases x8.sum (G := G) (by unfold pB at *; omega) with ⟨β2, t2, s2, a', b', N', g', y1, y2, y3, y4, y5, y6, y7, y8, y9, y10, y11, y12, y13⟩ | ⟨e, β2, u, s', wh, w, y1, y2, y3, y4, y5⟩
      · have o1 := y4.oa t h2
        have r1 := y4.r t h2
        have a5' := y3.a5
        have kn := (y3.g.nd t h1 (by omega)).kn
        have hN' := y3.N8 (k := 4) (by unfold pB at *; omega)
        obtain ⟨γ, z1, z2, z3⟩ := y3.add (G := G) (to := t) (t := t2) (by omega) h1 (by omega) (by omega) y6 (by rw [r1]; omega) y7 (by omega)
        rw [o1] at kn z1
        have kpz := z3.kp
        have X9 := ((x7.tr y4).add (to := t) (l := g'.ch t) (t := t2) (by omega))
        have hk9 : la (mAtS s2 t (g'.ch t) t2) 9 t ≠ nI 53 := by
          rw [mAtS_la (by decide), y4.kd t h2]
          show la s1 9 t ≠ nI 53
          rw [x7.kd t h2]; exact hk
        obtain ⟨e, a2, δ, s3, w1, w2, w3, w4, w5⟩ := z3.flagJ (G := G) (t := t) (w := 78) h1 (by omega) (by omega) hk9 (by decide)
        rw [add_oa, o1] at w1
        refine .inl ⟨δ, F + 1, _, a2, b' + 1, N', _, ?_, ?_, sQ.mk w3 (X9.tr w5).x0 ((X9.tr w5).pl.pv h45) (by omega) (by omega) (by omega)⟩
        · rw [y1, zc_l, if_pos (of_eq_true (kis kn (by decide)))]
          show (Option.bind (hX43_add G (some (g.oa t)) (some (g'.oa t2)) β2) _) = _
          rw [z1, gl_bs]
          show (if zis G γ (some c.p) 41 = true then _ else _) = _
          rw [if_pos (of_eq_true (kis kpz (by decide))), nl78, w1, gl_bs, s446]
        · rw [y2, gl_bs]
          show Option.bind (xlet (ls s2 43) _) _ = _
          rw [gl_x, y3.bm, if_pos (show nI 0 = 0 from rfl)]
          show Option.bind (Option.bind (gX26_attach (nI t) (nI t2) s2) _) _ = _
          rw [z2, gl_bs]
          show Option.bind (Option.bind (gX26_meets 78 (mAtS s2 t (g'.ch t) t2)) _) _ = _
          rw [nl78, w2, gl_bs]
          show Option.bind (if nI (b2n e) = 0 then gX26_compute_90 0 (nI t) s3 else gX26_compute_90 (nI 1) (nI t) s3) _ = _
          unfold gX26_compute_90
          cases e
          · rw [if_pos (by exact bF), pgst (by omega) (by decide), gl_bs, gl_bs]
            rfl
          · rw [if_neg (by exact bT), pgst (by omega) (by decide), gl_bs, gl_bs]
            rfl
      · refine .inr ⟨e, β2, s', wh, w, ?_, y2, ?_, y4⟩
        · rw [y1, zc_r, if_pos y2]
        · rw [y3, gl_bs, gl_x, y4.b1, if_neg (by exact n1n), gl_bs]
          exact mS_bad y4.b1
  · refine .inr ⟨e, β, s', 1, w, ?_, x2, ?_, x4⟩
    · rw [x1, zc_r, if_pos x2]
    · rw [x3, gl_bs, if_neg (fun z => z rfl), gl_bs]
      exact mS_bad x4.b1
end PAZA
