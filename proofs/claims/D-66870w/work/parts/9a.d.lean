/-! THE PURE LAYER: the parser: steps of both sides within a clause. -/
/-- a node's cell that isn't laid yet -/
def xNw (c : pC) (α : zS) (q : Nat) : Prop := (zn α = q + 1) ∧ (zn c.a0 ≤ q) ∧ (zkd α q = 45) ∧ (∀ k, zI α 44 k q = nI 0) ∧ (∀ k, zA α 44 k q = none)
theorem xNw.n {c : pC} {α : zS} {q : Nat} (h : xNw c α q) : zn α = q + 1 := by
  unfold xNw at h
  exact h.1
theorem xNw.lo {c : pC} {α : zS} {q : Nat} (h : xNw c α q) : zn c.a0 ≤ q := by
  unfold xNw at h
  exact h.2.1
theorem xNw.kd {c : pC} {α : zS} {q : Nat} (h : xNw c α q) : zkd α q = 45 := by
  unfold xNw at h
  exact h.2.2.1
theorem xNw.I {c : pC} {α : zS} {q : Nat} (h : xNw c α q) : ∀ k, zI α 44 k q = nI 0 := by
  unfold xNw at h
  exact h.2.2.2.1
theorem xNw.A {c : pC} {α : zS} {q : Nat} (h : xNw c α q) : ∀ k, zA α 44 k q = none := by
  unfold xNw at h
  exact h.2.2.2.2
theorem xNw.mk {c : pC} {α : zS} {q : Nat} (x0 : zn α = q + 1) (x1 : zn c.a0 ≤ q) (x2 : zkd α q = 45) (x3 : ∀ k, zI α 44 k q = nI 0) (x4 : ∀ k, zA α 44 k q = none) : xNw c α q := by
  unfold xNw
  exact ⟨x0, x1, x2, x3, x4⟩
section PAD
variable {c : pC} {G : xQ} {α β : zS} {s s' : zM} {a d b N y k t u w wh to q r : Nat} {g : pG} {v v' kv : Int32} {e : Bool}
theorem pgst {j n : Nat} (hj : j < n) (hn : n < 2 ^ 31) : gst s k n (nI j) v = some (ua s k (upd (la s k) j v)) := by
  unfold gst
  rw [if_pos (pI_in hj hn), pI_clamp (by omega)]
theorem pgld {j n : Nat} (hj : j < n) (hn : n < 2 ^ 31) : gld s k n (nI j) = some (la s k j) := by
  unfold gld
  rw [if_pos (pI_in hj hn), pI_clamp (by omega)]
theorem X_meets (h : pR c a d b N y g α s) (hw : w < 100000) : hX4_meets G (some c.p) (nI w) α = if wW c a w = true then some (nI 1, xaS c α a) else some (nI 0, α) := by
  have kp := h.kp
  have ax := h.ax
  have a5 := h.a5
  unfold hX4_meets xaS
  rcases e : wW c a w with _ | _ <;> simp (disch := omega) only [gld, gst, glj, gsj, gpN0, gpN1, gl_x, gl_gi, pI_in', pI_clamp, pI_add, pI_mul, pI_sub, pI_succ, nmod_eq, pI_div, ni_neg, zn_neg, gnar0, gnar1, eq_self, ni_lt, ni_le, ni_eq, ni_zlt, ni_zle, ni_zeq, zn_lt, zn_le, zn_eq, zz_lt, zz_le, zz_eq, ni_zadd, zn_add, ni_zsub, zn_sub, ni_zmul, zn_mul, nZ_add, nZ_sub, nZ_mul, upd_same, upd_other, upd_upd, gl_bi, gl_mi, gl_bs, gl_ms, gl_bn, gl_mn, if_true, if_false, ↓reduceIte, not_true_eq_false, not_false_eq_true, true_and, and_true, false_and, and_false, and_self, or_false, false_or, or_self, or_true, true_or, Nat.not_lt_zero, Nat.reduceAdd, Nat.reduceMul, Nat.add_zero, Nat.zero_add, Nat.mul_zero, Nat.zero_mul, Nat.reduceEqDiff, Nat.reduceLT, Nat.reduceLeDiff, Nat.succ_ne_zero, ua_ua, us_us, tn_le, tn_nle, tn_lt, tn_nlt, tn_eq, tn_ne, tz_le, tz_nle, tz_lt, tz_nlt, tz_eq, tz_ne, kfI, kfJ, kfA, kpI, kpA, kis, kal, kald, kcald, kaald, Option.some.injEq, ls_us, ls_uj, ls_ua, ls_ub, lj_us, lj_uj, lj_ua, lj_ub, la_us, la_uj, la_ua, la_ub, lb_us, lb_uj, lb_ua, lb_ub, nl0, nl1, nl2, nl3, nl4, nl5, nl6, nl7, nl8, nl9, nl10, nl11, nl12, nl13, nl14, nl15, nl16, nl17, nl18, nl19, nl20, nl21, nl22, nl23, nl24, nl25, nl26, nl27, nl28, nl29, nl30, nl31, nl32, nl33, nl34, nl35, nl36, nl37, nl38, nl39, nl40, nl41, nl42, nl43, nl44, nl45, nl46, nl47, nl48, nl49, nl50, nl51, nl52, nl53, nl54, nl55, nl56, nl57, nl58, nl59, nl60, nl61, nl62, nl63, nl64, nl65, nl66, nl67, nl68, nl69, nl70, nl71, nl72, nl73, nl74, nl75, nl76, nl77, nl78, nl79, nl80, nl82, nl83, nl84, nl85, nl86, nl88, nl90, nl96, nl97, nl99, nl100, nl101, nl104, nl112, nl115, nl120, nl121, nl122, nl126, nl127, nl128, nl160, nl200, nl201, nl202, nl255, nl256, nl300, nl320, nl322, nl400, nl500, nl600, nl640, nl732, nl968, nl999, nl1000, nl1001, nl1040, nl1440, nl1500, nl1501, nl1600, nl2000, nl2240, nl3131, nl4000, nl4095, nl4096, nl4960, nl5000, nl6000, nl6001, nl8000, nl9999, nl10000, nl10200, nl13520, nl14000, nl20000, nl32768, nl40000, nl46000, nl64000, nl65536, nl78000, nl100000, nl128000, nl400000, nl730000, ax, X_isW h.k h.xw, e, b2n_t, b2n_f, Bool.false_eq_true]
theorem M_meets (h : pR c a d b N y g α s) (hw : w < 100000) : gX26_meets (nI w) s = if wW c a w = true then some (nI 1, maS s a) else some (nI 0, s) := by
  have am := h.am
  have a5 := h.a5
  unfold gX26_meets gX26_meets_19 maS
  rcases e : wW c a w with _ | _ <;> simp (disch := omega) only [gld, gst, glj, gsj, gpN0, gpN1, gl_x, gl_gi, pI_in', pI_clamp, pI_add, pI_mul, pI_sub, pI_succ, nmod_eq, pI_div, ni_neg, zn_neg, gnar0, gnar1, eq_self, ni_lt, ni_le, ni_eq, ni_zlt, ni_zle, ni_zeq, zn_lt, zn_le, zn_eq, zz_lt, zz_le, zz_eq, ni_zadd, zn_add, ni_zsub, zn_sub, ni_zmul, zn_mul, nZ_add, nZ_sub, nZ_mul, upd_same, upd_other, upd_upd, gl_bi, gl_mi, gl_bs, gl_ms, gl_bn, gl_mn, if_true, if_false, ↓reduceIte, not_true_eq_false, not_false_eq_true, true_and, and_true, false_and, and_false, and_self, or_false, false_or, or_self, or_true, true_or, Nat.not_lt_zero, Nat.reduceAdd, Nat.reduceMul, Nat.add_zero, Nat.zero_add, Nat.mul_zero, Nat.zero_mul, Nat.reduceEqDiff, Nat.reduceLT, Nat.reduceLeDiff, Nat.succ_ne_zero, ua_ua, us_us, tn_le, tn_nle, tn_lt, tn_nlt, tn_eq, tn_ne, tz_le, tz_nle, tz_lt, tz_nlt, tz_eq, tz_ne, ls_us, ls_uj, ls_ua, ls_ub, lj_us, lj_uj, lj_ua, lj_ub, la_us, la_uj, la_ua, la_ub, lb_us, lb_uj, lb_ua, lb_ub, nl0, nl1, nl2, nl3, nl4, nl5, nl6, nl7, nl8, nl9, nl10, nl11, nl12, nl13, nl14, nl15, nl16, nl17, nl18, nl19, nl20, nl21, nl22, nl23, nl24, nl25, nl26, nl27, nl28, nl29, nl30, nl31, nl32, nl33, nl34, nl35, nl36, nl37, nl38, nl39, nl40, nl41, nl42, nl43, nl44, nl45, nl46, nl47, nl48, nl49, nl50, nl51, nl52, nl53, nl54, nl55, nl56, nl57, nl58, nl59, nl60, nl61, nl62, nl63, nl64, nl65, nl66, nl67, nl68, nl69, nl70, nl71, nl72, nl73, nl74, nl75, nl76, nl77, nl78, nl79, nl80, nl82, nl83, nl84, nl85, nl86, nl88, nl90, nl96, nl97, nl99, nl100, nl101, nl104, nl112, nl115, nl120, nl121, nl122, nl126, nl127, nl128, nl160, nl200, nl201, nl202, nl255, nl256, nl300, nl320, nl322, nl400, nl500, nl600, nl640, nl732, nl968, nl999, nl1000, nl1001, nl1040, nl1440, nl1500, nl1501, nl1600, nl2000, nl2240, nl3131, nl4000, nl4095, nl4096, nl4960, nl5000, nl6000, nl6001, nl8000, nl9999, nl10000, nl10200, nl13520, nl14000, nl20000, nl32768, nl40000, nl46000, nl64000, nl65536, nl78000, nl100000, nl128000, nl400000, nl730000, am, h.bm, M_isW h.k h.mw, e, b2n_t, b2n_f, Bool.false_eq_true]
/-- an optional word -/
theorem pR.meets (h : pR c a d b N y g α s) (hw : w < 100000) : (wW c a w = true ∧ hX4_meets G (some c.p) (nI w) α = some (nI 1, xaS c α a) ∧ gX26_meets (nI w) s = some (nI 1, maS s a) ∧ pR c (a + 1) d b N y g (xaS c α a) (maS s a)) ∨ (wW c a w = false ∧ hX4_meets G (some c.p) (nI w) α = some (nI 0, α) ∧ gX26_meets (nI w) s = some (nI 0, s)) := by
  rcases e : wW c a w with _ | _
  · exact .inr ⟨rfl, by rw [X_meets h hw, if_neg (by rw [e]; decide)], by rw [M_meets h hw, if_neg (by rw [e]; decide)]⟩
  · exact .inl ⟨rfl, by rw [X_meets h hw, if_pos e], by rw [M_meets h hw, if_pos e], h.adv (wW_i e).1⟩
theorem X_must1 : hX4_must G (some c.p) (nI 1) α = some (.inl (), α) := by
  unfold hX4_must hX4_must_13
  simp (disch := omega) only [gld, gst, glj, gsj, gpN0, gpN1, gl_x, gl_gi, pI_in', pI_clamp, pI_add, pI_mul, pI_sub, pI_succ, nmod_eq, pI_div, ni_neg, zn_neg, gnar0, gnar1, eq_self, ni_lt, ni_le, ni_eq, ni_zlt, ni_zle, ni_zeq, zn_lt, zn_le, zn_eq, zz_lt, zz_le, zz_eq, ni_zadd, zn_add, ni_zsub, zn_sub, ni_zmul, zn_mul, nZ_add, nZ_sub, nZ_mul, upd_same, upd_other, upd_upd, gl_bi, gl_mi, gl_bs, gl_ms, gl_bn, gl_mn, if_true, if_false, ↓reduceIte, not_true_eq_false, not_false_eq_true, true_and, and_true, false_and, and_false, and_self, or_false, false_or, or_self, or_true, true_or, Nat.not_lt_zero, Nat.reduceAdd, Nat.reduceMul, Nat.add_zero, Nat.zero_add, Nat.mul_zero, Nat.zero_mul, Nat.reduceEqDiff, Nat.reduceLT, Nat.reduceLeDiff, Nat.succ_ne_zero, ua_ua, us_us, tn_le, tn_nle, tn_lt, tn_nlt, tn_eq, tn_ne, tz_le, tz_nle, tz_lt, tz_nlt, tz_eq, tz_ne, kfI, kfJ, kfA, kpI, kpA, kis, kal, kald, kcald, kaald, Option.some.injEq, ls_us, ls_uj, ls_ua, ls_ub, lj_us, lj_uj, lj_ua, lj_ub, la_us, la_uj, la_ua, la_ub, lb_us, lb_uj, lb_ua, lb_ub, nl0, nl1, nl2, nl3, nl4, nl5, nl6, nl7, nl8, nl9, nl10, nl11, nl12, nl13, nl14, nl15, nl16, nl17, nl18, nl19, nl20, nl21, nl22, nl23, nl24, nl25, nl26, nl27, nl28, nl29, nl30, nl31, nl32, nl33, nl34, nl35, nl36, nl37, nl38, nl39, nl40, nl41, nl42, nl43, nl44, nl45, nl46, nl47, nl48, nl49, nl50, nl51, nl52, nl53, nl54, nl55, nl56, nl57, nl58, nl59, nl60, nl61, nl62, nl63, nl64, nl65, nl66, nl67, nl68, nl69, nl70, nl71, nl72, nl73, nl74, nl75, nl76, nl77, nl78, nl79, nl80, nl82, nl83, nl84, nl85, nl86, nl88, nl90, nl96, nl97, nl99, nl100, nl101, nl104, nl112, nl115, nl120, nl121, nl122, nl126, nl127, nl128, nl160, nl200, nl201, nl202, nl255, nl256, nl300, nl320, nl322, nl400, nl500, nl600, nl640, nl732, nl968, nl999, nl1000, nl1001, nl1040, nl1440, nl1500, nl1501, nl1600, nl2000, nl2240, nl3131, nl4000, nl4095, nl4096, nl4960, nl5000, nl6000, nl6001, nl8000, nl9999, nl10000, nl10200, nl13520, nl14000, nl20000, nl32768, nl40000, nl46000, nl64000, nl65536, nl78000, nl100000, nl128000, nl400000, nl730000]
theorem X_must0 (h : pR c a d b N y g α s) : hX4_must G (some c.p) (nI 0) α = zcase (hX4_fails G (some c.p) (nI a) (nI 1) α) (fun p2 => hX4_must_13 G p2.2) (fun p3 => if zthr p3.2 p3.1 3 = true then some (.inr p3.1, p3.2) else none) := by
  have kp := h.kp
  have ax := h.ax
  unfold hX4_must
  simp (disch := omega) only [gld, gst, glj, gsj, gpN0, gpN1, gl_x, gl_gi, pI_in', pI_clamp, pI_add, pI_mul, pI_sub, pI_succ, nmod_eq, pI_div, ni_neg, zn_neg, gnar0, gnar1, eq_self, ni_lt, ni_le, ni_eq, ni_zlt, ni_zle, ni_zeq, zn_lt, zn_le, zn_eq, zz_lt, zz_le, zz_eq, ni_zadd, zn_add, ni_zsub, zn_sub, ni_zmul, zn_mul, nZ_add, nZ_sub, nZ_mul, upd_same, upd_other, upd_upd, gl_bi, gl_mi, gl_bs, gl_ms, gl_bn, gl_mn, if_true, if_false, ↓reduceIte, not_true_eq_false, not_false_eq_true, true_and, and_true, false_and, and_false, and_self, or_false, false_or, or_self, or_true, true_or, Nat.not_lt_zero, Nat.reduceAdd, Nat.reduceMul, Nat.add_zero, Nat.zero_add, Nat.mul_zero, Nat.zero_mul, Nat.reduceEqDiff, Nat.reduceLT, Nat.reduceLeDiff, Nat.succ_ne_zero, ua_ua, us_us, tn_le, tn_nle, tn_lt, tn_nlt, tn_eq, tn_ne, tz_le, tz_nle, tz_lt, tz_nlt, tz_eq, tz_ne, kfI, kfJ, kfA, kpI, kpA, kis, kal, kald, kcald, kaald, Option.some.injEq, ls_us, ls_uj, ls_ua, ls_ub, lj_us, lj_uj, lj_ua, lj_ub, la_us, la_uj, la_ua, la_ub, lb_us, lb_uj, lb_ua, lb_ub, nl0, nl1, nl2, nl3, nl4, nl5, nl6, nl7, nl8, nl9, nl10, nl11, nl12, nl13, nl14, nl15, nl16, nl17, nl18, nl19, nl20, nl21, nl22, nl23, nl24, nl25, nl26, nl27, nl28, nl29, nl30, nl31, nl32, nl33, nl34, nl35, nl36, nl37, nl38, nl39, nl40, nl41, nl42, nl43, nl44, nl45, nl46, nl47, nl48, nl49, nl50, nl51, nl52, nl53, nl54, nl55, nl56, nl57, nl58, nl59, nl60, nl61, nl62, nl63, nl64, nl65, nl66, nl67, nl68, nl69, nl70, nl71, nl72, nl73, nl74, nl75, nl76, nl77, nl78, nl79, nl80, nl82, nl83, nl84, nl85, nl86, nl88, nl90, nl96, nl97, nl99, nl100, nl101, nl104, nl112, nl115, nl120, nl121, nl122, nl126, nl127, nl128, nl160, nl200, nl201, nl202, nl255, nl256, nl300, nl320, nl322, nl400, nl500, nl600, nl640, nl732, nl968, nl999, nl1000, nl1001, nl1040, nl1440, nl1500, nl1501, nl1600, nl2000, nl2240, nl3131, nl4000, nl4095, nl4096, nl4960, nl5000, nl6000, nl6001, nl8000, nl9999, nl10000, nl10200, nl13520, nl14000, nl20000, nl32768, nl40000, nl46000, nl64000, nl65536, nl78000, nl100000, nl128000, nl400000, nl730000, ax]
/-- it must not go on: fault 1 here -/
theorem pR.no (h : pR c a d b N y g α s) (hb : pB c b a 0) : ∃ e β s' w, hX4_must G (some c.p) (nI 0) α = some (.inr e, β) ∧ zthr β e 3 = true ∧ gX26_fail (nI 1) (nI a) s = some (nI 0, s') ∧ pE c 1 w β s' := by
  obtain ⟨e, β, s', x1, x2, x3, x4⟩ := h.fail (G := G) hb h.al h.a0 (by omega) (.inl rfl)
  refine ⟨e, β, s', a, ?_, x2, x3, x4⟩
  rw [X_must0 h, x1, zc_r, if_pos x2]
/-- a word that is wanted -/
theorem pR.need (h : pR c a d b N y g α s) (hw : w < 100000) (hb : pB c b a 0) : (wW c a w = true ∧ hX4_need G (some c.p) (nI w) α = some (.inl (), xaS c α a) ∧ gX26_must (nI w) s = some (nI 1, maS s a) ∧ pR c (a + 1) d b N y g (xaS c α a) (maS s a)) ∨ (∃ e β s' v, hX4_need G (some c.p) (nI w) α = some (.inr e, β) ∧ zthr β e 3 = true ∧ gX26_must (nI w) s = some (nI 0, s') ∧ pE c 1 v β s') := by
  have kp := h.kp
  rcases h.meets (G := G) hw with ⟨e, x1, m1, h1⟩ | ⟨e, x1, m1⟩
  · have kp1 := h1.kp
    refine .inl ⟨e, ?_, ?_, h1⟩
    · unfold hX4_need
      simp (disch := omega) only [gld, gst, glj, gsj, gpN0, gpN1, gl_x, gl_gi, pI_in', pI_clamp, pI_add, pI_mul, pI_sub, pI_succ, nmod_eq, pI_div, ni_neg, zn_neg, gnar0, gnar1, eq_self, ni_lt, ni_le, ni_eq, ni_zlt, ni_zle, ni_zeq, zn_lt, zn_le, zn_eq, zz_lt, zz_le, zz_eq, ni_zadd, zn_add, ni_zsub, zn_sub, ni_zmul, zn_mul, nZ_add, nZ_sub, nZ_mul, upd_same, upd_other, upd_upd, gl_bi, gl_mi, gl_bs, gl_ms, gl_bn, gl_mn, if_true, if_false, ↓reduceIte, not_true_eq_false, not_false_eq_true, true_and, and_true, false_and, and_false, and_self, or_false, false_or, or_self, or_true, true_or, Nat.not_lt_zero, Nat.reduceAdd, Nat.reduceMul, Nat.add_zero, Nat.zero_add, Nat.mul_zero, Nat.zero_mul, Nat.reduceEqDiff, Nat.reduceLT, Nat.reduceLeDiff, Nat.succ_ne_zero, ua_ua, us_us, tn_le, tn_nle, tn_lt, tn_nlt, tn_eq, tn_ne, tz_le, tz_nle, tz_lt, tz_nlt, tz_eq, tz_ne, kfI, kfJ, kfA, kpI, kpA, kis, kal, kald, kcald, kaald, Option.some.injEq, ls_us, ls_uj, ls_ua, ls_ub, lj_us, lj_uj, lj_ua, lj_ub, la_us, la_uj, la_ua, la_ub, lb_us, lb_uj, lb_ua, lb_ub, nl0, nl1, nl2, nl3, nl4, nl5, nl6, nl7, nl8, nl9, nl10, nl11, nl12, nl13, nl14, nl15, nl16, nl17, nl18, nl19, nl20, nl21, nl22, nl23, nl24, nl25, nl26, nl27, nl28, nl29, nl30, nl31, nl32, nl33, nl34, nl35, nl36, nl37, nl38, nl39, nl40, nl41, nl42, nl43, nl44, nl45, nl46, nl47, nl48, nl49, nl50, nl51, nl52, nl53, nl54, nl55, nl56, nl57, nl58, nl59, nl60, nl61, nl62, nl63, nl64, nl65, nl66, nl67, nl68, nl69, nl70, nl71, nl72, nl73, nl74, nl75, nl76, nl77, nl78, nl79, nl80, nl82, nl83, nl84, nl85, nl86, nl88, nl90, nl96, nl97, nl99, nl100, nl101, nl104, nl112, nl115, nl120, nl121, nl122, nl126, nl127, nl128, nl160, nl200, nl201, nl202, nl255, nl256, nl300, nl320, nl322, nl400, nl500, nl600, nl640, nl732, nl968, nl999, nl1000, nl1001, nl1040, nl1440, nl1500, nl1501, nl1600, nl2000, nl2240, nl3131, nl4000, nl4095, nl4096, nl4960, nl5000, nl6000, nl6001, nl8000, nl9999, nl10000, nl10200, nl13520, nl14000, nl20000, nl32768, nl40000, nl46000, nl64000, nl65536, nl78000, nl100000, nl128000, nl400000, nl730000, x1, X_must1, zc_l]
    · unfold gX26_must gX26_must_20 gX26_must_25
      simp (disch := omega) only [gld, gst, glj, gsj, gpN0, gpN1, gl_x, gl_gi, pI_in', pI_clamp, pI_add, pI_mul, pI_sub, pI_succ, nmod_eq, pI_div, ni_neg, zn_neg, gnar0, gnar1, eq_self, ni_lt, ni_le, ni_eq, ni_zlt, ni_zle, ni_zeq, zn_lt, zn_le, zn_eq, zz_lt, zz_le, zz_eq, ni_zadd, zn_add, ni_zsub, zn_sub, ni_zmul, zn_mul, nZ_add, nZ_sub, nZ_mul, upd_same, upd_other, upd_upd, gl_bi, gl_mi, gl_bs, gl_ms, gl_bn, gl_mn, if_true, if_false, ↓reduceIte, not_true_eq_false, not_false_eq_true, true_and, and_true, false_and, and_false, and_self, or_false, false_or, or_self, or_true, true_or, Nat.not_lt_zero, Nat.reduceAdd, Nat.reduceMul, Nat.add_zero, Nat.zero_add, Nat.mul_zero, Nat.zero_mul, Nat.reduceEqDiff, Nat.reduceLT, Nat.reduceLeDiff, Nat.succ_ne_zero, ua_ua, us_us, tn_le, tn_nle, tn_lt, tn_nlt, tn_eq, tn_ne, tz_le, tz_nle, tz_lt, tz_nlt, tz_eq, tz_ne, ls_us, ls_uj, ls_ua, ls_ub, lj_us, lj_uj, lj_ua, lj_ub, la_us, la_uj, la_ua, la_ub, lb_us, lb_uj, lb_ua, lb_ub, nl0, nl1, nl2, nl3, nl4, nl5, nl6, nl7, nl8, nl9, nl10, nl11, nl12, nl13, nl14, nl15, nl16, nl17, nl18, nl19, nl20, nl21, nl22, nl23, nl24, nl25, nl26, nl27, nl28, nl29, nl30, nl31, nl32, nl33, nl34, nl35, nl36, nl37, nl38, nl39, nl40, nl41, nl42, nl43, nl44, nl45, nl46, nl47, nl48, nl49, nl50, nl51, nl52, nl53, nl54, nl55, nl56, nl57, nl58, nl59, nl60, nl61, nl62, nl63, nl64, nl65, nl66, nl67, nl68, nl69, nl70, nl71, nl72, nl73, nl74, nl75, nl76, nl77, nl78, nl79, nl80, nl82, nl83, nl84, nl85, nl86, nl88, nl90, nl96, nl97, nl99, nl100, nl101, nl104, nl112, nl115, nl120, nl121, nl122, nl126, nl127, nl128, nl160, nl200, nl201, nl202, nl255, nl256, nl300, nl320, nl322, nl400, nl500, nl600, nl640, nl732, nl968, nl999, nl1000, nl1001, nl1040, nl1440, nl1500, nl1501, nl1600, nl2000, nl2240, nl3131, nl4000, nl4095, nl4096, nl4960, nl5000, nl6000, nl6001, nl8000, nl9999, nl10000, nl10200, nl13520, nl14000, nl20000, nl32768, nl40000, nl46000, nl64000, nl65536, nl78000, nl100000, nl128000, nl400000, nl730000, m1]
  · obtain ⟨q, β, s', v, x2, x3, m2, x4⟩ := h.no (G := G) hb
    refine .inr ⟨q, β, s', v, ?_, x3, ?_, x4⟩
    · unfold hX4_need
      simp (disch := omega) only [gld, gst, glj, gsj, gpN0, gpN1, gl_x, gl_gi, pI_in', pI_clamp, pI_add, pI_mul, pI_sub, pI_succ, nmod_eq, pI_div, ni_neg, zn_neg, gnar0, gnar1, eq_self, ni_lt, ni_le, ni_eq, ni_zlt, ni_zle, ni_zeq, zn_lt, zn_le, zn_eq, zz_lt, zz_le, zz_eq, ni_zadd, zn_add, ni_zsub, zn_sub, ni_zmul, zn_mul, nZ_add, nZ_sub, nZ_mul, upd_same, upd_other, upd_upd, gl_bi, gl_mi, gl_bs, gl_ms, gl_bn, gl_mn, if_true, if_false, ↓reduceIte, not_true_eq_false, not_false_eq_true, true_and, and_true, false_and, and_false, and_self, or_false, false_or, or_self, or_true, true_or, Nat.not_lt_zero, Nat.reduceAdd, Nat.reduceMul, Nat.add_zero, Nat.zero_add, Nat.mul_zero, Nat.zero_mul, Nat.reduceEqDiff, Nat.reduceLT, Nat.reduceLeDiff, Nat.succ_ne_zero, ua_ua, us_us, tn_le, tn_nle, tn_lt, tn_nlt, tn_eq, tn_ne, tz_le, tz_nle, tz_lt, tz_nlt, tz_eq, tz_ne, kfI, kfJ, kfA, kpI, kpA, kis, kal, kald, kcald, kaald, Option.some.injEq, ls_us, ls_uj, ls_ua, ls_ub, lj_us, lj_uj, lj_ua, lj_ub, la_us, la_uj, la_ua, la_ub, lb_us, lb_uj, lb_ua, lb_ub, nl0, nl1, nl2, nl3, nl4, nl5, nl6, nl7, nl8, nl9, nl10, nl11, nl12, nl13, nl14, nl15, nl16, nl17, nl18, nl19, nl20, nl21, nl22, nl23, nl24, nl25, nl26, nl27, nl28, nl29, nl30, nl31, nl32, nl33, nl34, nl35, nl36, nl37, nl38, nl39, nl40, nl41, nl42, nl43, nl44, nl45, nl46, nl47, nl48, nl49, nl50, nl51, nl52, nl53, nl54, nl55, nl56, nl57, nl58, nl59, nl60, nl61, nl62, nl63, nl64, nl65, nl66, nl67, nl68, nl69, nl70, nl71, nl72, nl73, nl74, nl75, nl76, nl77, nl78, nl79, nl80, nl82, nl83, nl84, nl85, nl86, nl88, nl90, nl96, nl97, nl99, nl100, nl101, nl104, nl112, nl115, nl120, nl121, nl122, nl126, nl127, nl128, nl160, nl200, nl201, nl202, nl255, nl256, nl300, nl320, nl322, nl400, nl500, nl600, nl640, nl732, nl968, nl999, nl1000, nl1001, nl1040, nl1440, nl1500, nl1501, nl1600, nl2000, nl2240, nl3131, nl4000, nl4095, nl4096, nl4960, nl5000, nl6000, nl6001, nl8000, nl9999, nl10000, nl10200, nl13520, nl14000, nl20000, nl32768, nl40000, nl46000, nl64000, nl65536, nl78000, nl100000, nl128000, nl400000, nl730000, x1, x2, zc_r, x3]
    · have am := h.am
      unfold gX26_must gX26_must_20 gX26_must_25
      simp (disch := omega) only [gld, gst, glj, gsj, gpN0, gpN1, gl_x, gl_gi, pI_in', pI_clamp, pI_add, pI_mul, pI_sub, pI_succ, nmod_eq, pI_div, ni_neg, zn_neg, gnar0, gnar1, eq_self, ni_lt, ni_le, ni_eq, ni_zlt, ni_zle, ni_zeq, zn_lt, zn_le, zn_eq, zz_lt, zz_le, zz_eq, ni_zadd, zn_add, ni_zsub, zn_sub, ni_zmul, zn_mul, nZ_add, nZ_sub, nZ_mul, upd_same, upd_other, upd_upd, gl_bi, gl_mi, gl_bs, gl_ms, gl_bn, gl_mn, if_true, if_false, ↓reduceIte, not_true_eq_false, not_false_eq_true, true_and, and_true, false_and, and_false, and_self, or_false, false_or, or_self, or_true, true_or, Nat.not_lt_zero, Nat.reduceAdd, Nat.reduceMul, Nat.add_zero, Nat.zero_add, Nat.mul_zero, Nat.zero_mul, Nat.reduceEqDiff, Nat.reduceLT, Nat.reduceLeDiff, Nat.succ_ne_zero, ua_ua, us_us, tn_le, tn_nle, tn_lt, tn_nlt, tn_eq, tn_ne, tz_le, tz_nle, tz_lt, tz_nlt, tz_eq, tz_ne, ls_us, ls_uj, ls_ua, ls_ub, lj_us, lj_uj, lj_ua, lj_ub, la_us, la_uj, la_ua, la_ub, lb_us, lb_uj, lb_ua, lb_ub, nl0, nl1, nl2, nl3, nl4, nl5, nl6, nl7, nl8, nl9, nl10, nl11, nl12, nl13, nl14, nl15, nl16, nl17, nl18, nl19, nl20, nl21, nl22, nl23, nl24, nl25, nl26, nl27, nl28, nl29, nl30, nl31, nl32, nl33, nl34, nl35, nl36, nl37, nl38, nl39, nl40, nl41, nl42, nl43, nl44, nl45, nl46, nl47, nl48, nl49, nl50, nl51, nl52, nl53, nl54, nl55, nl56, nl57, nl58, nl59, nl60, nl61, nl62, nl63, nl64, nl65, nl66, nl67, nl68, nl69, nl70, nl71, nl72, nl73, nl74, nl75, nl76, nl77, nl78, nl79, nl80, nl82, nl83, nl84, nl85, nl86, nl88, nl90, nl96, nl97, nl99, nl100, nl101, nl104, nl112, nl115, nl120, nl121, nl122, nl126, nl127, nl128, nl160, nl200, nl201, nl202, nl255, nl256, nl300, nl320, nl322, nl400, nl500, nl600, nl640, nl732, nl968, nl999, nl1000, nl1001, nl1040, nl1440, nl1500, nl1501, nl1600, nl2000, nl2240, nl3131, nl4000, nl4095, nl4096, nl4960, nl5000, nl6000, nl6001, nl8000, nl9999, nl10000, nl10200, nl13520, nl14000, nl20000, nl32768, nl40000, nl46000, nl64000, nl65536, nl78000, nl100000, nl128000, nl400000, nl730000, m1, am, m2]
/-- a word of a kind that is wanted -/
theorem pR.take (h : pR c a d b N y g α s) (hk : k < 6) (hb : pB c b a 0) : (wK c a k = true ∧ hX4_take G (some c.p) (nI k) α = some (.inl (nI (c.vs a)), xaS c α a) ∧ gX26_mustBe (nI k) s = some (nI 1, maS s a) ∧ pR c (a + 1) d b N y g (xaS c α a) (maS s a)) ∨ (∃ e β s' v, hX4_take G (some c.p) (nI k) α = some (.inr e, β) ∧ zthr β e 3 = true ∧ gX26_mustBe (nI k) s = some (nI 0, s') ∧ pE c 1 v β s') := by
  have kp := h.kp
  have ax := h.ax
  have am := h.am
  have a5 := h.a5
  have bm := h.bm
  rcases e : wK c a k with _ | _
  · obtain ⟨q, β, s', v, x2, x3, m2, x4⟩ := h.no (G := G) hb
    refine .inr ⟨q, β, s', v, ?_, x3, ?_, x4⟩
    · unfold hX4_take
      simp (disch := omega) only [gld, gst, glj, gsj, gpN0, gpN1, gl_x, gl_gi, pI_in', pI_clamp, pI_add, pI_mul, pI_sub, pI_succ, nmod_eq, pI_div, ni_neg, zn_neg, gnar0, gnar1, eq_self, ni_lt, ni_le, ni_eq, ni_zlt, ni_zle, ni_zeq, zn_lt, zn_le, zn_eq, zz_lt, zz_le, zz_eq, ni_zadd, zn_add, ni_zsub, zn_sub, ni_zmul, zn_mul, nZ_add, nZ_sub, nZ_mul, upd_same, upd_other, upd_upd, gl_bi, gl_mi, gl_bs, gl_ms, gl_bn, gl_mn, if_true, if_false, ↓reduceIte, not_true_eq_false, not_false_eq_true, true_and, and_true, false_and, and_false, and_self, or_false, false_or, or_self, or_true, true_or, Nat.not_lt_zero, Nat.reduceAdd, Nat.reduceMul, Nat.add_zero, Nat.zero_add, Nat.mul_zero, Nat.zero_mul, Nat.reduceEqDiff, Nat.reduceLT, Nat.reduceLeDiff, Nat.succ_ne_zero, ua_ua, us_us, tn_le, tn_nle, tn_lt, tn_nlt, tn_eq, tn_ne, tz_le, tz_nle, tz_lt, tz_nlt, tz_eq, tz_ne, kfI, kfJ, kfA, kpI, kpA, kis, kal, kald, kcald, kaald, Option.some.injEq, ls_us, ls_uj, ls_ua, ls_ub, lj_us, lj_uj, lj_ua, lj_ub, la_us, la_uj, la_ua, la_ub, lb_us, lb_uj, lb_ua, lb_ub, nl0, nl1, nl2, nl3, nl4, nl5, nl6, nl7, nl8, nl9, nl10, nl11, nl12, nl13, nl14, nl15, nl16, nl17, nl18, nl19, nl20, nl21, nl22, nl23, nl24, nl25, nl26, nl27, nl28, nl29, nl30, nl31, nl32, nl33, nl34, nl35, nl36, nl37, nl38, nl39, nl40, nl41, nl42, nl43, nl44, nl45, nl46, nl47, nl48, nl49, nl50, nl51, nl52, nl53, nl54, nl55, nl56, nl57, nl58, nl59, nl60, nl61, nl62, nl63, nl64, nl65, nl66, nl67, nl68, nl69, nl70, nl71, nl72, nl73, nl74, nl75, nl76, nl77, nl78, nl79, nl80, nl82, nl83, nl84, nl85, nl86, nl88, nl90, nl96, nl97, nl99, nl100, nl101, nl104, nl112, nl115, nl120, nl121, nl122, nl126, nl127, nl128, nl160, nl200, nl201, nl202, nl255, nl256, nl300, nl320, nl322, nl400, nl500, nl600, nl640, nl732, nl968, nl999, nl1000, nl1001, nl1040, nl1440, nl1500, nl1501, nl1600, nl2000, nl2240, nl3131, nl4000, nl4095, nl4096, nl4960, nl5000, nl6000, nl6001, nl8000, nl9999, nl10000, nl10200, nl13520, nl14000, nl20000, nl32768, nl40000, nl46000, nl64000, nl65536, nl78000, nl100000, nl128000, nl400000, nl730000, ax, X_isK h.k h.xw, e, b2n_f, x2, zc_r, x3]
    · unfold gX26_mustBe gX26_mustBe_19
      simp (disch := omega) only [gld, gst, glj, gsj, gpN0, gpN1, gl_x, gl_gi, pI_in', pI_clamp, pI_add, pI_mul, pI_sub, pI_succ, nmod_eq, pI_div, ni_neg, zn_neg, gnar0, gnar1, eq_self, ni_lt, ni_le, ni_eq, ni_zlt, ni_zle, ni_zeq, zn_lt, zn_le, zn_eq, zz_lt, zz_le, zz_eq, ni_zadd, zn_add, ni_zsub, zn_sub, ni_zmul, zn_mul, nZ_add, nZ_sub, nZ_mul, upd_same, upd_other, upd_upd, gl_bi, gl_mi, gl_bs, gl_ms, gl_bn, gl_mn, if_true, if_false, ↓reduceIte, not_true_eq_false, not_false_eq_true, true_and, and_true, false_and, and_false, and_self, or_false, false_or, or_self, or_true, true_or, Nat.not_lt_zero, Nat.reduceAdd, Nat.reduceMul, Nat.add_zero, Nat.zero_add, Nat.mul_zero, Nat.zero_mul, Nat.reduceEqDiff, Nat.reduceLT, Nat.reduceLeDiff, Nat.succ_ne_zero, ua_ua, us_us, tn_le, tn_nle, tn_lt, tn_nlt, tn_eq, tn_ne, tz_le, tz_nle, tz_lt, tz_nlt, tz_eq, tz_ne, ls_us, ls_uj, ls_ua, ls_ub, lj_us, lj_uj, lj_ua, lj_ub, la_us, la_uj, la_ua, la_ub, lb_us, lb_uj, lb_ua, lb_ub, nl0, nl1, nl2, nl3, nl4, nl5, nl6, nl7, nl8, nl9, nl10, nl11, nl12, nl13, nl14, nl15, nl16, nl17, nl18, nl19, nl20, nl21, nl22, nl23, nl24, nl25, nl26, nl27, nl28, nl29, nl30, nl31, nl32, nl33, nl34, nl35, nl36, nl37, nl38, nl39, nl40, nl41, nl42, nl43, nl44, nl45, nl46, nl47, nl48, nl49, nl50, nl51, nl52, nl53, nl54, nl55, nl56, nl57, nl58, nl59, nl60, nl61, nl62, nl63, nl64, nl65, nl66, nl67, nl68, nl69, nl70, nl71, nl72, nl73, nl74, nl75, nl76, nl77, nl78, nl79, nl80, nl82, nl83, nl84, nl85, nl86, nl88, nl90, nl96, nl97, nl99, nl100, nl101, nl104, nl112, nl115, nl120, nl121, nl122, nl126, nl127, nl128, nl160, nl200, nl201, nl202, nl255, nl256, nl300, nl320, nl322, nl400, nl500, nl600, nl640, nl732, nl968, nl999, nl1000, nl1001, nl1040, nl1440, nl1500, nl1501, nl1600, nl2000, nl2240, nl3131, nl4000, nl4095, nl4096, nl4960, nl5000, nl6000, nl6001, nl8000, nl9999, nl10000, nl10200, nl13520, nl14000, nl20000, nl32768, nl40000, nl46000, nl64000, nl65536, nl78000, nl100000, nl128000, nl400000, nl730000, am, bm, M_isK h.k h.mw, e, b2n_f, m2]
  · have h1 := h.adv (wK_i e).1
    refine .inl ⟨rfl, ?_, ?_, h1⟩
    · have kv := h1.xw.kv
      have lv := h1.xw.lv
      have fv := h1.xw.fv
      have rv := h1.xw.rv a (wK_i e).1
      have ax1 := h1.ax
      unfold xaS at kv lv fv rv ax1
      unfold hX4_take xaS
      have kp1 := h1.kp
      unfold xaS at kp1
      simp (disch := omega) only [gld, gst, glj, gsj, gpN0, gpN1, gl_x, gl_gi, pI_in', pI_clamp, pI_add, pI_mul, pI_sub, pI_succ, nmod_eq, pI_div, ni_neg, zn_neg, gnar0, gnar1, eq_self, ni_lt, ni_le, ni_eq, ni_zlt, ni_zle, ni_zeq, zn_lt, zn_le, zn_eq, zz_lt, zz_le, zz_eq, ni_zadd, zn_add, ni_zsub, zn_sub, ni_zmul, zn_mul, nZ_add, nZ_sub, nZ_mul, upd_same, upd_other, upd_upd, gl_bi, gl_mi, gl_bs, gl_ms, gl_bn, gl_mn, if_true, if_false, ↓reduceIte, not_true_eq_false, not_false_eq_true, true_and, and_true, false_and, and_false, and_self, or_false, false_or, or_self, or_true, true_or, Nat.not_lt_zero, Nat.reduceAdd, Nat.reduceMul, Nat.add_zero, Nat.zero_add, Nat.mul_zero, Nat.zero_mul, Nat.reduceEqDiff, Nat.reduceLT, Nat.reduceLeDiff, Nat.succ_ne_zero, ua_ua, us_us, tn_le, tn_nle, tn_lt, tn_nlt, tn_eq, tn_ne, tz_le, tz_nle, tz_lt, tz_nlt, tz_eq, tz_ne, kfI, kfJ, kfA, kpI, kpA, kis, kal, kald, kcald, kaald, Option.some.injEq, ls_us, ls_uj, ls_ua, ls_ub, lj_us, lj_uj, lj_ua, lj_ub, la_us, la_uj, la_ua, la_ub, lb_us, lb_uj, lb_ua, lb_ub, nl0, nl1, nl2, nl3, nl4, nl5, nl6, nl7, nl8, nl9, nl10, nl11, nl12, nl13, nl14, nl15, nl16, nl17, nl18, nl19, nl20, nl21, nl22, nl23, nl24, nl25, nl26, nl27, nl28, nl29, nl30, nl31, nl32, nl33, nl34, nl35, nl36, nl37, nl38, nl39, nl40, nl41, nl42, nl43, nl44, nl45, nl46, nl47, nl48, nl49, nl50, nl51, nl52, nl53, nl54, nl55, nl56, nl57, nl58, nl59, nl60, nl61, nl62, nl63, nl64, nl65, nl66, nl67, nl68, nl69, nl70, nl71, nl72, nl73, nl74, nl75, nl76, nl77, nl78, nl79, nl80, nl82, nl83, nl84, nl85, nl86, nl88, nl90, nl96, nl97, nl99, nl100, nl101, nl104, nl112, nl115, nl120, nl121, nl122, nl126, nl127, nl128, nl160, nl200, nl201, nl202, nl255, nl256, nl300, nl320, nl322, nl400, nl500, nl600, nl640, nl732, nl968, nl999, nl1000, nl1001, nl1040, nl1440, nl1500, nl1501, nl1600, nl2000, nl2240, nl3131, nl4000, nl4095, nl4096, nl4960, nl5000, nl6000, nl6001, nl8000, nl9999, nl10000, nl10200, nl13520, nl14000, nl20000, nl32768, nl40000, nl46000, nl64000, nl65536, nl78000, nl100000, nl128000, nl400000, nl730000, ax, X_isK h.k h.xw, e, b2n_t, X_must1, zc_l, fv, rv, ax1, Nat.add_sub_cancel]
    · unfold gX26_mustBe gX26_mustBe_19 maS
      simp (disch := omega) only [gld, gst, glj, gsj, gpN0, gpN1, gl_x, gl_gi, pI_in', pI_clamp, pI_add, pI_mul, pI_sub, pI_succ, nmod_eq, pI_div, ni_neg, zn_neg, gnar0, gnar1, eq_self, ni_lt, ni_le, ni_eq, ni_zlt, ni_zle, ni_zeq, zn_lt, zn_le, zn_eq, zz_lt, zz_le, zz_eq, ni_zadd, zn_add, ni_zsub, zn_sub, ni_zmul, zn_mul, nZ_add, nZ_sub, nZ_mul, upd_same, upd_other, upd_upd, gl_bi, gl_mi, gl_bs, gl_ms, gl_bn, gl_mn, if_true, if_false, ↓reduceIte, not_true_eq_false, not_false_eq_true, true_and, and_true, false_and, and_false, and_self, or_false, false_or, or_self, or_true, true_or, Nat.not_lt_zero, Nat.reduceAdd, Nat.reduceMul, Nat.add_zero, Nat.zero_add, Nat.mul_zero, Nat.zero_mul, Nat.reduceEqDiff, Nat.reduceLT, Nat.reduceLeDiff, Nat.succ_ne_zero, ua_ua, us_us, tn_le, tn_nle, tn_lt, tn_nlt, tn_eq, tn_ne, tz_le, tz_nle, tz_lt, tz_nlt, tz_eq, tz_ne, ls_us, ls_uj, ls_ua, ls_ub, lj_us, lj_uj, lj_ua, lj_ub, la_us, la_uj, la_ua, la_ub, lb_us, lb_uj, lb_ua, lb_ub, nl0, nl1, nl2, nl3, nl4, nl5, nl6, nl7, nl8, nl9, nl10, nl11, nl12, nl13, nl14, nl15, nl16, nl17, nl18, nl19, nl20, nl21, nl22, nl23, nl24, nl25, nl26, nl27, nl28, nl29, nl30, nl31, nl32, nl33, nl34, nl35, nl36, nl37, nl38, nl39, nl40, nl41, nl42, nl43, nl44, nl45, nl46, nl47, nl48, nl49, nl50, nl51, nl52, nl53, nl54, nl55, nl56, nl57, nl58, nl59, nl60, nl61, nl62, nl63, nl64, nl65, nl66, nl67, nl68, nl69, nl70, nl71, nl72, nl73, nl74, nl75, nl76, nl77, nl78, nl79, nl80, nl82, nl83, nl84, nl85, nl86, nl88, nl90, nl96, nl97, nl99, nl100, nl101, nl104, nl112, nl115, nl120, nl121, nl122, nl126, nl127, nl128, nl160, nl200, nl201, nl202, nl255, nl256, nl300, nl320, nl322, nl400, nl500, nl600, nl640, nl732, nl968, nl999, nl1000, nl1001, nl1040, nl1440, nl1500, nl1501, nl1600, nl2000, nl2240, nl3131, nl4000, nl4095, nl4096, nl4960, nl5000, nl6000, nl6001, nl8000, nl9999, nl10000, nl10200, nl13520, nl14000, nl20000, nl32768, nl40000, nl46000, nl64000, nl65536, nl78000, nl100000, nl128000, nl400000, nl730000, am, bm, M_isK h.k h.mw, e, b2n_t]
theorem pR.period (h : pR c a d b N y g α s) (hb : pB c b a 0) : (wK c a 4 = true ∧ hX4_period G (some c.p) α = some (.inl (), xaS c α a) ∧ gX26_mustBe (nI 4) s = some (nI 1, maS s a) ∧ pR c (a + 1) d b N y g (xaS c α a) (maS s a)) ∨ (∃ e β s' v, hX4_period G (some c.p) α = some (.inr e, β) ∧ zthr β e 3 = true ∧ gX26_mustBe (nI 4) s = some (nI 0, s') ∧ pE c 1 v β s') := by
  have kp := h.kp
  rcases h.take (G := G) (k := 4) (by decide) hb with ⟨e, x1, m1, h1⟩ | ⟨q, β, s', v, x1, x3, m1, x4⟩
  · refine .inl ⟨e, ?_, m1, h1⟩
    unfold hX4_period
    simp (disch := omega) only [gld, gst, glj, gsj, gpN0, gpN1, gl_x, gl_gi, pI_in', pI_clamp, pI_add, pI_mul, pI_sub, pI_succ, nmod_eq, pI_div, ni_neg, zn_neg, gnar0, gnar1, eq_self, ni_lt, ni_le, ni_eq, ni_zlt, ni_zle, ni_zeq, zn_lt, zn_le, zn_eq, zz_lt, zz_le, zz_eq, ni_zadd, zn_add, ni_zsub, zn_sub, ni_zmul, zn_mul, nZ_add, nZ_sub, nZ_mul, upd_same, upd_other, upd_upd, gl_bi, gl_mi, gl_bs, gl_ms, gl_bn, gl_mn, if_true, if_false, ↓reduceIte, not_true_eq_false, not_false_eq_true, true_and, and_true, false_and, and_false, and_self, or_false, false_or, or_self, or_true, true_or, Nat.not_lt_zero, Nat.reduceAdd, Nat.reduceMul, Nat.add_zero, Nat.zero_add, Nat.mul_zero, Nat.zero_mul, Nat.reduceEqDiff, Nat.reduceLT, Nat.reduceLeDiff, Nat.succ_ne_zero, ua_ua, us_us, tn_le, tn_nle, tn_lt, tn_nlt, tn_eq, tn_ne, tz_le, tz_nle, tz_lt, tz_nlt, tz_eq, tz_ne, kfI, kfJ, kfA, kpI, kpA, kis, kal, kald, kcald, kaald, Option.some.injEq, ls_us, ls_uj, ls_ua, ls_ub, lj_us, lj_uj, lj_ua, lj_ub, la_us, la_uj, la_ua, la_ub, lb_us, lb_uj, lb_ua, lb_ub, nl0, nl1, nl2, nl3, nl4, nl5, nl6, nl7, nl8, nl9, nl10, nl11, nl12, nl13, nl14, nl15, nl16, nl17, nl18, nl19, nl20, nl21, nl22, nl23, nl24, nl25, nl26, nl27, nl28, nl29, nl30, nl31, nl32, nl33, nl34, nl35, nl36, nl37, nl38, nl39, nl40, nl41, nl42, nl43, nl44, nl45, nl46, nl47, nl48, nl49, nl50, nl51, nl52, nl53, nl54, nl55, nl56, nl57, nl58, nl59, nl60, nl61, nl62, nl63, nl64, nl65, nl66, nl67, nl68, nl69, nl70, nl71, nl72, nl73, nl74, nl75, nl76, nl77, nl78, nl79, nl80, nl82, nl83, nl84, nl85, nl86, nl88, nl90, nl96, nl97, nl99, nl100, nl101, nl104, nl112, nl115, nl120, nl121, nl122, nl126, nl127, nl128, nl160, nl200, nl201, nl202, nl255, nl256, nl300, nl320, nl322, nl400, nl500, nl600, nl640, nl732, nl968, nl999, nl1000, nl1001, nl1040, nl1440, nl1500, nl1501, nl1600, nl2000, nl2240, nl3131, nl4000, nl4095, nl4096, nl4960, nl5000, nl6000, nl6001, nl8000, nl9999, nl10000, nl10200, nl13520, nl14000, nl20000, nl32768, nl40000, nl46000, nl64000, nl65536, nl78000, nl100000, nl128000, nl400000, nl730000, x1, zc_l]
  · refine .inr ⟨q, β, s', v, ?_, x3, m1, x4⟩
    unfold hX4_period
    simp (disch := omega) only [gld, gst, glj, gsj, gpN0, gpN1, gl_x, gl_gi, pI_in', pI_clamp, pI_add, pI_mul, pI_sub, pI_succ, nmod_eq, pI_div, ni_neg, zn_neg, gnar0, gnar1, eq_self, ni_lt, ni_le, ni_eq, ni_zlt, ni_zle, ni_zeq, zn_lt, zn_le, zn_eq, zz_lt, zz_le, zz_eq, ni_zadd, zn_add, ni_zsub, zn_sub, ni_zmul, zn_mul, nZ_add, nZ_sub, nZ_mul, upd_same, upd_other, upd_upd, gl_bi, gl_mi, gl_bs, gl_ms, gl_bn, gl_mn, if_true, if_false, ↓reduceIte, not_true_eq_false, not_false_eq_true, true_and, and_true, false_and, and_false, and_self, or_false, false_or, or_self, or_true, true_or, Nat.not_lt_zero, Nat.reduceAdd, Nat.reduceMul, Nat.add_zero, Nat.zero_add, Nat.mul_zero, Nat.zero_mul, Nat.reduceEqDiff, Nat.reduceLT, Nat.reduceLeDiff, Nat.succ_ne_zero, ua_ua, us_us, tn_le, tn_nle, tn_lt, tn_nlt, tn_eq, tn_ne, tz_le, tz_nle, tz_lt, tz_nlt, tz_eq, tz_ne, kfI, kfJ, kfA, kpI, kpA, kis, kal, kald, kcald, kaald, Option.some.injEq, ls_us, ls_uj, ls_ua, ls_ub, lj_us, lj_uj, lj_ua, lj_ub, la_us, la_uj, la_ua, la_ub, lb_us, lb_uj, lb_ua, lb_ub, nl0, nl1, nl2, nl3, nl4, nl5, nl6, nl7, nl8, nl9, nl10, nl11, nl12, nl13, nl14, nl15, nl16, nl17, nl18, nl19, nl20, nl21, nl22, nl23, nl24, nl25, nl26, nl27, nl28, nl29, nl30, nl31, nl32, nl33, nl34, nl35, nl36, nl37, nl38, nl39, nl40, nl41, nl42, nl43, nl44, nl45, nl46, nl47, nl48, nl49, nl50, nl51, nl52, nl53, nl54, nl55, nl56, nl57, nl58, nl59, nl60, nl61, nl62, nl63, nl64, nl65, nl66, nl67, nl68, nl69, nl70, nl71, nl72, nl73, nl74, nl75, nl76, nl77, nl78, nl79, nl80, nl82, nl83, nl84, nl85, nl86, nl88, nl90, nl96, nl97, nl99, nl100, nl101, nl104, nl112, nl115, nl120, nl121, nl122, nl126, nl127, nl128, nl160, nl200, nl201, nl202, nl255, nl256, nl300, nl320, nl322, nl400, nl500, nl600, nl640, nl732, nl968, nl999, nl1000, nl1001, nl1040, nl1440, nl1500, nl1501, nl1600, nl2000, nl2240, nl3131, nl4000, nl4095, nl4096, nl4960, nl5000, nl6000, nl6001, nl8000, nl9999, nl10000, nl10200, nl13520, nl14000, nl20000, nl32768, nl40000, nl46000, nl64000, nl65536, nl78000, nl100000, nl128000, nl400000, nl730000, x1, zc_r, x3]
/-- the value of the word that was passed -/
theorem M_passed (h : pR c a d b N y g α s) (ha : 0 < a) : gX26_passed s = some (nI (c.vs (a - 1)), s) := by
  have am := h.am
  have a5 := h.a5
  have al := h.al
  have rv := h.mw.rv (a - 1) (by omega)
  unfold gX26_passed gX26_passed_22
  simp (disch := omega) only [gld, gst, glj, gsj, gpN0, gpN1, gl_x, gl_gi, pI_in', pI_clamp, pI_add, pI_mul, pI_sub, pI_succ, nmod_eq, pI_div, ni_neg, zn_neg, gnar0, gnar1, eq_self, ni_lt, ni_le, ni_eq, ni_zlt, ni_zle, ni_zeq, zn_lt, zn_le, zn_eq, zz_lt, zz_le, zz_eq, ni_zadd, zn_add, ni_zsub, zn_sub, ni_zmul, zn_mul, nZ_add, nZ_sub, nZ_mul, upd_same, upd_other, upd_upd, gl_bi, gl_mi, gl_bs, gl_ms, gl_bn, gl_mn, if_true, if_false, ↓reduceIte, not_true_eq_false, not_false_eq_true, true_and, and_true, false_and, and_false, and_self, or_false, false_or, or_self, or_true, true_or, Nat.not_lt_zero, Nat.reduceAdd, Nat.reduceMul, Nat.add_zero, Nat.zero_add, Nat.mul_zero, Nat.zero_mul, Nat.reduceEqDiff, Nat.reduceLT, Nat.reduceLeDiff, Nat.succ_ne_zero, ua_ua, us_us, tn_le, tn_nle, tn_lt, tn_nlt, tn_eq, tn_ne, tz_le, tz_nle, tz_lt, tz_nlt, tz_eq, tz_ne, ls_us, ls_uj, ls_ua, ls_ub, lj_us, lj_uj, lj_ua, lj_ub, la_us, la_uj, la_ua, la_ub, lb_us, lb_uj, lb_ua, lb_ub, nl0, nl1, nl2, nl3, nl4, nl5, nl6, nl7, nl8, nl9, nl10, nl11, nl12, nl13, nl14, nl15, nl16, nl17, nl18, nl19, nl20, nl21, nl22, nl23, nl24, nl25, nl26, nl27, nl28, nl29, nl30, nl31, nl32, nl33, nl34, nl35, nl36, nl37, nl38, nl39, nl40, nl41, nl42, nl43, nl44, nl45, nl46, nl47, nl48, nl49, nl50, nl51, nl52, nl53, nl54, nl55, nl56, nl57, nl58, nl59, nl60, nl61, nl62, nl63, nl64, nl65, nl66, nl67, nl68, nl69, nl70, nl71, nl72, nl73, nl74, nl75, nl76, nl77, nl78, nl79, nl80, nl82, nl83, nl84, nl85, nl86, nl88, nl90, nl96, nl97, nl99, nl100, nl101, nl104, nl112, nl115, nl120, nl121, nl122, nl126, nl127, nl128, nl160, nl200, nl201, nl202, nl255, nl256, nl300, nl320, nl322, nl400, nl500, nl600, nl640, nl732, nl968, nl999, nl1000, nl1001, nl1040, nl1440, nl1500, nl1501, nl1600, nl2000, nl2240, nl3131, nl4000, nl4095, nl4096, nl4960, nl5000, nl6000, nl6001, nl8000, nl9999, nl10000, nl10200, nl13520, nl14000, nl20000, nl32768, nl40000, nl46000, nl64000, nl65536, nl78000, nl100000, nl128000, nl400000, nl730000, am, rv]
/-! nodes -/
theorem M_make (hN : ls s 8 = nI N) (h8 : N < 8000) : gX26_make kv v v' s = some (nI N, mMk s N kv v v') := by
  have h3 : (8000 : Nat) < 2 ^ 31 := by decide
  unfold gX26_make
  rw [gl_x, gl_x, gl_x, hN, pI_succ, pgst h8 h3, gl_bs, pgst h8 h3, gl_bs, pgst h8 h3, gl_bs, pgst h8 h3, gl_bs, pgst h8 h3, gl_bs, pgst h8 h3, gl_bs, pgst h8 h3, gl_bs, pgst h8 h3, gl_bs]
  rfl
theorem mMk_la {j : Nat} (h1 : 9 ≤ j) (h2 : j ≤ 16) : ∀ i, la (mMk s N kv v v') j i = if i = N then (if j = 9 then kv else if j = 10 then v else if j = 11 then v' else nI 0) else la s j i := fun i => by
  have : j = 9 ∨ j = 10 ∨ j = 11 ∨ j = 12 ∨ j = 13 ∨ j = 14 ∨ j = 15 ∨ j = 16 := by omega
  rcases this with rfl | rfl | rfl | rfl | rfl | rfl | rfl | rfl <;> rfl
theorem mKp.mk0 (h : mKp c s) (hN : c.N0 ≤ N) : mKp c (mMk s N kv v v') := by
  refine mKp.mk (fun k hk => ?_) (fun k t k1 k2 ht => ?_) (fun k hk => ?_)
  · show ls (us s 8 (nI (N + 1))) k = _
    rw [ls_us, if_neg (by omega)]; exact h.I k hk
  · rw [mMk_la k1 k2, if_neg (by omega)]; exact h.A k t k1 k2 ht
  · unfold mMk
    rw [la_ua, if_neg (by omega), la_ua, if_neg (by omega), la_ua, if_neg (by omega), la_ua, if_neg (by omega), la_ua, if_neg (by omega), la_ua, if_neg (by omega), la_ua, if_neg (by omega), la_ua, if_neg (by omega)]
    exact h.B k hk
/-- a cell for a node -/
theorem pR.cell (h : pR c a d b N y g α s) : pR c a d (b + 1) N y g (zmk α 45 0 9) s ∧ xNw c (zmk α 45 0 9) (zn α) := by
  have hp : c.p < zn α := by have := h.k.p; have := h.x.n; omega
  have e : (zmk α 45 0 9).2 c.p = α.2 c.p := zmk_ne hp
  have zcb := h.zcb
  have zwb := h.zwb
  refine ⟨pR.mk h.k (h.x.nw h.k (Nat.le_succ _) fun q hq => zup_ne ?_) h.m ?_ ?_ h.am h.nm h.bm h.Nm h.al h.a0 h.nl h.N0 (by have := h.Nb; omega) ?_ ?_ h.yN (h.g.fr (fun _ _ _ _ _ _ => rfl) (fun t h1 h2 => ?_) (Nat.le_succ _)), xNw.mk rfl h.x.n ?_ (fun k => ?_) (fun k => ?_)⟩
  · have := h.x.n
    rcases hq with z | z
    · omega
    · have : zn α + 1 ≤ q := z
      omega
  · rw [zI_eq e]; exact h.ax
  · rw [zI_eq e]; exact h.nx
  · show zc α + 1 + _ ≤ _; omega
  · show zw α + 9 + _ ≤ _; omega
  · have := (h.g.nd t h1 h2).hi
    exact ⟨zmk_ne (by omega), zmk_ne (by omega)⟩
  · rw [zkd_zmk, if_pos rfl]
  · rw [zI_mk, if_pos rfl]; rfl
  · rw [zA_mk, if_pos rfl]
theorem xNw.adv (h : xNw c α q) (o : pOk c) : xNw c (xaS c α a) q := by
  have := o.p
  have e : (xaS c α a).2 q = α.2 q := zwI_ne (by have := h.lo; omega)
  exact xNw.mk h.n h.lo (by rw [zkd_eq e]; exact h.kd) (fun k => by rw [zI_eq e]; exact h.I k) (fun k => by rw [zA_eq e]; exact h.A k)
/-- X's constructor of nodes -/
theorem X_init (h : xNw c α q) : ∃ β, hX43_init G (some q) kv v v' α = some ((), β) ∧ zkd β q = 45 ∧ zA β 44 8 q = some (q + 1) ∧ zkd β (q + 1) = 3 ∧ zL β (q + 1) = [] ∧ zI β 44 0 q = kv ∧ zI β 44 1 q = v ∧ zI β 44 5 q = v' ∧ zI β 44 2 q = nI 0 ∧ (∀ a, a ≠ q → a ≠ q + 1 → β.2 a = α.2 a) ∧ zn β = q + 3 ∧ zc β = zc α + 2 ∧ zw β = zw α + 5 := by
  have n := h.n
  have kd := h.kd
  have A2 : zkd (zmk α 2003 0 3) (q + 1) = 2003 := by rw [zkd_zmk, if_pos n.symm]
  have A1 : zkd (zmk α 2003 0 3) q = 45 := by rw [zkd_eq (zmk_ne (by omega))]; exact kd
  have zl : zLiI (zmk α 2003 0 3) (some (q + 1)) 2 = some ((), zraw (zmk α 2003 0 3) (q + 1) 3 (q + 2) 2 1 1 2 [] []) := by
    unfold zLiI
    simp only [A2]
    have : zn (zmk α 2003 0 3) = q + 2 := by show zn α + 1 = _; omega
    rw [this]
    rfl
  have B1 : zkd (zraw (zmk α 2003 0 3) (q + 1) 3 (q + 2) 2 1 1 2 [] []) q = 45 := by rw [zkd_raw, if_neg (by omega)]; exact A1
  refine ⟨zwI (zwI (zwI (zwA (zraw (zmk α 2003 0 3) (q + 1) 3 (q + 2) 2 1 1 2 [] []) 44 8 q (some (q + 1))) 44 0 q kv) 44 1 q v) 44 5 q v', ?_, ?_, ?_, ?_, ?_, ?_, ?_, ?_, ?_, ?_, ?_, ?_, ?_⟩
  · unfold hX43_init
    rw [if_neg (by simp)]
    show ((zLiI (zmk α 2003 0 3) (some (zn α)) 2).bind _) = _
    rw [n, zl, gl_bs]
    show ((zpA _ (some q) 44 8 (some (q + 1))).bind _) = _
    rw [kpA B1, gl_bs, kpI (by rw [zkd_zwA]; exact B1), gl_bs, kpI (by rw [zkd_zwI, zkd_zwA]; exact B1), gl_bs, kpI (by rw [zkd_zwI, zkd_zwI, zkd_zwA]; exact B1), gl_bs]
  · simp only [zkd_zwI, zkd_zwA]; exact B1
  · simp only [zA_zwI]; rw [zA_zwA, if_pos ⟨rfl, rfl, rfl⟩]
  · simp only [zkd_zwI, zkd_zwA]; rw [zkd_raw, if_pos rfl]
  · simp only [zL_zwI, zL_zwA]; rw [zL_raw, if_pos rfl]
  · rw [zI_zwI, if_neg (by omega), zI_zwI, if_neg (by omega), zI_zwI, if_pos ⟨rfl, rfl, rfl⟩]
  · rw [zI_zwI, if_neg (by omega), zI_zwI, if_pos ⟨rfl, rfl, rfl⟩]
  · rw [zI_zwI, if_pos ⟨rfl, rfl, rfl⟩]
  · rw [zI_zwI, if_neg (by omega), zI_zwI, if_neg (by omega), zI_zwI, if_neg (by omega), zI_zwA, zI_raw, zI_mk, if_neg (by omega)]
    exact h.I 2
  · intro x h1 h2
    rw [zwI_ne h1, zwI_ne h1, zwI_ne h1, zwA_ne h1, zraw_ne h2]
    exact zup_ne (by omega)
  · show zn α + 1 + 1 = _; omega
  · show zc α + 1 + 1 = _; omega
  · show zw α + 3 + 2 = _; omega
theorem init_fr (hq : xNw c α q) (hx : hX43_init G (some q) kv v v' α = some ((), β)) : (∀ x, x ≠ q → x ≠ q + 1 → β.2 x = α.2 x) ∧ zn β = q + 3 := by
  obtain ⟨γ, x1, x2, x3, x4, x5, x6, x7, x8, x9, x10, x11, x12, x13⟩ := X_init (G := G) (kv := kv) (v := v) (v' := v') hq
  rw [x1] at hx
  have e : γ = β := (Prod.mk.inj (Option.some.inj hx)).2
  rw [← e]
  exact ⟨x10, x11⟩
/-- both sides make a node (not of kind 53) -/
theorem pR.new (h : pR c a d b N y g α s) (hq : xNw c α q) (hk : kv ≠ nI 53) : ∃ β, hX43_init G (some q) kv v v' α = some ((), β) ∧ pR c a d (b + 1) (N + 1) y (g.push N q r) β (mMk s N kv v v') := by
  obtain ⟨β, x1, x2, x3, x4, x5, x6, x7, x8, x9, x10, x11, x12, x13⟩ := X_init (G := G) (kv := kv) (v := v) (v' := v') hq
  have lo := hq.lo
  have n := hq.n
  have hp := h.k.p
  have ep : β.2 c.p = α.2 c.p := x10 _ (by omega) (by omega)
  have zcb := h.zcb
  have zwb := h.zwb
  have Nb := h.Nb
  have yN := h.yN
  have la0 := fun j (h1 : 9 ≤ j) (h2 : j ≤ 16) i => mMk_la (s := s) (N := N) (kv := kv) (v := v) (v' := v') h1 h2 i
  refine ⟨β, x1, pR.mk h.k (h.x.nw h.k (by omega) fun x hx => x10 x (by omega) (by omega)) (h.m.mk0 h.N0) ?_ ?_ h.am h.nm h.bm rfl h.al h.a0 h.nl (by have := h.N0; omega) (by omega) (by omega) (by omega) (by omega) ?_⟩
  · rw [zI_eq ep]; exact h.ax
  · rw [zI_eq ep]; exact h.nx
  · refine h.g.push (s' := mMk s N kv v v') h.N0 (by omega) lo (by omega) (fun k t h1 h2 h3 h4 => ?_) (fun t h1 h2 => ?_) (by omega) x2 x3 x4 x5 ?_ ?_ ?_ (.inr ⟨?_, ?_⟩) ?_ ?_
    · rw [la0 k h1 h2, if_neg (by omega)]
    · have := (h.g.nd t h1 h2).hi
      exact ⟨x10 _ (by omega) (by omega), x10 _ (by omega) (by omega)⟩
    · rw [x6, la0 9 (by decide) (by decide), if_pos rfl, if_pos rfl]
    · rw [x7, la0 10 (by decide) (by decide), if_pos rfl]; rfl
    · rw [x8, la0 11 (by decide) (by decide), if_pos rfl]; rfl
    · rw [la0 9 (by decide) (by decide), if_pos rfl, if_pos rfl]; exact hk
    · rw [x9, la0 12 (by decide) (by decide), if_pos rfl]; rfl
    · rw [la0 13 (by decide) (by decide), if_pos rfl]; rfl
    · rw [la0 14 (by decide) (by decide), if_pos rfl]; rfl
/-- the new node is loose -/
theorem mMk_16 : la (mMk s N kv v v') 16 N = nI 0 := by rw [mMk_la (by decide) (by decide), if_pos rfl]; rfl
/-! links -/
/-- M's attach as a store -/
def mAtS (s : zM) (to : Nat) (l : List Nat) (t : Nat) : zM :=
  let s1 := ua (ua s 16 (upd (la s 16) t (nI to))) 15 (upd (la s 15) t (nI 0))
  let s2 := if l = [] then ua s1 13 (upd (la s 13) to (nI t)) else ua s1 15 (upd (la s1 15) (l.getLastD 0) (nI t))
  ua s2 14 (upd (la s 14) to (nI t))
theorem mAtS_at {l : List Nat} : mAt s to l t (mAtS s to l t) := by
  unfold mAtS
  by_cases e : l = []
  · simp only [if_pos e]
    refine mAt.mk (fun k k1 k2 => ?_) ?_ rfl ?_ rfl
    · rw [la_ua, if_neg (by omega), la_ua, if_neg (by omega), la_ua, if_neg (by omega), la_ua, if_neg (by omega)]
    · rw [if_pos e]; rfl
    · rw [if_pos e]; rfl
  · simp only [if_neg e]
    refine mAt.mk (fun k k1 k2 => ?_) ?_ rfl ?_ rfl
    · rw [la_ua, if_neg (by omega), la_ua, if_neg (by omega), la_ua, if_neg (by omega), la_ua, if_neg (by omega)]
    · rw [if_neg e]; rfl
    · rw [if_neg e]; rfl
theorem mAtS_ls {l : List Nat} : ls (mAtS s to l t) k = ls s k := by
  unfold mAtS
  by_cases e : l = []
  · simp only [if_pos e]; rfl
  · simp only [if_neg e]; rfl
theorem mAtS_la {l : List Nat} (hk : ¬ (13 ≤ k ∧ k ≤ 16)) : la (mAtS s to l t) k = la s k := by
  unfold mAtS
  by_cases e : l = []
  · simp only [if_pos e]
    rw [la_ua, if_neg (by omega), la_ua, if_neg (by omega), la_ua, if_neg (by omega), la_ua, if_neg (by omega)]
  · simp only [if_neg e]
    rw [la_ua, if_neg (by omega), la_ua, if_neg (by omega), la_ua, if_neg (by omega), la_ua, if_neg (by omega)]
/-- it touches the rows of these nodes alone -/
theorem mAtS_old {l : List Nat} {i : Nat} (h1 : i ≠ to) (h2 : i ≠ t) (h3 : l ≠ [] → i ≠ l.getLastD 0) : la (mAtS s to l t) k i = la s k i := by
  by_cases hk : 13 ≤ k ∧ k ≤ 16
  · have A := mAtS_at (s := s) (to := to) (t := t) (l := l)
    have : k = 13 ∨ k = 14 ∨ k = 15 ∨ k = 16 := by omega
    rcases this with rfl | rfl | rfl | rfl
    · rw [A.r13]
      split
      · exact upd_other h1
      · rfl
    · rw [A.r14]; exact upd_other h1
    · rw [A.r15]
      split
      · exact upd_other h2
      · rename_i z
        rw [upd_other (h3 z), upd_other h2]
    · rw [A.r16]; exact upd_other h2
  · rw [mAtS_la hk]
theorem mAtS_pd {l : List Nat} {x : Nat} (z : pPd s x) : pPd (mAtS s to l t) x := by
  obtain ⟨k, i, e1, e2, e3, e4, e5⟩ := z
  exact ⟨k, i, by rw [mAtS_ls]; exact e1, e2, e3, by rw [mAtS_la (by decide)]; exact e4, by rw [mAtS_la (by decide)]; exact e5⟩
theorem M_attach (h : pR c a d b N y g α s) (hN : N ≤ 8000) (h1 : c.N0 ≤ to) (h2 : to < N) (h3 : t < N) : gX26_attach (nI to) (nI t) s = some ((), mAtS s to (g.ch to) t) := by
  have o := h.g.nd to h1 h2
  have hd := o.hd
  have lt := o.lt
  have N1 := h.k.N1
  unfold gX26_attach gX26_attach_45 mAtS
  rw [pgst (by omega) (by omega), gl_bs, pgst (by omega) (by omega), gl_bs, pgld (by omega) (by omega), gl_bs]
  by_cases e : g.ch to = []
  · rw [e] at hd
    have hd' : la s 13 to = nI 0 := hd
    rw [if_neg (fun z => z (by show la s 13 to = 0; rw [hd']; rfl)), pgst (by omega) (by omega), gl_bs, pgst (by omega) (by omega), gl_bs]
    simp only [if_pos e]
    rfl
  · have m1 := o.mem _ (last_mem e)
    have m2 := o.mem ((g.ch to).headD 0) (by cases h : g.ch to with
      | nil => exact absurd h e
      | cons p l => simp)
    have l1 := m1.2.1
    have l2 := m2.1
    have l3 := m2.2.1
    rw [if_pos (by show ¬ la s 13 to = 0; rw [hd, nl0, pI_inj (by omega) (by omega)]; omega), pgld (by omega) (by omega), gl_bs]
    show ((gst _ 15 8000 (la s 14 to) (nI t)).bind _) = _
    rw [lt, pgst (by omega) (by omega), gl_bs, pgst (by omega) (by omega), gl_bs]
    simp only [if_neg e]
    rfl
theorem X_addN (h : pR c a d b N y g α s) (h1 : c.N0 ≤ to) (h2 : to < N) (h3 : c.N0 ≤ t) (h4 : t < N) (hN : N ≤ 8000) : ∃ β, hX43_add G (some (g.oa to)) (some (g.oa t)) α = some (some (g.oa t), β) ∧ xAt α (g.oa to) (g.oa t) β ∧ zn β ≤ zn α + 1 ∧ zc β = zc α + 1 ∧ zw β = zw α + 7 := by
  have o := h.g.nd to h1 h2
  have o' := h.g.nd t h3 h4
  have kn := o.kn
  have kl := o.kl
  have kn' := o'.kn
  have ln : (zL α (g.oa to + 1)).length < 1000000 := by
    rw [o.ls, List.length_map]
    have := List.length_filter_le (fun u => decide (u ≠ y)) (g.ch to)
    have := o.len
    omega
  obtain ⟨γ, z1, z2, z3, z4, z5, z6, z7, z8⟩ := zLadd_at (x := some (g.oa t)) kl ln
  have ne : g.oa t ≠ g.oa to + 1 := fun z => by rw [z, kl] at kn'; omega
  have kγ : ∀ x, zkd γ x = zkd α x := fun x => by
    by_cases e : x = g.oa to + 1
    · rw [e, z2, kl]
    · rw [zkd_eq (z4 _ e)]
  refine ⟨zwA γ 44 6 (g.oa t) (some (g.oa to)), ?_, xAt.mk ?_ ?_ (fun x => ?_) (fun e k => ?_) (fun e k hk => ?_) (fun x hx => ?_) (fun x hx hx' => ?_) z5, z6, z7, z8⟩
  · unfold hX43_add
    rw [kfA kn, o.fl, gl_bs, z1, gl_bs, kpA (by rw [kγ]; exact kn'), gl_bs]
  · rw [zL_zwA]; exact z3
  · rw [zA_zwA, if_pos ⟨rfl, rfl, rfl⟩]
  · rw [zkd_zwA]; exact kγ x
  · rw [zI_zwA, zI_eq (z4 _ ne)]
  · rw [zA_zwA, if_neg (fun z => hk ⟨z.1, z.2.1⟩), zA_eq (z4 _ ne)]
  · rw [zL_zwA, zL_eq (z4 _ hx)]
  · rw [zwA_ne hx', z4 _ hx]
/-- a node is laid below another, on both sides -/
theorem pR.add (h : pR c a d b N y g α s) (hN : N ≤ 8000) (h1 : c.N0 ≤ to) (h2 : to < N) (h3 : c.N0 ≤ t) (h4 : t < N) (hr : g.r t < g.r to) (h0 : la s 16 t = nI 0) (hy : t ≠ y) : ∃ β, hX43_add G (some (g.oa to)) (some (g.oa t)) α = some (some (g.oa t), β) ∧ gX26_attach (nI to) (nI t) s = some ((), mAtS s to (g.ch to) t) ∧ pR c a d (b + 1) N y (g.add to t) β (mAtS s to (g.ch to) t) := by
  obtain ⟨β, x1, x2, x3, x4, x5⟩ := X_addN (G := G) h h1 h2 h3 h4 hN
  have lo := (h.old h1 h2)
  have lo' := (h.old h3 h4)
  have l1 := (h.g.nd to h1 h2).lo
  have l2 := (h.g.nd t h3 h4).lo
  have hi1 := (h.g.nd to h1 h2).hi
  have hi2 := (h.g.nd t h3 h4).hi
  have zcb := h.zcb
  have zwb := h.zwb
  have n := x2.n
  have ep : β.2 c.p = α.2 c.p := x2.fr _ (fun z => lo.2.2 z.symm) (fun z => lo'.2.1 z.symm)
  refine ⟨β, x1, M_attach h hN h1 h2 h4, pR.mk h.k (h.x.nw h.k n fun x hx => x2.fr x (by omega) (by omega)) (mKp.mk (fun k hk => ?_) (fun k i k1 k2 hi => ?_) (fun k hk => ?_)) ?_ ?_ ?_ ?_ ?_ ?_ h.al h.a0 h.nl h.N0 (by have := h.Nb; omega) (by omega) (by omega) h.yN (h.g.add h.k.N1 hN h1 h2 h3 h4 hr h0 mAtS_at (.inl ⟨hy, x2⟩) (fun _ z => mAtS_pd z))⟩
  · rw [mAtS_ls]; exact h.m.I k hk
  · rw [mAtS_old (by omega) (by omega) (fun e => by
      have := ((h.g.nd to h1 h2).mem _ (last_mem e)).1
      omega)]
    exact h.m.A k i k1 k2 hi
  · rw [mAtS_la (by omega)]; exact h.m.B k hk
  · rw [zI_eq ep]; exact h.ax
  · rw [zI_eq ep]; exact h.nx
  · rw [mAtS_ls]; exact h.am
  · intro z; rw [mAtS_ls]; exact h.nm z
  · rw [mAtS_ls]; exact h.bm
  · rw [mAtS_ls]; exact h.Nm
/-- M lays a node below another; X will do so later -/
theorem pR.pend (h : pR c a d b N 0 g α s) (hN : N ≤ 8000) (h1 : c.N0 ≤ to) (h2 : to < N) (h3 : c.N0 ≤ t) (h4 : t < N) (hr : g.r t < g.r to) (h0 : la s 16 t = nI 0) : gX26_attach (nI to) (nI t) s = some ((), mAtS s to (g.ch to) t) ∧ pR c a d b N t (g.add to t) α (mAtS s to (g.ch to) t) := by
  -- as nothing lies below under t's name, the relation holds with t waiting
  have nl : ∀ w, c.N0 ≤ w → w < N → t ∉ g.ch w := fun w w1 w2 => h.g.loose h.k.N1 hN h0 w1 w2
  have n0 : ∀ w, c.N0 ≤ w → w < N → (0 : Nat) ∉ g.ch w := fun w w1 w2 z => by
    have := ((h.g.nd w w1 w2).mem 0 z).1
    have := h.k.N1
    omega
  have fl : ∀ (l : List Nat) (z : Nat), z ∉ l → l.filter (fun u => decide (u ≠ z)) = l := fun l z hz => List.filter_eq_self.mpr (fun u hu => decide_eq_true (fun e => hz (e ▸ hu)))
  have hg : pgO c N g α s t := pgO.mk (fun w w1 w2 => by
    have o := h.g.nd w w1 w2
    refine nOk.mk o.lo o.hi o.kn o.fl o.kl o.kd o.vl o.wd o.ex ?_ o.nd (fun u hu => ?_) o.hd o.lt o.nx
    · rw [o.ls, fl _ 0 (n0 w w1 w2), fl _ t (nl w w1 w2)]
    · obtain ⟨u1, u2, u3, u4, u5⟩ := o.mem u hu
      exact ⟨u1, u2, u3, fun _ => u4 (fun z => n0 w w1 w2 (z ▸ hu)), u5⟩) h.g.inj
  refine ⟨M_attach h hN h1 h2 h4, pR.mk h.k h.x (mKp.mk (fun k hk => ?_) (fun k i k1 k2 hi => ?_) (fun k hk => ?_)) h.ax h.nx ?_ ?_ ?_ ?_ h.al h.a0 h.nl h.N0 h.Nb h.zcb h.zwb h4 (hg.add h.k.N1 hN h1 h2 h3 h4 hr h0 mAtS_at (.inr ⟨rfl, rfl⟩) (fun _ z => mAtS_pd z))⟩
  · rw [mAtS_ls]; exact h.m.I k hk
  · rw [mAtS_old (by omega) (by omega) (fun e => by
      have := ((h.g.nd to h1 h2).mem _ (last_mem e)).1
      omega)]
    exact h.m.A k i k1 k2 hi
  · rw [mAtS_la (by omega)]; exact h.m.B k hk
  · rw [mAtS_ls]; exact h.am
  · intro z; rw [mAtS_ls]; exact h.nm z
  · rw [mAtS_ls]; exact h.bm
  · rw [mAtS_ls]; exact h.Nm
end PAD
