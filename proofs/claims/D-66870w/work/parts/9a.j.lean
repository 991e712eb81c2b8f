/-! THE PURE LAYER: the parser: sums, X's four methods by descent. -/
def mWk (F : Nat) (o : gF (Int32 ⊕ Int32)) : gF Int32 := match o with
  | some (.inl t, s) => mW F t s
  | some (.inr r, s) => some (r, s)
  | none => none
/-- a bracket is opened in M's rows -/
def mCx (s : zM) (k : Nat) : zM := us (ua (ua s 51 (upd (la s 51) k (nI 0))) 53 (upd (la s 53) k (nI 0))) 49 (nI (k + 1))
def cU (c : pC) (G : xQ) (f : Nat) : Prop := ∀ (a d b N : Nat) (g : pG) (α : zS) (s : zM) (k F : Nat), pR c a d b N 0 g α s → pB c b a 20 → ls s 49 = nI (k + 1) → k ≤ d → c.n - a + 5 ≤ F → 5 * (40 - d) + 1 ≤ f → sG c a d b N g α s F ((rrX4_both G f).2.2.2 (some c.p) α) (mW F (nI 0) s) (fun F1' F' a' t s' => mW F (nI 0) s = mV F1' F' (nI t) s' ∧ pT (k + 1) s s' ∧ xLim + a + 1 ≤ F1' + a')
def cP (c : pC) (G : xQ) (f : Nat) : Prop := ∀ (a d b N : Nat) (g : pG) (α : zS) (s : zM) (k F : Nat), pR c a d b N 0 g α s → pB c b a 20 → ls s 49 = nI (k + 1) → k ≤ d → c.n - a + 5 ≤ F → 5 * (40 - d) + 3 ≤ f → la s 53 k = nI 0 → sG c a d b N g α s F ((rrX4_both G f).2.1 (some c.p) α) (mW F (nI 0) s) (fun F1' F' a' t s' => mW F (nI 0) s = mKf F1' F' (gX26_behindUnit_82 (nI k) (nI (wG c a')) s') ∧ wG c a' ≤ 6 ∧ la s' 52 k = nI t ∧ la s' 53 k = nI 0 ∧ pT k s s' ∧ la s' 50 k = la s 50 k ∧ la s' 51 k = la s 51 k)
def cS (c : pC) (G : xQ) (f : Nat) : Prop := ∀ (a d b N : Nat) (g : pG) (α : zS) (s : zM) (k F : Nat), pR c a d b N 0 g α s → pB c b a 20 → ls s 49 = nI (k + 1) → k ≤ d → c.n - a + 5 ≤ F → 5 * (40 - d) + 5 ≤ f → la s 53 k = nI 0 → la s 51 k = nI 0 → sG c a d b N g α s F ((rrX4_both G f).2.2.1 (some c.p) α) (mW F (nI 0) s) (fun F1' F' _ t s' => mW F (nI 0) s = mKf F1' F' (mSe (nI k) s') ∧ la s' 50 k = nI t ∧ pT k s s')
section PAJ
variable {c : pC} {G : xQ} {α β γ αs : zS} {s s' s2 ss : zM} {a a1 a' d b b' N N' N2 Ns as bs k t t2 u w wh q r F F1 F' sg f y : Nat} {g g' g2 gs : pG} {v v' kv : Int32} {l ts : List Nat}
theorem mW_s : mW (F + 1) v s = mWk F (gX26_sum_11b v s) := by
  unfold mW mWk
  rcases h : gX26_sum_11b v s with _ | ⟨_ | _, _⟩
  · simp only [gloop, h]
  · simp only [gloop, h]
    rfl
  · simp only [gloop, h]
theorem mW_op (h : gX26_sum_11b (nI 0) s = gX26_sum_117 s) (ho : gX26_operand s = some (v, s')) : mW (F + 1) (nI 0) s = mV xLim F v s' := by
  rw [mW_s, h]
  unfold gX26_sum_117 mV mWk
  rw [ho, gl_bs]
  show (match (gloop (fun (a : (Int32)) s => gX26_behindUnit_2b a s) xLim v s').bind (fun p2 => some (Sum.inl p2.1, p2.2)) with | some (.inl t, s) => mW F t s | some (.inr r, s) => some (r, s) | none => none) = _
  rcases gloop (fun (a : (Int32)) s => gX26_behindUnit_2b a s) xLim v s' with _ | ⟨_, _⟩
  · rfl
  · rfl
theorem X_deep (h : pR c a d b N y g α s) (hd : d < 40) : hX4_deeper G (some c.p) α = some (.inl (), zwI α 40 4 c.p (nI (d + 1))) := by
  have kp := h.kp
  have nx := h.nx
  unfold hX4_deeper hX4_deeper_18
  simp (disch := omega) only [gld, gst, glj, gsj, gpN0, gpN1, gl_x, gl_gi, pI_in', pI_clamp, pI_add, pI_mul, pI_sub, pI_succ, nmod_eq, pI_div, ni_neg, zn_neg, gnar0, gnar1, eq_self, ni_lt, ni_le, ni_eq, ni_zlt, ni_zle, ni_zeq, zn_lt, zn_le, zn_eq, zz_lt, zz_le, zz_eq, ni_zadd, zn_add, ni_zsub, zn_sub, ni_zmul, zn_mul, nZ_add, nZ_sub, nZ_mul, upd_same, upd_other, upd_upd, gl_bi, gl_mi, gl_bs, gl_ms, gl_bn, gl_mn, if_true, if_false, ↓reduceIte, not_true_eq_false, not_false_eq_true, true_and, and_true, false_and, and_false, and_self, or_false, false_or, or_self, or_true, true_or, Nat.not_lt_zero, Nat.reduceAdd, Nat.reduceMul, Nat.add_zero, Nat.zero_add, Nat.mul_zero, Nat.zero_mul, Nat.reduceEqDiff, Nat.reduceLT, Nat.reduceLeDiff, Nat.succ_ne_zero, ua_ua, us_us, tn_le, tn_nle, tn_lt, tn_nlt, tn_eq, tn_ne, tz_le, tz_nle, tz_lt, tz_nlt, tz_eq, tz_ne, kfI, kfJ, kfA, kpI, kpA, kis, kal, kald, kcald, kaald, Option.some.injEq, ls_us, ls_uj, ls_ua, ls_ub, lj_us, lj_uj, lj_ua, lj_ub, la_us, la_uj, la_ua, la_ub, lb_us, lb_uj, lb_ua, lb_ub, nl0, nl1, nl2, nl3, nl4, nl5, nl6, nl7, nl8, nl9, nl10, nl11, nl12, nl13, nl14, nl15, nl16, nl17, nl18, nl19, nl20, nl21, nl22, nl23, nl24, nl25, nl26, nl27, nl28, nl29, nl30, nl31, nl32, nl33, nl34, nl35, nl36, nl37, nl38, nl39, nl40, nl41, nl42, nl43, nl44, nl45, nl46, nl47, nl48, nl49, nl50, nl51, nl52, nl53, nl54, nl55, nl56, nl57, nl58, nl59, nl60, nl61, nl62, nl63, nl64, nl65, nl66, nl67, nl68, nl69, nl70, nl71, nl72, nl73, nl74, nl75, nl76, nl77, nl78, nl79, nl80, nl82, nl83, nl84, nl85, nl86, nl88, nl90, nl96, nl97, nl99, nl100, nl101, nl104, nl112, nl115, nl120, nl121, nl122, nl126, nl127, nl128, nl160, nl200, nl201, nl202, nl255, nl256, nl300, nl320, nl322, nl400, nl500, nl600, nl640, nl732, nl968, nl999, nl1000, nl1001, nl1040, nl1440, nl1500, nl1501, nl1600, nl2000, nl2240, nl3131, nl4000, nl4095, nl4096, nl4960, nl5000, nl6000, nl6001, nl8000, nl9999, nl10000, nl10200, nl13520, nl14000, nl20000, nl32768, nl40000, nl46000, nl64000, nl65536, nl78000, nl100000, nl128000, nl400000, nl730000, nx]
theorem X_deep40 (h : pR c a 40 b N y g α s) (hb : pB c b a 0) : ∃ e β s' v, hX4_deeper G (some c.p) α = some (.inr e, β) ∧ zthr β e 3 = true ∧ gX26_fail (nI 3) (nI a) s = some (nI 0, s') ∧ pE c 3 v β s' ∧ pPl s s' ∧ (∀ k, ¬ (k = 5 ∨ k = 42 ∨ k = 43) → ls s' k = ls s k) ∧ (∀ k, ¬ (k = 6 ∨ k = 7) → la s' k = la s k) := by
  have kp := h.kp
  have ax := h.ax
  have nx := h.nx
  obtain ⟨e, β, s', x1, x2, x3, x4⟩ := h.fail (G := G) (wh := 3) hb h.al h.a0 (by omega) (.inr rfl)
  obtain ⟨F, f1, f2⟩ := h.k.fm
  have f3 : ls s 5 = nI F := by rw [h.m.I 5 (by decide)]; exact f1
  rw [M_fail h.bm f3 f2] at x3
  have es : s' = mFl s F 3 a := (Prod.mk.inj (Option.some.inj x3)).2.symm
  subst es
  refine ⟨e, β, _, a, ?_, x2, M_fail h.bm f3 f2, x4, mFl_pl, fun k hk => ?_, fun k hk => ?_⟩
  · unfold hX4_deeper hX4_deeper_18
    simp (disch := omega) only [gld, gst, glj, gsj, gpN0, gpN1, gl_x, gl_gi, pI_in', pI_clamp, pI_add, pI_mul, pI_sub, pI_succ, nmod_eq, pI_div, ni_neg, zn_neg, gnar0, gnar1, eq_self, ni_lt, ni_le, ni_eq, ni_zlt, ni_zle, ni_zeq, zn_lt, zn_le, zn_eq, zz_lt, zz_le, zz_eq, ni_zadd, zn_add, ni_zsub, zn_sub, ni_zmul, zn_mul, nZ_add, nZ_sub, nZ_mul, upd_same, upd_other, upd_upd, gl_bi, gl_mi, gl_bs, gl_ms, gl_bn, gl_mn, if_true, if_false, ↓reduceIte, not_true_eq_false, not_false_eq_true, true_and, and_true, false_and, and_false, and_self, or_false, false_or, or_self, or_true, true_or, Nat.not_lt_zero, Nat.reduceAdd, Nat.reduceMul, Nat.add_zero, Nat.zero_add, Nat.mul_zero, Nat.zero_mul, Nat.reduceEqDiff, Nat.reduceLT, Nat.reduceLeDiff, Nat.succ_ne_zero, ua_ua, us_us, tn_le, tn_nle, tn_lt, tn_nlt, tn_eq, tn_ne, tz_le, tz_nle, tz_lt, tz_nlt, tz_eq, tz_ne, kfI, kfJ, kfA, kpI, kpA, kis, kal, kald, kcald, kaald, Option.some.injEq, ls_us, ls_uj, ls_ua, ls_ub, lj_us, lj_uj, lj_ua, lj_ub, la_us, la_uj, la_ua, la_ub, lb_us, lb_uj, lb_ua, lb_ub, nl0, nl1, nl2, nl3, nl4, nl5, nl6, nl7, nl8, nl9, nl10, nl11, nl12, nl13, nl14, nl15, nl16, nl17, nl18, nl19, nl20, nl21, nl22, nl23, nl24, nl25, nl26, nl27, nl28, nl29, nl30, nl31, nl32, nl33, nl34, nl35, nl36, nl37, nl38, nl39, nl40, nl41, nl42, nl43, nl44, nl45, nl46, nl47, nl48, nl49, nl50, nl51, nl52, nl53, nl54, nl55, nl56, nl57, nl58, nl59, nl60, nl61, nl62, nl63, nl64, nl65, nl66, nl67, nl68, nl69, nl70, nl71, nl72, nl73, nl74, nl75, nl76, nl77, nl78, nl79, nl80, nl82, nl83, nl84, nl85, nl86, nl88, nl90, nl96, nl97, nl99, nl100, nl101, nl104, nl112, nl115, nl120, nl121, nl122, nl126, nl127, nl128, nl160, nl200, nl201, nl202, nl255, nl256, nl300, nl320, nl322, nl400, nl500, nl600, nl640, nl732, nl968, nl999, nl1000, nl1001, nl1040, nl1440, nl1500, nl1501, nl1600, nl2000, nl2240, nl3131, nl4000, nl4095, nl4096, nl4960, nl5000, nl6000, nl6001, nl8000, nl9999, nl10000, nl10200, nl13520, nl14000, nl20000, nl32768, nl40000, nl46000, nl64000, nl65536, nl78000, nl100000, nl128000, nl400000, nl730000, nx, ax, x1, zc_r, x2]
  · unfold mFl
    rw [ls_us, if_neg (by omega), ls_us, if_neg (by omega), ls_us, if_neg (by omega)]
    rfl
  · unfold mFl
    rw [la_us, la_us, la_us, la_ua, if_neg (by omega), la_ua, if_neg (by omega)]
theorem M_cx (h : ls s 49 = nI k) (hk : k < 60) : gX26_context s = some ((), mCx s k) := by
  unfold gX26_context mCx
  rw [gl_x, h, pgst (by omega) (by decide), gl_bs]
  show (xlet (ls s 49) _) = _
  rw [gl_x, h, pgst (by omega) (by decide), gl_bs]
  show (xlet (ls s 49) _) = _
  rw [gl_x, h, gl_x, pI_succ]
  rfl
theorem mCx_row {i j : Nat} (hj : j ≠ k) : la (mCx s k) i j = la s i j := by
  unfold mCx
  rw [la_us, la_ua]
  split
  · rename_i e; rw [e, upd_other hj]
  · rw [la_ua]
    split
    · rename_i e; rw [e, upd_other hj]
    · rfl
/-- a bracket's end -/
theorem X_close1 (h : pR c a d b N y g α s) (hd : 0 < d) (hw : wS c a 1 = true) : hX4_close G (some c.p) α = some (.inl (), zwI (xaS c α a) 40 4 c.p (nI (d - 1))) := by
  have kp := h.kp
  have ax := h.ax
  have nx := h.nx
  have nl := h.nl
  have a5 := h.a5
  have h1 := h.adv (wS_i hw).1
  have kp1 := h1.kp
  have nx1 := h1.nx
  unfold xaS at kp1 nx1
  unfold hX4_close xaS
  simp (disch := omega) only [gld, gst, glj, gsj, gpN0, gpN1, gl_x, gl_gi, pI_in', pI_clamp, pI_add, pI_mul, pI_sub, pI_succ, nmod_eq, pI_div, ni_neg, zn_neg, gnar0, gnar1, eq_self, ni_lt, ni_le, ni_eq, ni_zlt, ni_zle, ni_zeq, zn_lt, zn_le, zn_eq, zz_lt, zz_le, zz_eq, ni_zadd, zn_add, ni_zsub, zn_sub, ni_zmul, zn_mul, nZ_add, nZ_sub, nZ_mul, upd_same, upd_other, upd_upd, gl_bi, gl_mi, gl_bs, gl_ms, gl_bn, gl_mn, if_true, if_false, ↓reduceIte, not_true_eq_false, not_false_eq_true, true_and, and_true, false_and, and_false, and_self, or_false, false_or, or_self, or_true, true_or, Nat.not_lt_zero, Nat.reduceAdd, Nat.reduceMul, Nat.add_zero, Nat.zero_add, Nat.mul_zero, Nat.zero_mul, Nat.reduceEqDiff, Nat.reduceLT, Nat.reduceLeDiff, Nat.succ_ne_zero, ua_ua, us_us, tn_le, tn_nle, tn_lt, tn_nlt, tn_eq, tn_ne, tz_le, tz_nle, tz_lt, tz_nlt, tz_eq, tz_ne, kfI, kfJ, kfA, kpI, kpA, kis, kal, kald, kcald, kaald, Option.some.injEq, ls_us, ls_uj, ls_ua, ls_ub, lj_us, lj_uj, lj_ua, lj_ub, la_us, la_uj, la_ua, la_ub, lb_us, lb_uj, lb_ua, lb_ub, nl0, nl1, nl2, nl3, nl4, nl5, nl6, nl7, nl8, nl9, nl10, nl11, nl12, nl13, nl14, nl15, nl16, nl17, nl18, nl19, nl20, nl21, nl22, nl23, nl24, nl25, nl26, nl27, nl28, nl29, nl30, nl31, nl32, nl33, nl34, nl35, nl36, nl37, nl38, nl39, nl40, nl41, nl42, nl43, nl44, nl45, nl46, nl47, nl48, nl49, nl50, nl51, nl52, nl53, nl54, nl55, nl56, nl57, nl58, nl59, nl60, nl61, nl62, nl63, nl64, nl65, nl66, nl67, nl68, nl69, nl70, nl71, nl72, nl73, nl74, nl75, nl76, nl77, nl78, nl79, nl80, nl82, nl83, nl84, nl85, nl86, nl88, nl90, nl96, nl97, nl99, nl100, nl101, nl104, nl112, nl115, nl120, nl121, nl122, nl126, nl127, nl128, nl160, nl200, nl201, nl202, nl255, nl256, nl300, nl320, nl322, nl400, nl500, nl600, nl640, nl732, nl968, nl999, nl1000, nl1001, nl1040, nl1440, nl1500, nl1501, nl1600, nl2000, nl2240, nl3131, nl4000, nl4095, nl4096, nl4960, nl5000, nl6000, nl6001, nl8000, nl9999, nl10000, nl10200, nl13520, nl14000, nl20000, nl32768, nl40000, nl46000, nl64000, nl65536, nl78000, nl100000, nl128000, nl400000, nl730000, ax, X_isS h.k h.xw, hw, b2n_t, X_must1, zc_l, nx1]
theorem X_close0 (h : pR c a d b N y g α s) (hb : pB c b a 0) (hw : wS c a 1 = false) : ∃ e β s' v, hX4_close G (some c.p) α = some (.inr e, β) ∧ zthr β e 3 = true ∧ gX26_fail (nI 1) (nI a) s = some (nI 0, s') ∧ pE c 1 v β s' ∧ pPl s s' := by
  have kp := h.kp
  have ax := h.ax
  have a5 := h.a5
  obtain ⟨q, β, s', v, x2, x3, m2, x4, x5⟩ := h.no' (G := G) hb
  refine ⟨q, β, s', v, ?_, x3, m2, x4, x5⟩
  unfold hX4_close
  simp (disch := omega) only [gld, gst, glj, gsj, gpN0, gpN1, gl_x, gl_gi, pI_in', pI_clamp, pI_add, pI_mul, pI_sub, pI_succ, nmod_eq, pI_div, ni_neg, zn_neg, gnar0, gnar1, eq_self, ni_lt, ni_le, ni_eq, ni_zlt, ni_zle, ni_zeq, zn_lt, zn_le, zn_eq, zz_lt, zz_le, zz_eq, ni_zadd, zn_add, ni_zsub, zn_sub, ni_zmul, zn_mul, nZ_add, nZ_sub, nZ_mul, upd_same, upd_other, upd_upd, gl_bi, gl_mi, gl_bs, gl_ms, gl_bn, gl_mn, if_true, if_false, ↓reduceIte, not_true_eq_false, not_false_eq_true, true_and, and_true, false_and, and_false, and_self, or_false, false_or, or_self, or_true, true_or, Nat.not_lt_zero, Nat.reduceAdd, Nat.reduceMul, Nat.add_zero, Nat.zero_add, Nat.mul_zero, Nat.zero_mul, Nat.reduceEqDiff, Nat.reduceLT, Nat.reduceLeDiff, Nat.succ_ne_zero, ua_ua, us_us, tn_le, tn_nle, tn_lt, tn_nlt, tn_eq, tn_ne, tz_le, tz_nle, tz_lt, tz_nlt, tz_eq, tz_ne, kfI, kfJ, kfA, kpI, kpA, kis, kal, kald, kcald, kaald, Option.some.injEq, ls_us, ls_uj, ls_ua, ls_ub, lj_us, lj_uj, lj_ua, lj_ub, la_us, la_uj, la_ua, la_ub, lb_us, lb_uj, lb_ua, lb_ub, nl0, nl1, nl2, nl3, nl4, nl5, nl6, nl7, nl8, nl9, nl10, nl11, nl12, nl13, nl14, nl15, nl16, nl17, nl18, nl19, nl20, nl21, nl22, nl23, nl24, nl25, nl26, nl27, nl28, nl29, nl30, nl31, nl32, nl33, nl34, nl35, nl36, nl37, nl38, nl39, nl40, nl41, nl42, nl43, nl44, nl45, nl46, nl47, nl48, nl49, nl50, nl51, nl52, nl53, nl54, nl55, nl56, nl57, nl58, nl59, nl60, nl61, nl62, nl63, nl64, nl65, nl66, nl67, nl68, nl69, nl70, nl71, nl72, nl73, nl74, nl75, nl76, nl77, nl78, nl79, nl80, nl82, nl83, nl84, nl85, nl86, nl88, nl90, nl96, nl97, nl99, nl100, nl101, nl104, nl112, nl115, nl120, nl121, nl122, nl126, nl127, nl128, nl160, nl200, nl201, nl202, nl255, nl256, nl300, nl320, nl322, nl400, nl500, nl600, nl640, nl732, nl968, nl999, nl1000, nl1001, nl1040, nl1440, nl1500, nl1501, nl1600, nl2000, nl2240, nl3131, nl4000, nl4095, nl4096, nl4960, nl5000, nl6000, nl6001, nl8000, nl9999, nl10000, nl10200, nl13520, nl14000, nl20000, nl32768, nl40000, nl46000, nl64000, nl65536, nl78000, nl100000, nl128000, nl400000, nl730000, ax, X_isS h.k h.xw, hw, b2n_f, x2, zc_r, x3]
/-- one unit -/
theorem unit_of (hf : f = F' + 1) (ih : cS c G F') : cU c G f := by
  intro a d b N g α s k F h hb h49 hkd hF hfd
  subst hf
  have kp := h.kp
  have ax := h.ax
  have am := h.am
  have bm := h.bm
  have nm := h.nmv hb (by decide)
  have a5 := h.a5
  have al := h.al
  have nl := h.nl
  have hb0 := hb.le (t := 0) (by omega)
  obtain ⟨F0, rfl⟩ : ∃ x, F = x + 1 := ⟨F - 1, by omega⟩
  show sG c a d b N g α s (F0 + 1) (hX4_unit_r G (rrX4_both G F').1 (rrX4_both G F').2.1 (rrX4_both G F').2.2.1 (rrX4_both G F').2.2.2 (some c.p) α) _ _
  rcases e0 : wS c a 0 with _ | _
  · -- no bracket
    by_cases eO : wK c a 1 = true ∨ wK c a 2 = true
    · have e3 : wK c a 3 = false := by
        rcases eO with e | e
        · have := (wK_i e).2; exact wK_f (by omega)
        · have := (wK_i e).2; exact wK_f (by omega)
      have hO : wO c a = true := by
        rcases eO with e | e
        · exact wO_t ⟨(wK_i e).1, .inl (wK_i e).2⟩
        · exact wO_t ⟨(wK_i e).1, .inr (.inl (wK_i e).2)⟩
      obtain ⟨β, x1, x2, xfr, _⟩ := h.op1 (G := G) (nm := true) hO (.inl rfl)
      have x1' : hX4_operand G (some c.p) (nI 1) α = some (.inl (some (zn α)), β) := x1
      have hN := h.N8 hb0
      have M1 : gX26_sum_11b (nI 0) s = gX26_sum_117 s := by
        unfold gX26_sum_11b
        rcases e1 : wK c a 1 with _ | _
        · have e2 : wK c a 2 = true := by
            rcases eO with e | e
            · rw [e1] at e; exact absurd e (by decide)
            · exact e
          simp (disch := omega) only [gld, gst, glj, gsj, gpN0, gpN1, gl_x, gl_gi, pI_in', pI_clamp, pI_add, pI_mul, pI_sub, pI_succ, nmod_eq, pI_div, ni_neg, zn_neg, gnar0, gnar1, eq_self, ni_lt, ni_le, ni_eq, ni_zlt, ni_zle, ni_zeq, zn_lt, zn_le, zn_eq, zz_lt, zz_le, zz_eq, ni_zadd, zn_add, ni_zsub, zn_sub, ni_zmul, zn_mul, nZ_add, nZ_sub, nZ_mul, upd_same, upd_other, upd_upd, gl_bi, gl_mi, gl_bs, gl_ms, gl_bn, gl_mn, if_true, if_false, ↓reduceIte, not_true_eq_false, not_false_eq_true, true_and, and_true, false_and, and_false, and_self, or_false, false_or, or_self, or_true, true_or, Nat.not_lt_zero, Nat.reduceAdd, Nat.reduceMul, Nat.add_zero, Nat.zero_add, Nat.mul_zero, Nat.zero_mul, Nat.reduceEqDiff, Nat.reduceLT, Nat.reduceLeDiff, Nat.succ_ne_zero, ua_ua, us_us, tn_le, tn_nle, tn_lt, tn_nlt, tn_eq, tn_ne, tz_le, tz_nle, tz_lt, tz_nlt, tz_eq, tz_ne, ls_us, ls_uj, ls_ua, ls_ub, lj_us, lj_uj, lj_ua, lj_ub, la_us, la_uj, la_ua, la_ub, lb_us, lb_uj, lb_ua, lb_ub, nl0, nl1, nl2, nl3, nl4, nl5, nl6, nl7, nl8, nl9, nl10, nl11, nl12, nl13, nl14, nl15, nl16, nl17, nl18, nl19, nl20, nl21, nl22, nl23, nl24, nl25, nl26, nl27, nl28, nl29, nl30, nl31, nl32, nl33, nl34, nl35, nl36, nl37, nl38, nl39, nl40, nl41, nl42, nl43, nl44, nl45, nl46, nl47, nl48, nl49, nl50, nl51, nl52, nl53, nl54, nl55, nl56, nl57, nl58, nl59, nl60, nl61, nl62, nl63, nl64, nl65, nl66, nl67, nl68, nl69, nl70, nl71, nl72, nl73, nl74, nl75, nl76, nl77, nl78, nl79, nl80, nl82, nl83, nl84, nl85, nl86, nl88, nl90, nl96, nl97, nl99, nl100, nl101, nl104, nl112, nl115, nl120, nl121, nl122, nl126, nl127, nl128, nl160, nl200, nl201, nl202, nl255, nl256, nl300, nl320, nl322, nl400, nl500, nl600, nl640, nl732, nl968, nl999, nl1000, nl1001, nl1040, nl1440, nl1500, nl1501, nl1600, nl2000, nl2240, nl3131, nl4000, nl4095, nl4096, nl4960, nl5000, nl6000, nl6001, nl8000, nl9999, nl10000, nl10200, nl13520, nl14000, nl20000, nl32768, nl40000, nl46000, nl64000, nl65536, nl78000, nl100000, nl128000, nl400000, nl730000, bm, am, M_isS h.k h.mw, e0, b2n_f, M_isK h.k h.mw, e1, e2, b2n_t]
        · simp (disch := omega) only [gld, gst, glj, gsj, gpN0, gpN1, gl_x, gl_gi, pI_in', pI_clamp, pI_add, pI_mul, pI_sub, pI_succ, nmod_eq, pI_div, ni_neg, zn_neg, gnar0, gnar1, eq_self, ni_lt, ni_le, ni_eq, ni_zlt, ni_zle, ni_zeq, zn_lt, zn_le, zn_eq, zz_lt, zz_le, zz_eq, ni_zadd, zn_add, ni_zsub, zn_sub, ni_zmul, zn_mul, nZ_add, nZ_sub, nZ_mul, upd_same, upd_other, upd_upd, gl_bi, gl_mi, gl_bs, gl_ms, gl_bn, gl_mn, if_true, if_false, ↓reduceIte, not_true_eq_false, not_false_eq_true, true_and, and_true, false_and, and_false, and_self, or_false, false_or, or_self, or_true, true_or, Nat.not_lt_zero, Nat.reduceAdd, Nat.reduceMul, Nat.add_zero, Nat.zero_add, Nat.mul_zero, Nat.zero_mul, Nat.reduceEqDiff, Nat.reduceLT, Nat.reduceLeDiff, Nat.succ_ne_zero, ua_ua, us_us, tn_le, tn_nle, tn_lt, tn_nlt, tn_eq, tn_ne, tz_le, tz_nle, tz_lt, tz_nlt, tz_eq, tz_ne, ls_us, ls_uj, ls_ua, ls_ub, lj_us, lj_uj, lj_ua, lj_ub, la_us, la_uj, la_ua, la_ub, lb_us, lb_uj, lb_ua, lb_ub, nl0, nl1, nl2, nl3, nl4, nl5, nl6, nl7, nl8, nl9, nl10, nl11, nl12, nl13, nl14, nl15, nl16, nl17, nl18, nl19, nl20, nl21, nl22, nl23, nl24, nl25, nl26, nl27, nl28, nl29, nl30, nl31, nl32, nl33, nl34, nl35, nl36, nl37, nl38, nl39, nl40, nl41, nl42, nl43, nl44, nl45, nl46, nl47, nl48, nl49, nl50, nl51, nl52, nl53, nl54, nl55, nl56, nl57, nl58, nl59, nl60, nl61, nl62, nl63, nl64, nl65, nl66, nl67, nl68, nl69, nl70, nl71, nl72, nl73, nl74, nl75, nl76, nl77, nl78, nl79, nl80, nl82, nl83, nl84, nl85, nl86, nl88, nl90, nl96, nl97, nl99, nl100, nl101, nl104, nl112, nl115, nl120, nl121, nl122, nl126, nl127, nl128, nl160, nl200, nl201, nl202, nl255, nl256, nl300, nl320, nl322, nl400, nl500, nl600, nl640, nl732, nl968, nl999, nl1000, nl1001, nl1040, nl1440, nl1500, nl1501, nl1600, nl2000, nl2240, nl3131, nl4000, nl4095, nl4096, nl4960, nl5000, nl6000, nl6001, nl8000, nl9999, nl10000, nl10200, nl13520, nl14000, nl20000, nl32768, nl40000, nl46000, nl64000, nl65536, nl78000, nl100000, nl128000, nl400000, nl730000, bm, am, M_isS h.k h.mw, e0, b2n_f, M_isK h.k h.mw, e1, b2n_t]
      have oaN : (g.push N (zn α) 0).oa N = zn α := by rw [push_oa, if_pos rfl]
      have n0 := h.x.n
      refine .inl ⟨β, N, xLim, F0, mOp c s N a, a + 1, b + 2, N + 1, g.push N (zn α) 0, ?_, ⟨mW_op M1 (M_op h hO (by omega)), ⟨rfl, fun i j h1 h2 h3 => ?_⟩, by omega⟩, pZ.mk x2 ?_ (Nat.le_refl _) (Nat.lt_succ_self N) mMk_16 (by rw [push_r, if_pos rfl]; omega) (by rw [oaN]; exact Nat.le_refl _) (by omega) (by omega) (by omega) (by omega)⟩
      · rw [oaN]
        unfold hX4_unit_r hX4_unit_30
        simp (disch := omega) only [gld, gst, glj, gsj, gpN0, gpN1, gl_x, gl_gi, pI_in', pI_clamp, pI_add, pI_mul, pI_sub, pI_succ, nmod_eq, pI_div, ni_neg, zn_neg, gnar0, gnar1, eq_self, ni_lt, ni_le, ni_eq, ni_zlt, ni_zle, ni_zeq, zn_lt, zn_le, zn_eq, zz_lt, zz_le, zz_eq, ni_zadd, zn_add, ni_zsub, zn_sub, ni_zmul, zn_mul, nZ_add, nZ_sub, nZ_mul, upd_same, upd_other, upd_upd, gl_bi, gl_mi, gl_bs, gl_ms, gl_bn, gl_mn, if_true, if_false, ↓reduceIte, not_true_eq_false, not_false_eq_true, true_and, and_true, false_and, and_false, and_self, or_false, false_or, or_self, or_true, true_or, Nat.not_lt_zero, Nat.reduceAdd, Nat.reduceMul, Nat.add_zero, Nat.zero_add, Nat.mul_zero, Nat.zero_mul, Nat.reduceEqDiff, Nat.reduceLT, Nat.reduceLeDiff, Nat.succ_ne_zero, ua_ua, us_us, tn_le, tn_nle, tn_lt, tn_nlt, tn_eq, tn_ne, tz_le, tz_nle, tz_lt, tz_nlt, tz_eq, tz_ne, kfI, kfJ, kfA, kpI, kpA, kis, kal, kald, kcald, kaald, Option.some.injEq, ls_us, ls_uj, ls_ua, ls_ub, lj_us, lj_uj, lj_ua, lj_ub, la_us, la_uj, la_ua, la_ub, lb_us, lb_uj, lb_ua, lb_ub, nl0, nl1, nl2, nl3, nl4, nl5, nl6, nl7, nl8, nl9, nl10, nl11, nl12, nl13, nl14, nl15, nl16, nl17, nl18, nl19, nl20, nl21, nl22, nl23, nl24, nl25, nl26, nl27, nl28, nl29, nl30, nl31, nl32, nl33, nl34, nl35, nl36, nl37, nl38, nl39, nl40, nl41, nl42, nl43, nl44, nl45, nl46, nl47, nl48, nl49, nl50, nl51, nl52, nl53, nl54, nl55, nl56, nl57, nl58, nl59, nl60, nl61, nl62, nl63, nl64, nl65, nl66, nl67, nl68, nl69, nl70, nl71, nl72, nl73, nl74, nl75, nl76, nl77, nl78, nl79, nl80, nl82, nl83, nl84, nl85, nl86, nl88, nl90, nl96, nl97, nl99, nl100, nl101, nl104, nl112, nl115, nl120, nl121, nl122, nl126, nl127, nl128, nl160, nl200, nl201, nl202, nl255, nl256, nl300, nl320, nl322, nl400, nl500, nl600, nl640, nl732, nl968, nl999, nl1000, nl1001, nl1040, nl1440, nl1500, nl1501, nl1600, nl2000, nl2240, nl3131, nl4000, nl4095, nl4096, nl4960, nl5000, nl6000, nl6001, nl8000, nl9999, nl10000, nl10200, nl13520, nl14000, nl20000, nl32768, nl40000, nl46000, nl64000, nl65536, nl78000, nl100000, nl128000, nl400000, nl730000, ax, X_isS h.k h.xw, e0, b2n_f, X_isK h.k h.xw, e3, X_must1, zc_l, x1']
      · unfold mOp mMk
        rw [la_ua, if_neg (by omega), la_ua, if_neg (by omega), la_ua, if_neg (by omega), la_ua, if_neg (by omega), la_ua, if_neg (by omega), la_ua, if_neg (by omega), la_ua, if_neg (by omega), la_ua, if_neg (by omega)]
        rfl
      · have hx : zn α ≤ zn β := by
          have := (x2.g.nd N h.N0 (Nat.lt_succ_self N)).hi
          rw [oaN] at this; omega
        have Z := x2.x.fr
        refine pY.mk ((pX.ma (a := a)).tr pX.new) hx ?_ (fun j i h1 h2 h3 => ?_) (fun t ht => by rw [push_ch, if_neg (by omega)]) (fun t h1 h2 => by rw [show t = N by omega, oaN]; exact Nat.le_refl _)
        · exact xfr
        · unfold mOp
          rw [mMk_la h1 h2, if_neg (by omega)]; rfl
    · have e1 : wK c a 1 = false := by rw [← Bool.not_eq_true]; exact fun z => eO (.inl z)
      have e2 : wK c a 2 = false := by rw [← Bool.not_eq_true]; exact fun z => eO (.inr z)
      have key : ∃ e β s' w, hX4_unit_r G (rrX4_both G F').1 (rrX4_both G F').2.1 (rrX4_both G F').2.2.1 (rrX4_both G F').2.2.2 (some c.p) α = some (.inr e, β) ∧ zthr β e 3 = true ∧ gX26_fail (nI 1) (nI a) s = some (nI 0, s') ∧ pE c 1 w β s' ∧ pPl s s' := by
        rcases e3 : wK c a 3 with _ | _
        · obtain ⟨q, β, s', v, z1, z2, z3, z4, z5⟩ := h.opno (G := G) (nm := true) hb0 e2 e3 (.inr e1)
          have z1' : hX4_operand G (some c.p) (nI 1) α = some (.inr q, β) := z1
          refine ⟨q, β, s', v, ?_, z2, z3, z4, z5⟩
          unfold hX4_unit_r hX4_unit_30
          simp (disch := omega) only [gld, gst, glj, gsj, gpN0, gpN1, gl_x, gl_gi, pI_in', pI_clamp, pI_add, pI_mul, pI_sub, pI_succ, nmod_eq, pI_div, ni_neg, zn_neg, gnar0, gnar1, eq_self, ni_lt, ni_le, ni_eq, ni_zlt, ni_zle, ni_zeq, zn_lt, zn_le, zn_eq, zz_lt, zz_le, zz_eq, ni_zadd, zn_add, ni_zsub, zn_sub, ni_zmul, zn_mul, nZ_add, nZ_sub, nZ_mul, upd_same, upd_other, upd_upd, gl_bi, gl_mi, gl_bs, gl_ms, gl_bn, gl_mn, if_true, if_false, ↓reduceIte, not_true_eq_false, not_false_eq_true, true_and, and_true, false_and, and_false, and_self, or_false, false_or, or_self, or_true, true_or, Nat.not_lt_zero, Nat.reduceAdd, Nat.reduceMul, Nat.add_zero, Nat.zero_add, Nat.mul_zero, Nat.zero_mul, Nat.reduceEqDiff, Nat.reduceLT, Nat.reduceLeDiff, Nat.succ_ne_zero, ua_ua, us_us, tn_le, tn_nle, tn_lt, tn_nlt, tn_eq, tn_ne, tz_le, tz_nle, tz_lt, tz_nlt, tz_eq, tz_ne, kfI, kfJ, kfA, kpI, kpA, kis, kal, kald, kcald, kaald, Option.some.injEq, ls_us, ls_uj, ls_ua, ls_ub, lj_us, lj_uj, lj_ua, lj_ub, la_us, la_uj, la_ua, la_ub, lb_us, lb_uj, lb_ua, lb_ub, nl0, nl1, nl2, nl3, nl4, nl5, nl6, nl7, nl8, nl9, nl10, nl11, nl12, nl13, nl14, nl15, nl16, nl17, nl18, nl19, nl20, nl21, nl22, nl23, nl24, nl25, nl26, nl27, nl28, nl29, nl30, nl31, nl32, nl33, nl34, nl35, nl36, nl37, nl38, nl39, nl40, nl41, nl42, nl43, nl44, nl45, nl46, nl47, nl48, nl49, nl50, nl51, nl52, nl53, nl54, nl55, nl56, nl57, nl58, nl59, nl60, nl61, nl62, nl63, nl64, nl65, nl66, nl67, nl68, nl69, nl70, nl71, nl72, nl73, nl74, nl75, nl76, nl77, nl78, nl79, nl80, nl82, nl83, nl84, nl85, nl86, nl88, nl90, nl96, nl97, nl99, nl100, nl101, nl104, nl112, nl115, nl120, nl121, nl122, nl126, nl127, nl128, nl160, nl200, nl201, nl202, nl255, nl256, nl300, nl320, nl322, nl400, nl500, nl600, nl640, nl732, nl968, nl999, nl1000, nl1001, nl1040, nl1440, nl1500, nl1501, nl1600, nl2000, nl2240, nl3131, nl4000, nl4095, nl4096, nl4960, nl5000, nl6000, nl6001, nl8000, nl9999, nl10000, nl10200, nl13520, nl14000, nl20000, nl32768, nl40000, nl46000, nl64000, nl65536, nl78000, nl100000, nl128000, nl400000, nl730000, ax, X_isS h.k h.xw, e0, b2n_f, X_isK h.k h.xw, e3, X_must1, zc_l, z1', zc_r, z2]
        · obtain ⟨q, β, s', v, z1, z2, z3, z4, z5⟩ := h.no' (G := G) hb0
          refine ⟨q, β, s', v, ?_, z2, z3, z4, z5⟩
          unfold hX4_unit_r hX4_unit_30
          simp (disch := omega) only [gld, gst, glj, gsj, gpN0, gpN1, gl_x, gl_gi, pI_in', pI_clamp, pI_add, pI_mul, pI_sub, pI_succ, nmod_eq, pI_div, ni_neg, zn_neg, gnar0, gnar1, eq_self, ni_lt, ni_le, ni_eq, ni_zlt, ni_zle, ni_zeq, zn_lt, zn_le, zn_eq, zz_lt, zz_le, zz_eq, ni_zadd, zn_add, ni_zsub, zn_sub, ni_zmul, zn_mul, nZ_add, nZ_sub, nZ_mul, upd_same, upd_other, upd_upd, gl_bi, gl_mi, gl_bs, gl_ms, gl_bn, gl_mn, if_true, if_false, ↓reduceIte, not_true_eq_false, not_false_eq_true, true_and, and_true, false_and, and_false, and_self, or_false, false_or, or_self, or_true, true_or, Nat.not_lt_zero, Nat.reduceAdd, Nat.reduceMul, Nat.add_zero, Nat.zero_add, Nat.mul_zero, Nat.zero_mul, Nat.reduceEqDiff, Nat.reduceLT, Nat.reduceLeDiff, Nat.succ_ne_zero, ua_ua, us_us, tn_le, tn_nle, tn_lt, tn_nlt, tn_eq, tn_ne, tz_le, tz_nle, tz_lt, tz_nlt, tz_eq, tz_ne, kfI, kfJ, kfA, kpI, kpA, kis, kal, kald, kcald, kaald, Option.some.injEq, ls_us, ls_uj, ls_ua, ls_ub, lj_us, lj_uj, lj_ua, lj_ub, la_us, la_uj, la_ua, la_ub, lb_us, lb_uj, lb_ua, lb_ub, nl0, nl1, nl2, nl3, nl4, nl5, nl6, nl7, nl8, nl9, nl10, nl11, nl12, nl13, nl14, nl15, nl16, nl17, nl18, nl19, nl20, nl21, nl22, nl23, nl24, nl25, nl26, nl27, nl28, nl29, nl30, nl31, nl32, nl33, nl34, nl35, nl36, nl37, nl38, nl39, nl40, nl41, nl42, nl43, nl44, nl45, nl46, nl47, nl48, nl49, nl50, nl51, nl52, nl53, nl54, nl55, nl56, nl57, nl58, nl59, nl60, nl61, nl62, nl63, nl64, nl65, nl66, nl67, nl68, nl69, nl70, nl71, nl72, nl73, nl74, nl75, nl76, nl77, nl78, nl79, nl80, nl82, nl83, nl84, nl85, nl86, nl88, nl90, nl96, nl97, nl99, nl100, nl101, nl104, nl112, nl115, nl120, nl121, nl122, nl126, nl127, nl128, nl160, nl200, nl201, nl202, nl255, nl256, nl300, nl320, nl322, nl400, nl500, nl600, nl640, nl732, nl968, nl999, nl1000, nl1001, nl1040, nl1440, nl1500, nl1501, nl1600, nl2000, nl2240, nl3131, nl4000, nl4095, nl4096, nl4960, nl5000, nl6000, nl6001, nl8000, nl9999, nl10000, nl10200, nl13520, nl14000, nl20000, nl32768, nl40000, nl46000, nl64000, nl65536, nl78000, nl100000, nl128000, nl400000, nl730000, ax, X_isS h.k h.xw, e0, b2n_f, X_isK h.k h.xw, e3, b2n_t, z1, zc_r, z2]
      obtain ⟨e, β, s', w, z1, z2, z3, z4, z5⟩ := key
      have M1 : gX26_sum_11b (nI 0) s = some (.inl (nI 0), s') := by
        unfold gX26_sum_11b
        simp (disch := omega) only [gld, gst, glj, gsj, gpN0, gpN1, gl_x, gl_gi, pI_in', pI_clamp, pI_add, pI_mul, pI_sub, pI_succ, nmod_eq, pI_div, ni_neg, zn_neg, gnar0, gnar1, eq_self, ni_lt, ni_le, ni_eq, ni_zlt, ni_zle, ni_zeq, zn_lt, zn_le, zn_eq, zz_lt, zz_le, zz_eq, ni_zadd, zn_add, ni_zsub, zn_sub, ni_zmul, zn_mul, nZ_add, nZ_sub, nZ_mul, upd_same, upd_other, upd_upd, gl_bi, gl_mi, gl_bs, gl_ms, gl_bn, gl_mn, if_true, if_false, ↓reduceIte, not_true_eq_false, not_false_eq_true, true_and, and_true, false_and, and_false, and_self, or_false, false_or, or_self, or_true, true_or, Nat.not_lt_zero, Nat.reduceAdd, Nat.reduceMul, Nat.add_zero, Nat.zero_add, Nat.mul_zero, Nat.zero_mul, Nat.reduceEqDiff, Nat.reduceLT, Nat.reduceLeDiff, Nat.succ_ne_zero, ua_ua, us_us, tn_le, tn_nle, tn_lt, tn_nlt, tn_eq, tn_ne, tz_le, tz_nle, tz_lt, tz_nlt, tz_eq, tz_ne, ls_us, ls_uj, ls_ua, ls_ub, lj_us, lj_uj, lj_ua, lj_ub, la_us, la_uj, la_ua, la_ub, lb_us, lb_uj, lb_ua, lb_ub, nl0, nl1, nl2, nl3, nl4, nl5, nl6, nl7, nl8, nl9, nl10, nl11, nl12, nl13, nl14, nl15, nl16, nl17, nl18, nl19, nl20, nl21, nl22, nl23, nl24, nl25, nl26, nl27, nl28, nl29, nl30, nl31, nl32, nl33, nl34, nl35, nl36, nl37, nl38, nl39, nl40, nl41, nl42, nl43, nl44, nl45, nl46, nl47, nl48, nl49, nl50, nl51, nl52, nl53, nl54, nl55, nl56, nl57, nl58, nl59, nl60, nl61, nl62, nl63, nl64, nl65, nl66, nl67, nl68, nl69, nl70, nl71, nl72, nl73, nl74, nl75, nl76, nl77, nl78, nl79, nl80, nl82, nl83, nl84, nl85, nl86, nl88, nl90, nl96, nl97, nl99, nl100, nl101, nl104, nl112, nl115, nl120, nl121, nl122, nl126, nl127, nl128, nl160, nl200, nl201, nl202, nl255, nl256, nl300, nl320, nl322, nl400, nl500, nl600, nl640, nl732, nl968, nl999, nl1000, nl1001, nl1040, nl1440, nl1500, nl1501, nl1600, nl2000, nl2240, nl3131, nl4000, nl4095, nl4096, nl4960, nl5000, nl6000, nl6001, nl8000, nl9999, nl10000, nl10200, nl13520, nl14000, nl20000, nl32768, nl40000, nl46000, nl64000, nl65536, nl78000, nl100000, nl128000, nl400000, nl730000, bm, am, M_isS h.k h.mw, e0, b2n_f, M_isK h.k h.mw, e1, e2, z3]
      obtain ⟨u, z6⟩ := mW_bad (v := nI 0) (F := F0) z4.b1 (by omega)
      exact .inr ⟨e, β, u, s', 1, w, z1, z2, by rw [mW_s, M1]; exact z6, z4, z5⟩
  · have ha := (wS_i e0).1
    by_cases e4 : d = 40
    · subst e4
      obtain ⟨e, β, s', w, z1, z2, z3, z4, z5, z6, z7⟩ := X_deep40 (G := G) h hb0
      have q49 : ls s' 49 = nI (k + 1) := by rw [z6 49 (by decide)]; exact h49
      have q44 : ls s' 44 = nI 40 := by rw [z6 44 (by decide)]; exact nm
      have q41 : ls s' 41 = nI a := by rw [z6 41 (by decide)]; exact am
      have M1 : gX26_sum_11b (nI 0) s = some (.inl (nI 0), mCx (us (us s' 44 (nI 41)) 41 (nI (a + 1))) (k + 1)) := by
        have := M_cx (s := us (us s' 44 (nI 41)) 41 (nI (a + 1))) (k := k + 1) q49 (by omega)
        unfold gX26_sum_11b gX26_sum_53
        simp (disch := omega) only [gld, gst, glj, gsj, gpN0, gpN1, gl_x, gl_gi, pI_in', pI_clamp, pI_add, pI_mul, pI_sub, pI_succ, nmod_eq, pI_div, ni_neg, zn_neg, gnar0, gnar1, eq_self, ni_lt, ni_le, ni_eq, ni_zlt, ni_zle, ni_zeq, zn_lt, zn_le, zn_eq, zz_lt, zz_le, zz_eq, ni_zadd, zn_add, ni_zsub, zn_sub, ni_zmul, zn_mul, nZ_add, nZ_sub, nZ_mul, upd_same, upd_other, upd_upd, gl_bi, gl_mi, gl_bs, gl_ms, gl_bn, gl_mn, if_true, if_false, ↓reduceIte, not_true_eq_false, not_false_eq_true, true_and, and_true, false_and, and_false, and_self, or_false, false_or, or_self, or_true, true_or, Nat.not_lt_zero, Nat.reduceAdd, Nat.reduceMul, Nat.add_zero, Nat.zero_add, Nat.mul_zero, Nat.zero_mul, Nat.reduceEqDiff, Nat.reduceLT, Nat.reduceLeDiff, Nat.succ_ne_zero, ua_ua, us_us, tn_le, tn_nle, tn_lt, tn_nlt, tn_eq, tn_ne, tz_le, tz_nle, tz_lt, tz_nlt, tz_eq, tz_ne, ls_us, ls_uj, ls_ua, ls_ub, lj_us, lj_uj, lj_ua, lj_ub, la_us, la_uj, la_ua, la_ub, lb_us, lb_uj, lb_ua, lb_ub, nl0, nl1, nl2, nl3, nl4, nl5, nl6, nl7, nl8, nl9, nl10, nl11, nl12, nl13, nl14, nl15, nl16, nl17, nl18, nl19, nl20, nl21, nl22, nl23, nl24, nl25, nl26, nl27, nl28, nl29, nl30, nl31, nl32, nl33, nl34, nl35, nl36, nl37, nl38, nl39, nl40, nl41, nl42, nl43, nl44, nl45, nl46, nl47, nl48, nl49, nl50, nl51, nl52, nl53, nl54, nl55, nl56, nl57, nl58, nl59, nl60, nl61, nl62, nl63, nl64, nl65, nl66, nl67, nl68, nl69, nl70, nl71, nl72, nl73, nl74, nl75, nl76, nl77, nl78, nl79, nl80, nl82, nl83, nl84, nl85, nl86, nl88, nl90, nl96, nl97, nl99, nl100, nl101, nl104, nl112, nl115, nl120, nl121, nl122, nl126, nl127, nl128, nl160, nl200, nl201, nl202, nl255, nl256, nl300, nl320, nl322, nl400, nl500, nl600, nl640, nl732, nl968, nl999, nl1000, nl1001, nl1040, nl1440, nl1500, nl1501, nl1600, nl2000, nl2240, nl3131, nl4000, nl4095, nl4096, nl4960, nl5000, nl6000, nl6001, nl8000, nl9999, nl10000, nl10200, nl13520, nl14000, nl20000, nl32768, nl40000, nl46000, nl64000, nl65536, nl78000, nl100000, nl128000, nl400000, nl730000, bm, am, M_isS h.k h.mw, e0, b2n_t, nm, z3, q44, q41, this]
      have z4' : pE c 3 w β (mCx (us (us s' 44 (nI 41)) 41 (nI (a + 1))) (k + 1)) := z4.tmp (fun i hi => by
        unfold mCx
        rw [ls_us, if_neg (by omega)]
        show ls (us (us s' 44 (nI 41)) 41 (nI (a + 1))) i = _
        rw [ls_us, if_neg (by omega), ls_us, if_neg (by omega)]) (fun i hi => by
        unfold mCx
        rw [la_us, la_ua, if_neg (by omega), la_ua, if_neg (by omega)]
        rfl)
      obtain ⟨u, z8⟩ := mW_bad (v := nI 0) (F := F0) z4'.b1 (by omega)
      refine .inr ⟨e, β, u, _, 3, w, ?_, z2, by rw [mW_s, M1]; exact z8, z4', z5.tr ⟨rfl, rfl, rfl, rfl⟩⟩
      unfold hX4_unit_r
      simp (disch := omega) only [gld, gst, glj, gsj, gpN0, gpN1, gl_x, gl_gi, pI_in', pI_clamp, pI_add, pI_mul, pI_sub, pI_succ, nmod_eq, pI_div, ni_neg, zn_neg, gnar0, gnar1, eq_self, ni_lt, ni_le, ni_eq, ni_zlt, ni_zle, ni_zeq, zn_lt, zn_le, zn_eq, zz_lt, zz_le, zz_eq, ni_zadd, zn_add, ni_zsub, zn_sub, ni_zmul, zn_mul, nZ_add, nZ_sub, nZ_mul, upd_same, upd_other, upd_upd, gl_bi, gl_mi, gl_bs, gl_ms, gl_bn, gl_mn, if_true, if_false, ↓reduceIte, not_true_eq_false, not_false_eq_true, true_and, and_true, false_and, and_false, and_self, or_false, false_or, or_self, or_true, true_or, Nat.not_lt_zero, Nat.reduceAdd, Nat.reduceMul, Nat.add_zero, Nat.zero_add, Nat.mul_zero, Nat.zero_mul, Nat.reduceEqDiff, Nat.reduceLT, Nat.reduceLeDiff, Nat.succ_ne_zero, ua_ua, us_us, tn_le, tn_nle, tn_lt, tn_nlt, tn_eq, tn_ne, tz_le, tz_nle, tz_lt, tz_nlt, tz_eq, tz_ne, kfI, kfJ, kfA, kpI, kpA, kis, kal, kald, kcald, kaald, Option.some.injEq, ls_us, ls_uj, ls_ua, ls_ub, lj_us, lj_uj, lj_ua, lj_ub, la_us, la_uj, la_ua, la_ub, lb_us, lb_uj, lb_ua, lb_ub, nl0, nl1, nl2, nl3, nl4, nl5, nl6, nl7, nl8, nl9, nl10, nl11, nl12, nl13, nl14, nl15, nl16, nl17, nl18, nl19, nl20, nl21, nl22, nl23, nl24, nl25, nl26, nl27, nl28, nl29, nl30, nl31, nl32, nl33, nl34, nl35, nl36, nl37, nl38, nl39, nl40, nl41, nl42, nl43, nl44, nl45, nl46, nl47, nl48, nl49, nl50, nl51, nl52, nl53, nl54, nl55, nl56, nl57, nl58, nl59, nl60, nl61, nl62, nl63, nl64, nl65, nl66, nl67, nl68, nl69, nl70, nl71, nl72, nl73, nl74, nl75, nl76, nl77, nl78, nl79, nl80, nl82, nl83, nl84, nl85, nl86, nl88, nl90, nl96, nl97, nl99, nl100, nl101, nl104, nl112, nl115, nl120, nl121, nl122, nl126, nl127, nl128, nl160, nl200, nl201, nl202, nl255, nl256, nl300, nl320, nl322, nl400, nl500, nl600, nl640, nl732, nl968, nl999, nl1000, nl1001, nl1040, nl1440, nl1500, nl1501, nl1600, nl2000, nl2240, nl3131, nl4000, nl4095, nl4096, nl4960, nl5000, nl6000, nl6001, nl8000, nl9999, nl10000, nl10200, nl13520, nl14000, nl20000, nl32768, nl40000, nl46000, nl64000, nl65536, nl78000, nl100000, nl128000, nl400000, nl730000, ax, X_isS h.k h.xw, e0, b2n_t, z1, zc_r, z2]
    · have hd : d < 40 := by omega
      have h1 := h.dep (d' := d + 1) (by omega)
      have h2 := h1.adv ha
      -- M's state behind the bracket
      have M1 : gX26_sum_11b (nI 0) s = some (.inl (nI 0), mCx (maS (us s 44 (nI (d + 1))) a) (k + 1)) := by
        have := M_cx (s := maS (us s 44 (nI (d + 1))) a) (k := k + 1) h49 (by omega)
        unfold maS at this
        unfold gX26_sum_11b gX26_sum_53 maS
        simp (disch := omega) only [gld, gst, glj, gsj, gpN0, gpN1, gl_x, gl_gi, pI_in', pI_clamp, pI_add, pI_mul, pI_sub, pI_succ, nmod_eq, pI_div, ni_neg, zn_neg, gnar0, gnar1, eq_self, ni_lt, ni_le, ni_eq, ni_zlt, ni_zle, ni_zeq, zn_lt, zn_le, zn_eq, zz_lt, zz_le, zz_eq, ni_zadd, zn_add, ni_zsub, zn_sub, ni_zmul, zn_mul, nZ_add, nZ_sub, nZ_mul, upd_same, upd_other, upd_upd, gl_bi, gl_mi, gl_bs, gl_ms, gl_bn, gl_mn, if_true, if_false, ↓reduceIte, not_true_eq_false, not_false_eq_true, true_and, and_true, false_and, and_false, and_self, or_false, false_or, or_self, or_true, true_or, Nat.not_lt_zero, Nat.reduceAdd, Nat.reduceMul, Nat.add_zero, Nat.zero_add, Nat.mul_zero, Nat.zero_mul, Nat.reduceEqDiff, Nat.reduceLT, Nat.reduceLeDiff, Nat.succ_ne_zero, ua_ua, us_us, tn_le, tn_nle, tn_lt, tn_nlt, tn_eq, tn_ne, tz_le, tz_nle, tz_lt, tz_nlt, tz_eq, tz_ne, ls_us, ls_uj, ls_ua, ls_ub, lj_us, lj_uj, lj_ua, lj_ub, la_us, la_uj, la_ua, la_ub, lb_us, lb_uj, lb_ua, lb_ub, nl0, nl1, nl2, nl3, nl4, nl5, nl6, nl7, nl8, nl9, nl10, nl11, nl12, nl13, nl14, nl15, nl16, nl17, nl18, nl19, nl20, nl21, nl22, nl23, nl24, nl25, nl26, nl27, nl28, nl29, nl30, nl31, nl32, nl33, nl34, nl35, nl36, nl37, nl38, nl39, nl40, nl41, nl42, nl43, nl44, nl45, nl46, nl47, nl48, nl49, nl50, nl51, nl52, nl53, nl54, nl55, nl56, nl57, nl58, nl59, nl60, nl61, nl62, nl63, nl64, nl65, nl66, nl67, nl68, nl69, nl70, nl71, nl72, nl73, nl74, nl75, nl76, nl77, nl78, nl79, nl80, nl82, nl83, nl84, nl85, nl86, nl88, nl90, nl96, nl97, nl99, nl100, nl101, nl104, nl112, nl115, nl120, nl121, nl122, nl126, nl127, nl128, nl160, nl200, nl201, nl202, nl255, nl256, nl300, nl320, nl322, nl400, nl500, nl600, nl640, nl732, nl968, nl999, nl1000, nl1001, nl1040, nl1440, nl1500, nl1501, nl1600, nl2000, nl2240, nl3131, nl4000, nl4095, nl4096, nl4960, nl5000, nl6000, nl6001, nl8000, nl9999, nl10000, nl10200, nl13520, nl14000, nl20000, nl32768, nl40000, nl46000, nl64000, nl65536, nl78000, nl100000, nl128000, nl400000, nl730000, bm, am, M_isS h.k h.mw, e0, b2n_t, nm, this]
      have h3 : pR c (a + 1) (d + 1) b N 0 g (xaS c (zwI α 40 4 c.p (nI (d + 1))) a) (mCx (maS (us s 44 (nI (d + 1))) a) (k + 1)) := h2.tmp (fun i hi => by
        unfold mCx
        rw [ls_us, if_neg (by omega)]
        rfl) (fun i hi => by
        unfold mCx
        rw [la_us, la_ua, if_neg (by omega), la_ua, if_neg (by omega)])
      have hb' : pB c b (a + 1) 20 := by unfold pB at *; omega
      have kp1 := h1.kp
      have ax1 := h1.ax
      have kp3 := h3.kp
      have hs3 : ls (mCx (maS (us s 44 (nI (d + 1))) a) (k + 1)) 49 = nI (k + 1 + 1) := rfl
      have pl0 : pPl s (mCx (maS (us s 44 (nI (d + 1))) a) (k + 1)) := ⟨rfl, rfl, rfl, rfl⟩
      have Y0 : pY c N g α s N g (xaS c (zwI α 40 4 c.p (nI (d + 1))) a) (mCx (maS (us s 44 (nI (d + 1))) a) (k + 1)) := (pY.rf.m (fun j h1 h2 => by
        unfold mCx
        rw [la_us, la_ua, if_neg (by omega), la_ua, if_neg (by omega)]
        rfl) pl0).xp (fun q hq => by
        show (zwI (zwI α 40 4 c.p (nI (d + 1))) 40 3 c.p (nI (a + 1))).2 q = _
        rw [zwI_ne hq, zwI_ne hq]) (Nat.le_refl _)
      have X0 : ∀ R, (rrX4_both G F').2.2.1 (some c.p) (xaS c (zwI α 40 4 c.p (nI (d + 1))) a) = R → hX4_unit_r G (rrX4_both G F').1 (rrX4_both G F').2.1 (rrX4_both G F').2.2.1 (rrX4_both G F').2.2.2 (some c.p) α = zcase R (fun p10 => if zis G p10.2 (some c.p) 41 = true then zcase (hX4_close G (some c.p) p10.2) (fun p11 => some (.inl (p10.1), p11.2)) (fun p12 => if zthr p12.2 p12.1 3 = true then some (.inr p12.1, p12.2) else none) else none) (fun p13 => if zthr p13.2 p13.1 3 = true then some (.inr p13.1, p13.2) else none) := fun R hR => by
        rw [← hR]
        unfold xaS at kp3 ⊢
        unfold hX4_unit_r
        simp (disch := omega) only [gld, gst, glj, gsj, gpN0, gpN1, gl_x, gl_gi, pI_in', pI_clamp, pI_add, pI_mul, pI_sub, pI_succ, nmod_eq, pI_div, ni_neg, zn_neg, gnar0, gnar1, eq_self, ni_lt, ni_le, ni_eq, ni_zlt, ni_zle, ni_zeq, zn_lt, zn_le, zn_eq, zz_lt, zz_le, zz_eq, ni_zadd, zn_add, ni_zsub, zn_sub, ni_zmul, zn_mul, nZ_add, nZ_sub, nZ_mul, upd_same, upd_other, upd_upd, gl_bi, gl_mi, gl_bs, gl_ms, gl_bn, gl_mn, if_true, if_false, ↓reduceIte, not_true_eq_false, not_false_eq_true, true_and, and_true, false_and, and_false, and_self, or_false, false_or, or_self, or_true, true_or, Nat.not_lt_zero, Nat.reduceAdd, Nat.reduceMul, Nat.add_zero, Nat.zero_add, Nat.mul_zero, Nat.zero_mul, Nat.reduceEqDiff, Nat.reduceLT, Nat.reduceLeDiff, Nat.succ_ne_zero, ua_ua, us_us, tn_le, tn_nle, tn_lt, tn_nlt, tn_eq, tn_ne, tz_le, tz_nle, tz_lt, tz_nlt, tz_eq, tz_ne, kfI, kfJ, kfA, kpI, kpA, kis, kal, kald, kcald, kaald, Option.some.injEq, ls_us, ls_uj, ls_ua, ls_ub, lj_us, lj_uj, lj_ua, lj_ub, la_us, la_uj, la_ua, la_ub, lb_us, lb_uj, lb_ua, lb_ub, nl0, nl1, nl2, nl3, nl4, nl5, nl6, nl7, nl8, nl9, nl10, nl11, nl12, nl13, nl14, nl15, nl16, nl17, nl18, nl19, nl20, nl21, nl22, nl23, nl24, nl25, nl26, nl27, nl28, nl29, nl30, nl31, nl32, nl33, nl34, nl35, nl36, nl37, nl38, nl39, nl40, nl41, nl42, nl43, nl44, nl45, nl46, nl47, nl48, nl49, nl50, nl51, nl52, nl53, nl54, nl55, nl56, nl57, nl58, nl59, nl60, nl61, nl62, nl63, nl64, nl65, nl66, nl67, nl68, nl69, nl70, nl71, nl72, nl73, nl74, nl75, nl76, nl77, nl78, nl79, nl80, nl82, nl83, nl84, nl85, nl86, nl88, nl90, nl96, nl97, nl99, nl100, nl101, nl104, nl112, nl115, nl120, nl121, nl122, nl126, nl127, nl128, nl160, nl200, nl201, nl202, nl255, nl256, nl300, nl320, nl322, nl400, nl500, nl600, nl640, nl732, nl968, nl999, nl1000, nl1001, nl1040, nl1440, nl1500, nl1501, nl1600, nl2000, nl2240, nl3131, nl4000, nl4095, nl4096, nl4960, nl5000, nl6000, nl6001, nl8000, nl9999, nl10000, nl10200, nl13520, nl14000, nl20000, nl32768, nl40000, nl46000, nl64000, nl65536, nl78000, nl100000, nl128000, nl400000, nl730000, ax, X_isS h.k h.xw, e0, b2n_t, X_deep h hd, zc_l, ax1]
      rcases ih (a + 1) (d + 1) b N g _ _ (k + 1) F0 h3 hb' hs3 (by omega) (by omega) (by omega) (by unfold mCx; rw [la_us, la_ua, if_pos rfl, upd_same]) (by unfold mCx; rw [la_us, la_ua, if_neg (by decide), la_ua, if_pos rfl, upd_same]) with ⟨β, t, F1', F2, s', a', b', N', g', x1, ⟨x2, x3, x4⟩, x5⟩ | ⟨e, β, u, s', wh, w, x1, x2, x3, x4, x5⟩
      · have hR := x5.R
        have kpR := hR.kp
        have amR := hR.am
        have nmR := hR.nmv hb (by decide)
        have a5R := hR.a5
        have alR := hR.al
        have a1 := x5.a1
        have b1 := x5.b1
        have f1 := x5.f1
        have f2 := x5.f2
        have t2 := x5.t2
        have NbR := hR.N8 (k := 0) (by unfold pB at *; omega)
        have l49 : ls s' 49 = nI (k + 1 + 1) := x4.1
        rcases e5 : wS c a' 1 with _ | _
        · obtain ⟨e, γ, s2, w, z1, z2, z3, z4, z5⟩ := X_close0 (G := G) hR (by unfold pB at *; omega) e5
          have M2 : mSe (nI (k + 1)) s' = some (.inr (nI 0), s2) := by
            unfold mSe
            simp (disch := omega) only [gld, gst, glj, gsj, gpN0, gpN1, gl_x, gl_gi, pI_in', pI_clamp, pI_add, pI_mul, pI_sub, pI_succ, nmod_eq, pI_div, ni_neg, zn_neg, gnar0, gnar1, eq_self, ni_lt, ni_le, ni_eq, ni_zlt, ni_zle, ni_zeq, zn_lt, zn_le, zn_eq, zz_lt, zz_le, zz_eq, ni_zadd, zn_add, ni_zsub, zn_sub, ni_zmul, zn_mul, nZ_add, nZ_sub, nZ_mul, upd_same, upd_other, upd_upd, gl_bi, gl_mi, gl_bs, gl_ms, gl_bn, gl_mn, if_true, if_false, ↓reduceIte, not_true_eq_false, not_false_eq_true, true_and, and_true, false_and, and_false, and_self, or_false, false_or, or_self, or_true, true_or, Nat.not_lt_zero, Nat.reduceAdd, Nat.reduceMul, Nat.add_zero, Nat.zero_add, Nat.mul_zero, Nat.zero_mul, Nat.reduceEqDiff, Nat.reduceLT, Nat.reduceLeDiff, Nat.succ_ne_zero, ua_ua, us_us, tn_le, tn_nle, tn_lt, tn_nlt, tn_eq, tn_ne, tz_le, tz_nle, tz_lt, tz_nlt, tz_eq, tz_ne, ls_us, ls_uj, ls_ua, ls_ub, lj_us, lj_uj, lj_ua, lj_ub, la_us, la_uj, la_ua, la_ub, lb_us, lb_uj, lb_ua, lb_ub, nl0, nl1, nl2, nl3, nl4, nl5, nl6, nl7, nl8, nl9, nl10, nl11, nl12, nl13, nl14, nl15, nl16, nl17, nl18, nl19, nl20, nl21, nl22, nl23, nl24, nl25, nl26, nl27, nl28, nl29, nl30, nl31, nl32, nl33, nl34, nl35, nl36, nl37, nl38, nl39, nl40, nl41, nl42, nl43, nl44, nl45, nl46, nl47, nl48, nl49, nl50, nl51, nl52, nl53, nl54, nl55, nl56, nl57, nl58, nl59, nl60, nl61, nl62, nl63, nl64, nl65, nl66, nl67, nl68, nl69, nl70, nl71, nl72, nl73, nl74, nl75, nl76, nl77, nl78, nl79, nl80, nl82, nl83, nl84, nl85, nl86, nl88, nl90, nl96, nl97, nl99, nl100, nl101, nl104, nl112, nl115, nl120, nl121, nl122, nl126, nl127, nl128, nl160, nl200, nl201, nl202, nl255, nl256, nl300, nl320, nl322, nl400, nl500, nl600, nl640, nl732, nl968, nl999, nl1000, nl1001, nl1040, nl1440, nl1500, nl1501, nl1600, nl2000, nl2240, nl3131, nl4000, nl4095, nl4096, nl4960, nl5000, nl6000, nl6001, nl8000, nl9999, nl10000, nl10200, nl13520, nl14000, nl20000, nl32768, nl40000, nl46000, nl64000, nl65536, nl78000, nl100000, nl128000, nl400000, nl730000, amR, M_isS hR.k hR.mw, e5, b2n_f, z3]
          obtain ⟨u, z6⟩ := mW_bad (v := nI 0) (F := F2) z4.b1 (by omega)
          refine .inr ⟨e, γ, u, s2, 1, w, ?_, z2, ?_, z4, pl0.tr (x5.Y.x.pl.tr z5)⟩
          · rw [X0 _ x1, zc_l, if_pos (of_eq_true (kis kpR (by decide))), z1, zc_r, if_pos z2]
          · rw [mW_s, M1]
            show mW F0 (nI 0) _ = _
            rw [x2, M2]
            exact z6
        · have ha' := (wS_i e5).1
          have h5 := hR.adv ha'
          have h6 := h5.dep (d' := d) (by omega)
          have M2 : mSe (nI (k + 1)) s' = some (.inl (nI t), us (us (maS s' a') 49 (nI (k + 1))) 44 (nI d)) := by
            unfold mSe maS
            simp (disch := omega) only [gld, gst, glj, gsj, gpN0, gpN1, gl_x, gl_gi, pI_in', pI_clamp, pI_add, pI_mul, pI_sub, pI_succ, nmod_eq, pI_div, ni_neg, zn_neg, gnar0, gnar1, eq_self, ni_lt, ni_le, ni_eq, ni_zlt, ni_zle, ni_zeq, zn_lt, zn_le, zn_eq, zz_lt, zz_le, zz_eq, ni_zadd, zn_add, ni_zsub, zn_sub, ni_zmul, zn_mul, nZ_add, nZ_sub, nZ_mul, upd_same, upd_other, upd_upd, gl_bi, gl_mi, gl_bs, gl_ms, gl_bn, gl_mn, if_true, if_false, ↓reduceIte, not_true_eq_false, not_false_eq_true, true_and, and_true, false_and, and_false, and_self, or_false, false_or, or_self, or_true, true_or, Nat.not_lt_zero, Nat.reduceAdd, Nat.reduceMul, Nat.add_zero, Nat.zero_add, Nat.mul_zero, Nat.zero_mul, Nat.reduceEqDiff, Nat.reduceLT, Nat.reduceLeDiff, Nat.succ_ne_zero, ua_ua, us_us, tn_le, tn_nle, tn_lt, tn_nlt, tn_eq, tn_ne, tz_le, tz_nle, tz_lt, tz_nlt, tz_eq, tz_ne, ls_us, ls_uj, ls_ua, ls_ub, lj_us, lj_uj, lj_ua, lj_ub, la_us, la_uj, la_ua, la_ub, lb_us, lb_uj, lb_ua, lb_ub, nl0, nl1, nl2, nl3, nl4, nl5, nl6, nl7, nl8, nl9, nl10, nl11, nl12, nl13, nl14, nl15, nl16, nl17, nl18, nl19, nl20, nl21, nl22, nl23, nl24, nl25, nl26, nl27, nl28, nl29, nl30, nl31, nl32, nl33, nl34, nl35, nl36, nl37, nl38, nl39, nl40, nl41, nl42, nl43, nl44, nl45, nl46, nl47, nl48, nl49, nl50, nl51, nl52, nl53, nl54, nl55, nl56, nl57, nl58, nl59, nl60, nl61, nl62, nl63, nl64, nl65, nl66, nl67, nl68, nl69, nl70, nl71, nl72, nl73, nl74, nl75, nl76, nl77, nl78, nl79, nl80, nl82, nl83, nl84, nl85, nl86, nl88, nl90, nl96, nl97, nl99, nl100, nl101, nl104, nl112, nl115, nl120, nl121, nl122, nl126, nl127, nl128, nl160, nl200, nl201, nl202, nl255, nl256, nl300, nl320, nl322, nl400, nl500, nl600, nl640, nl732, nl968, nl999, nl1000, nl1001, nl1040, nl1440, nl1500, nl1501, nl1600, nl2000, nl2240, nl3131, nl4000, nl4095, nl4096, nl4960, nl5000, nl6000, nl6001, nl8000, nl9999, nl10000, nl10200, nl13520, nl14000, nl20000, nl32768, nl40000, nl46000, nl64000, nl65536, nl78000, nl100000, nl128000, nl400000, nl730000, amR, M_isS hR.k hR.mw, e5, b2n_t, x3, l49, nmR, Nat.add_sub_cancel]
          have h7 : pR c (a' + 1) d b' N' 0 g' (zwI (xaS c β a') 40 4 c.p (nI d)) (us (us (maS s' a') 49 (nI (k + 1))) 44 (nI d)) := by
            have := h6.tmp (s' := us (us (maS s' a') 44 (nI d)) 49 (nI (k + 1))) (fun i hi => by rw [ls_us, if_neg (by omega)]) (fun _ _ => rfl)
            rw [us_comm (by decide)] at this
            exact this
          have Y5 := x5.Y
          have t4 := x5.t4
          have t5 := x5.t5
          refine .inl ⟨_, t, F1', F2, _, a' + 1, b', N', g', ?_, ⟨?_, ?_, by omega⟩, pZ.mk h7 ((Y0.tr Y5).m (fun _ _ _ => rfl) ⟨rfl, rfl, rfl, rfl⟩ |>.xp (fun q hq => ?_) (Nat.le_refl _)) x5.t1 t2 x5.t3 (by omega) t5 (by omega) (by omega) (by omega) (by omega)⟩
          · rw [X0 _ x1, zc_l, if_pos (of_eq_true (kis kpR (by decide))), X_close1 hR (by omega) e5, zc_l]
            rfl
          · rw [mW_s, M1]
            show mW F0 (nI 0) _ = _
            rw [x2, M2]
            rfl
          · exact ⟨by rw [h49]; rfl, fun i j h1 h2 h3 => (x4.2 i j h1 h2 h3).trans (mCx_row (by omega))⟩
          · show (zwI (zwI β 40 3 c.p (nI (a' + 1))) 40 4 c.p (nI d)).2 q = _
            rw [zwI_ne hq, zwI_ne hq]
      · refine .inr ⟨e, β, u, s', wh, w, ?_, x2, ?_, x4, pl0.tr x5⟩
        · rw [X0 _ x1, zc_r, if_pos x2]
        · rw [mW_s, M1]
          exact x3
end PAJ
