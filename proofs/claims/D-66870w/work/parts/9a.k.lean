/-! THE PURE LAYER: the parser: products and sums. -/
/-- behind a product M goes on, or the bracket's sum is whole -/
def mEs (k sg : Nat) (s : zM) : gF (Int32 ⊕ Int32) := if sg = 0 then mSe (nI k) s else some (.inr (nI 0), us s 41 (ls s 41 + 1))
section PAK
variable {c : pC} {G : xQ} {α β γ αs : zS} {s s' s2 ss : zM} {a a1 a' d b b' N N' N2 Ns as bs k t t2 u w wh q r F F1 F' Fs sg f y : Nat} {g g' g2 gs : pG} {v v' kv : Int32} {l ts : List Nat} {T : gF Int32}
theorem zloop_inr {ρ β : Type} {body : ρ → zS → zF (ρ ⊕ (β ⊕ Nat))} {n e : Nat} {a : ρ} {α α' : zS} (h : body a α = some (.inr (.inr e), α')) : zloop body (n + 1) a α = some (.inr e, α') := zloop_done h
theorem pT.ua {m i : Nat} {x : Int32} (h : pT m s s') (hm : m ≤ k) : pT m s (ua s' i (upd (la s' i) k x)) := by
  refine ⟨h.1, fun j p h1 h2 h3 => ?_⟩
  rw [la_ua]
  split
  · rename_i e; rw [upd_other (by omega), ← e]; exact h.2 j p h1 h2 h3
  · exact h.2 j p h1 h2 h3
theorem pT.us {m : Nat} {x : Int32} (h : pT m s s') : pT m s (us s' 41 x) := h
/-- rows of nodes don't touch the brackets' rows -/
theorem pT.many {m : Nat} (h : pT m s s') : pT m s (mAts (mMk s' N kv v v') N [] ts) := by
  refine ⟨by rw [mAts_ls]; exact h.1, fun j p h1 h2 h3 => ?_⟩
  rw [mAts_la (by omega)]
  unfold mMk
  rw [la_ua, if_neg (by omega), la_ua, if_neg (by omega), la_ua, if_neg (by omega), la_ua, if_neg (by omega), la_ua, if_neg (by omega), la_ua, if_neg (by omega), la_ua, if_neg (by omega), la_ua, if_neg (by omega)]
  exact h.2 j p h1 h2 h3
theorem many_la {j : Nat} (hj : 50 ≤ j) : la (mAts (mMk s N kv v v') N [] ts) j = la s j := by
  rw [mAts_la (by omega)]
  unfold mMk
  rw [la_ua, if_neg (by omega), la_ua, if_neg (by omega), la_ua, if_neg (by omega), la_ua, if_neg (by omega), la_ua, if_neg (by omega), la_ua, if_neg (by omega), la_ua, if_neg (by omega), la_ua, if_neg (by omega)]
  rfl
/-- a loop over products -/
theorem prodLoop (hu : cU c G f) (g1 : c.N0 ≤ Ns) (hf : 5 * (40 - d) + 1 ≤ f) (hk : k ≤ d) (m : Nat) : ∀ {a b N t : Nat} {g : pG} {α : zS} {s : zM} {F1 F Fx : Nat}, c.n - a ≤ m → m < Fx → pR c a d b N 0 g α s → pB c b a 20 → pY c Ns gs αs ss N g α s → Ns ≤ t → t < N → la s 16 t = nI 0 → g.r t < 2 * (a - as) → zn αs ≤ g.oa t → as < a → b + 10 * as ≤ bs + 10 * a → c.n - a + 5 ≤ F → Fs + as ≤ F + a → xLim + as ≤ F1 + a → ls s 49 = nI (k + 1) → la s 52 k = nI t → la s 53 k = nI 0 → pT k ss s → la s 50 k = la ss 50 k → la s 51 k = la ss 51 k → sG c as d bs Ns gs αs ss Fs (zloop (fun (a : ((Option Nat) × (Option Nat))) σ => hX4_product_5b G (rrX4_both G (f + 1)).1 (rrX4_both G (f + 1)).2.1 (rrX4_both G (f + 1)).2.2.1 (rrX4_both G (f + 1)).2.2.2 a.1 a.2 σ) Fx (some c.p, some (g.oa t)) α) (mKf F1 F (gX26_behindUnit_82 (nI k) (nI (wG c a)) s)) (fun F1' F' a' t' s' => mKf F1 F (gX26_behindUnit_82 (nI k) (nI (wG c a)) s) = mKf F1' F' (gX26_behindUnit_82 (nI k) (nI (wG c a')) s') ∧ wG c a' ≤ 6 ∧ la s' 52 k = nI t' ∧ la s' 53 k = nI 0 ∧ pT k ss s' ∧ la s' 50 k = la ss 50 k ∧ la s' 51 k = la ss 51 k) := by
  induction m with
  | zero =>
    intro a b N t g α s F1 F Fx hn hFx h hb hY h1 h2 h0 hr hat has hbb hF hFs hF1 h49 h52 h53 hT h50 h51
    obtain ⟨fx, rfl⟩ : ∃ x, Fx = x + 1 := ⟨Fx - 1, by omega⟩
    have kp := h.kp
    have ax := h.ax
    have a5 := h.a5
    have e0 : ∀ x, wS c a x = false := fun x => wS_f (fun z => by omega)
    have eg : wG c a = 0 := if_neg (fun z => by omega)
    refine .inl ⟨α, t, F1, F, s, a, b, N, g, zloop_in ?_, ⟨rfl, by omega, h52, h53, hT, h50, h51⟩, pZ.mk h hY h1 h2 h0 hr hat has hbb hFs hF1⟩
    unfold hX4_product_5b
    simp (disch := omega) only [gld, gst, glj, gsj, gpN0, gpN1, gl_x, gl_gi, pI_in', pI_clamp, pI_add, pI_mul, pI_sub, pI_succ, nmod_eq, pI_div, ni_neg, zn_neg, gnar0, gnar1, eq_self, ni_lt, ni_le, ni_eq, ni_zlt, ni_zle, ni_zeq, zn_lt, zn_le, zn_eq, zz_lt, zz_le, zz_eq, ni_zadd, zn_add, ni_zsub, zn_sub, ni_zmul, zn_mul, nZ_add, nZ_sub, nZ_mul, upd_same, upd_other, upd_upd, gl_bi, gl_mi, gl_bs, gl_ms, gl_bn, gl_mn, if_true, if_false, ↓reduceIte, not_true_eq_false, not_false_eq_true, true_and, and_true, false_and, and_false, and_self, or_false, false_or, or_self, or_true, true_or, Nat.not_lt_zero, Nat.reduceAdd, Nat.reduceMul, Nat.add_zero, Nat.zero_add, Nat.mul_zero, Nat.zero_mul, Nat.reduceEqDiff, Nat.reduceLT, Nat.reduceLeDiff, Nat.succ_ne_zero, ua_ua, us_us, tn_le, tn_nle, tn_lt, tn_nlt, tn_eq, tn_ne, tz_le, tz_nle, tz_lt, tz_nlt, tz_eq, tz_ne, kfI, kfJ, kfA, kpI, kpA, kis, kal, kald, kcald, kaald, Option.some.injEq, ls_us, ls_uj, ls_ua, ls_ub, lj_us, lj_uj, lj_ua, lj_ub, la_us, la_uj, la_ua, la_ub, lb_us, lb_uj, lb_ua, lb_ub, nl0, nl1, nl2, nl3, nl4, nl5, nl6, nl7, nl8, nl9, nl10, nl11, nl12, nl13, nl14, nl15, nl16, nl17, nl18, nl19, nl20, nl21, nl22, nl23, nl24, nl25, nl26, nl27, nl28, nl29, nl30, nl31, nl32, nl33, nl34, nl35, nl36, nl37, nl38, nl39, nl40, nl41, nl42, nl43, nl44, nl45, nl46, nl47, nl48, nl49, nl50, nl51, nl52, nl53, nl54, nl55, nl56, nl57, nl58, nl59, nl60, nl61, nl62, nl63, nl64, nl65, nl66, nl67, nl68, nl69, nl70, nl71, nl72, nl73, nl74, nl75, nl76, nl77, nl78, nl79, nl80, nl82, nl83, nl84, nl85, nl86, nl88, nl90, nl96, nl97, nl99, nl100, nl101, nl104, nl112, nl115, nl120, nl121, nl122, nl126, nl127, nl128, nl160, nl200, nl201, nl202, nl255, nl256, nl300, nl320, nl322, nl400, nl500, nl600, nl640, nl732, nl968, nl999, nl1000, nl1001, nl1040, nl1440, nl1500, nl1501, nl1600, nl2000, nl2240, nl3131, nl4000, nl4095, nl4096, nl4960, nl5000, nl6000, nl6001, nl8000, nl9999, nl10000, nl10200, nl13520, nl14000, nl20000, nl32768, nl40000, nl46000, nl64000, nl65536, nl78000, nl100000, nl128000, nl400000, nl730000, ax, X_isS h.k h.xw, e0, b2n_f]
  | succ m ih =>
    intro a b N t g α s F1 F Fx hn hFx h hb hY h1 h2 h0 hr hat has hbb hF hFs hF1 h49 h52 h53 hT h50 h51
    obtain ⟨fx, rfl⟩ : ∃ x, Fx = x + 1 := ⟨Fx - 1, by omega⟩
    have kp := h.kp
    have ax := h.ax
    have am := h.am
    have a5 := h.a5
    have nl := h.nl
    have al := h.al
    by_cases eg : wG c a ≤ 6
    · have e7 : wS c a 7 = false := by
        rcases M_sg h with e | e
        · exact e.2.2.2.1
        · exact wS_one e.2.2.2.2.2 (by omega)
      have e8 : wS c a 8 = false := by
        rcases M_sg h with e | e
        · exact e.2.2.2.2
        · exact wS_one e.2.2.2.2.2 (by omega)
      refine .inl ⟨α, t, F1, F, s, a, b, N, g, zloop_in ?_, ⟨rfl, eg, h52, h53, hT, h50, h51⟩, pZ.mk h hY h1 h2 h0 hr hat has hbb hFs hF1⟩
      unfold hX4_product_5b
      simp (disch := omega) only [gld, gst, glj, gsj, gpN0, gpN1, gl_x, gl_gi, pI_in', pI_clamp, pI_add, pI_mul, pI_sub, pI_succ, nmod_eq, pI_div, ni_neg, zn_neg, gnar0, gnar1, eq_self, ni_lt, ni_le, ni_eq, ni_zlt, ni_zle, ni_zeq, zn_lt, zn_le, zn_eq, zz_lt, zz_le, zz_eq, ni_zadd, zn_add, ni_zsub, zn_sub, ni_zmul, zn_mul, nZ_add, nZ_sub, nZ_mul, upd_same, upd_other, upd_upd, gl_bi, gl_mi, gl_bs, gl_ms, gl_bn, gl_mn, if_true, if_false, ↓reduceIte, not_true_eq_false, not_false_eq_true, true_and, and_true, false_and, and_false, and_self, or_false, false_or, or_self, or_true, true_or, Nat.not_lt_zero, Nat.reduceAdd, Nat.reduceMul, Nat.add_zero, Nat.zero_add, Nat.mul_zero, Nat.zero_mul, Nat.reduceEqDiff, Nat.reduceLT, Nat.reduceLeDiff, Nat.succ_ne_zero, ua_ua, us_us, tn_le, tn_nle, tn_lt, tn_nlt, tn_eq, tn_ne, tz_le, tz_nle, tz_lt, tz_nlt, tz_eq, tz_ne, kfI, kfJ, kfA, kpI, kpA, kis, kal, kald, kcald, kaald, Option.some.injEq, ls_us, ls_uj, ls_ua, ls_ub, lj_us, lj_uj, lj_ua, lj_ub, la_us, la_uj, la_ua, la_ub, lb_us, lb_uj, lb_ua, lb_ub, nl0, nl1, nl2, nl3, nl4, nl5, nl6, nl7, nl8, nl9, nl10, nl11, nl12, nl13, nl14, nl15, nl16, nl17, nl18, nl19, nl20, nl21, nl22, nl23, nl24, nl25, nl26, nl27, nl28, nl29, nl30, nl31, nl32, nl33, nl34, nl35, nl36, nl37, nl38, nl39, nl40, nl41, nl42, nl43, nl44, nl45, nl46, nl47, nl48, nl49, nl50, nl51, nl52, nl53, nl54, nl55, nl56, nl57, nl58, nl59, nl60, nl61, nl62, nl63, nl64, nl65, nl66, nl67, nl68, nl69, nl70, nl71, nl72, nl73, nl74, nl75, nl76, nl77, nl78, nl79, nl80, nl82, nl83, nl84, nl85, nl86, nl88, nl90, nl96, nl97, nl99, nl100, nl101, nl104, nl112, nl115, nl120, nl121, nl122, nl126, nl127, nl128, nl160, nl200, nl201, nl202, nl255, nl256, nl300, nl320, nl322, nl400, nl500, nl600, nl640, nl732, nl968, nl999, nl1000, nl1001, nl1040, nl1440, nl1500, nl1501, nl1600, nl2000, nl2240, nl3131, nl4000, nl4095, nl4096, nl4960, nl5000, nl6000, nl6001, nl8000, nl9999, nl10000, nl10200, nl13520, nl14000, nl20000, nl32768, nl40000, nl46000, nl64000, nl65536, nl78000, nl100000, nl128000, nl400000, nl730000, ax, X_isS h.k h.xw, e7, e8, b2n_f]
    · obtain ⟨e1, e2, e3, e4, e5, e6⟩ : a < c.n ∧ 5 ≤ wG c a ∧ wG c a ≤ 8 ∧ c.ks a = 5 ∧ c.vs a = wG c a ∧ wS c a (wG c a) = true := by
        rcases M_sg h with e | e
        · omega
        · exact e
      generalize hsg : wG c a = sg at *
      obtain ⟨α1, x1, x2, x3, x4, x5⟩ := X_both (G := G) h (hb.le (by omega)) e1 (by omega) h2 h0 0 (by omega) (rrX4_both G f).1 (rrX4_both G f).2.1 (rrX4_both G f).2.2.1 (rrX4_both G f).2.2.2
      -- M's turn
      have es : us (ua s 53 (upd (la s 53) k (nI sg))) 41 (ls s 41 + 1) = ua (maS s a) 53 (upd (la s 53) k (nI sg)) := by
        rw [am, pI_succ]; rfl
      have M1 : mKf F1 F (gX26_behindUnit_82 (nI k) (nI sg) s) = mW F (nI 0) (ua (maS s a) 53 (upd (la s 53) k (nI sg))) := by
        rw [M_82x (by omega) (by omega) (by omega), es]
        rfl
      have h3 : pR c (a + 1) d (b + 3) N 0 g α1 (ua (maS s a) 53 (upd (la s 53) k (nI sg))) := x2.ua5 (by omega)
      have hb3 : pB c (b + 3) (a + 1) 20 := by unfold pB at *; omega
      have nnY := hY.nn
      have Y1 : pY c Ns gs αs ss N g α1 (ua (maS s a) 53 (upd (la s 53) k (nI sg))) := by
        refine ((hY.m (s2 := maS s a) (fun _ _ _ => rfl) maS_pl).xs (γ := α1) (fun x z1 z2 => x4 x (by omega) z2 (by omega)) (by omega)).ua5 (by omega)
      have X1 : ∀ R, (rrX4_both G f).2.2.2 (some c.p) α1 = R → hX4_product_5b G (rrX4_both G (f + 1)).1 (rrX4_both G (f + 1)).2.1 (rrX4_both G (f + 1)).2.2.1 (rrX4_both G (f + 1)).2.2.2 (some c.p) (some (g.oa t)) α = zcase (zcase R (fun p11 => if zis G p11.2 (some (zn α)) 45 = true then (hX43_add G (some (zn α)) p11.1 p11.2).bind fun p1 => some (.inl (some (zn α)), p1.2) else none) (fun p12 => if zthr p12.2 p12.1 3 = true then some (.inr p12.1, p12.2) else none)) (fun p1 => some (.inl (some c.p, p1.1), p1.2)) (fun p2 => if zthr p2.2 p2.1 3 = true then some (.inr (.inr p2.1), p2.2) else none) := fun R hR => by
        have x1' : (rrX4_both G (f + 1)).1 (some c.p) (some (g.oa t)) (nI 0) α = zcase R (fun p11 => if zis G p11.2 (some (zn α)) 45 = true then (hX43_add G (some (zn α)) p11.1 p11.2).bind fun p1 => some (.inl (some (zn α)), p1.2) else none) (fun p12 => if zthr p12.2 p12.1 3 = true then some (.inr p12.1, p12.2) else none) := by
          rw [← hR]; exact x1
        unfold hX4_product_5b hX4_product_31
        by_cases e7 : sg = 7
        · rw [e7] at e6
          simp (disch := omega) only [gld, gst, glj, gsj, gpN0, gpN1, gl_x, gl_gi, pI_in', pI_clamp, pI_add, pI_mul, pI_sub, pI_succ, nmod_eq, pI_div, ni_neg, zn_neg, gnar0, gnar1, eq_self, ni_lt, ni_le, ni_eq, ni_zlt, ni_zle, ni_zeq, zn_lt, zn_le, zn_eq, zz_lt, zz_le, zz_eq, ni_zadd, zn_add, ni_zsub, zn_sub, ni_zmul, zn_mul, nZ_add, nZ_sub, nZ_mul, upd_same, upd_other, upd_upd, gl_bi, gl_mi, gl_bs, gl_ms, gl_bn, gl_mn, if_true, if_false, ↓reduceIte, not_true_eq_false, not_false_eq_true, true_and, and_true, false_and, and_false, and_self, or_false, false_or, or_self, or_true, true_or, Nat.not_lt_zero, Nat.reduceAdd, Nat.reduceMul, Nat.add_zero, Nat.zero_add, Nat.mul_zero, Nat.zero_mul, Nat.reduceEqDiff, Nat.reduceLT, Nat.reduceLeDiff, Nat.succ_ne_zero, ua_ua, us_us, tn_le, tn_nle, tn_lt, tn_nlt, tn_eq, tn_ne, tz_le, tz_nle, tz_lt, tz_nlt, tz_eq, tz_ne, kfI, kfJ, kfA, kpI, kpA, kis, kal, kald, kcald, kaald, Option.some.injEq, ls_us, ls_uj, ls_ua, ls_ub, lj_us, lj_uj, lj_ua, lj_ub, la_us, la_uj, la_ua, la_ub, lb_us, lb_uj, lb_ua, lb_ub, nl0, nl1, nl2, nl3, nl4, nl5, nl6, nl7, nl8, nl9, nl10, nl11, nl12, nl13, nl14, nl15, nl16, nl17, nl18, nl19, nl20, nl21, nl22, nl23, nl24, nl25, nl26, nl27, nl28, nl29, nl30, nl31, nl32, nl33, nl34, nl35, nl36, nl37, nl38, nl39, nl40, nl41, nl42, nl43, nl44, nl45, nl46, nl47, nl48, nl49, nl50, nl51, nl52, nl53, nl54, nl55, nl56, nl57, nl58, nl59, nl60, nl61, nl62, nl63, nl64, nl65, nl66, nl67, nl68, nl69, nl70, nl71, nl72, nl73, nl74, nl75, nl76, nl77, nl78, nl79, nl80, nl82, nl83, nl84, nl85, nl86, nl88, nl90, nl96, nl97, nl99, nl100, nl101, nl104, nl112, nl115, nl120, nl121, nl122, nl126, nl127, nl128, nl160, nl200, nl201, nl202, nl255, nl256, nl300, nl320, nl322, nl400, nl500, nl600, nl640, nl732, nl968, nl999, nl1000, nl1001, nl1040, nl1440, nl1500, nl1501, nl1600, nl2000, nl2240, nl3131, nl4000, nl4095, nl4096, nl4960, nl5000, nl6000, nl6001, nl8000, nl9999, nl10000, nl10200, nl13520, nl14000, nl20000, nl32768, nl40000, nl46000, nl64000, nl65536, nl78000, nl100000, nl128000, nl400000, nl730000, ax, X_isS h.k h.xw, e6, b2n_t, x1']
        · have e8 : sg = 8 := by omega
          rw [e8] at e6
          have := wS_one e6 (w := 7) (by omega)
          simp (disch := omega) only [gld, gst, glj, gsj, gpN0, gpN1, gl_x, gl_gi, pI_in', pI_clamp, pI_add, pI_mul, pI_sub, pI_succ, nmod_eq, pI_div, ni_neg, zn_neg, gnar0, gnar1, eq_self, ni_lt, ni_le, ni_eq, ni_zlt, ni_zle, ni_zeq, zn_lt, zn_le, zn_eq, zz_lt, zz_le, zz_eq, ni_zadd, zn_add, ni_zsub, zn_sub, ni_zmul, zn_mul, nZ_add, nZ_sub, nZ_mul, upd_same, upd_other, upd_upd, gl_bi, gl_mi, gl_bs, gl_ms, gl_bn, gl_mn, if_true, if_false, ↓reduceIte, not_true_eq_false, not_false_eq_true, true_and, and_true, false_and, and_false, and_self, or_false, false_or, or_self, or_true, true_or, Nat.not_lt_zero, Nat.reduceAdd, Nat.reduceMul, Nat.add_zero, Nat.zero_add, Nat.mul_zero, Nat.zero_mul, Nat.reduceEqDiff, Nat.reduceLT, Nat.reduceLeDiff, Nat.succ_ne_zero, ua_ua, us_us, tn_le, tn_nle, tn_lt, tn_nlt, tn_eq, tn_ne, tz_le, tz_nle, tz_lt, tz_nlt, tz_eq, tz_ne, kfI, kfJ, kfA, kpI, kpA, kis, kal, kald, kcald, kaald, Option.some.injEq, ls_us, ls_uj, ls_ua, ls_ub, lj_us, lj_uj, lj_ua, lj_ub, la_us, la_uj, la_ua, la_ub, lb_us, lb_uj, lb_ua, lb_ub, nl0, nl1, nl2, nl3, nl4, nl5, nl6, nl7, nl8, nl9, nl10, nl11, nl12, nl13, nl14, nl15, nl16, nl17, nl18, nl19, nl20, nl21, nl22, nl23, nl24, nl25, nl26, nl27, nl28, nl29, nl30, nl31, nl32, nl33, nl34, nl35, nl36, nl37, nl38, nl39, nl40, nl41, nl42, nl43, nl44, nl45, nl46, nl47, nl48, nl49, nl50, nl51, nl52, nl53, nl54, nl55, nl56, nl57, nl58, nl59, nl60, nl61, nl62, nl63, nl64, nl65, nl66, nl67, nl68, nl69, nl70, nl71, nl72, nl73, nl74, nl75, nl76, nl77, nl78, nl79, nl80, nl82, nl83, nl84, nl85, nl86, nl88, nl90, nl96, nl97, nl99, nl100, nl101, nl104, nl112, nl115, nl120, nl121, nl122, nl126, nl127, nl128, nl160, nl200, nl201, nl202, nl255, nl256, nl300, nl320, nl322, nl400, nl500, nl600, nl640, nl732, nl968, nl999, nl1000, nl1001, nl1040, nl1440, nl1500, nl1501, nl1600, nl2000, nl2240, nl3131, nl4000, nl4095, nl4096, nl4960, nl5000, nl6000, nl6001, nl8000, nl9999, nl10000, nl10200, nl13520, nl14000, nl20000, nl32768, nl40000, nl46000, nl64000, nl65536, nl78000, nl100000, nl128000, nl400000, nl730000, ax, X_isS h.k h.xw, e6, this, b2n_t, b2n_f, x1']
      rcases hu (a + 1) d (b + 3) N g α1 _ k F h3 hb3 h49 hk (by omega) hf with ⟨β, t2, F1', F2, s2, a', b', N', g', y1, ⟨y2, y3, _⟩, y5⟩ | ⟨e, β, u, s2, wh, w, y1, y2, y3, y4, y5⟩
      · have hR := y5.R
        have YY := Y1.tr y5.Y
        have a1' := y5.a1
        have b1 := y5.b1
        have f1 := y5.f1
        have f2 := y5.f2
        have r1 := y5.t4
        have tN := y5.t1
        have nn := y5.Y.nn
        have q1 := y5.t5
        have xn := y5.Y.x.n
        have oat := y5.Y.x.oa t h2
        have rt := y5.Y.x.r t h2
        have upt : la s2 16 t = nI 0 := (y5.Y.x.up t h2).trans h0
        have wdt : la s2 11 t = la s 11 t := y5.Y.fm 11 t (by decide) (by decide) h2
        have lo2 := x3.fr (β := β) y5.Y.fx nn h.k.p x2.kp
        rw [← oat, e5] at lo2
        have hbR : pB c b' a' 20 := hb3.go (by omega)
        have hq : ∀ t, c.N0 ≤ t → t < N' → g'.oa t ≠ zn α := fun x z1 z2 => by
          by_cases z : x < N
          · rw [y5.Y.x.oa x z]
            have := (h.g.nd x z1 z).hi
            omega
          · intro e
            have o := (hR.g.nd x z1 z2)
            have := y5.Y.nw x (by omega) z2
            omega
        obtain ⟨γ, g2, z1, z2, z3, z4, z5, z6, z7⟩ := hR.both (G := G) (r := 2 * (a' - as) - 1) YY (hbR.le (by omega)) lo2 h1 (by omega) upt g1 (by omega) y5.t2 y5.t3 (by omega) hq (by omega) (by omega) (by omega) (by omega) wdt.symm (by rw [rt]; omega) (by omega)
        obtain ⟨F1'', rfl⟩ : ∃ x, F1' = x + 1 := ⟨F1' - 1, by
          have : xLim = 1000000000 := rfl
          have := hR.a5
          omega⟩
        have l52 : la s2 52 k = nI t := by
          rw [y3.2 52 k (by decide) (by decide) (by omega), la_ua, if_neg (by decide)]; exact h52
        have l53 : la s2 53 k = nI sg := by
          rw [y3.2 53 k (by decide) (by decide) (by omega), la_ua, if_pos rfl, upd_same]
        have l50 : la s2 50 k = la s 50 k := by
          rw [y3.2 50 k (by decide) (by decide) (by omega), la_ua, if_neg (by decide)]; rfl
        have l51 : la s2 51 k = la s 51 k := by
          rw [y3.2 51 k (by decide) (by decide) (by omega), la_ua, if_neg (by decide)]; rfl
        have l49 : ls s2 49 = nI (k + 1) := y3.1.trans h49
        generalize hsj : mAts (mMk s2 N' (nI 55) (nI sg) (la s2 11 t)) N' [] [t, t2] = sj at *
        have j49 : ls sj 49 = nI (k + 1) := by rw [← hsj, mAts_ls]; exact l49
        have jl : ∀ j, 50 ≤ j → la sj j = la s2 j := fun j hj => by rw [← hsj]; exact many_la hj
        have z8 : pR c a' d (b' + 2) (N' + 1) 0 g2 γ (ua (ua sj 52 (upd (la sj 52) k (nI N'))) 53 (upd (la sj 53) k (nI 0))) := (z3.ua5 (by omega)).ua5 (by omega)
        have M2 := M_2b (t := t2) l49 (by omega) l52 l53 z2 z8
        have hT3 : pT k ss (ua (ua sj 52 (upd (la sj 52) k (nI N'))) 53 (upd (la sj 53) k (nI 0))) := by
          have p1 : pT k ss s2 := hT.tr ⟨y3.1, fun i j i1 i2 i3 => by
            rw [y3.2 i j i1 i2 (by omega), la_ua]
            split
            · rename_i e; rw [e, upd_other (by omega)]
            · rfl⟩
          have p2 : pT k ss sj := by rw [← hsj]; exact p1.many
          exact (p2.ua (Nat.le_refl k)).ua (i := 53) (Nat.le_refl k)
        have Mj : mKf F1 F (gX26_behindUnit_82 (nI k) (nI sg) s) = mKf F1'' F2 (gX26_behindUnit_82 (nI k) (nI (wG c a')) (ua (ua sj 52 (upd (la sj 52) k (nI N'))) 53 (upd (la sj 53) k (nI 0)))) := by
          rw [M1, y2, mV_s, M2]
        have kpR := lo2.kn
        have oatγ : g2.oa N' = zn α := z5
        have R := ih (t := N') (g := g2) (α := γ) (F1 := F1'') (F := F2) (Fx := fx) (by omega) (by omega) z8 (by unfold pB at *; omega) (((z4.ua5 (by omega)).ua5 (by omega))) (by omega) (by omega) (by rw [la_ua, if_neg (by decide), la_ua, if_neg (by decide)]; exact z7) (by rw [z6]; omega) (by rw [oatγ]; exact hY.nn) (by omega) (by omega) (by have := hR.al; omega) (by omega) (by omega) (by exact j49) (by rw [la_ua, if_neg (by decide), la_ua, if_pos rfl, upd_same]) (by rw [la_ua, if_pos rfl, upd_same]) hT3 (by rw [la_ua, if_neg (by decide), la_ua, if_neg (by decide), jl 50 (by decide), l50]; exact h50) (by rw [la_ua, if_neg (by decide), la_ua, if_neg (by decide), jl 51 (by decide), l51]; exact h51)
        rw [Mj, zloop_step (a' := (some c.p, some (g2.oa N'))) (α' := γ)]
        · exact R
        · show hX4_product_5b G _ _ _ _ (some c.p) (some (g.oa t)) α = _
          rw [X1 _ y1, zc_l, if_pos (of_eq_true (kis kpR (by decide)))]
          show zcase ((hX43_add G (some (zn α)) (some (g'.oa t2)) β).bind _) _ _ = _
          rw [z1, gl_bs, zc_l, oatγ]
      · have := Y1.x.pl
        refine .inr ⟨e, β, u, s2, wh, w, ?_, y2, by rw [M1]; exact y3, y4, this.tr y5⟩
        refine zloop_inr ?_
        show hX4_product_5b G _ _ _ _ (some c.p) (some (g.oa t)) α = _
        rw [X1 _ y1, zc_r, if_pos y2, zc_r, if_pos y2]
end PAK
