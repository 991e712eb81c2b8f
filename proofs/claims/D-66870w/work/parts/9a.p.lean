/-! THE PURE LAYER: the parser: a relation, on both sides. -/
/-- a factor was read, from word a to a': node t -/
def pQ (c : pC) (a d b N y : Nat) (g : pG) (α : zS) (s : zM) (a' b' N' t : Nat) (g' : pG) (β : zS) (s' : zM) : Prop := (pR c a' d b' N' y g' β s') ∧ (pY c N g α s N' g' β s') ∧ (cSb c N' g' β s') ∧ (N ≤ t) ∧ (t < N') ∧ (la s' 16 t = nI 0) ∧ (g'.r t < 2 * (a' - a)) ∧ (a < a') ∧ (b' + 10 * a ≤ b + 10 * a')
theorem pQ.R {c : pC} {a d b N y : Nat} {g : pG} {α : zS} {s : zM} {a' b' N' t : Nat} {g' : pG} {β : zS} {s' : zM} (h : pQ c a d b N y g α s a' b' N' t g' β s') : pR c a' d b' N' y g' β s' := by
  unfold pQ at h
  exact h.1
theorem pQ.Y {c : pC} {a d b N y : Nat} {g : pG} {α : zS} {s : zM} {a' b' N' t : Nat} {g' : pG} {β : zS} {s' : zM} (h : pQ c a d b N y g α s a' b' N' t g' β s') : pY c N g α s N' g' β s' := by
  unfold pQ at h
  exact h.2.1
theorem pQ.S {c : pC} {a d b N y : Nat} {g : pG} {α : zS} {s : zM} {a' b' N' t : Nat} {g' : pG} {β : zS} {s' : zM} (h : pQ c a d b N y g α s a' b' N' t g' β s') : cSb c N' g' β s' := by
  unfold pQ at h
  exact h.2.2.1
theorem pQ.t1 {c : pC} {a d b N y : Nat} {g : pG} {α : zS} {s : zM} {a' b' N' t : Nat} {g' : pG} {β : zS} {s' : zM} (h : pQ c a d b N y g α s a' b' N' t g' β s') : N ≤ t := by
  unfold pQ at h
  exact h.2.2.2.1
theorem pQ.t2 {c : pC} {a d b N y : Nat} {g : pG} {α : zS} {s : zM} {a' b' N' t : Nat} {g' : pG} {β : zS} {s' : zM} (h : pQ c a d b N y g α s a' b' N' t g' β s') : t < N' := by
  unfold pQ at h
  exact h.2.2.2.2.1
theorem pQ.t3 {c : pC} {a d b N y : Nat} {g : pG} {α : zS} {s : zM} {a' b' N' t : Nat} {g' : pG} {β : zS} {s' : zM} (h : pQ c a d b N y g α s a' b' N' t g' β s') : la s' 16 t = nI 0 := by
  unfold pQ at h
  exact h.2.2.2.2.2.1
theorem pQ.t4 {c : pC} {a d b N y : Nat} {g : pG} {α : zS} {s : zM} {a' b' N' t : Nat} {g' : pG} {β : zS} {s' : zM} (h : pQ c a d b N y g α s a' b' N' t g' β s') : g'.r t < 2 * (a' - a) := by
  unfold pQ at h
  exact h.2.2.2.2.2.2.1
theorem pQ.a1 {c : pC} {a d b N y : Nat} {g : pG} {α : zS} {s : zM} {a' b' N' t : Nat} {g' : pG} {β : zS} {s' : zM} (h : pQ c a d b N y g α s a' b' N' t g' β s') : a < a' := by
  unfold pQ at h
  exact h.2.2.2.2.2.2.2.1
theorem pQ.b1 {c : pC} {a d b N y : Nat} {g : pG} {α : zS} {s : zM} {a' b' N' t : Nat} {g' : pG} {β : zS} {s' : zM} (h : pQ c a d b N y g α s a' b' N' t g' β s') : b' + 10 * a ≤ b + 10 * a' := by
  unfold pQ at h
  exact h.2.2.2.2.2.2.2.2
theorem pQ.mk {c : pC} {a d b N y : Nat} {g : pG} {α : zS} {s : zM} {a' b' N' t : Nat} {g' : pG} {β : zS} {s' : zM} (x0 : pR c a' d b' N' y g' β s') (x1 : pY c N g α s N' g' β s') (x2 : cSb c N' g' β s') (x3 : N ≤ t) (x4 : t < N') (x5 : la s' 16 t = nI 0) (x6 : g'.r t < 2 * (a' - a)) (x7 : a < a') (x8 : b' + 10 * a ≤ b + 10 * a') : pQ c a d b N y g α s a' b' N' t g' β s' := by
  unfold pQ
  exact ⟨x0, x1, x2, x3, x4, x5, x6, x7, x8⟩
/-- what conditions leave of M's rows beside nodes: marks below m, brackets below jn -/
def qT (m jn : Nat) (s s' : zM) : Prop := ls s' 54 = ls s 54 ∧ ls s' 57 = ls s 57 ∧ (∀ i, i < m → la s' 58 i = la s 58 i) ∧ ∀ i j, 59 ≤ i → i ≤ 64 → j < jn → la s' i j = la s i j
section PAP
variable {c : pC} {G : xQ} {α β γ αs : zS} {s s' s2 ss : zM} {a a1 a' d b b' N N' N2 Ns k t t2 u w wh q r F F1 F' f y to m n jn : Nat} {g g' g2 gs : pG} {v v' kv : Int32} {l ts : List Nat}
theorem bT : ¬ nI (b2n true) = nI 0 := by decide
theorem bF : nI (b2n false) = nI 0 := rfl
theorem n1n : ¬ nI 1 = nI 0 := by decide
theorem qT.rf : qT m jn s s := ⟨rfl, rfl, fun _ _ => rfl, fun _ _ _ _ _ => rfl⟩
theorem qT.tr (h : qT m jn s s') (h' : qT m jn s' s2) : qT m jn s s2 := ⟨h'.1.trans h.1, h'.2.1.trans h.2.1, fun i hi => (h'.2.2.1 i hi).trans (h.2.2.1 i hi), fun i j h1 h2 h3 => (h'.2.2.2 i j h1 h2 h3).trans (h.2.2.2 i j h1 h2 h3)⟩
theorem qT.le {m' jn' : Nat} (h : qT m jn s s') (h1 : m' ≤ m) (h2 : jn' ≤ jn) : qT m' jn' s s' := ⟨h.1, h.2.1, fun i hi => h.2.2.1 i (by omega), fun i j h3 h4 h5 => h.2.2.2 i j h3 h4 (by omega)⟩
theorem mOt.qq (h : mOt s s') : qT m jn s s' := ⟨h.1 54 (by decide), h.1 57 (by decide), fun i _ => by rw [h.2 58 (by decide)], fun i j h1 h2 _ => by rw [h.2 i (by omega)]⟩
/-- a state with what compare has set -/
theorem mCmp_mK (h : mKp c s) : mKp c (mCmp s a' n) := (h.us1 (by omega)).us1 (by omega)
theorem pR.cmpM (h : pR c a' d b N y g α (us s 41 (nI a'))) : pR c a' d b N y g α (mCmp s a' n) := h.tmp (fun k hk => by unfold mCmp; rw [ls_us, if_neg (by omega)]) (fun _ _ => rfl)
theorem upd_c {f : Nat → Int32} {i j : Nat} {x z : Int32} (h : i ≠ j) : upd (upd f i x) j z = upd (upd f j z) i x := by
  funext p
  unfold upd
  by_cases e1 : p = j
  · rw [if_pos e1, if_neg (by omega), if_pos e1]
  · rw [if_neg e1, if_neg e1]
/-- M's node, made early and completed behind compare, is the node made behind it -/
theorem m53_eq : ua (mCmp (mM53 s N (nI 0) v' u) a' n) 10 (upd (la (mM53 s N (nI 0) v' u) 10) N (nI n)) = mM53 (mCmp s a' n) N (nI n) v' u := by
  refine zM_eq (fun k => ?_) (fun k i => ?_) rfl rfl
  · show (if k = 56 then nI n else if k = 41 then nI a' else if k = 8 then nI (N + 1) else ls s k) = (if k = 8 then nI (N + 1) else if k = 56 then nI n else if k = 41 then nI a' else ls s k)
    by_cases e1 : k = 8
    · rw [if_neg (by omega), if_neg (by omega), if_pos e1, if_pos e1]
    · rw [if_neg e1, if_neg e1]
  · by_cases e : k = 10
    · subst e
      show upd (upd (la s 10) N (nI 0)) N (nI n) i = upd (la s 10) N (nI n) i
      rw [upd_upd]
    · rw [la_ua, if_neg e]
      by_cases hk : 9 ≤ k ∧ k ≤ 16
      · have : k = 9 ∨ k = 11 ∨ k = 12 ∨ k = 13 ∨ k = 14 ∨ k = 15 ∨ k = 16 := by omega
        rcases this with rfl | rfl | rfl | rfl | rfl | rfl | rfl <;> rfl
      · show la (mM53 s N (nI 0) v' u) k i = _
        rw [mOt.m53.2 k hk, mOt.m53.2 k hk]
        rfl
/-- M's factor without NOT and bracket: a comparison at once, or an operand first -/
def gFA (s : zM) : gF Int32 :=
  xlet (ls s 55) fun x33 =>
  if ¬ x33 = 0 then
    xlet (ls s 41) fun x34 =>
    (gX26_make 53 0 x34 s).bind fun p35 =>
    xlet (ls p35.2 55) fun x37 =>
    (gst p35.2 12 8000 p35.1 x37).bind fun s38 =>
    (gX26_compare p35.1 s38).bind fun p39 =>
    some (p35.1, p39.2)
  else
    xlet (ls s 41) fun x40 =>
    (gX26_fail 1 x40 s).bind fun p41 =>
    some (0, p41.2)
def gFO2 (x : Int32) (s : zM) : gF Int32 :=
  xlet (ls s 55) fun x7 =>
  if x7 ≤ 0 then
    xlet (ls s 41) fun x8 =>
    (gX26_isKind (x8 - (1 : Int32)) 1 s).bind fun p9 =>
    if ¬ p9.1 = 0 then
      (gst p9.2 9 8000 x (54 : Int32)).bind fun s11 =>
      (gX26_passed s11).bind fun p13 =>
      (gst p13.2 10 8000 x p13.1).bind fun s14 =>
      some (x, s14)
    else
      xlet (ls p9.2 41) fun x15 =>
      (gX26_fail 1 x15 p9.2).bind fun p16 =>
      some (0, p16.2)
  else
    xlet (ls s 56) fun x17 =>
    (gld s 11 8000 x).bind fun x19 =>
    (gX26_make 53 x17 x19 s).bind fun p20 =>
    xlet (ls p20.2 55) fun x22 =>
    (gst p20.2 12 8000 p20.1 x22).bind fun s23 =>
    (gX26_attach p20.1 x s23).bind fun p24 =>
    some (p20.1, p24.2)
def gFO1 (x : Int32) (s : zM) : gF Int32 :=
  (gld s 11 8000 x).bind fun x26 =>
  (gX26_make 53 0 x26 s).bind fun p27 =>
  (gX26_attach p27.1 x p27.2).bind fun p28 =>
  (gst p28.2 12 8000 p27.1 x).bind fun s30 =>
  xlet (us s30 55 x) fun s31 =>
  (gX26_compare p27.1 s31).bind fun p32 =>
  some (p27.1, p32.2)
theorem M_f36 (h : pR c a d b N y g α s) (hp : wS c a 0 = false) : gX26_factor_36 s = if wX c a = true then gFA s else (gX26_operand s).bind fun p4 => xlet (ls p4.2 43) fun x5 => if x5 = 0 then (gX26_isBehind p4.2).bind fun p6 => if p6.1 = 0 then gFO2 p4.1 p6.2 else gFO1 p4.1 p6.2 else some (0, p4.2) := by
  have a5 := h.a5
  unfold gX26_factor_36
  rw [gl_x, h.am, nl0, M_isS h.k h.mw (by omega) (by decide), gl_bs, hp, if_pos (by exact bF), M_isX h.k h.mw h.am (by omega), gl_bs]
  by_cases e : wX c a = true
  · rw [if_pos e, if_neg (by rw [e]; first | decide | exact bT)]
    rfl
  · rw [if_neg e, if_pos (by rw [Bool.not_eq_true] at e; rw [e]; rfl)]
    rfl
/-- a comparison without a first operand -/
theorem rel_A (h : pR c a d b N y g α s) (hb : pB c b a 20) (hS : cSb c N g α s) (hw : wX c a = true) (hp : wS c a 0 = false) : (∃ β t s' a' b' N' g', hX4_relation G (some c.p) α = some (.inl (some (g'.oa t)), β) ∧ gX26_factor_36 s = some (nI t, s') ∧ pQ c a d b N y g α s a' b' N' t g' β s' ∧ (∀ m jn, qT m jn s s')) ∨ pFl c s (hX4_relation G (some c.p) α) (gX26_factor_36 s) := by
  have kp := h.kp
  have ax := h.ax
  have am := h.am
  have bm := h.bm
  have a5 := h.a5
  have al := h.al
  have yN := h.yN
  have hN := h.N8 hb
  have N0 := h.N0
  have N1 := h.k.N1
  have hb0 := hb.le (t := 0) (by omega)
  rcases hS with ⟨z1, z2⟩ | ⟨u, u1, u2, u3, u4, u5⟩
  · obtain ⟨q, β, s', v, y1, y2, y3, y4, y5⟩ := h.no' (G := G) hb0
    refine .inr ⟨q, β, nI 0, s', 1, v, ?_, y2, ?_, y4, y5⟩
    · unfold hX4_relation hX4_relation_27
      simp (disch := omega) only [gld, gst, glj, gsj, gpN0, gpN1, gl_x, gl_gi, pI_in', pI_clamp, pI_add, pI_mul, pI_sub, pI_succ, nmod_eq, pI_div, ni_neg, zn_neg, gnar0, gnar1, eq_self, ni_lt, ni_le, ni_eq, ni_zlt, ni_zle, ni_zeq, zn_lt, zn_le, zn_eq, zz_lt, zz_le, zz_eq, ni_zadd, zn_add, ni_zsub, zn_sub, ni_zmul, zn_mul, nZ_add, nZ_sub, nZ_mul, upd_same, upd_other, upd_upd, gl_bi, gl_mi, gl_bs, gl_ms, gl_bn, gl_mn, if_true, if_false, ↓reduceIte, not_true_eq_false, not_false_eq_true, true_and, and_true, false_and, and_false, and_self, or_false, false_or, or_self, or_true, true_or, Nat.not_lt_zero, Nat.reduceAdd, Nat.reduceMul, Nat.add_zero, Nat.zero_add, Nat.mul_zero, Nat.zero_mul, Nat.reduceEqDiff, Nat.reduceLT, Nat.reduceLeDiff, Nat.succ_ne_zero, ua_ua, us_us, tn_le, tn_nle, tn_lt, tn_nlt, tn_eq, tn_ne, tz_le, tz_nle, tz_lt, tz_nlt, tz_eq, tz_ne, kfI, kfJ, kfA, kpI, kpA, kis, kal, kald, kcald, kaald, Option.some.injEq, ls_us, ls_uj, ls_ua, ls_ub, lj_us, lj_uj, lj_ua, lj_ub, la_us, la_uj, la_ua, la_ub, lb_us, lb_uj, lb_ua, lb_ub, nl0, nl1, nl2, nl3, nl4, nl5, nl6, nl7, nl8, nl9, nl10, nl11, nl12, nl13, nl14, nl15, nl16, nl17, nl18, nl19, nl20, nl21, nl22, nl23, nl24, nl25, nl26, nl27, nl28, nl29, nl30, nl31, nl32, nl33, nl34, nl35, nl36, nl37, nl38, nl39, nl40, nl41, nl42, nl43, nl44, nl45, nl46, nl47, nl48, nl49, nl50, nl51, nl52, nl53, nl54, nl55, nl56, nl57, nl58, nl59, nl60, nl61, nl62, nl63, nl64, nl65, nl66, nl67, nl68, nl69, nl70, nl71, nl72, nl73, nl74, nl75, nl76, nl77, nl78, nl79, nl80, nl82, nl83, nl84, nl85, nl86, nl88, nl90, nl96, nl97, nl99, nl100, nl101, nl104, nl112, nl115, nl120, nl121, nl122, nl126, nl127, nl128, nl160, nl200, nl201, nl202, nl255, nl256, nl300, nl320, nl322, nl400, nl500, nl600, nl640, nl732, nl968, nl999, nl1000, nl1001, nl1040, nl1440, nl1500, nl1501, nl1600, nl2000, nl2240, nl3131, nl4000, nl4095, nl4096, nl4960, nl5000, nl6000, nl6001, nl8000, nl9999, nl10000, nl10200, nl13520, nl14000, nl20000, nl32768, nl40000, nl46000, nl64000, nl65536, nl78000, nl100000, nl128000, nl400000, nl730000, ax, X_isX h.k h.xw, hw, b2n_t, z2, y1, zc_r, y2]
    · rw [M_f36 h hp, if_pos hw]
      unfold gFA
      simp (disch := omega) only [gld, gst, glj, gsj, gpN0, gpN1, gl_x, gl_gi, pI_in', pI_clamp, pI_add, pI_mul, pI_sub, pI_succ, nmod_eq, pI_div, ni_neg, zn_neg, gnar0, gnar1, eq_self, ni_lt, ni_le, ni_eq, ni_zlt, ni_zle, ni_zeq, zn_lt, zn_le, zn_eq, zz_lt, zz_le, zz_eq, ni_zadd, zn_add, ni_zsub, zn_sub, ni_zmul, zn_mul, nZ_add, nZ_sub, nZ_mul, upd_same, upd_other, upd_upd, gl_bi, gl_mi, gl_bs, gl_ms, gl_bn, gl_mn, if_true, if_false, ↓reduceIte, not_true_eq_false, not_false_eq_true, true_and, and_true, false_and, and_false, and_self, or_false, false_or, or_self, or_true, true_or, Nat.not_lt_zero, Nat.reduceAdd, Nat.reduceMul, Nat.add_zero, Nat.zero_add, Nat.mul_zero, Nat.zero_mul, Nat.reduceEqDiff, Nat.reduceLT, Nat.reduceLeDiff, Nat.succ_ne_zero, ua_ua, us_us, tn_le, tn_nle, tn_lt, tn_nlt, tn_eq, tn_ne, tz_le, tz_nle, tz_lt, tz_nlt, tz_eq, tz_ne, ls_us, ls_uj, ls_ua, ls_ub, lj_us, lj_uj, lj_ua, lj_ub, la_us, la_uj, la_ua, la_ub, lb_us, lb_uj, lb_ua, lb_ub, nl0, nl1, nl2, nl3, nl4, nl5, nl6, nl7, nl8, nl9, nl10, nl11, nl12, nl13, nl14, nl15, nl16, nl17, nl18, nl19, nl20, nl21, nl22, nl23, nl24, nl25, nl26, nl27, nl28, nl29, nl30, nl31, nl32, nl33, nl34, nl35, nl36, nl37, nl38, nl39, nl40, nl41, nl42, nl43, nl44, nl45, nl46, nl47, nl48, nl49, nl50, nl51, nl52, nl53, nl54, nl55, nl56, nl57, nl58, nl59, nl60, nl61, nl62, nl63, nl64, nl65, nl66, nl67, nl68, nl69, nl70, nl71, nl72, nl73, nl74, nl75, nl76, nl77, nl78, nl79, nl80, nl82, nl83, nl84, nl85, nl86, nl88, nl90, nl96, nl97, nl99, nl100, nl101, nl104, nl112, nl115, nl120, nl121, nl122, nl126, nl127, nl128, nl160, nl200, nl201, nl202, nl255, nl256, nl300, nl320, nl322, nl400, nl500, nl600, nl640, nl732, nl968, nl999, nl1000, nl1001, nl1040, nl1440, nl1500, nl1501, nl1600, nl2000, nl2240, nl3131, nl4000, nl4095, nl4096, nl4960, nl5000, nl6000, nl6001, nl8000, nl9999, nl10000, nl10200, nl13520, nl14000, nl20000, nl32768, nl40000, nl46000, nl64000, nl65536, nl78000, nl100000, nl128000, nl400000, nl730000, am, z1, y3]
  · have X0 : hX4_relation G (some c.p) α = zcase (hX4_compare G (some c.p) α) (fun p11 => hX4_relation_65 G (some c.p) (nI a) none p11.2) (fun p12 => if zthr p12.2 p12.1 3 = true then some (.inr p12.1, p12.2) else none) := by
      unfold hX4_relation hX4_relation_27
      simp (disch := omega) only [gld, gst, glj, gsj, gpN0, gpN1, gl_x, gl_gi, pI_in', pI_clamp, pI_add, pI_mul, pI_sub, pI_succ, nmod_eq, pI_div, ni_neg, zn_neg, gnar0, gnar1, eq_self, ni_lt, ni_le, ni_eq, ni_zlt, ni_zle, ni_zeq, zn_lt, zn_le, zn_eq, zz_lt, zz_le, zz_eq, ni_zadd, zn_add, ni_zsub, zn_sub, ni_zmul, zn_mul, nZ_add, nZ_sub, nZ_mul, upd_same, upd_other, upd_upd, gl_bi, gl_mi, gl_bs, gl_ms, gl_bn, gl_mn, if_true, if_false, ↓reduceIte, not_true_eq_false, not_false_eq_true, true_and, and_true, false_and, and_false, and_self, or_false, false_or, or_self, or_true, true_or, Nat.not_lt_zero, Nat.reduceAdd, Nat.reduceMul, Nat.add_zero, Nat.zero_add, Nat.mul_zero, Nat.zero_mul, Nat.reduceEqDiff, Nat.reduceLT, Nat.reduceLeDiff, Nat.succ_ne_zero, ua_ua, us_us, tn_le, tn_nle, tn_lt, tn_nlt, tn_eq, tn_ne, tz_le, tz_nle, tz_lt, tz_nlt, tz_eq, tz_ne, kfI, kfJ, kfA, kpI, kpA, kis, kal, kald, kcald, kaald, Option.some.injEq, ls_us, ls_uj, ls_ua, ls_ub, lj_us, lj_uj, lj_ua, lj_ub, la_us, la_uj, la_ua, la_ub, lb_us, lb_uj, lb_ua, lb_ub, nl0, nl1, nl2, nl3, nl4, nl5, nl6, nl7, nl8, nl9, nl10, nl11, nl12, nl13, nl14, nl15, nl16, nl17, nl18, nl19, nl20, nl21, nl22, nl23, nl24, nl25, nl26, nl27, nl28, nl29, nl30, nl31, nl32, nl33, nl34, nl35, nl36, nl37, nl38, nl39, nl40, nl41, nl42, nl43, nl44, nl45, nl46, nl47, nl48, nl49, nl50, nl51, nl52, nl53, nl54, nl55, nl56, nl57, nl58, nl59, nl60, nl61, nl62, nl63, nl64, nl65, nl66, nl67, nl68, nl69, nl70, nl71, nl72, nl73, nl74, nl75, nl76, nl77, nl78, nl79, nl80, nl82, nl83, nl84, nl85, nl86, nl88, nl90, nl96, nl97, nl99, nl100, nl101, nl104, nl112, nl115, nl120, nl121, nl122, nl126, nl127, nl128, nl160, nl200, nl201, nl202, nl255, nl256, nl300, nl320, nl322, nl400, nl500, nl600, nl640, nl732, nl968, nl999, nl1000, nl1001, nl1040, nl1440, nl1500, nl1501, nl1600, nl2000, nl2240, nl3131, nl4000, nl4095, nl4096, nl4960, nl5000, nl6000, nl6001, nl8000, nl9999, nl10000, nl10200, nl13520, nl14000, nl20000, nl32768, nl40000, nl46000, nl64000, nl65536, nl78000, nl100000, nl128000, nl400000, nl730000, ax, X_isX h.k h.xw, hw, b2n_t, u4, X_must1, zc_l, reduceCtorEq]
    have Nm := h.Nm
    generalize hsr : mM53 s N (nI 0) (nI a) u = sr
    have M0 : gX26_factor_36 s = (gX26_compare (nI N) sr).bind fun p => some (nI N, p.2) := by
      have mk := M_make (s := s) (kv := nI 53) (v := nI 0) (v' := nI a) Nm (by omega)
      have l55 : ls (mMk s N (nI 53) (nI 0) (nI a)) 55 = nI u := u3
      rw [M_f36 h hp, if_pos hw]
      unfold gFA
      rw [gl_x, u3, if_pos (by rw [nl0, pI_inj (by omega) (by decide)]; omega), gl_x, am, nl53, nl0, mk, gl_bs, gl_x, l55, pgst (by omega) (by decide), gl_bs]
      show ((gX26_compare (nI N) (mM53 s N (nI 0) (nI a) u)).bind _) = _
      rw [hsr]
    have sr41 : ls sr 41 = nI a := by rw [← hsr]; exact am
    have sr43 : ls sr 43 = nI 0 := by rw [← hsr]; exact bm
    have sr8 : ls sr 8 = nI (N + 1) := by rw [← hsr]; rfl
    have srO : mOt s sr := by rw [← hsr]; exact mOt.m53
    have srK : mKp c sr := by
      refine mKp.mk (fun k hk => ?_) (fun k t k1 k2 ht => ?_) (fun k hk => ?_)
      · rw [srO.1 k (by omega)]; exact h.m.I k hk
      · have := mM53_la (s := s) (N := N) (v := nI 0) (v' := nI a) (u := u) k1 k2 t
        rw [← hsr]
        exact (this.trans (if_neg (by omega))).trans (h.m.A k t k1 k2 ht)
      · rw [srO.2 k (by omega)]; exact h.m.B k hk
    have srW : mWd c sr := srK.wd h.k
    have M1 := M_compare (c := c) (s := sr) (a := a) (t := N) h.k srW sr41 sr43 al (by omega)
    have XC := X_compare (G := G) h (hb.le (by omega))
    rcases hc : wCm c a with ⟨a', n⟩ | a'
    · rw [hc] at M1 XC
      obtain ⟨β, x1, x2, x3, x4, x5, x6, x7⟩ := XC
      simp only at M1
      -- M's state is that of a node made behind compare
      have es : ua (mCmp sr a' n) 10 (upd (la sr 10) N (nI n)) = mM53 (mCmp s a' n) N (nI n) (nI a) u := by
        rw [← hsr]; exact m53_eq
      rw [es] at M1
      have h2 : pR c a' d b N y g β (mCmp s a' n) := x2.cmpM
      obtain ⟨h3, hq⟩ := h2.cell
      obtain ⟨β3, y1, ykd, y2, y3, y4⟩ := h3.new53 (G := G) (r := 1) (v := nI n) (v' := nI a) hq u1 u2
      have hbb : pB c (b + 1 + 1) a' 10 := by unfold pB at *; omega
      have fx3 : ∀ x, x < zn α → x ≠ c.p → (zwA β3 44 7 (zn β) (some (g.oa u))).2 x = α.2 x := fun x z1 z2 => by
        rw [zwA_ne (by omega), y3 x (by omega) (by omega), zmk_ne (by omega)]
        exact x4 x z2
      have Y1 : pY c N g α s (N + 1) (g.push N (zn β) 1) (zwA β3 44 7 (zn β) (some (g.oa u))) (mM53 (mCmp s a' n) N (nI n) (nI a) u) := pY.rf.new fx3 (by show zn α ≤ zn β3; omega) (by omega) (fun j i z1 z2 z3 => by rw [mM53_la z1 z2, if_neg (by omega)]; rfl) ((show pPl s (mCmp s a' n) from ⟨rfl, rfl, rfl, rfl⟩).tr mOt.m53.pl)
      have hp0 := h.k.p
      have hn0 := h.x.n
      have ep3 : (zwA β3 44 7 (zn β) (some (g.oa u))).2 c.p = β.2 c.p := (zwA_ne (by omega)).trans ((y3 _ (by omega) (by omega)).trans (zmk_ne (by omega)))
      have oN : (g.push N (zn β) 1).oa N = zn β := by rw [push_oa, if_pos rfl]
      have rN : (g.push N (zn β) 1).r N = 1 := by rw [push_r, if_pos rfl]
      have cN : (g.push N (zn β) 1).ch N = [] := by rw [push_ch, if_pos rfl]
      have X1 : ∀ R, hX4_operand G (some c.p) (nI 1) (zwA β3 44 7 (zn β) (some (g.oa u))) = R → hX4_relation G (some c.p) α = zcase R (fun p1 => if zis G p1.2 (some (zn β)) 45 = true then (hX43_add G (some (zn β)) p1.1 p1.2).bind fun p2 => some (.inl (some (zn β)), p2.2) else none) (fun p3 => if zthr p3.2 p3.1 3 = true then some (.inr p3.1, p3.2) else none) := fun R hR => by
        have kp3 := h3.kp
        have k16 : zI (zmk β 45 0 9) 40 16 c.p = nI n := by rw [zI_eq (zmk_ne (by omega))]; exact x7
        have kd := hq.kd
        have kp4 : zkd β3 c.p = 41 := by rw [zkd_eq (y3 _ (by omega) (by omega))]; exact kp3
        have k15 : zA β3 40 15 c.p = some (g.oa u) := by rw [zA_eq (y3 _ (by omega) (by omega)), zA_eq (zmk_ne (by omega)), x6]; exact u4
        have kp5 := y2.kp
        rw [X0, x1, zc_l, ← hR]
        unfold hX4_relation_65 hX4_relation_98
        simp (disch := omega) only [gld, gst, glj, gsj, gpN0, gpN1, gl_x, gl_gi, pI_in', pI_clamp, pI_add, pI_mul, pI_sub, pI_succ, nmod_eq, pI_div, ni_neg, zn_neg, gnar0, gnar1, eq_self, ni_lt, ni_le, ni_eq, ni_zlt, ni_zle, ni_zeq, zn_lt, zn_le, zn_eq, zz_lt, zz_le, zz_eq, ni_zadd, zn_add, ni_zsub, zn_sub, ni_zmul, zn_mul, nZ_add, nZ_sub, nZ_mul, upd_same, upd_other, upd_upd, gl_bi, gl_mi, gl_bs, gl_ms, gl_bn, gl_mn, if_true, if_false, ↓reduceIte, not_true_eq_false, not_false_eq_true, true_and, and_true, false_and, and_false, and_self, or_false, false_or, or_self, or_true, true_or, Nat.not_lt_zero, Nat.reduceAdd, Nat.reduceMul, Nat.add_zero, Nat.zero_add, Nat.mul_zero, Nat.zero_mul, Nat.reduceEqDiff, Nat.reduceLT, Nat.reduceLeDiff, Nat.succ_ne_zero, ua_ua, us_us, tn_le, tn_nle, tn_lt, tn_nlt, tn_eq, tn_ne, tz_le, tz_nle, tz_lt, tz_nlt, tz_eq, tz_ne, kfI, kfJ, kfA, kpI, kpA, kis, kal, kald, kcald, kaald, Option.some.injEq, ls_us, ls_uj, ls_ua, ls_ub, lj_us, lj_uj, lj_ua, lj_ub, la_us, la_uj, la_ua, la_ub, lb_us, lb_uj, lb_ua, lb_ub, nl0, nl1, nl2, nl3, nl4, nl5, nl6, nl7, nl8, nl9, nl10, nl11, nl12, nl13, nl14, nl15, nl16, nl17, nl18, nl19, nl20, nl21, nl22, nl23, nl24, nl25, nl26, nl27, nl28, nl29, nl30, nl31, nl32, nl33, nl34, nl35, nl36, nl37, nl38, nl39, nl40, nl41, nl42, nl43, nl44, nl45, nl46, nl47, nl48, nl49, nl50, nl51, nl52, nl53, nl54, nl55, nl56, nl57, nl58, nl59, nl60, nl61, nl62, nl63, nl64, nl65, nl66, nl67, nl68, nl69, nl70, nl71, nl72, nl73, nl74, nl75, nl76, nl77, nl78, nl79, nl80, nl82, nl83, nl84, nl85, nl86, nl88, nl90, nl96, nl97, nl99, nl100, nl101, nl104, nl112, nl115, nl120, nl121, nl122, nl126, nl127, nl128, nl160, nl200, nl201, nl202, nl255, nl256, nl300, nl320, nl322, nl400, nl500, nl600, nl640, nl732, nl968, nl999, nl1000, nl1001, nl1040, nl1440, nl1500, nl1501, nl1600, nl2000, nl2240, nl3131, nl4000, nl4095, nl4096, nl4960, nl5000, nl6000, nl6001, nl8000, nl9999, nl10000, nl10200, nl13520, nl14000, nl20000, nl32768, nl40000, nl46000, nl64000, nl65536, nl78000, nl100000, nl128000, nl400000, nl730000, znO_e, k16, y1, k15]
      rcases y2.operandY (G := G) Y1 (hbb.le (by omega)) N0 (Nat.le_refl N) (Nat.lt_succ_self N) (by rw [rN]; decide) (by omega) (by rw [cN]; intro u hu; simp at hu) with ⟨β4, γ, s', g', w1, w2, w3, w4, w5, w6, w7, w8, w9⟩ | ⟨e, β4, s', w, w1, w2, w3, w4, w5⟩
      · rw [oN] at w3
        have wN := w9 N (Nat.lt_succ_self N)
        refine .inl ⟨γ, N, s', a' + 1, b + 1 + 1 + 3, N + 1 + 1, g', ?_, ?_, pQ.mk w5 w6 ?_ (Nat.le_refl N) (by omega) ?_ (by rw [wN.2.1, rN]; omega) (by omega) (by omega), fun m jn => ?_⟩
        · rw [X1 _ w1, zc_l]
          have : zkd β4 (zn β) = 45 := by rw [oN] at w2; exact w2
          rw [if_pos (of_eq_true (kis this (by decide))), wN.1, oN]
          show ((hX43_add G (some (zn β)) (some (zn (zwA β3 44 7 (zn β) (some (g.oa u))))) β4).bind _) = _
          rw [w3, gl_bs]
        · rw [M0, M1, w4, gl_bs, gl_bs]
        · refine .inr ⟨u, u1, by omega, ?_, ?_, ?_⟩
          · rw [w8.1 55 (by decide), mOt.m53.1 55 (by decide)]; exact u3
          · rw [(w9 u (by omega)).1, push_oa, if_neg (by omega), w7.1, zA_eq ep3, x6]; exact u4
          · rw [w7.2, zI_eq ep3, x7, w8.1 56 (by decide), mOt.m53.1 56 (by decide)]; rfl
        · rw [wN.2.2, mM53_la (by decide) (by decide), if_pos rfl]; rfl
        · have q1 : qT m jn s (mCmp s a' n) := ⟨rfl, rfl, fun _ _ => rfl, fun _ _ _ _ _ => rfl⟩
          exact (q1.tr mOt.m53.qq).tr w8.qq
      · refine .inr ⟨e, β4, nI N, s', 1, w, ?_, w2, ?_, w4, ((show pPl s (mCmp s a' n) from ⟨rfl, rfl, rfl, rfl⟩).tr mOt.m53.pl).tr w5⟩
        · rw [X1 _ w1, zc_r, if_pos w2]
        · rw [M0, M1, w3, gl_bs, gl_bs]
    · rw [hc] at M1 XC
      obtain ⟨e, β, x1, x2, x3, x4, _⟩ := XC
      simp only at M1
      obtain ⟨s', z1, z2, z3⟩ := x3 (us sr 41 (nI a')) (N + 1) (srK.us1 (by omega)) sr43 sr8 (by omega) (by omega)
      refine .inr ⟨e, β, nI N, s', 1, a', ?_, x2, ?_, z2, srO.pl.tr ((show pPl sr (us sr 41 (nI a')) from ⟨rfl, rfl, rfl, rfl⟩).tr z3)⟩
      · rw [X0, x1, zc_r, if_pos x2]
      · rw [M0, M1, z1, gl_bs, gl_bs]
end PAP
