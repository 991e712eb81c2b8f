/-! THE PURE LAYER: the parser: ADD. -/
section PAZE
variable {c : pC} {G : xQ} {α β γ αs δ : zS} {s s' s2 ss : zM} {a a1 a' d b b' N N' N2 Ns as bs k t t2 u w wh q r F F1 F' Fs f y to n jn o K p : Nat} {g g' g2 gs : pG} {v v' kv : Int32} {l ts : List Nat}
/-- a statement's method of its own -/
theorem sS.wrap {e1 e2 e3 : Nat} {R : zF (Unit ⊕ Nat)} {T : gF Unit} (h : sS c a d b N g s K F e1 e2 e3 R T) {FA FB FE FL FP FS : (Option Nat) → (Option Nat) → zS → zF (Unit ⊕ Nat)} : sS c a d b N g s K F e1 e2 e3 (zcase R (fun p => hX4_statement_446 G FA FB FE FL FP FS p.2) (fun p => if zthr p.2 p.1 3 = true then some (.inr p.1, p.2) else none)) T := by
  rcases h with ⟨γ, F4, s4, a4, b4, N4, g4, y1, y2, y3⟩ | ⟨e, γ, s4, wh, w, y1, y2, y3, y4⟩
  · exact .inl ⟨γ, F4, s4, a4, b4, N4, g4, by rw [y1, zc_l, s446], y2, y3⟩
  · exact .inr ⟨e, γ, s4, wh, w, by rw [y1, zc_r, if_pos y2], y2, y3, y4⟩
/-- a name as an operand: M has passed it ahead -/
theorem pR.nameOp (h : pR c a d b N y g α s) (hb : pB c b a 0) (h1 : c.N0 ≤ to) (h2 : to < N) (hr : 0 < g.r to) (hy : y ≠ N) (hw : wK c a 1 = true) : ∃ β γ s' g', hX4_operand G (some c.p) (nI 1) α = some (.inl (some (zn α)), β) ∧ zkd β (g.oa to) = 45 ∧ hX43_add G (some (g.oa to)) (some (zn α)) β = some (some (zn α), γ) ∧ gX26_mustBe (nI 1) s = some (nI 1, maS s a) ∧ gX26_passed (maS s a) = some (nI (c.vs a), maS s a) ∧ gX26_child (nI to) (nI 41) (nI (100000 + c.vs a)) (nI a) (maS s a) = some ((), s') ∧ pR c (a + 1) d (b + 3) (N + 1) y g' γ s' ∧ pX N g s (N + 1) g' s' := by
  have al := (wK_i hw).1
  have a5 := h.a5
  have am := h.am
  have bm := h.bm
  have hO : wO c a = true := wO_t ⟨al, .inl (wK_i hw).2⟩
  obtain ⟨β, x1, x4⟩ := h.op (G := G) (nm := true) hO (.inl rfl)
  obtain ⟨γ, x2, x3, h6, x6⟩ := h.opAdd (G := G) hO hb h1 h2 hr hy x4
  have kd : zkd β (g.oa to) = 45 := by
    have := (x4.g.nd to h1 (by omega)).kn
    rw [push_oa, if_neg (by omega)] at this
    exact this
  have x1' : hX4_operand G (some c.p) (nI 1) α = some (.inl (some (zn α)), β) := x1
  have h0 := h.adv al
  have ps := M_passed h0 (by omega)
  rw [Nat.add_sub_cancel] at ps
  have hN := h.N8 hb
  have e41 : c.ks a = 1 := (wK_i hw).2
  have N0 := h.N0
  have N1 := h.k.N1
  refine ⟨β, γ, _, _, x1', kd, x2, ?_, ps, ?_, h6, x6⟩
  · rcases h.takeZ (G := G) (k := 1) (by decide) hb with ⟨_, _, z, _⟩ | ⟨e, β', s', w, z1, z2, z3, z4, z5⟩
    · exact z
    · exfalso
      rcases h.takeJ (G := G) (k := 1) (by decide) hb with ⟨v, β', u', s'', y1, y2, y3, y4, y5, y6, y7, y8⟩ | ⟨e', β', u', s'', wh', w', y1, y2, y3, y4, y5⟩
      · rw [z1] at y1
        exact absurd (Prod.mk.inj (Option.some.inj y1)).1 (by simp)
      · have X : hX4_take G (some c.p) (nI 1) α = some (.inl (nI (c.vs a)), xaS c α a) := by
          have kp := h.kp
          have ax := h.ax
          rcases h.take (G := G) (k := 1) (by decide) hb with ⟨_, q1, _, _⟩ | ⟨q, β', s3, v, q1, q2, q3, q4⟩
          · exact q1
          · exfalso
            unfold gX26_mustBe gX26_mustBe_19 at q3
            refine absurd q3 ?_
            simp (disch := omega) only [gld, gst, glj, gsj, gpN0, gpN1, gl_x, gl_gi, pI_in', pI_clamp, pI_add, pI_mul, pI_sub, pI_succ, nmod_eq, pI_div, ni_neg, zn_neg, gnar0, gnar1, eq_self, ni_lt, ni_le, ni_eq, ni_zlt, ni_zle, ni_zeq, zn_lt, zn_le, zn_eq, zz_lt, zz_le, zz_eq, ni_zadd, zn_add, ni_zsub, zn_sub, ni_zmul, zn_mul, nZ_add, nZ_sub, nZ_mul, upd_same, upd_other, upd_upd, gl_bi, gl_mi, gl_bs, gl_ms, gl_bn, gl_mn, if_true, if_false, ↓reduceIte, not_true_eq_false, not_false_eq_true, true_and, and_true, false_and, and_false, and_self, or_false, false_or, or_self, or_true, true_or, Nat.not_lt_zero, Nat.reduceAdd, Nat.reduceMul, Nat.add_zero, Nat.zero_add, Nat.mul_zero, Nat.zero_mul, Nat.reduceEqDiff, Nat.reduceLT, Nat.reduceLeDiff, Nat.succ_ne_zero, ua_ua, us_us, tn_le, tn_nle, tn_lt, tn_nlt, tn_eq, tn_ne, tz_le, tz_nle, tz_lt, tz_nlt, tz_eq, tz_ne, ls_us, ls_uj, ls_ua, ls_ub, lj_us, lj_uj, lj_ua, lj_ub, la_us, la_uj, la_ua, la_ub, lb_us, lb_uj, lb_ua, lb_ub, nl0, nl1, nl2, nl3, nl4, nl5, nl6, nl7, nl8, nl9, nl10, nl11, nl12, nl13, nl14, nl15, nl16, nl17, nl18, nl19, nl20, nl21, nl22, nl23, nl24, nl25, nl26, nl27, nl28, nl29, nl30, nl31, nl32, nl33, nl34, nl35, nl36, nl37, nl38, nl39, nl40, nl41, nl42, nl43, nl44, nl45, nl46, nl47, nl48, nl49, nl50, nl51, nl52, nl53, nl54, nl55, nl56, nl57, nl58, nl59, nl60, nl61, nl62, nl63, nl64, nl65, nl66, nl67, nl68, nl69, nl70, nl71, nl72, nl73, nl74, nl75, nl76, nl77, nl78, nl79, nl80, nl82, nl83, nl84, nl85, nl86, nl88, nl90, nl96, nl97, nl99, nl100, nl101, nl104, nl112, nl115, nl120, nl121, nl122, nl126, nl127, nl128, nl160, nl200, nl201, nl202, nl255, nl256, nl300, nl320, nl322, nl400, nl500, nl600, nl640, nl732, nl968, nl999, nl1000, nl1001, nl1040, nl1440, nl1500, nl1501, nl1600, nl2000, nl2240, nl3131, nl4000, nl4095, nl4096, nl4960, nl5000, nl6000, nl6001, nl8000, nl9999, nl10000, nl10200, nl13520, nl14000, nl20000, nl32768, nl40000, nl46000, nl64000, nl65536, nl78000, nl100000, nl128000, nl400000, nl730000, am, bm, M_isK h.k h.mw, hw, b2n_t]
            exact n10
        rw [X] at z1
        exact absurd (Prod.mk.inj (Option.some.inj z1)).1 (by simp)
  · have Nm : ls (maS s a) 8 = nI N := h.Nm
    unfold gX26_operandOf gX26_operandOf_15 at x3
    rw [M_op h hO hN, gl_bs] at x3
    simp only at x3
    rw [if_neg (by rw [nl0, pI_le (by omega) (by omega)]; omega)] at x3
    unfold gX26_child
    rw [M_make Nm (by omega), gl_bs]
    have e : mMk (maS s a) N (nI 41) (nI (100000 + c.vs a)) (nI a) = mOp c s N a := by unfold mOp; rw [e41]
    show (gX26_attach (nI to) (nI N) (mMk (maS s a) N (nI 41) (nI (100000 + c.vs a)) (nI a))).bind _ = _
    rw [e]
    rcases zz : gX26_attach (nI to) (nI N) (mOp c s N a) with _ | ⟨_, w⟩
    · rw [zz] at x3; simp [gl_bn] at x3
    · rw [zz, gl_bs] at x3; rw [gl_bs]; exact x3
/-- a fault here, with what it leaves of M's rows -/
theorem pR.noF (h : pR c a d b N y g α s) (hb : pB c b a 0) : ∃ e β s' w, hX4_must G (some c.p) (nI 0) α = some (.inr e, β) ∧ zthr β e 3 = true ∧ gX26_fail (nI 1) (nI a) s = some (nI 0, s') ∧ pE c 1 w β s' ∧ pPl s s' ∧ ∀ k, ¬ (k = 6 ∨ k = 7) → la s' k = la s k := by
  obtain ⟨e, β, s', w, x1, x2, x3, x4⟩ := h.no (G := G) hb
  obtain ⟨F, f1, f2⟩ := h.k.fm
  have f3 : ls s 5 = nI F := by rw [h.m.I 5 (by decide)]; exact f1
  refine ⟨e, β, s', w, x1, x2, x3, x4, ?_⟩
  rw [M_fail h.bm f3 f2] at x3
  have es : s' = mFl s F 1 a := (Prod.mk.inj (Option.some.inj x3)).2.symm
  subst es
  refine ⟨mFl_pl, fun k hk => ?_⟩
  unfold mFl
  rw [la_us, la_us, la_us, la_ua, if_neg (by omega), la_ua, if_neg (by omega)]
theorem M_mbF (h : pR c a d b N y g α s) (hw : wK c a 1 = false) (hf : gX26_fail (nI 1) (nI a) s = some (nI 0, s')) : gX26_mustBe (nI 1) s = some (nI 0, s') := by
  have am := h.am
  have bm := h.bm
  have a5 := h.a5
  unfold gX26_mustBe gX26_mustBe_19
  simp (disch := omega) only [gld, gst, glj, gsj, gpN0, gpN1, gl_x, gl_gi, pI_in', pI_clamp, pI_add, pI_mul, pI_sub, pI_succ, nmod_eq, pI_div, ni_neg, zn_neg, gnar0, gnar1, eq_self, ni_lt, ni_le, ni_eq, ni_zlt, ni_zle, ni_zeq, zn_lt, zn_le, zn_eq, zz_lt, zz_le, zz_eq, ni_zadd, zn_add, ni_zsub, zn_sub, ni_zmul, zn_mul, nZ_add, nZ_sub, nZ_mul, upd_same, upd_other, upd_upd, gl_bi, gl_mi, gl_bs, gl_ms, gl_bn, gl_mn, if_true, if_false, ↓reduceIte, not_true_eq_false, not_false_eq_true, true_and, and_true, false_and, and_false, and_self, or_false, false_or, or_self, or_true, true_or, Nat.not_lt_zero, Nat.reduceAdd, Nat.reduceMul, Nat.add_zero, Nat.zero_add, Nat.mul_zero, Nat.zero_mul, Nat.reduceEqDiff, Nat.reduceLT, Nat.reduceLeDiff, Nat.succ_ne_zero, ua_ua, us_us, tn_le, tn_nle, tn_lt, tn_nlt, tn_eq, tn_ne, tz_le, tz_nle, tz_lt, tz_nlt, tz_eq, tz_ne, ls_us, ls_uj, ls_ua, ls_ub, lj_us, lj_uj, lj_ua, lj_ub, la_us, la_uj, la_ua, la_ub, lb_us, lb_uj, lb_ua, lb_ub, nl0, nl1, nl2, nl3, nl4, nl5, nl6, nl7, nl8, nl9, nl10, nl11, nl12, nl13, nl14, nl15, nl16, nl17, nl18, nl19, nl20, nl21, nl22, nl23, nl24, nl25, nl26, nl27, nl28, nl29, nl30, nl31, nl32, nl33, nl34, nl35, nl36, nl37, nl38, nl39, nl40, nl41, nl42, nl43, nl44, nl45, nl46, nl47, nl48, nl49, nl50, nl51, nl52, nl53, nl54, nl55, nl56, nl57, nl58, nl59, nl60, nl61, nl62, nl63, nl64, nl65, nl66, nl67, nl68, nl69, nl70, nl71, nl72, nl73, nl74, nl75, nl76, nl77, nl78, nl79, nl80, nl82, nl83, nl84, nl85, nl86, nl88, nl90, nl96, nl97, nl99, nl100, nl101, nl104, nl112, nl115, nl120, nl121, nl122, nl126, nl127, nl128, nl160, nl200, nl201, nl202, nl255, nl256, nl300, nl320, nl322, nl400, nl500, nl600, nl640, nl732, nl968, nl999, nl1000, nl1001, nl1040, nl1440, nl1500, nl1501, nl1600, nl2000, nl2240, nl3131, nl4000, nl4095, nl4096, nl4960, nl5000, nl6000, nl6001, nl8000, nl9999, nl10000, nl10200, nl13520, nl14000, nl20000, nl32768, nl40000, nl46000, nl64000, nl65536, nl78000, nl100000, nl128000, nl400000, nl730000, am, bm, M_isK h.k h.mw, hw, b2n_f, hf]
theorem M_nmF (h : pR c a d b N y g α s) (hw : wK c a 1 = false) (hf : gX26_fail (nI 1) (nI a) s = some (nI 0, s')) : gX26_names v v' s = some ((), s') := by
  have run : ∀ x x' : Int32, gX26_names_6 x x' (nI 0) s' = some ((), s') := fun x x' => by
    unfold gX26_names_6
    rw [show xLim = 999999999 + 1 from rfl]
    refine gl_done ?_
    unfold gX26_names_6b
    simp (disch := omega) only [gld, gst, glj, gsj, gpN0, gpN1, gl_x, gl_gi, pI_in', pI_clamp, pI_add, pI_mul, pI_sub, pI_succ, nmod_eq, pI_div, ni_neg, zn_neg, gnar0, gnar1, eq_self, ni_lt, ni_le, ni_eq, ni_zlt, ni_zle, ni_zeq, zn_lt, zn_le, zn_eq, zz_lt, zz_le, zz_eq, ni_zadd, zn_add, ni_zsub, zn_sub, ni_zmul, zn_mul, nZ_add, nZ_sub, nZ_mul, upd_same, upd_other, upd_upd, gl_bi, gl_mi, gl_bs, gl_ms, gl_bn, gl_mn, if_true, if_false, ↓reduceIte, not_true_eq_false, not_false_eq_true, true_and, and_true, false_and, and_false, and_self, or_false, false_or, or_self, or_true, true_or, Nat.not_lt_zero, Nat.reduceAdd, Nat.reduceMul, Nat.add_zero, Nat.zero_add, Nat.mul_zero, Nat.zero_mul, Nat.reduceEqDiff, Nat.reduceLT, Nat.reduceLeDiff, Nat.succ_ne_zero, ua_ua, us_us, tn_le, tn_nle, tn_lt, tn_nlt, tn_eq, tn_ne, tz_le, tz_nle, tz_lt, tz_nlt, tz_eq, tz_ne, ls_us, ls_uj, ls_ua, ls_ub, lj_us, lj_uj, lj_ua, lj_ub, la_us, la_uj, la_ua, la_ub, lb_us, lb_uj, lb_ua, lb_ub, nl0, nl1, nl2, nl3, nl4, nl5, nl6, nl7, nl8, nl9, nl10, nl11, nl12, nl13, nl14, nl15, nl16, nl17, nl18, nl19, nl20, nl21, nl22, nl23, nl24, nl25, nl26, nl27, nl28, nl29, nl30, nl31, nl32, nl33, nl34, nl35, nl36, nl37, nl38, nl39, nl40, nl41, nl42, nl43, nl44, nl45, nl46, nl47, nl48, nl49, nl50, nl51, nl52, nl53, nl54, nl55, nl56, nl57, nl58, nl59, nl60, nl61, nl62, nl63, nl64, nl65, nl66, nl67, nl68, nl69, nl70, nl71, nl72, nl73, nl74, nl75, nl76, nl77, nl78, nl79, nl80, nl82, nl83, nl84, nl85, nl86, nl88, nl90, nl96, nl97, nl99, nl100, nl101, nl104, nl112, nl115, nl120, nl121, nl122, nl126, nl127, nl128, nl160, nl200, nl201, nl202, nl255, nl256, nl300, nl320, nl322, nl400, nl500, nl600, nl640, nl732, nl968, nl999, nl1000, nl1001, nl1040, nl1440, nl1500, nl1501, nl1600, nl2000, nl2240, nl3131, nl4000, nl4095, nl4096, nl4960, nl5000, nl6000, nl6001, nl8000, nl9999, nl10000, nl10200, nl13520, nl14000, nl20000, nl32768, nl40000, nl46000, nl64000, nl65536, nl78000, nl100000, nl128000, nl400000, nl730000]
  unfold gX26_names
  rw [nl1, M_mbF h hw hf, gl_bs]
  exact run _ _
/-- M's loop of ADD is that of DISPLAY -/
theorem M_add5 : ∀ {F : Nat} {s s' : zM}, gloop (fun (a : (Int32)) s => gX26_statement_444b a s) F v s = some ((), s') → gloop (fun (a : (Int32)) s => gX26_add_5b a s) F v s = gX26_add_31 v s'
  | 0, s, s', h => by
    unfold gloop at h
    exact absurd h (by simp)
  | F + 1, s, s', h => by
    have gi : ∀ {s0 : zM}, gX26_add_5b v s = ginr (gX26_add_31 v s0) → gloop (fun (a : (Int32)) s => gX26_add_5b a s) (F + 1) v s = gX26_add_31 v s0 := fun {s0} e => by
      rcases hm : gX26_add_31 v s0 with _ | ⟨_, s3⟩
      · rw [hm] at e
        simp only [gloop, e]
        rfl
      · rw [hm] at e
        exact gl_done e
    by_cases e43 : ls s 43 = 0
    · have isO : ∀ {p : Int32 × zM}, gX26_isOperand (ls s 41) s = some p → (gX26_statement_444b v s = if p.1 = 0 then some (.inr (), p.2) else (gX26_operandOf v p.2).bind fun p4 => some (.inl v, p4.2)) ∧ gX26_add_5b v s = if p.1 = 0 then ginr (gX26_add_31 v p.2) else (gX26_operandOf v p.2).bind fun p18 => some (.inl v, p18.2) := fun {p} hp => by
        refine ⟨?_, ?_⟩
        · unfold gX26_statement_444b gX26_statement_521
          rw [gl_x, e43, if_neg (fun z => z rfl), gl_x, hp, gl_bs]
          rfl
        · unfold gX26_add_5b
          rw [gl_x, e43, if_neg (fun z => z rfl), gl_x, hp, gl_bs]
      rcases hp : gX26_isOperand (ls s 41) s with _ | p
      · exfalso
        have : gX26_statement_444b v s = none := by
          unfold gX26_statement_444b
          rw [gl_x, e43, if_neg (fun z => z rfl), gl_x, hp, gl_bn]
        simp only [gloop, this] at h
        exact absurd h (by simp)
      · obtain ⟨i1, i2⟩ := isO hp
        by_cases e0 : p.1 = 0
        · rw [if_pos e0] at i1 i2
          rw [gl_done i1] at h
          have : p.2 = s' := (Prod.mk.inj (Option.some.inj h)).2
          rw [gi i2, this]
        · rw [if_neg e0] at i1 i2
          rcases ho : gX26_operandOf v p.2 with _ | ⟨_, s3⟩
          · rw [ho, gl_bn] at i1
            exfalso
            simp only [gloop, i1] at h
            exact absurd h (by simp)
          · rw [ho, gl_bs] at i1 i2
            rw [gl_step i1] at h
            rw [gl_step i2]
            exact M_add5 h
    · have i1 : gX26_statement_444b v s = some (.inr (), s) := by
        unfold gX26_statement_444b gX26_statement_521
        rw [gl_x, if_pos e43]
        rfl
      have i2 : gX26_add_5b v s = ginr (gX26_add_31 v s) := by
        unfold gX26_add_5b
        rw [gl_x, if_pos e43]
      rw [gl_done i1] at h
      have : s = s' := (Prod.mk.inj (Option.some.inj h)).2
      rw [gi i2, this]
/-- ADD -/
theorem st_37 (hli : cLi c G f) (h : pR c a d b N 0 g α s) (hb : pB c b a 20) (h1 : c.N0 ≤ t) (h2 : t < N) (hr : rS d < g.r t + 5) (hr0 : 0 < g.r t) (hk : la s 9 t ≠ nI 53) (hk9 : ¬ pW (la s 9 t)) (h45 : ls s 45 = nI K) (hK : K ≤ 2 * d + 1) (hF : 10 * (c.n - a) + 22 ≤ F) (hf : 3 * (40 - d) + 1 ≤ f) : sS c a d b N g s K F 0 0 3 (xVf c G (f + 1) 37 (g.oa t) α) ((mVb (nI 37) (nI t) s).bind fun p => mS F p.2) := by
  have kp := h.kp
  have nl := h.nl
  have al := h.al
  have N0 := h.N0
  have N1 := h.k.N1
  have hN := h.N8 hb
  rw [xV_37, mV_37, if_pos (of_eq_true (kis kp (by decide)))]
  refine sS.wrap ?_
  have M0 : ((gX26_add (nI t) s).bind fun p14 => gX26_statement_521 p14.2) = gX26_add (nI t) s := gu_id
  have X0 : (rrX4_add G (f + 1)).1 (some c.p) (some (g.oa t)) α = hX4_add_r G (rrX4_add G f).1 (rrX4_add G f).2.1 (rrX4_add G f).2.2.1 (rrX4_add G f).2.2.2.1 (rrX4_add G f).2.2.2.2.1 (rrX4_add G f).2.2.2.2.2 (some c.p) (some (g.oa t)) α := rfl
  have X78 : ∀ α, hX4_add_78 G (rrX4_add G f).1 (rrX4_add G f).2.1 (rrX4_add G f).2.2.1 (rrX4_add G f).2.2.2.1 (rrX4_add G f).2.2.2.2.1 (rrX4_add G f).2.2.2.2.2 (some c.p) (some (g.oa t)) α = xAk2 c G f (aW 37).1 (aW 37).2.1 (aW 37).2.2 (some (g.oa t)) α := fun _ => rfl
  -- what comes behind the operands
  have fin : ∀ {a1 b1 N1 : Nat} {g1 : pG} {α1 : zS} {s1 : zM}, pR c a1 d b1 N1 0 g1 α1 s1 → pX N g s N1 g1 s1 → a ≤ a1 → b1 + 10 * a ≤ b + 10 * a1 → sS c a d b N g s K F 0 0 3 (xAk2 c G f (aW 37).1 (aW 37).2.1 (aW 37).2.2 (some (g.oa t)) α1) ((gX26_add_114 (nI t) s1).bind fun p => mS F p.2) := by
    intro a1 b1 N1 g1 α1 s1 h3 X3 ha hb3
    have al3 := h3.al
    have p45 : ls s1 45 = nI K := X3.pl.1.trans h45
    have n1 := X3.n
    unfold gX26_add_114
    rw [show (37 : Int32) = nI 37 from rfl, M_pile p45 (by omega), gl_bs, gl_bs]
    have R := ak2S (G := G) (F := F) (q := 37) hli h3 (hb.go hb3) h1 (by omega) (by rw [X3.r t h2]; exact hr) (by rw [X3.kd t h2]; exact hk) p45 hK (.inl rfl) (by omega) hf
    rw [X3.oa t h2] at R
    exact R.from X3.x0 (X3.pl.pv h45).lo ha hb3
  have bad : ∀ {e : Nat} {β : zS} {s1 : zM} {wh w : Nat}, zthr β e 3 = true → pE c wh w β s1 → pPl s s1 → sE c (some ((.inr e : Unit ⊕ Nat), β)) ((gX26_add_114 (nI t) s1).bind fun p => mS F p.2) := by
    intro e β s1 wh w z2 z4 z5
    refine ⟨e, β, mPl s1 K (nI 37) (nI t), wh, w, rfl, z2, ?_, z4.pl⟩
    unfold gX26_add_114
    rw [show (37 : Int32) = nI 37 from rfl, M_pile (z5.1.trans h45) (by omega), gl_bs, gl_bs]
    obtain ⟨F0, rfl⟩ : ∃ x, F = x + 1 := ⟨F - 1, by omega⟩
    exact mS_bad z4.pl.b1
  rw [M0, X0]
  unfold hX4_add_r gX26_add gX26_add_5
  rw [if_pos (of_eq_true (kis kp (by decide)))]
  rcases h.operands (G := G) (to := t) (hb.le (by omega)) h1 h2 hr0 (by omega) with ⟨β, s1, s2, x1, x2, x3, a', b', N', g', R, X, e1, e2, e3⟩ | ⟨e, β, s', w, x1, x2, x3, x4, x5⟩
  · have kpR := R.kp
    have aR := R.al
    have n' := X.n
    have N0' := R.N0
    have hbR : pB c b' a' 20 := hb.go (by omega)
    have hN' := R.N8 hbR
    have o1 := X.oa t h2
    have r1 := X.r t h2
    have L := M_add5 (v := nI t) (F := xLim) x3
    obtain ⟨k1, k2, k3⟩ := R.kids (t := t) h1 (by omega) (by omega)
    rw [o1] at k2 k3
    rw [x1, zc_l, x2, gl_bs]
    show sS c a d b N g s K F 0 0 3 (if zis G β (some c.p) 41 = true then _ else _) (Option.bind (gloop (fun (a : (Int32)) s => gX26_add_5b a s) xLim (nI t) s1) _)
    rw [L, if_pos (of_eq_true (kis kpR (by decide)))]
    unfold gX26_add_31
    rw [k1, gl_bs, show (49 : Int32) = nI 49 from rfl, nl48]
    show sS c a d b N g s K F 0 0 3 _ (Option.bind (Option.bind (gX26_meets (nI 48) s2) _) _)
    rcases R.meets (G := G) (w := 49) (by decide) with ⟨eG, y1, m1, h3⟩ | ⟨eG, y1, m1⟩
    · -- GIVING
      have e48 : wW c a' 48 = false := wW_f (fun z => by have := (wW_i eG).2.2; omega)
      have m48 := M_meets R (w := 48) (by decide)
      rw [if_neg (by rw [e48]; decide)] at m48
      have mu : gX26_must (nI 49) s2 = some (nI 1, maS s2 a') := by
        rcases R.needZ (G := G) (w := 49) (by decide) (hbR.le (by omega)) with ⟨_, _, z, _⟩ | ⟨e, β2, s', w, z1, z2, z3, z4, z5⟩
        · exact z
        · exfalso
          unfold gX26_must gX26_must_20 gX26_must_25 at z3
          rw [m1] at z3
          simp only [gl_bs] at z3
          refine absurd z3 ?_
          simp (disch := omega) only [gld, gst, glj, gsj, gpN0, gpN1, gl_x, gl_gi, pI_in', pI_clamp, pI_add, pI_mul, pI_sub, pI_succ, nmod_eq, pI_div, ni_neg, zn_neg, gnar0, gnar1, eq_self, ni_lt, ni_le, ni_eq, ni_zlt, ni_zle, ni_zeq, zn_lt, zn_le, zn_eq, zz_lt, zz_le, zz_eq, ni_zadd, zn_add, ni_zsub, zn_sub, ni_zmul, zn_mul, nZ_add, nZ_sub, nZ_mul, upd_same, upd_other, upd_upd, gl_bi, gl_mi, gl_bs, gl_ms, gl_bn, gl_mn, if_true, if_false, ↓reduceIte, not_true_eq_false, not_false_eq_true, true_and, and_true, false_and, and_false, and_self, or_false, false_or, or_self, or_true, true_or, Nat.not_lt_zero, Nat.reduceAdd, Nat.reduceMul, Nat.add_zero, Nat.zero_add, Nat.mul_zero, Nat.zero_mul, Nat.reduceEqDiff, Nat.reduceLT, Nat.reduceLeDiff, Nat.succ_ne_zero, ua_ua, us_us, tn_le, tn_nle, tn_lt, tn_nlt, tn_eq, tn_ne, tz_le, tz_nle, tz_lt, tz_nlt, tz_eq, tz_ne, ls_us, ls_uj, ls_ua, ls_ub, lj_us, lj_uj, lj_ua, lj_ub, la_us, la_uj, la_ua, la_ub, lb_us, lb_uj, lb_ua, lb_ub, nl0, nl1, nl2, nl3, nl4, nl5, nl6, nl7, nl8, nl9, nl10, nl11, nl12, nl13, nl14, nl15, nl16, nl17, nl18, nl19, nl20, nl21, nl22, nl23, nl24, nl25, nl26, nl27, nl28, nl29, nl30, nl31, nl32, nl33, nl34, nl35, nl36, nl37, nl38, nl39, nl40, nl41, nl42, nl43, nl44, nl45, nl46, nl47, nl48, nl49, nl50, nl51, nl52, nl53, nl54, nl55, nl56, nl57, nl58, nl59, nl60, nl61, nl62, nl63, nl64, nl65, nl66, nl67, nl68, nl69, nl70, nl71, nl72, nl73, nl74, nl75, nl76, nl77, nl78, nl79, nl80, nl82, nl83, nl84, nl85, nl86, nl88, nl90, nl96, nl97, nl99, nl100, nl101, nl104, nl112, nl115, nl120, nl121, nl122, nl126, nl127, nl128, nl160, nl200, nl201, nl202, nl255, nl256, nl300, nl320, nl322, nl400, nl500, nl600, nl640, nl732, nl968, nl999, nl1000, nl1001, nl1040, nl1440, nl1500, nl1501, nl1600, nl2000, nl2240, nl3131, nl4000, nl4095, nl4096, nl4960, nl5000, nl6000, nl6001, nl8000, nl9999, nl10000, nl10200, nl13520, nl14000, nl20000, nl32768, nl40000, nl46000, nl64000, nl65536, nl78000, nl100000, nl128000, nl400000, nl730000]
          exact n10
      have a3 := h3.al
      have kn := (h3.g.nd t h1 (by omega)).kn
      rw [o1] at kn
      have h4 := h3.nodeI (v := nI 101) (j := 1) (i := 10) h1 (by omega) (.inl ⟨rfl, rfl⟩)
      rw [o1] at h4
      have kp4 := h4.kp
      have X4 : pX N g s N' g' (ua (maS s2 a') 10 (upd (la (maS s2 a') 10) t (nI 101))) := (X.tr (pX.ma (a := a'))).m (fun t _ => by rw [la_ua, if_neg (by decide)]) (fun t _ => by rw [la_ua, if_neg (by decide)]) (pPl.nodeI (.inl rfl)) (fun u hu e => by
        rw [la_ua, if_pos rfl]
        exact upd_other (fun z => hk9 (by rw [← X.kd t h2, ← z]; exact e)))
      rw [y1, gl_bs, m48, gl_bs, if_neg (by exact n1n)]
      show sS c a d b N g s K F 0 0 3 (Option.bind (zpI (xaS c β a') (some (g.oa t)) 44 1 (101 : Int32)) _) (Option.bind (if nI 0 = 0 then Option.bind (gX26_must (nI 49) s2) _ else _) _)
      rw [kpI kn, gl_bs, if_pos (show nI 0 = 0 from rfl), mu, gl_bs, if_neg (by exact n1n), show (101 : Int32) = nI 101 from rfl]
      show sS c a d b N g s K F 0 0 3 (Option.bind (zfI (zwI (xaS c β a') 44 1 (g.oa t) (nI 101)) (some c.p) 40 3) _) (Option.bind (Option.bind (gst (maS s2 a') 10 8000 (nI t) (nI 101)) _) _)
      rw [pgst (by omega) (by decide), gl_bs, kfI kp4, h4.ax, gl_bs, if_pos (of_eq_true (kis kp4 (by decide))), nl1, X_isK h4.k h4.xw (by have := h4.a5; omega) (by decide), gl_bs]
      show sS c a d b N g s K F 0 0 3 (if zis G (zwI (xaS c β a') 44 1 (g.oa t) (nI 101)) (some c.p) 41 = true then _ else _) _
      rw [if_pos (of_eq_true (kis kp4 (by decide)))]
      generalize ua (maS s2 a') 10 (upd (la (maS s2 a') 10) t (nI 101)) = s4 at *
      generalize zwI (xaS c β a') 44 1 (g.oa t) (nI 101) = β4 at *
      have hb4 : pB c b' (a' + 1) 20 := hbR.go (by omega)
      rcases ek : wK c (a' + 1) 1 with _ | _
      · obtain ⟨e, β5, s', w, z1, z2, z3, z4, z5, z6⟩ := h4.noF (G := G) (hb4.le (by omega))
        show sS c a d b N g s K F 0 0 3 (zcase (hX4_must G (some c.p) (nI 0) β4) _ _) _
        rw [z1, zc_r, if_pos z2, M_mbF h4 ek z3, gl_bs, if_pos (show (nI 0, s').1 = 0 from rfl)]
        exact .inr (bad z2 z4 (X4.pl.tr z5))
      · obtain ⟨β5, γ5, s5, g5, z1, z2, z3, z4, z5, z6, z7, z8⟩ := h4.nameOp (G := G) (to := t) (hb4.le (by omega)) h1 (by omega) (by rw [r1]; exact hr0) (by omega) ek
        rw [o1] at z2 z3
        show sS c a d b N g s K F 0 0 3 (zcase (hX4_must G (some c.p) (nI 1) β4) _ _) _
        rw [X_must1, zc_l, z4, gl_bs]
        show sS c a d b N g s K F 0 0 3 (if zis G β4 (some c.p) 41 = true then _ else _) (Option.bind (if nI 1 = 0 then _ else Option.bind (gX26_passed (maS s4 (a' + 1))) _) _)
        rw [if_pos (of_eq_true (kis kp4 (by decide))), if_neg (by exact n1n), z5, gl_bs]
        show sS c a d b N g s K F 0 0 3 (zcase (hX4_operand G (some c.p) (nI 1) β4) _ _) (Option.bind (xlet (ls (maS s4 (a' + 1)) 41) _) _)
        rw [z1, zc_l, if_pos (of_eq_true (kis z2 (by decide))), gl_x, show ls (maS s4 (a' + 1)) 41 = nI (a' + 1 + 1) from rfl, nl100000, pI_add, pI_sub (by omega), Nat.add_sub_cancel]
        show sS c a d b N g s K F 0 0 3 (Option.bind (hX43_add G (some (g.oa t)) (some (zn β4)) β5) _) (Option.bind (Option.bind (gX26_child (nI t) 41 (nI (100000 + c.vs (a' + 1))) (nI (a' + 1)) (maS s4 (a' + 1))) _) _)
        rw [z3, gl_bs, nl41, z6, gl_bs, X78]
        exact fin z7 (X4.tr z8) (by omega) (by omega)
    · -- TO
      rw [y1, gl_bs, if_pos (show (nI 0, β).1 = 0 from rfl)]
      show sS c a d b N g s K F 0 0 3 (if zis G β (some c.p) 41 = true then _ else _) _
      rw [if_pos (of_eq_true (kis kpR (by decide)))]
      rcases R.needZ (G := G) (w := 48) (by decide) (hbR.le (by omega)) with ⟨e48, z1, z2, z3⟩ | ⟨e, β2, s', w, z1, z2, z3, z4, z5⟩
      · have m48 := M_meets R (w := 48) (by decide)
        rw [if_pos e48] at m48
        have kp3 := z3.kp
        have a3 := z3.al
        obtain ⟨j1, j2, j3⟩ := z3.kids (t := t) h1 (by omega) (by omega)
        rw [o1] at j2 j3
        show sS c a d b N g s K F 0 0 3 (zcase (hX4_need G (some c.p) (nI 48) β) _ _) _
        rw [z1, zc_l, m48, gl_bs, if_neg (by exact n1n)]
        show sS c a d b N g s K F 0 0 3 (Option.bind (zfA (xaS c β a') (some (g.oa t)) 44 8) _) (Option.bind (Option.bind (gX26_names (nI t) 41 (maS s2 a')) _) _)
        rw [j2, gl_bs]
        show sS c a d b N g s K F 0 0 3 (Option.bind (zLsize (xaS c β a') (some (g.oa t + 1))) _) _
        rw [j3, gl_bs]
        show sS c a d b N g s K F 0 0 3 (if zis G (xaS c β a') (some c.p) 41 = true then _ else _) _
        rw [if_pos (of_eq_true (kis kp3 (by decide))), nl41]
        show sS c a d b N g s K F 0 0 3 (zcase (hX4_targets G (some c.p) (some (g.oa t)) (xaS c β a')) _ _) _
        have hb3 : pB c b' (a' + 1) 20 := hbR.go (by omega)
        rcases ek : wK c (a' + 1) 1 with _ | _
        · obtain ⟨e, β5, s', w, q1, q2, q3, q4, q5, q6⟩ := z3.noF (G := G) (hb3.le (by omega))
          have XT : hX4_targets G (some c.p) (some (g.oa t)) (xaS c β a') = some (.inr e, β5) := by
            have ax3 := z3.ax
            have a53 := z3.a5
            unfold hX4_targets
            simp (disch := omega) only [gld, gst, glj, gsj, gpN0, gpN1, gl_x, gl_gi, pI_in', pI_clamp, pI_add, pI_mul, pI_sub, pI_succ, nmod_eq, pI_div, ni_neg, zn_neg, gnar0, gnar1, eq_self, ni_lt, ni_le, ni_eq, ni_zlt, ni_zle, ni_zeq, zn_lt, zn_le, zn_eq, zz_lt, zz_le, zz_eq, ni_zadd, zn_add, ni_zsub, zn_sub, ni_zmul, zn_mul, nZ_add, nZ_sub, nZ_mul, upd_same, upd_other, upd_upd, gl_bi, gl_mi, gl_bs, gl_ms, gl_bn, gl_mn, if_true, if_false, ↓reduceIte, not_true_eq_false, not_false_eq_true, true_and, and_true, false_and, and_false, and_self, or_false, false_or, or_self, or_true, true_or, Nat.not_lt_zero, Nat.reduceAdd, Nat.reduceMul, Nat.add_zero, Nat.zero_add, Nat.mul_zero, Nat.zero_mul, Nat.reduceEqDiff, Nat.reduceLT, Nat.reduceLeDiff, Nat.succ_ne_zero, ua_ua, us_us, tn_le, tn_nle, tn_lt, tn_nlt, tn_eq, tn_ne, tz_le, tz_nle, tz_lt, tz_nlt, tz_eq, tz_ne, kfI, kfJ, kfA, kpI, kpA, kis, kal, kald, kcald, kaald, Option.some.injEq, ls_us, ls_uj, ls_ua, ls_ub, lj_us, lj_uj, lj_ua, lj_ub, la_us, la_uj, la_ua, la_ub, lb_us, lb_uj, lb_ua, lb_ub, nl0, nl1, nl2, nl3, nl4, nl5, nl6, nl7, nl8, nl9, nl10, nl11, nl12, nl13, nl14, nl15, nl16, nl17, nl18, nl19, nl20, nl21, nl22, nl23, nl24, nl25, nl26, nl27, nl28, nl29, nl30, nl31, nl32, nl33, nl34, nl35, nl36, nl37, nl38, nl39, nl40, nl41, nl42, nl43, nl44, nl45, nl46, nl47, nl48, nl49, nl50, nl51, nl52, nl53, nl54, nl55, nl56, nl57, nl58, nl59, nl60, nl61, nl62, nl63, nl64, nl65, nl66, nl67, nl68, nl69, nl70, nl71, nl72, nl73, nl74, nl75, nl76, nl77, nl78, nl79, nl80, nl82, nl83, nl84, nl85, nl86, nl88, nl90, nl96, nl97, nl99, nl100, nl101, nl104, nl112, nl115, nl120, nl121, nl122, nl126, nl127, nl128, nl160, nl200, nl201, nl202, nl255, nl256, nl300, nl320, nl322, nl400, nl500, nl600, nl640, nl732, nl968, nl999, nl1000, nl1001, nl1040, nl1440, nl1500, nl1501, nl1600, nl2000, nl2240, nl3131, nl4000, nl4095, nl4096, nl4960, nl5000, nl6000, nl6001, nl8000, nl9999, nl10000, nl10200, nl13520, nl14000, nl20000, nl32768, nl40000, nl46000, nl64000, nl65536, nl78000, nl100000, nl128000, nl400000, nl730000, ax3, X_isK z3.k z3.xw, ek, b2n_f, q1, zc_r, q2]
          have ot := z3.g.nd t h1 (by omega)
          have kd : gX26_childrenOf (nI t) s' = some (nI (g'.ch t).length, s') := M_kids (by rw [q6 13 (by decide)]; exact ot.hd) (by rw [q6 15 (by decide)]; exact ot.nx) (fun u hu => by have := ot.mem u hu; omega) (by omega) (by have := ot.len; omega)
          rw [XT, zc_r, if_pos q2, M_nmF z3 ek q3, gl_bs]
          show sS c a d b N g s K F 0 0 3 _ (Option.bind (Option.bind (gX26_childrenOf (nI t) s') _) _)
          rw [kd, gl_bs, pgst (by omega) (by decide), gl_bs]
          have E : pE c 1 w β5 (ua s' 10 (upd (la s' 10) t (nI (g'.ch t).length - nI (g'.ch t).length))) := by
            refine pE.mk q4.x q4.xb q4.xw q4.I (fun k x k1 k2 hx => ?_) (fun k hk => ?_) q4.b1 q4.b2 ?_ q4.w1 q4.w2 q4.wh q4.N q4.zcb q4.zwb
            · rw [la_ua]
              split
              · rename_i e; subst e; rw [upd_other (by omega)]; exact q4.A _ x k1 k2 hx
              · exact q4.A k x k1 k2 hx
            · rw [la_ua, if_neg (by omega)]; exact q4.B k hk
            · obtain ⟨F, f1, f2, f3, f4, f5⟩ := q4.nt
              exact ⟨F, f1, f2, f3, by rw [la_ua, if_neg (by decide)]; exact f4, by rw [la_ua, if_neg (by decide)]; exact f5⟩
          exact .inr (bad q2 E (X.pl.tr (maS_pl.tr (q5.tr (pPl.nodeI (.inl rfl))))))
        · rcases z3.targets (G := G) (to := t) (hb3.le (by omega)) h1 (by omega) (by rw [r1]; exact hr0) (by omega) with ⟨v, β5, u5, s5, q1, q2, a5, b5, N5, g5, R5, X5, e5, e6, _⟩ | ⟨e, β5, u5, s', wh, w, q1, q2, q3, q4, q5⟩
          · rw [o1] at q1
            have n5 := X5.n
            have hb5 := (hb3.go (b' := b5) (a' := a5) (by omega))
            have hN5 := R5.N8 hb5
            have o5 : g5.oa t = g.oa t := (X5.oa t (by omega)).trans o1
            obtain ⟨i1, i2, i3⟩ := R5.kids (t := t) h1 (by omega) (by omega)
            rw [o5] at i2 i3
            have kn5 := (R5.g.nd t h1 (by omega)).kn
            rw [o5] at kn5
            have h6 := R5.nodeI (v := nI (g5.ch t).length - nI (g'.ch t).length) (j := 1) (i := 10) h1 (by omega) (.inl ⟨rfl, rfl⟩)
            rw [o5] at h6
            have X6 : pX N g s N5 g5 (ua s5 10 (upd (la s5 10) t (nI (g5.ch t).length - nI (g'.ch t).length))) := ((X.tr (pX.ma (a := a'))).tr X5).m (fun t _ => by rw [la_ua, if_neg (by decide)]) (fun t _ => by rw [la_ua, if_neg (by decide)]) (pPl.nodeI (.inl rfl)) (fun u hu e => by
              rw [la_ua, if_pos rfl]
              exact upd_other (fun z => hk9 (by rw [← ((X.tr (pX.ma (a := a'))).tr X5).kd t h2, ← z]; exact e)))
            rw [q1, zc_l, q2, gl_bs]
            show sS c a d b N g s K F 0 0 3 (Option.bind (zfA β5 (some (g.oa t)) 44 8) _) (Option.bind (Option.bind (gX26_childrenOf (nI t) s5) _) _)
            rw [i2, gl_bs, i1, gl_bs]
            show sS c a d b N g s K F 0 0 3 (Option.bind (zLsize β5 (some (g.oa t + 1))) _) (Option.bind (Option.bind (gst s5 10 8000 (nI t) (nI (g5.ch t).length - nI (g'.ch t).length)) _) _)
            rw [i3, gl_bs, pgst (by omega) (by decide), gl_bs]
            show sS c a d b N g s K F 0 0 3 (Option.bind (zpI β5 (some (g.oa t)) 44 1 (nI (g5.ch t).length - nI (g'.ch t).length)) _) _
            rw [kpI kn5, gl_bs, X78]
            exact fin h6 X6 (by omega) (by omega)
          · rw [o1] at q1
            exfalso
            have : hX4_targets G (some c.p) (some (g.oa t)) (xaS c β a') ≠ some (.inr e, β5) := by
              obtain ⟨β6, s6, r1', r2, r3⟩ := pR.tgs (G := G) (F1 := xLim) (F2 := xLim) 505 (by have := z3.k.n; omega) (zlim (by decide)) (zlim (by decide)) z3 ek (hb3.le (by omega)) h1 (by omega) (by rw [r1]; exact hr0) (by omega)
              rw [o1] at r1'
              have ax3 := z3.ax
              have a53 := z3.a5
              have : hX4_targets G (some c.p) (some (g.oa t)) (xaS c β a') = some (.inl (), β6) := by
                unfold hX4_targets hX4_targets_13
                simp (disch := omega) only [gld, gst, glj, gsj, gpN0, gpN1, gl_x, gl_gi, pI_in', pI_clamp, pI_add, pI_mul, pI_sub, pI_succ, nmod_eq, pI_div, ni_neg, zn_neg, gnar0, gnar1, eq_self, ni_lt, ni_le, ni_eq, ni_zlt, ni_zle, ni_zeq, zn_lt, zn_le, zn_eq, zz_lt, zz_le, zz_eq, ni_zadd, zn_add, ni_zsub, zn_sub, ni_zmul, zn_mul, nZ_add, nZ_sub, nZ_mul, upd_same, upd_other, upd_upd, gl_bi, gl_mi, gl_bs, gl_ms, gl_bn, gl_mn, if_true, if_false, ↓reduceIte, not_true_eq_false, not_false_eq_true, true_and, and_true, false_and, and_false, and_self, or_false, false_or, or_self, or_true, true_or, Nat.not_lt_zero, Nat.reduceAdd, Nat.reduceMul, Nat.add_zero, Nat.zero_add, Nat.mul_zero, Nat.zero_mul, Nat.reduceEqDiff, Nat.reduceLT, Nat.reduceLeDiff, Nat.succ_ne_zero, ua_ua, us_us, tn_le, tn_nle, tn_lt, tn_nlt, tn_eq, tn_ne, tz_le, tz_nle, tz_lt, tz_nlt, tz_eq, tz_ne, kfI, kfJ, kfA, kpI, kpA, kis, kal, kald, kcald, kaald, Option.some.injEq, ls_us, ls_uj, ls_ua, ls_ub, lj_us, lj_uj, lj_ua, lj_ub, la_us, la_uj, la_ua, la_ub, lb_us, lb_uj, lb_ua, lb_ub, nl0, nl1, nl2, nl3, nl4, nl5, nl6, nl7, nl8, nl9, nl10, nl11, nl12, nl13, nl14, nl15, nl16, nl17, nl18, nl19, nl20, nl21, nl22, nl23, nl24, nl25, nl26, nl27, nl28, nl29, nl30, nl31, nl32, nl33, nl34, nl35, nl36, nl37, nl38, nl39, nl40, nl41, nl42, nl43, nl44, nl45, nl46, nl47, nl48, nl49, nl50, nl51, nl52, nl53, nl54, nl55, nl56, nl57, nl58, nl59, nl60, nl61, nl62, nl63, nl64, nl65, nl66, nl67, nl68, nl69, nl70, nl71, nl72, nl73, nl74, nl75, nl76, nl77, nl78, nl79, nl80, nl82, nl83, nl84, nl85, nl86, nl88, nl90, nl96, nl97, nl99, nl100, nl101, nl104, nl112, nl115, nl120, nl121, nl122, nl126, nl127, nl128, nl160, nl200, nl201, nl202, nl255, nl256, nl300, nl320, nl322, nl400, nl500, nl600, nl640, nl732, nl968, nl999, nl1000, nl1001, nl1040, nl1440, nl1500, nl1501, nl1600, nl2000, nl2240, nl3131, nl4000, nl4095, nl4096, nl4960, nl5000, nl6000, nl6001, nl8000, nl9999, nl10000, nl10200, nl13520, nl14000, nl20000, nl32768, nl40000, nl46000, nl64000, nl65536, nl78000, nl100000, nl128000, nl400000, nl730000, ax3, X_isK z3.k z3.xw, ek, b2n_t, X_must1, zc_l, r1']
              rw [this]
              intro z
              exact absurd (Prod.mk.inj (Option.some.inj z)).1 (by simp)
            exact this q1
      · have m48 : gX26_meets (nI 48) s2 = some (nI 0, s2) := by
          have m48 := M_meets R (w := 48) (by decide)
          rcases e48 : wW c a' 48 with _ | _
          · rw [if_neg (by rw [e48]; decide)] at m48; exact m48
          · exfalso
            rw [if_pos e48] at m48
            unfold gX26_must gX26_must_20 gX26_must_25 at z3
            rw [m48] at z3
            simp only [gl_bs] at z3
            refine absurd z3 ?_
            simp (disch := omega) only [gld, gst, glj, gsj, gpN0, gpN1, gl_x, gl_gi, pI_in', pI_clamp, pI_add, pI_mul, pI_sub, pI_succ, nmod_eq, pI_div, ni_neg, zn_neg, gnar0, gnar1, eq_self, ni_lt, ni_le, ni_eq, ni_zlt, ni_zle, ni_zeq, zn_lt, zn_le, zn_eq, zz_lt, zz_le, zz_eq, ni_zadd, zn_add, ni_zsub, zn_sub, ni_zmul, zn_mul, nZ_add, nZ_sub, nZ_mul, upd_same, upd_other, upd_upd, gl_bi, gl_mi, gl_bs, gl_ms, gl_bn, gl_mn, if_true, if_false, ↓reduceIte, not_true_eq_false, not_false_eq_true, true_and, and_true, false_and, and_false, and_self, or_false, false_or, or_self, or_true, true_or, Nat.not_lt_zero, Nat.reduceAdd, Nat.reduceMul, Nat.add_zero, Nat.zero_add, Nat.mul_zero, Nat.zero_mul, Nat.reduceEqDiff, Nat.reduceLT, Nat.reduceLeDiff, Nat.succ_ne_zero, ua_ua, us_us, tn_le, tn_nle, tn_lt, tn_nlt, tn_eq, tn_ne, tz_le, tz_nle, tz_lt, tz_nlt, tz_eq, tz_ne, ls_us, ls_uj, ls_ua, ls_ub, lj_us, lj_uj, lj_ua, lj_ub, la_us, la_uj, la_ua, la_ub, lb_us, lb_uj, lb_ua, lb_ub, nl0, nl1, nl2, nl3, nl4, nl5, nl6, nl7, nl8, nl9, nl10, nl11, nl12, nl13, nl14, nl15, nl16, nl17, nl18, nl19, nl20, nl21, nl22, nl23, nl24, nl25, nl26, nl27, nl28, nl29, nl30, nl31, nl32, nl33, nl34, nl35, nl36, nl37, nl38, nl39, nl40, nl41, nl42, nl43, nl44, nl45, nl46, nl47, nl48, nl49, nl50, nl51, nl52, nl53, nl54, nl55, nl56, nl57, nl58, nl59, nl60, nl61, nl62, nl63, nl64, nl65, nl66, nl67, nl68, nl69, nl70, nl71, nl72, nl73, nl74, nl75, nl76, nl77, nl78, nl79, nl80, nl82, nl83, nl84, nl85, nl86, nl88, nl90, nl96, nl97, nl99, nl100, nl101, nl104, nl112, nl115, nl120, nl121, nl122, nl126, nl127, nl128, nl160, nl200, nl201, nl202, nl255, nl256, nl300, nl320, nl322, nl400, nl500, nl600, nl640, nl732, nl968, nl999, nl1000, nl1001, nl1040, nl1440, nl1500, nl1501, nl1600, nl2000, nl2240, nl3131, nl4000, nl4095, nl4096, nl4960, nl5000, nl6000, nl6001, nl8000, nl9999, nl10000, nl10200, nl13520, nl14000, nl20000, nl32768, nl40000, nl46000, nl64000, nl65536, nl78000, nl100000, nl128000, nl400000, nl730000]
            exact n10
        have mu : gX26_must (nI 49) s2 = some (nI 0, s') := by
          have am2 := R.am
          have f0 : gX26_fail (nI 1) (nI a') s2 = some (nI 0, s') := by
            unfold gX26_must gX26_must_20 gX26_must_25 at z3
            rw [m48] at z3
            simp only [gl_bs] at z3
            obtain ⟨e', β', s'', w', q1, q2, q3, q4, q5⟩ := R.no' (G := G) (hbR.le (by omega))
            rw [q3]
            revert z3
            simp (disch := omega) only [gld, gst, glj, gsj, gpN0, gpN1, gl_x, gl_gi, pI_in', pI_clamp, pI_add, pI_mul, pI_sub, pI_succ, nmod_eq, pI_div, ni_neg, zn_neg, gnar0, gnar1, eq_self, ni_lt, ni_le, ni_eq, ni_zlt, ni_zle, ni_zeq, zn_lt, zn_le, zn_eq, zz_lt, zz_le, zz_eq, ni_zadd, zn_add, ni_zsub, zn_sub, ni_zmul, zn_mul, nZ_add, nZ_sub, nZ_mul, upd_same, upd_other, upd_upd, gl_bi, gl_mi, gl_bs, gl_ms, gl_bn, gl_mn, if_true, if_false, ↓reduceIte, not_true_eq_false, not_false_eq_true, true_and, and_true, false_and, and_false, and_self, or_false, false_or, or_self, or_true, true_or, Nat.not_lt_zero, Nat.reduceAdd, Nat.reduceMul, Nat.add_zero, Nat.zero_add, Nat.mul_zero, Nat.zero_mul, Nat.reduceEqDiff, Nat.reduceLT, Nat.reduceLeDiff, Nat.succ_ne_zero, ua_ua, us_us, tn_le, tn_nle, tn_lt, tn_nlt, tn_eq, tn_ne, tz_le, tz_nle, tz_lt, tz_nlt, tz_eq, tz_ne, ls_us, ls_uj, ls_ua, ls_ub, lj_us, lj_uj, lj_ua, lj_ub, la_us, la_uj, la_ua, la_ub, lb_us, lb_uj, lb_ua, lb_ub, nl0, nl1, nl2, nl3, nl4, nl5, nl6, nl7, nl8, nl9, nl10, nl11, nl12, nl13, nl14, nl15, nl16, nl17, nl18, nl19, nl20, nl21, nl22, nl23, nl24, nl25, nl26, nl27, nl28, nl29, nl30, nl31, nl32, nl33, nl34, nl35, nl36, nl37, nl38, nl39, nl40, nl41, nl42, nl43, nl44, nl45, nl46, nl47, nl48, nl49, nl50, nl51, nl52, nl53, nl54, nl55, nl56, nl57, nl58, nl59, nl60, nl61, nl62, nl63, nl64, nl65, nl66, nl67, nl68, nl69, nl70, nl71, nl72, nl73, nl74, nl75, nl76, nl77, nl78, nl79, nl80, nl82, nl83, nl84, nl85, nl86, nl88, nl90, nl96, nl97, nl99, nl100, nl101, nl104, nl112, nl115, nl120, nl121, nl122, nl126, nl127, nl128, nl160, nl200, nl201, nl202, nl255, nl256, nl300, nl320, nl322, nl400, nl500, nl600, nl640, nl732, nl968, nl999, nl1000, nl1001, nl1040, nl1440, nl1500, nl1501, nl1600, nl2000, nl2240, nl3131, nl4000, nl4095, nl4096, nl4960, nl5000, nl6000, nl6001, nl8000, nl9999, nl10000, nl10200, nl13520, nl14000, nl20000, nl32768, nl40000, nl46000, nl64000, nl65536, nl78000, nl100000, nl128000, nl400000, nl730000, am2, q3]
            exact fun z => z
          unfold gX26_must gX26_must_20 gX26_must_25
          simp (disch := omega) only [gld, gst, glj, gsj, gpN0, gpN1, gl_x, gl_gi, pI_in', pI_clamp, pI_add, pI_mul, pI_sub, pI_succ, nmod_eq, pI_div, ni_neg, zn_neg, gnar0, gnar1, eq_self, ni_lt, ni_le, ni_eq, ni_zlt, ni_zle, ni_zeq, zn_lt, zn_le, zn_eq, zz_lt, zz_le, zz_eq, ni_zadd, zn_add, ni_zsub, zn_sub, ni_zmul, zn_mul, nZ_add, nZ_sub, nZ_mul, upd_same, upd_other, upd_upd, gl_bi, gl_mi, gl_bs, gl_ms, gl_bn, gl_mn, if_true, if_false, ↓reduceIte, not_true_eq_false, not_false_eq_true, true_and, and_true, false_and, and_false, and_self, or_false, false_or, or_self, or_true, true_or, Nat.not_lt_zero, Nat.reduceAdd, Nat.reduceMul, Nat.add_zero, Nat.zero_add, Nat.mul_zero, Nat.zero_mul, Nat.reduceEqDiff, Nat.reduceLT, Nat.reduceLeDiff, Nat.succ_ne_zero, ua_ua, us_us, tn_le, tn_nle, tn_lt, tn_nlt, tn_eq, tn_ne, tz_le, tz_nle, tz_lt, tz_nlt, tz_eq, tz_ne, ls_us, ls_uj, ls_ua, ls_ub, lj_us, lj_uj, lj_ua, lj_ub, la_us, la_uj, la_ua, la_ub, lb_us, lb_uj, lb_ua, lb_ub, nl0, nl1, nl2, nl3, nl4, nl5, nl6, nl7, nl8, nl9, nl10, nl11, nl12, nl13, nl14, nl15, nl16, nl17, nl18, nl19, nl20, nl21, nl22, nl23, nl24, nl25, nl26, nl27, nl28, nl29, nl30, nl31, nl32, nl33, nl34, nl35, nl36, nl37, nl38, nl39, nl40, nl41, nl42, nl43, nl44, nl45, nl46, nl47, nl48, nl49, nl50, nl51, nl52, nl53, nl54, nl55, nl56, nl57, nl58, nl59, nl60, nl61, nl62, nl63, nl64, nl65, nl66, nl67, nl68, nl69, nl70, nl71, nl72, nl73, nl74, nl75, nl76, nl77, nl78, nl79, nl80, nl82, nl83, nl84, nl85, nl86, nl88, nl90, nl96, nl97, nl99, nl100, nl101, nl104, nl112, nl115, nl120, nl121, nl122, nl126, nl127, nl128, nl160, nl200, nl201, nl202, nl255, nl256, nl300, nl320, nl322, nl400, nl500, nl600, nl640, nl732, nl968, nl999, nl1000, nl1001, nl1040, nl1440, nl1500, nl1501, nl1600, nl2000, nl2240, nl3131, nl4000, nl4095, nl4096, nl4960, nl5000, nl6000, nl6001, nl8000, nl9999, nl10000, nl10200, nl13520, nl14000, nl20000, nl32768, nl40000, nl46000, nl64000, nl65536, nl78000, nl100000, nl128000, nl400000, nl730000, m1, am2, f0]
        show sS c a d b N g s K F 0 0 3 (zcase (hX4_need G (some c.p) (nI 48) β) _ _) _
        rw [z1, zc_r, if_pos z2, m48, gl_bs, if_pos (show (nI 0, s2).1 = 0 from rfl)]
        show sS c a d b N g s K F 0 0 3 _ (Option.bind (Option.bind (gX26_must (nI 49) s2) _) _)
        rw [mu, gl_bs, if_pos (show (nI 0, s').1 = 0 from rfl)]
        exact .inr (bad z2 z4 (X.pl.tr z5))
  · rcases eO : wO c a with _ | _
    · obtain ⟨w1, w2, w3⟩ := wO_k eO
      obtain ⟨e', β', s0, w', q1, q2, q3, q4, q5, q6⟩ := h.noF (G := G) (hb.le (by omega))
      have ax := h.ax
      have am := h.am
      have bm := h.bm
      have a5 := h.a5
      have XO : hX4_operands G (some c.p) (some (g.oa t)) α = some (.inr e', β') := by
        unfold hX4_operands
        simp (disch := omega) only [gld, gst, glj, gsj, gpN0, gpN1, gl_x, gl_gi, pI_in', pI_clamp, pI_add, pI_mul, pI_sub, pI_succ, nmod_eq, pI_div, ni_neg, zn_neg, gnar0, gnar1, eq_self, ni_lt, ni_le, ni_eq, ni_zlt, ni_zle, ni_zeq, zn_lt, zn_le, zn_eq, zz_lt, zz_le, zz_eq, ni_zadd, zn_add, ni_zsub, zn_sub, ni_zmul, zn_mul, nZ_add, nZ_sub, nZ_mul, upd_same, upd_other, upd_upd, gl_bi, gl_mi, gl_bs, gl_ms, gl_bn, gl_mn, if_true, if_false, ↓reduceIte, not_true_eq_false, not_false_eq_true, true_and, and_true, false_and, and_false, and_self, or_false, false_or, or_self, or_true, true_or, Nat.not_lt_zero, Nat.reduceAdd, Nat.reduceMul, Nat.add_zero, Nat.zero_add, Nat.mul_zero, Nat.zero_mul, Nat.reduceEqDiff, Nat.reduceLT, Nat.reduceLeDiff, Nat.succ_ne_zero, ua_ua, us_us, tn_le, tn_nle, tn_lt, tn_nlt, tn_eq, tn_ne, tz_le, tz_nle, tz_lt, tz_nlt, tz_eq, tz_ne, kfI, kfJ, kfA, kpI, kpA, kis, kal, kald, kcald, kaald, Option.some.injEq, ls_us, ls_uj, ls_ua, ls_ub, lj_us, lj_uj, lj_ua, lj_ub, la_us, la_uj, la_ua, la_ub, lb_us, lb_uj, lb_ua, lb_ub, nl0, nl1, nl2, nl3, nl4, nl5, nl6, nl7, nl8, nl9, nl10, nl11, nl12, nl13, nl14, nl15, nl16, nl17, nl18, nl19, nl20, nl21, nl22, nl23, nl24, nl25, nl26, nl27, nl28, nl29, nl30, nl31, nl32, nl33, nl34, nl35, nl36, nl37, nl38, nl39, nl40, nl41, nl42, nl43, nl44, nl45, nl46, nl47, nl48, nl49, nl50, nl51, nl52, nl53, nl54, nl55, nl56, nl57, nl58, nl59, nl60, nl61, nl62, nl63, nl64, nl65, nl66, nl67, nl68, nl69, nl70, nl71, nl72, nl73, nl74, nl75, nl76, nl77, nl78, nl79, nl80, nl82, nl83, nl84, nl85, nl86, nl88, nl90, nl96, nl97, nl99, nl100, nl101, nl104, nl112, nl115, nl120, nl121, nl122, nl126, nl127, nl128, nl160, nl200, nl201, nl202, nl255, nl256, nl300, nl320, nl322, nl400, nl500, nl600, nl640, nl732, nl968, nl999, nl1000, nl1001, nl1040, nl1440, nl1500, nl1501, nl1600, nl2000, nl2240, nl3131, nl4000, nl4095, nl4096, nl4960, nl5000, nl6000, nl6001, nl8000, nl9999, nl10000, nl10200, nl13520, nl14000, nl20000, nl32768, nl40000, nl46000, nl64000, nl65536, nl78000, nl100000, nl128000, nl400000, nl730000, ax, X_isO h.k h.xw, eO, b2n_f, q1, zc_r, q2]
      have MO : gX26_operandOf (nI t) s = some ((), s0) := by
        unfold gX26_operandOf gX26_operandOf_15 gX26_operand gX26_operand_18
        simp (disch := omega) only [gld, gst, glj, gsj, gpN0, gpN1, gl_x, gl_gi, pI_in', pI_clamp, pI_add, pI_mul, pI_sub, pI_succ, nmod_eq, pI_div, ni_neg, zn_neg, gnar0, gnar1, eq_self, ni_lt, ni_le, ni_eq, ni_zlt, ni_zle, ni_zeq, zn_lt, zn_le, zn_eq, zz_lt, zz_le, zz_eq, ni_zadd, zn_add, ni_zsub, zn_sub, ni_zmul, zn_mul, nZ_add, nZ_sub, nZ_mul, upd_same, upd_other, upd_upd, gl_bi, gl_mi, gl_bs, gl_ms, gl_bn, gl_mn, if_true, if_false, ↓reduceIte, not_true_eq_false, not_false_eq_true, true_and, and_true, false_and, and_false, and_self, or_false, false_or, or_self, or_true, true_or, Nat.not_lt_zero, Nat.reduceAdd, Nat.reduceMul, Nat.add_zero, Nat.zero_add, Nat.mul_zero, Nat.zero_mul, Nat.reduceEqDiff, Nat.reduceLT, Nat.reduceLeDiff, Nat.succ_ne_zero, ua_ua, us_us, tn_le, tn_nle, tn_lt, tn_nlt, tn_eq, tn_ne, tz_le, tz_nle, tz_lt, tz_nlt, tz_eq, tz_ne, ls_us, ls_uj, ls_ua, ls_ub, lj_us, lj_uj, lj_ua, lj_ub, la_us, la_uj, la_ua, la_ub, lb_us, lb_uj, lb_ua, lb_ub, nl0, nl1, nl2, nl3, nl4, nl5, nl6, nl7, nl8, nl9, nl10, nl11, nl12, nl13, nl14, nl15, nl16, nl17, nl18, nl19, nl20, nl21, nl22, nl23, nl24, nl25, nl26, nl27, nl28, nl29, nl30, nl31, nl32, nl33, nl34, nl35, nl36, nl37, nl38, nl39, nl40, nl41, nl42, nl43, nl44, nl45, nl46, nl47, nl48, nl49, nl50, nl51, nl52, nl53, nl54, nl55, nl56, nl57, nl58, nl59, nl60, nl61, nl62, nl63, nl64, nl65, nl66, nl67, nl68, nl69, nl70, nl71, nl72, nl73, nl74, nl75, nl76, nl77, nl78, nl79, nl80, nl82, nl83, nl84, nl85, nl86, nl88, nl90, nl96, nl97, nl99, nl100, nl101, nl104, nl112, nl115, nl120, nl121, nl122, nl126, nl127, nl128, nl160, nl200, nl201, nl202, nl255, nl256, nl300, nl320, nl322, nl400, nl500, nl600, nl640, nl732, nl968, nl999, nl1000, nl1001, nl1040, nl1440, nl1500, nl1501, nl1600, nl2000, nl2240, nl3131, nl4000, nl4095, nl4096, nl4960, nl5000, nl6000, nl6001, nl8000, nl9999, nl10000, nl10200, nl13520, nl14000, nl20000, nl32768, nl40000, nl46000, nl64000, nl65536, nl78000, nl100000, nl128000, nl400000, nl730000, am, bm, M_isO h.k h.mw, eO, b2n_f, q3]
      have L := M_add5 (v := nI t) (F := xLim) (s := s0) (s' := s0) (Bd_444 q4.b1)
      have ot := h.g.nd t h1 h2
      have kd : gX26_childrenOf (nI t) s0 = some (nI (g.ch t).length, s0) := M_kids (by rw [q6 13 (by decide)]; exact ot.hd) (by rw [q6 15 (by decide)]; exact ot.nx) (fun u hu => by have := ot.mem u hu; omega) (by omega) (by have := ot.len; omega)
      rw [XO, zc_r, if_pos q2, MO, gl_bs]
      show sS c a d b N g s K F 0 0 3 _ (Option.bind (gloop (fun (a : (Int32)) s => gX26_add_5b a s) xLim (nI t) s0) _)
      rw [L]
      unfold gX26_add_31
      rw [kd, gl_bs]
      show sS c a d b N g s K F 0 0 3 _ (Option.bind (Option.bind (gX26_meets 48 s0) _) _)
      rw [Bd_meets q4.b1, gl_bs, if_pos (show (nI 0, s0).1 = 0 from rfl)]
      show sS c a d b N g s K F 0 0 3 _ (Option.bind (Option.bind (gX26_must 49 s0) _) _)
      rw [Bd_must q4.b1, gl_bs, if_pos (show (nI 0, s0).1 = 0 from rfl)]
      exact .inr (bad q2 q4 q5)
    · exfalso
      obtain ⟨β', y1, y2⟩ := h.op (G := G) (nm := true) eO (.inl rfl)
      obtain ⟨γ', z1, z2, z3, z4⟩ := h.opAdd (G := G) (to := t) eO (hb.le (by omega)) h1 h2 hr0 (by omega) y2
      rw [z2] at x3
      have es := (Prod.mk.inj (Option.some.inj x3)).2
      have b1 := x4.b1
      rw [← es, z3.bm, pI_inj (by decide) (by decide)] at b1
      omega
end PAZE
