/-! THE PURE LAYER: the parser: phrases whole. -/
/-- a phrase of PERFORM t on both sides (X lays it below t at once behind), or both fail -/
def qPh (c : pC) (G : xQ) (a d b N : Nat) (g : pG) (α : zS) (s : zM) (t : Nat) (fX : zF ((Option Nat) ⊕ Nat)) (T : gF Unit) : Prop := (∃ q β γ s' a' b' N' g', fX = some (.inl (some q), β) ∧ zkd β (g.oa t) = 45 ∧ hX43_add G (some (g.oa t)) (some q) β = some (some q, γ) ∧ T = some ((), s') ∧ pR c a' d b' N' 0 g' γ s' ∧ pX N g s N' g' s' ∧ a < a' ∧ b' + 10 * a ≤ b + 10 * a') ∨ (∃ e β s' wh w, fX = some (.inr e, β) ∧ zthr β e 3 = true ∧ T = some ((), s') ∧ pE c wh w β s' ∧ pPl s s')
section PAZI
variable {c : pC} {G : xQ} {α β γ αs δ ε : zS} {s s' s2 ss : zM} {a a1 a' d b b' N N' N2 Ns as bs k t t2 u w wh q r F F1 F' Fs f y to n jn o K p Rk : Nat} {g g' g2 gs : pG} {v v' kv : Int32} {l ts : List Nat}
/-- an operand below node to, with frames -/
theorem pR.operandYc (h : pR c a d b N y g α s) (hY : pY c Ns gs αs ss N g α s) (hb : pB c b a 0) (g1 : c.N0 ≤ Ns) (h1 : Ns ≤ to) (h2 : to < N) (hr : 0 < g.r to) (hy : y ≠ N) (hl : ∀ u, u ∈ g.ch to → Ns ≤ u) : (∃ β γ s' g', hX4_operand G (some c.p) (nI 1) α = some (.inl (some (zn α)), β) ∧ zkd β (g.oa to) = 45 ∧ hX43_add G (some (g.oa to)) (some (zn α)) β = some (some (zn α), γ) ∧ gX26_operandOf (nI to) s = some ((), s') ∧ pR c (a + 1) d (b + 3) (N + 1) y g' γ s' ∧ pY c Ns gs αs ss (N + 1) g' γ s' ∧ xOt c α γ ∧ mOt s s' ∧ (∀ t, t < N → g'.oa t = g.oa t ∧ g'.r t = g.r t ∧ la s' 16 t = la s 16 t) ∧ g'.ch to = g.ch to ++ [N]) ∨ (∃ e β s' w, hX4_operand G (some c.p) (nI 1) α = some (.inr e, β) ∧ zthr β e 3 = true ∧ gX26_operandOf (nI to) s = some ((), s') ∧ pE c 1 w β s' ∧ pPl s s') := by
  rcases h.operandOf (G := G) hb (by omega) h2 hr hy with ⟨hO, _⟩ | R
  · refine .inl ?_
    obtain ⟨β, x1, x2, x3, x4⟩ := h.op1 (G := G) (nm := true) hO (.inl rfl)
    have x1' : hX4_operand G (some c.p) (nI 1) α = some (.inl (some (zn α)), β) := x1
    have hN := h.N8 hb
    have N0 := h.N0
    have nnY := hY.nn
    have e1 : (g.push N (zn α) 0).oa to = g.oa to := by rw [push_oa, if_neg (by omega)]
    have e2 : (g.push N (zn α) 0).oa N = zn α := by rw [push_oa, if_pos rfl]
    have e3 : (g.push N (zn α) 0).ch to = g.ch to := by rw [push_ch, if_neg (by omega)]
    have zb : zn α ≤ zn β := by
      have := (x2.g.nd N h.N0 (Nat.lt_succ_self N)).hi
      rw [e2] at this; omega
    have Y1 : pY c Ns gs αs ss (N + 1) (g.push N (zn α) 0) β (mOp c s N a) := (hY.m (s2 := maS s a) (fun _ _ _ => rfl) maS_pl).new (fun x z1 z2 => x3 x (by omega) z2) zb nnY (fun j i z1 z2 z3 => by unfold mOp; rw [mMk_la z1 z2, if_neg (by omega)]) mMk_pl
    have xo : xOt c α β := xOt.xa.tr (xOt.eq x4)
    obtain ⟨γ, y1, y2, y3, y4, y5⟩ := x2.addY (G := G) Y1 (by omega) g1 h1 (by omega) (t := N) hY.x.n (by omega) (by rw [push_r, push_r, if_pos rfl, if_neg (by omega)]; exact hr) mMk_16 (by omega) (by rw [e3]; exact hl)
    rw [e1, e2] at y1
    rw [e3] at y2 y3 y4
    refine ⟨β, γ, _, _, x1', ?_, y1, ?_, y3, y4, xo.tr y5, (mOt.ma (a := a)).tr (mOt.mk0.tr mOt.at), fun t ht => ⟨by rw [add_oa, push_oa, if_neg (by omega)], by rw [add_r, push_r, if_neg (by omega)], ?_⟩, by rw [add_ch, if_pos rfl, e3]⟩
    · have := (x2.g.nd to (by omega) (by omega)).kn
      rw [e1] at this; exact this
    · unfold gX26_operandOf gX26_operandOf_15
      simp (disch := omega) only [gld, gst, glj, gsj, gpN0, gpN1, gl_x, gl_gi, pI_in', pI_clamp, pI_add, pI_mul, pI_sub, pI_succ, nmod_eq, pI_div, ni_neg, zn_neg, gnar0, gnar1, eq_self, ni_lt, ni_le, ni_eq, ni_zlt, ni_zle, ni_zeq, zn_lt, zn_le, zn_eq, zz_lt, zz_le, zz_eq, ni_zadd, zn_add, ni_zsub, zn_sub, ni_zmul, zn_mul, nZ_add, nZ_sub, nZ_mul, upd_same, upd_other, upd_upd, gl_bi, gl_mi, gl_bs, gl_ms, gl_bn, gl_mn, if_true, if_false, ↓reduceIte, not_true_eq_false, not_false_eq_true, true_and, and_true, false_and, and_false, and_self, or_false, false_or, or_self, or_true, true_or, Nat.not_lt_zero, Nat.reduceAdd, Nat.reduceMul, Nat.add_zero, Nat.zero_add, Nat.mul_zero, Nat.zero_mul, Nat.reduceEqDiff, Nat.reduceLT, Nat.reduceLeDiff, Nat.succ_ne_zero, ua_ua, us_us, tn_le, tn_nle, tn_lt, tn_nlt, tn_eq, tn_ne, tz_le, tz_nle, tz_lt, tz_nlt, tz_eq, tz_ne, ls_us, ls_uj, ls_ua, ls_ub, lj_us, lj_uj, lj_ua, lj_ub, la_us, la_uj, la_ua, la_ub, lb_us, lb_uj, lb_ua, lb_ub, nl0, nl1, nl2, nl3, nl4, nl5, nl6, nl7, nl8, nl9, nl10, nl11, nl12, nl13, nl14, nl15, nl16, nl17, nl18, nl19, nl20, nl21, nl22, nl23, nl24, nl25, nl26, nl27, nl28, nl29, nl30, nl31, nl32, nl33, nl34, nl35, nl36, nl37, nl38, nl39, nl40, nl41, nl42, nl43, nl44, nl45, nl46, nl47, nl48, nl49, nl50, nl51, nl52, nl53, nl54, nl55, nl56, nl57, nl58, nl59, nl60, nl61, nl62, nl63, nl64, nl65, nl66, nl67, nl68, nl69, nl70, nl71, nl72, nl73, nl74, nl75, nl76, nl77, nl78, nl79, nl80, nl82, nl83, nl84, nl85, nl86, nl88, nl90, nl96, nl97, nl99, nl100, nl101, nl104, nl112, nl115, nl120, nl121, nl122, nl126, nl127, nl128, nl160, nl200, nl201, nl202, nl255, nl256, nl300, nl320, nl322, nl400, nl500, nl600, nl640, nl732, nl968, nl999, nl1000, nl1001, nl1040, nl1440, nl1500, nl1501, nl1600, nl2000, nl2240, nl3131, nl4000, nl4095, nl4096, nl4960, nl5000, nl6000, nl6001, nl8000, nl9999, nl10000, nl10200, nl13520, nl14000, nl20000, nl32768, nl40000, nl46000, nl64000, nl65536, nl78000, nl100000, nl128000, nl400000, nl730000, M_op h hO (by omega), y2]
    · have A := mAtS_at (s := mOp c s N a) (to := to) (l := g.ch to) (t := N)
      rw [A.r16, upd_other (by omega)]
      unfold mOp
      rw [mMk_la (by decide) (by decide), if_neg (by omega)]
      rfl
  · exact .inr R
theorem M_ph (h : pR c a d b N y g α s) : gX26_phrase (nI t) s = if (wK c a 2 || (wK c a 1 && wW c (a + 1) 23)) = true then (gX26_make (nI 43) (nI 0) (nI a) s).bind fun p21 => (gX26_attach (nI t) p21.1 p21.2).bind fun p22 => (gX26_operandOf p21.1 p22.2).bind fun p23 => (gX26_must (nI 23) p23.2).bind fun p24 => gX26_phrase_177 p24.2
    else if wW c a 56 = true then (gX26_make (nI 44) (nI 0) (nI a) (maS s a)).bind fun p18 => (gX26_attach (nI t) p18.1 p18.2).bind fun p19 => (gX26_conditionOf p18.1 p19.2).bind fun p20 => gX26_phrase_177 p20.2
    else if wW c a 57 = true then (gX26_make (nI 45) (nI 0) (nI a) (maS s a)).bind fun p12 => (gX26_attach (nI t) p12.1 p12.2).bind fun p13 => (gX26_mustBe (nI 1) p13.2).bind fun p14 =>
          if p14.1 = 0 then
            gX26_phrase_135 p12.1 p14.2
          else
            (gX26_passed p14.2).bind fun p15 =>
            xlet (ls p15.2 41) fun x16 =>
            (gX26_child p12.1 41 ((100000 : Int32) + p15.1) (x16 - (1 : Int32)) p15.2).bind fun p17 =>
            gX26_phrase_135 p12.1 p17.2
    else some ((), s) := by
  have a5 := h.a5
  unfold gX26_phrase
  rw [gl_x, h.bm, if_pos (show nI 0 = 0 from rfl), gl_x, h.am, M_isT h.k h.mw h.am (by omega), gl_bs]
  rcases e : (wK c a 2 || (wK c a 1 && wW c (a + 1) 23)) with _ | _
  · rw [if_pos (show nI (b2n false) = 0 from rfl), if_neg (by decide), show (56 : Int32) = nI 56 from rfl]
    have m1 := M_meets h (w := 56) (by decide)
    show Option.bind (gX26_meets (nI 56) s) _ = _
    rw [m1]
    by_cases e1 : wW c a 56 = true
    · rw [if_pos e1, if_pos e1, gl_bs, if_neg (show ¬ nI 1 = 0 from n1n)]
      rfl
    · have m2 := M_meets h (w := 57) (by decide)
      rw [if_neg e1, if_neg e1, gl_bs, if_pos (show (nI 0, s).1 = 0 from rfl), show (57 : Int32) = nI 57 from rfl]
      show Option.bind (gX26_meets (nI 57) s) _ = _
      rw [m2]
      by_cases e2 : wW c a 57 = true
      · rw [if_pos e2, if_pos e2, gl_bs, if_neg (show ¬ nI 1 = 0 from n1n)]
        rfl
      · rw [if_neg e2, if_neg e2, gl_bs, if_pos (show (nI 0, s).1 = 0 from rfl)]
        rfl
  · rw [if_neg (show ¬ nI (b2n true) = 0 from bT), if_pos rfl]
    rfl
/-- what was there before the new node -/
theorem pX.tr0' (h : pX N g s (N + 1) g' s') (h' : pX N g' s' N2 g2 s2) (hn : N < N2) : pX N g s N2 g2 s2 := pX.mk (by omega) (fun t ht => (h'.oa t ht).trans (h.oa t ht)) (fun t ht => (h'.r t ht).trans (h.r t ht)) (fun t ht => (h'.kd t ht).trans (h.kd t ht)) (fun t ht => (h'.up t ht).trans (h.up t ht)) (h.pl.tr h'.pl) (fun t ht e => (h'.w10 t ht (by rw [h.kd t ht]; exact e)).trans (h.w10 t ht e))
theorem p177 : gX26_phrase_177 s = some ((), s) := rfl
/-- TIMES -/
theorem ph43 (h : pR c a d b N 0 g α s) (hb : pB c b a 14) (h1 : c.N0 ≤ t) (h2 : t < N) (hr : 1300 < g.r t) (e6 : wW c a 56 = false) (e7 : wW c a 57 = false) (eT : (wK c a 2 || (wK c a 1 && wW c (a + 1) 23)) = true) : qPh c G a d b N g α s t (hX4_phrase G (some c.p) α) (gX26_phrase (nI t) s) := by
  have kp := h.kp
  have ax := h.ax
  have N0 := h.N0
  have al := h.al
  obtain ⟨α1, sm, s2, g2, x1, xk, m1, m2, h2', o2, r2, c2, ct, Y2, X2, ou, zn1⟩ := h.phNode (G := G) (t := t) (kv := nI 43) (v' := nI a) (hb.le (by omega)) h1 h2 hr (by rw [ne_eq, pI_inj (by decide) (by decide)]; decide)
  have kp2 := h2'.kp
  have xm6 := X_meets (G := G) h (w := 56) (by decide)
  have xm7 := X_meets (G := G) h (w := 57) (by decide)
  rw [if_neg (by rw [e6]; decide)] at xm6
  rw [if_neg (by rw [e7]; decide)] at xm7
  have hb2 : pB c (b + 2) a 12 := by unfold pB at *; omega
  have X0 : ∀ R, hX4_operand G (some c.p) (nI 1) α1 = R → hX4_phrase G (some c.p) α = zcase R (fun p30 =>
                if zis G p30.2 (some (zn α)) 45 = true then
                  (hX43_add G (some (zn α)) p30.1 p30.2).bind fun p31 =>
                  if zis G p31.2 (some c.p) 41 = true then
                    zcase (hX4_need G (some c.p) (nI 23) p31.2) (fun p32 =>
                      some (.inl (some (zn α)), p32.2)) (fun p33 =>
                      if zthr p33.2 p33.1 3 = true then
                        some (.inr p33.1, p33.2)
                      else none)
                  else none
                else none) (fun p34 =>
                if zthr p34.2 p34.1 3 = true then
                  some (.inr p34.1, p34.2)
                else none) := fun R hR => by
    unfold hX4_phrase
    rw [kfI kp, ax, gl_bs, if_pos (of_eq_true (kis kp (by decide))), show (56 : Int32) = nI 56 from rfl, xm6, gl_bs, if_pos (show (nI 0, α).1 = 0 from rfl)]
    show (if zis G α (some c.p) 41 = true then _ else _) = _
    rw [if_pos (of_eq_true (kis kp (by decide))), show (57 : Int32) = nI 57 from rfl]
    show Option.bind (hX4_meets G (some c.p) (nI 57) α) _ = _
    rw [xm7, gl_bs, if_neg (show ¬ ¬ nI 0 = 0 from fun z => z rfl), znO_e, gl_bs]
    show (if zis G (zmk α 45 0 9) (some (zn α)) 45 = true then Option.bind (hX43_init G (some (zn α)) (nI 43) (nI 0) (nI a) (zmk α 45 0 9)) _ else none) = _
    rw [if_pos (of_eq_true (kis xk (by decide))), x1, gl_bs]
    show (if zis G α1 (some c.p) 41 = true then zcase (hX4_operand G (some c.p) (nI 1) α1) _ _ else none) = _
    rw [if_pos (of_eq_true (kis kp2 (by decide))), hR]
    rfl
  rw [M_ph h, if_pos eT, m1, gl_bs]
  show qPh c G a d b N g α s t _ (Option.bind (gX26_attach (nI t) (nI N) sm) _)
  rw [m2, gl_bs]
  show qPh c G a d b N g α s t _ (Option.bind (gX26_operandOf (nI N) s2) _)
  rcases h2'.operandY (G := G) Y2 (hb2.le (by omega)) N0 (to := N) (Nat.le_refl N) (Nat.lt_succ_self N) (by rw [r2]; decide) (by omega) (by rw [c2]; intro u hu; simp at hu) with ⟨β, γ, s3, g3, w1, w2, w3, w4, w5, w6, w7, w8, w9⟩ | ⟨e, β, s', w, w1, w2, w3, w4, w5⟩
  · have kp5 := w5.kp
    have al5 := w5.al
    rw [o2] at w2 w3
    rw [w4, gl_bs]
    show qPh c G a d b N g α s t _ (Option.bind (gX26_must (nI 23) s3) _)
    have X1 : ∀ R, hX4_need G (some c.p) (nI 23) γ = R → hX4_phrase G (some c.p) α = zcase R (fun p32 => some (.inl (some (zn α)), p32.2)) (fun p33 => if zthr p33.2 p33.1 3 = true then some (.inr p33.1, p33.2) else none) := fun R hR => by
      rw [X0 _ w1, zc_l, if_pos (of_eq_true (kis w2 (by decide)))]
      show Option.bind (hX43_add G (some (zn α)) (some (zn α1)) β) _ = _
      rw [w3, gl_bs]
      show (if zis G γ (some c.p) 41 = true then zcase (hX4_need G (some c.p) (nI 23) γ) _ _ else none) = _
      rw [if_pos (of_eq_true (kis kp5 (by decide))), hR]
    have hb5 : pB c (b + 2 + 3) (a + 1) 10 := by unfold pB at *; omega
    rcases w5.needZ (G := G) (w := 23) (by decide) (hb5.le (by omega)) with ⟨y3, y1, y2, y7⟩ | ⟨e, β2, s', w', y1, y2, y3, y4, y5⟩
    · have al7 := y7.al
      obtain ⟨δ, v1, v2, v3⟩ := y7.phWake (G := G) (t := t) (q := g.oa t) (w := zn α) (w6.adv (a := a + 1)) (by unfold pB at *; omega) h1 h2 ct (ou t h2) o2 (by omega) (by rw [(w9 N (Nat.lt_succ_self N)).1]; exact o2)
      refine .inl ⟨zn α, _, δ, _, a + 1 + 1, b + 2 + 3 + 1, N + 1 + 1, g3, ?_, v1, v2, ?_, v3, X2.tr0' (w6.adv (a := a + 1)).x (by omega), by omega, by omega⟩
      · rw [X1 _ y1, zc_l]
      · rw [y2, gl_bs, p177]
    · refine .inr ⟨e, β2, s', 1, w', ?_, y2, ?_, y4, X2.pl.tr (w6.x.pl.tr y5)⟩
      · rw [X1 _ y1, zc_r, if_pos y2]
      · rw [y3, gl_bs, p177]
  · refine .inr ⟨e, β, s', 1, w, ?_, w2, ?_, w4, X2.pl.tr w5⟩
    · rw [X0 _ w1, zc_r, if_pos w2]
    · rw [w3, gl_bs]
      show Option.bind (gX26_must (nI 23) s') _ = _
      rw [Bd_must w4.b1, gl_bs, p177]
/-- UNTIL -/
theorem ph44 (h : pR c a d b N 0 g α s) (hb : pB c b a 14) (h1 : c.N0 ≤ t) (h2 : t < N) (hr : 1300 < g.r t) (e6 : wW c a 56 = true) : qPh c G a d b N g α s t (hX4_phrase G (some c.p) α) (gX26_phrase (nI t) s) := by
  have kp := h.kp
  have ax := h.ax
  have N0 := h.N0
  obtain ⟨i1, i2, i3⟩ := wW_i e6
  have h3 := h.adv i1
  have al3 := h3.al
  have eT : ¬ (wK c a 2 || (wK c a 1 && wW c (a + 1) 23)) = true := by
    have k2 : wK c a 2 = false := wK_f (fun z => by omega)
    have k1 : wK c a 1 = false := wK_f (fun z => by omega)
    rw [k2, k1]; simp
  have hb3 : pB c b (a + 1) 24 := by unfold pB at *; omega
  obtain ⟨α1, sm, s2, g2, x1, xk, m1, m2, h2', o2, r2, c2, ct, Y2, X2, ou, zn1⟩ := h3.phNode (G := G) (t := t) (kv := nI 44) (v' := nI a) (hb3.le (by omega)) h1 h2 hr (by rw [ne_eq, pI_inj (by decide) (by decide)]; decide)
  have kp2 := h2'.kp
  have xm6 := X_meets (G := G) h (w := 56) (by decide)
  rw [if_pos e6] at xm6
  have zq : zn (xaS c α a) = zn α := rfl
  rw [zq] at x1 xk o2
  have hb2 : pB c (b + 2) (a + 1) 20 := by unfold pB at *; omega
  have X0 : ∀ R, hX4_condition G (some c.p) α1 = R → hX4_phrase G (some c.p) α = zcase R (fun p37 =>
            if zis G p37.2 (some (zn α)) 45 = true then
              (hX43_add G (some (zn α)) p37.1 p37.2).bind fun p38 =>
              some (.inl (some (zn α)), p38.2)
            else none) (fun p39 =>
            if zthr p39.2 p39.1 3 = true then
              some (.inr p39.1, p39.2)
            else none) := fun R hR => by
    unfold hX4_phrase
    rw [kfI kp, ax, gl_bs, if_pos (of_eq_true (kis kp (by decide))), show (56 : Int32) = nI 56 from rfl, xm6, gl_bs, if_neg (show ¬ nI 1 = 0 from n1n), znO_e, gl_bs]
    show (if zis G (zmk (xaS c α a) 45 0 9) (some (zn α)) 45 = true then Option.bind (hX43_init G (some (zn α)) (nI 44) (nI 0) (nI a) (zmk (xaS c α a) 45 0 9)) _ else none) = _
    rw [if_pos (of_eq_true (kis xk (by decide))), x1, gl_bs]
    show (if zis G α1 (some c.p) 41 = true then zcase (hX4_condition G (some c.p) α1) _ _ else none) = _
    rw [if_pos (of_eq_true (kis kp2 (by decide))), hR]
    rfl
  rw [M_ph h, if_neg eT, if_pos e6, m1, gl_bs]
  show qPh c G a d b N g α s t _ (Option.bind (gX26_attach (nI t) (nI N) sm) _)
  rw [m2, gl_bs]
  show qPh c G a d b N g α s t _ (Option.bind (gX26_conditionOf (nI N) s2) _)
  rcases h2'.condOfY (G := G) Y2 hb2 N0 (to := N) (Nat.le_refl N) (Nat.lt_succ_self N) (by rw [r2]; decide) (by rw [c2]; intro u hu; simp at hu) with ⟨β, γ, t2, s3, a3, b3, N3, g3, w1, w2, w3, w4, w5, w6, w7, w8, w9⟩ | ⟨e, β, s', wh, w, w1, w2, w3, w4, w5⟩
  · rw [o2] at w2 w3
    have al5 := w5.al
    have nn := w6.x.n
    have hN3 : N < N3 := by
      have := w5.yN
      exact this
    obtain ⟨δ, v1, v2, v3⟩ := w5.phWake (G := G) (t := t) (q := g.oa t) (w := zn α) w6 (by unfold pB at *; omega) h1 h2 ct (ou t h2) o2 hN3 (by rw [w7 N (Nat.lt_succ_self N)]; exact o2)
    refine .inl ⟨zn α, γ, δ, s3, a3, b3 + 1, N3, g3, ?_, v1, v2, ?_, v3, (pX.ma (a := a)).tr (X2.tr0' w6.x (by omega)), by omega, by omega⟩
    · rw [X0 _ w1, zc_l, if_pos (of_eq_true (kis w2 (by decide)))]
      show Option.bind (hX43_add G (some (zn α)) (some t2) β) _ = _
      rw [w3, gl_bs]
    · rw [w4, gl_bs, p177]
  · refine .inr ⟨e, β, s', wh, w, ?_, w2, ?_, w4, maS_pl.tr (X2.pl.tr w5)⟩
    · rw [X0 _ w1, zc_r, if_pos w2]
    · rw [w3, gl_bs, p177]
/-- VARYING -/
theorem ph45 (h : pR c a d b N 0 g α s) (hb : pB c b a 14) (h1 : c.N0 ≤ t) (h2 : t < N) (hr : 1300 < g.r t) (e7 : wW c a 57 = true) : qPh c G a d b N g α s t (hX4_phrase G (some c.p) α) (gX26_phrase (nI t) s) := by
  have kp := h.kp
  have ax := h.ax
  have N0 := h.N0
  obtain ⟨i1, i2, i3⟩ := wW_i e7
  have h3 := h.adv i1
  have al3 := h3.al
  have eT : ¬ (wK c a 2 || (wK c a 1 && wW c (a + 1) 23)) = true := by
    have k2 : wK c a 2 = false := wK_f (fun z => by omega)
    have k1 : wK c a 1 = false := wK_f (fun z => by omega)
    rw [k2, k1]; simp
  have e6 : wW c a 56 = false := wW_f (fun z => by omega)
  have hb3 : pB c b (a + 1) 24 := by unfold pB at *; omega
  obtain ⟨α1, sm, s2, g2, x1, xk, m1, m2, h2', o2, r2, c2, ct, Y2, X2, ou, zn1⟩ := h3.phNode (G := G) (t := t) (kv := nI 45) (v' := nI a) (hb3.le (by omega)) h1 h2 hr (by rw [ne_eq, pI_inj (by decide) (by decide)]; decide)
  have kp2 := h2'.kp
  have a52 := h2'.a5
  have xm6 := X_meets (G := G) h (w := 56) (by decide)
  rw [if_neg (by rw [e6]; decide)] at xm6
  have xm7 := X_meets (G := G) h (w := 57) (by decide)
  rw [if_pos e7] at xm7
  have zq : zn (xaS c α a) = zn α := rfl
  rw [zq] at x1 xk o2
  have hb2 : pB c (b + 2) (a + 1) 20 := by unfold pB at *; omega
  have XX2 : pX N g s (N + 1) g2 s2 := (pX.ma (a := a)).tr X2
  have X0 : ∀ R, hX4_must G (some c.p) (nI (b2n (wK c (a + 1) 1))) α1 = R → hX4_phrase G (some c.p) α = zcase R (fun p8 =>
                  if zis G p8.2 (some c.p) 41 = true then
                    zcase (hX4_operand G (some c.p) (nI 1) p8.2) (fun p9 =>
                      if zis G p9.2 (some (zn α)) 45 = true then
                        (hX43_add G (some (zn α)) p9.1 p9.2).bind fun p10 =>
                        if zis G p10.2 (some c.p) 41 = true then
                          zcase (hX4_need G (some c.p) (nI 58) p10.2) (fun p11 =>
                            if zis G p11.2 (some c.p) 41 = true then
                              zcase (hX4_operand G (some c.p) (nI 1) p11.2) (fun p12 =>
                                if zis G p12.2 (some (zn α)) 45 = true then
                                  (hX43_add G (some (zn α)) p12.1 p12.2).bind fun p13 =>
                                  if zis G p13.2 (some c.p) 41 = true then
                                    zcase (hX4_need G (some c.p) (nI 25) p13.2) (fun p14 =>
                                      if zis G p14.2 (some c.p) 41 = true then
                                        zcase (hX4_operand G (some c.p) (nI 1) p14.2) (fun p15 =>
                                          if zis G p15.2 (some (zn α)) 45 = true then
                                            (hX43_add G (some (zn α)) p15.1 p15.2).bind fun p16 =>
                                            if zis G p16.2 (some c.p) 41 = true then
                                              zcase (hX4_need G (some c.p) (nI 56) p16.2) (fun p17 =>
                                                if zis G p17.2 (some c.p) 41 = true then
                                                  zcase (hX4_condition G (some c.p) p17.2) (fun p18 =>
                                                    if zis G p18.2 (some (zn α)) 45 = true then
                                                      (hX43_add G (some (zn α)) p18.1 p18.2).bind fun p19 =>
                                                      some (.inl (some (zn α)), p19.2)
                                                    else none) (fun p20 =>
                                                    if zthr p20.2 p20.1 3 = true then
                                                      some (.inr p20.1, p20.2)
                                                    else none)
                                                else none) (fun p21 =>
                                                if zthr p21.2 p21.1 3 = true then
                                                  some (.inr p21.1, p21.2)
                                                else none)
                                            else none
                                          else none) (fun p22 =>
                                          if zthr p22.2 p22.1 3 = true then
                                            some (.inr p22.1, p22.2)
                                          else none)
                                      else none) (fun p23 =>
                                      if zthr p23.2 p23.1 3 = true then
                                        some (.inr p23.1, p23.2)
                                      else none)
                                  else none
                                else none) (fun p24 =>
                                if zthr p24.2 p24.1 3 = true then
                                  some (.inr p24.1, p24.2)
                                else none)
                            else none) (fun p25 =>
                            if zthr p25.2 p25.1 3 = true then
                              some (.inr p25.1, p25.2)
                            else none)
                        else none
                      else none) (fun p26 =>
                      if zthr p26.2 p26.1 3 = true then
                        some (.inr p26.1, p26.2)
                      else none)
                  else none) (fun p27 =>
                  if zthr p27.2 p27.1 3 = true then
                    some (.inr p27.1, p27.2)
                  else none) := fun R hR => by
    unfold hX4_phrase
    rw [kfI kp, ax, gl_bs, if_pos (of_eq_true (kis kp (by decide))), show (56 : Int32) = nI 56 from rfl, xm6, gl_bs, if_pos (show (nI 0, α).1 = 0 from rfl)]
    show (if zis G α (some c.p) 41 = true then _ else _) = _
    rw [if_pos (of_eq_true (kis kp (by decide))), show (57 : Int32) = nI 57 from rfl]
    show Option.bind (hX4_meets G (some c.p) (nI 57) α) _ = _
    rw [xm7, gl_bs, if_pos (show ¬ nI 1 = 0 from n1n), znO_e, gl_bs]
    show (if zis G (zmk (xaS c α a) 45 0 9) (some (zn α)) 45 = true then Option.bind (hX43_init G (some (zn α)) (nI 45) (nI 0) (nI a) (zmk (xaS c α a) 45 0 9)) _ else none) = _
    rw [if_pos (of_eq_true (kis xk (by decide))), x1, gl_bs]
    show Option.bind (zfI α1 (some c.p) 40 3) _ = _
    rw [kfI kp2, h2'.ax, gl_bs]
    show (if zis G α1 (some c.p) 41 = true then Option.bind (hX4_isKind G (some c.p) (nI (a + 1)) (nI 1) α1) _ else none) = _
    rw [if_pos (of_eq_true (kis kp2 (by decide))), X_isK h2'.k h2'.xw (by omega) (by decide), gl_bs]
    show (if zis G α1 (some c.p) 41 = true then zcase (hX4_must G (some c.p) (nI (b2n (wK c (a + 1) 1))) α1) _ _ else none) = _
    rw [if_pos (of_eq_true (kis kp2 (by decide))), hR]
    rfl
  rw [M_ph h, if_neg eT, if_neg (by rw [e6]; decide), if_pos e7, m1, gl_bs]
  show qPh c G a d b N g α s t _ (Option.bind (gX26_attach (nI t) (nI N) sm) _)
  rw [m2, gl_bs]
  show qPh c G a d b N g α s t _ (Option.bind (gX26_mustBe (nI 1) s2) _)
  have bad135 : ∀ {s' : zM}, ls s' 43 = nI 1 → gX26_phrase_135 (nI N) s' = some ((), s') := fun {s'} z => by
    unfold gX26_phrase_135 gX26_phrase_149 gX26_phrase_163
    rw [Bd_must z, gl_bs, if_pos (show (nI 0, s').1 = 0 from rfl)]
    show Option.bind (gX26_must 25 s') _ = _
    rw [Bd_must z, gl_bs, if_pos (show (nI 0, s').1 = 0 from rfl)]
    show Option.bind (gX26_must 56 s') _ = _
    rw [Bd_must z, gl_bs, if_pos (show (nI 0, s').1 = 0 from rfl), p177]
  have bad149 : ∀ {s' : zM}, ls s' 43 = nI 1 → gX26_phrase_149 (nI N) s' = some ((), s') := fun {s'} z => by
    unfold gX26_phrase_149 gX26_phrase_163
    rw [Bd_must z, gl_bs, if_pos (show (nI 0, s').1 = 0 from rfl)]
    show Option.bind (gX26_must 56 s') _ = _
    rw [Bd_must z, gl_bs, if_pos (show (nI 0, s').1 = 0 from rfl), p177]
  have bad163 : ∀ {s' : zM}, ls s' 43 = nI 1 → gX26_phrase_163 (nI N) s' = some ((), s') := fun {s'} z => by
    unfold gX26_phrase_163
    rw [Bd_must z, gl_bs, if_pos (show (nI 0, s').1 = 0 from rfl), p177]
  rcases ek : wK c (a + 1) 1 with _ | _
  · obtain ⟨e, β5, s', w, z1, z2, z3, z4, z5⟩ := h2'.no' (G := G) (hb2.le (by omega))
    rw [ek] at X0
    refine .inr ⟨e, β5, s', 1, w, ?_, z2, ?_, z4, XX2.pl.tr z5⟩
    · rw [X0 _ z1, zc_r, if_pos z2]
    · rw [M_mbF h2' ek z3, gl_bs, if_pos (show (nI 0, s').1 = 0 from rfl), bad135 z4.b1]
  rw [ek] at X0
  replace X0 := X0 _ (show hX4_must G (some c.p) (nI (b2n true)) α1 = _ from X_must1)
  rw [zc_l] at X0
  replace X0 := X0.trans (if_pos (of_eq_true (kis kp2 (by decide))))
  have eO : wO c (a + 1) = true := wO_t ⟨(wK_i ek).1, .inl (wK_i ek).2⟩
  rcases h2'.operandYc (G := G) Y2 (hb2.le (by omega)) N0 (to := N) (Nat.le_refl N) (Nat.lt_succ_self N) (by rw [r2]; decide) (by omega) (by rw [c2]; intro u hu; simp at hu) with ⟨β, γ, s3, g3, w1, w2, w3, w4, w5, w6, w7, w8, w9, w10⟩ | ⟨e, β, s', w, w1, w2, w3, w4, w5⟩
  rotate_left
  · exfalso
    obtain ⟨β', y1, y2⟩ := h2'.op (G := G) (nm := true) eO (.inl rfl)
    have y1' : hX4_operand G (some c.p) (nI 1) α1 = some (.inl (some (zn α1)), β') := y1
    rw [y1'] at w1
    exact absurd (Prod.mk.inj (Option.some.inj w1)).1 (by simp)
  have kp5 := w5.kp
  have al5 := w5.al
  rw [o2] at w2 w3
  have hN2 := h2'.N8 hb2
  have ch := M_childOp h2' (by omega) ek w4
  have adv2 := h2'.adv (wK_i ek).1
  have ps := M_passed adv2 (by omega)
  rw [Nat.add_sub_cancel] at ps
  have M1 : (Option.bind (gX26_mustBe (nI 1) s2) fun p14 => if p14.1 = 0 then gX26_phrase_135 (nI N) p14.2 else (gX26_passed p14.2).bind fun p15 => xlet (ls p15.2 41) fun x16 => (gX26_child (nI N) 41 ((100000 : Int32) + p15.1) (x16 - (1 : Int32)) p15.2).bind fun p17 => gX26_phrase_135 (nI N) p17.2) = gX26_phrase_135 (nI N) s3 := by
    rw [M_mbT h2' ek, gl_bs, if_neg (show ¬ nI 1 = 0 from n1n)]
    show Option.bind (gX26_passed (maS s2 (a + 1))) _ = _
    rw [ps, gl_bs]
    show xlet (ls (maS s2 (a + 1)) 41) _ = _
    rw [gl_x, show ls (maS s2 (a + 1)) 41 = nI (a + 1 + 1) from rfl, nl100000, nl1, pI_add, pI_sub (by omega), Nat.add_sub_cancel, show (41 : Int32) = nI 41 from rfl]
    show Option.bind (gX26_child (nI N) (nI 41) (nI (100000 + c.vs (a + 1))) (nI (a + 1)) (maS s2 (a + 1))) _ = _
    rw [ch, gl_bs]
  show qPh c G a d b N g α s t _ (Option.bind (gX26_mustBe (nI 1) s2) fun p14 => if p14.1 = 0 then gX26_phrase_135 (nI N) p14.2 else (gX26_passed p14.2).bind fun p15 => xlet (ls p15.2 41) fun x16 => (gX26_child (nI N) 41 ((100000 : Int32) + p15.1) (x16 - (1 : Int32)) p15.2).bind fun p17 => gX26_phrase_135 (nI N) p17.2)
  rw [M1, X0]
  show qPh c G a d b N g α s t (zcase (hX4_operand G (some c.p) (nI 1) α1) _ _) _
  rw [w1, zc_l, if_pos (of_eq_true (kis w2 (by decide)))]
  show qPh c G a d b N g α s t (Option.bind (hX43_add G (some (zn α)) (some (zn α1)) β) _) _
  rw [w3, gl_bs]
  have o3 : g3.oa N = zn α := by rw [(w9 N (Nat.lt_succ_self N)).1]; exact o2
  have r3 : g3.r N = 1200 := by rw [(w9 N (Nat.lt_succ_self N)).2.1]; exact r2
  have hb5 : pB c (b + 2 + 3) (a + 1 + 1) 20 := by unfold pB at *; omega
  have c3 : ∀ u, u ∈ g3.ch N → N ≤ u := fun u hu => by
    rw [w10, c2, List.nil_append, List.mem_singleton] at hu
    omega
  -- FROM
  show qPh c G a d b N g α s t (if zis G γ (some c.p) 41 = true then zcase (hX4_need G (some c.p) (nI 58) γ) _ _ else _) (gX26_phrase_135 (nI N) s3)
  rw [if_pos (of_eq_true (kis kp5 (by decide)))]
  unfold gX26_phrase_135
  rw [show (58 : Int32) = nI 58 from rfl]
  rcases w5.needZ (G := G) (w := 58) (by decide) (hb5.le (by omega)) with ⟨q3, q1, q2, h6⟩ | ⟨e, β2, s', w', q1, q2, q3, q4, q5⟩
  rotate_left
  · refine .inr ⟨e, β2, s', 1, w', ?_, q2, ?_, q4, XX2.pl.tr (w6.x.pl.tr q5)⟩
    · rw [q1, zc_r, if_pos q2]
    · rw [q3, gl_bs, if_pos (show (nI 0, s').1 = 0 from rfl), bad149 q4.b1]
  have Y6 := w6.adv (a := a + 1 + 1)
  have al6 := h6.al
  have kp6 := h6.kp
  rw [q1, zc_l, q2, gl_bs, if_neg (show ¬ nI 1 = 0 from n1n)]
  show qPh c G a d b N g α s t (if zis G (xaS c γ (a + 1 + 1)) (some c.p) 41 = true then zcase (hX4_operand G (some c.p) (nI 1) (xaS c γ (a + 1 + 1))) _ _ else _) (Option.bind (gX26_operandOf (nI N) (maS s3 (a + 1 + 1))) _)
  rw [if_pos (of_eq_true (kis kp6 (by decide)))]
  have hb6 : pB c (b + 2 + 3) (a + 1 + 1 + 1) 20 := by unfold pB at *; omega
  rcases h6.operandYc (G := G) Y6 (hb6.le (by omega)) N0 (to := N) (Nat.le_refl N) (by omega) (by rw [r3]; decide) (by omega) c3 with ⟨β7, γ7, s7, g7, v1, v2, v3, v4, v5, v6, v7, v8, v9, v10⟩ | ⟨e, β7, s', w', v1, v2, v3, v4, v5⟩
  rotate_left
  · refine .inr ⟨e, β7, s', 1, w', ?_, v2, ?_, v4, XX2.pl.tr (Y6.x.pl.tr v5)⟩
    · rw [v1, zc_r, if_pos v2]
    · rw [v3, gl_bs, bad149 v4.b1]
  rw [o3] at v2 v3
  have kp7 := v5.kp
  have al7 := v5.al
  have o7 : g7.oa N = zn α := by rw [(v9 N (by omega)).1]; exact o3
  have r7 : g7.r N = 1200 := by rw [(v9 N (by omega)).2.1]; exact r3
  have c7 : ∀ u, u ∈ g7.ch N → N ≤ u := fun u hu => by
    rw [v10, List.mem_append, List.mem_singleton] at hu
    rcases hu with hu | hu
    · exact c3 u hu
    · omega
  rw [v1, zc_l, if_pos (of_eq_true (kis v2 (by decide))), v4, gl_bs]
  show qPh c G a d b N g α s t (Option.bind (hX43_add G (some (zn α)) (some (zn (xaS c γ (a + 1 + 1)))) β7) _) (gX26_phrase_149 (nI N) s7)
  rw [v3, gl_bs]
  -- BY
  show qPh c G a d b N g α s t (if zis G γ7 (some c.p) 41 = true then zcase (hX4_need G (some c.p) (nI 25) γ7) _ _ else _) (gX26_phrase_149 (nI N) s7)
  rw [if_pos (of_eq_true (kis kp7 (by decide)))]
  unfold gX26_phrase_149
  rw [show (25 : Int32) = nI 25 from rfl]
  have hb7 : pB c (b + 2 + 3 + 3) (a + 1 + 1 + 1 + 1) 20 := by unfold pB at *; omega
  rcases v5.needZ (G := G) (w := 25) (by decide) (hb7.le (by omega)) with ⟨q3, q1, q2, h8⟩ | ⟨e, β2, s', w', q1, q2, q3, q4, q5⟩
  rotate_left
  · refine .inr ⟨e, β2, s', 1, w', ?_, q2, ?_, q4, XX2.pl.tr (v6.x.pl.tr q5)⟩
    · rw [q1, zc_r, if_pos q2]
    · rw [q3, gl_bs, if_pos (show (nI 0, s').1 = 0 from rfl), bad163 q4.b1]
  have Y8 := v6.adv (a := a + 1 + 1 + 1 + 1)
  have al8 := h8.al
  have kp8 := h8.kp
  rw [q1, zc_l, q2, gl_bs, if_neg (show ¬ nI 1 = 0 from n1n)]
  show qPh c G a d b N g α s t (if zis G (xaS c γ7 (a + 1 + 1 + 1 + 1)) (some c.p) 41 = true then zcase (hX4_operand G (some c.p) (nI 1) (xaS c γ7 (a + 1 + 1 + 1 + 1))) _ _ else _) (Option.bind (gX26_operandOf (nI N) (maS s7 (a + 1 + 1 + 1 + 1))) _)
  rw [if_pos (of_eq_true (kis kp8 (by decide)))]
  have hb8 : pB c (b + 2 + 3 + 3) (a + 1 + 1 + 1 + 1 + 1) 20 := by unfold pB at *; omega
  rcases h8.operandYc (G := G) Y8 (hb8.le (by omega)) N0 (to := N) (Nat.le_refl N) (by omega) (by rw [r7]; decide) (by omega) c7 with ⟨β9, γ9, s9, g9, u1, u2, u3, u4, u5, u6, u7, u8, u9, u10⟩ | ⟨e, β9, s', w', v1, v2, v3, v4, v5⟩
  rotate_left
  · refine .inr ⟨e, β9, s', 1, w', ?_, v2, ?_, v4, XX2.pl.tr (Y8.x.pl.tr v5)⟩
    · rw [v1, zc_r, if_pos v2]
    · rw [v3, gl_bs, bad163 v4.b1]
  rw [o7] at u2 u3
  have kp9 := u5.kp
  have al9 := u5.al
  have o9 : g9.oa N = zn α := by rw [(u9 N (by omega)).1]; exact o7
  have r9 : g9.r N = 1200 := by rw [(u9 N (by omega)).2.1]; exact r7
  have c9 : ∀ u, u ∈ g9.ch N → N ≤ u := fun u hu => by
    rw [u10, List.mem_append, List.mem_singleton] at hu
    rcases hu with hu | hu
    · exact c7 u hu
    · omega
  rw [u1, zc_l, if_pos (of_eq_true (kis u2 (by decide))), u4, gl_bs]
  show qPh c G a d b N g α s t (Option.bind (hX43_add G (some (zn α)) (some (zn (xaS c γ7 (a + 1 + 1 + 1 + 1)))) β9) _) (gX26_phrase_163 (nI N) s9)
  rw [u3, gl_bs]
  -- UNTIL
  show qPh c G a d b N g α s t (if zis G γ9 (some c.p) 41 = true then zcase (hX4_need G (some c.p) (nI 56) γ9) _ _ else _) (gX26_phrase_163 (nI N) s9)
  rw [if_pos (of_eq_true (kis kp9 (by decide)))]
  unfold gX26_phrase_163
  rw [show (56 : Int32) = nI 56 from rfl]
  have hb9 : pB c (b + 2 + 3 + 3 + 3) (a + 1 + 1 + 1 + 1 + 1 + 1) 20 := by unfold pB at *; omega
  rcases u5.needZ (G := G) (w := 56) (by decide) (hb9.le (by omega)) with ⟨q3, q1, q2, h10⟩ | ⟨e, β2, s', w', q1, q2, q3, q4, q5⟩
  rotate_left
  · refine .inr ⟨e, β2, s', 1, w', ?_, q2, ?_, q4, XX2.pl.tr (u6.x.pl.tr q5)⟩
    · rw [q1, zc_r, if_pos q2]
    · rw [q3, gl_bs, if_pos (show (nI 0, s').1 = 0 from rfl), p177]
  have Y10 := u6.adv (a := a + 1 + 1 + 1 + 1 + 1 + 1)
  have kp10 := h10.kp
  rw [q1, zc_l, q2, gl_bs, if_neg (show ¬ nI 1 = 0 from n1n)]
  show qPh c G a d b N g α s t (if zis G (xaS c γ9 (a + 1 + 1 + 1 + 1 + 1 + 1)) (some c.p) 41 = true then zcase (hX4_condition G (some c.p) (xaS c γ9 (a + 1 + 1 + 1 + 1 + 1 + 1))) _ _ else _) (Option.bind (gX26_conditionOf (nI N) (maS s9 (a + 1 + 1 + 1 + 1 + 1 + 1))) _)
  rw [if_pos (of_eq_true (kis kp10 (by decide)))]
  have hb10 : pB c (b + 2 + 3 + 3 + 3) (a + 1 + 1 + 1 + 1 + 1 + 1 + 1) 20 := by unfold pB at *; omega
  rcases h10.condOfY (G := G) Y10 hb10 N0 (to := N) (Nat.le_refl N) (by omega) (by rw [r9]; decide) c9 with ⟨β11, γ11, t2, s11, a11, b11, N11, g11, z1, z2, z3, z4, z5, z6, z7, z8, z9⟩ | ⟨e, β11, s', wh, w, z1, z2, z3, z4, z5⟩
  · rw [o9] at z2 z3
    have al11 := z5.al
    have hN11 : N < N11 := z5.yN
    obtain ⟨δ, y1, y2, y3⟩ := z5.phWake (G := G) (t := t) (q := g.oa t) (w := zn α) z6 (by unfold pB at *; omega) h1 h2 ct (ou t h2) o2 hN11 (by rw [z7 N (by omega)]; exact o9)
    refine .inl ⟨zn α, γ11, δ, s11, a11, b11 + 1, N11, g11, ?_, y1, y2, ?_, y3, XX2.tr0' z6.x hN11, by omega, by omega⟩
    · rw [z1, zc_l, if_pos (of_eq_true (kis z2 (by decide)))]
      show Option.bind (hX43_add G (some (zn α)) (some t2) β11) _ = _
      rw [z3, gl_bs]
    · rw [z4, gl_bs, p177]
  · refine .inr ⟨e, β11, s', wh, w, ?_, z2, ?_, z4, XX2.pl.tr (Y10.x.pl.tr z5)⟩
    · rw [z1, zc_r, if_pos z2]
    · rw [z3, gl_bs, p177]
/-- a phrase -/
theorem pR.phrase (h : pR c a d b N 0 g α s) (hb : pB c b a 14) (h1 : c.N0 ≤ t) (h2 : t < N) (hr : 1300 < g.r t) (hw : wP c a = true) : qPh c G a d b N g α s t (hX4_phrase G (some c.p) α) (gX26_phrase (nI t) s) := by
  rcases e6 : wW c a 56 with _ | _
  · rcases e7 : wW c a 57 with _ | _
    · unfold wP at hw
      rw [e6, e7, Bool.or_self, Bool.or_false] at hw
      exact ph43 h hb h1 h2 hr e6 e7 hw
    · exact ph45 h hb h1 h2 hr e7
  · exact ph44 h hb h1 h2 hr e6
/-- none -/
theorem pR.phrase0 (h : pR c a d b N y g α s) (hw : wP c a = false) : gX26_phrase (nI t) s = some ((), s) := by
  have key : (wK c a 2 || (wK c a 1 && wW c (a + 1) 23)) = false ∧ wW c a 56 = false ∧ wW c a 57 = false := by
    unfold wP at hw
    rcases e1 : (wK c a 2 || (wK c a 1 && wW c (a + 1) 23)) with _ | _ <;> rcases e2 : wW c a 56 with _ | _ <;> rcases e3 : wW c a 57 with _ | _ <;> rw [e1, e2, e3] at hw <;> simp at hw <;> exact ⟨rfl, rfl, rfl⟩
  rw [M_ph h, if_neg (by rw [key.1]; decide), if_neg (by rw [key.2.1]; decide), if_neg (by rw [key.2.2]; decide)]
end PAZI
