/-! THE PURE LAYER: the parser: a paragraph that fails. -/
section PAZZF
variable {L L2 : Nat → Prop} {c : pC} {D : pD} {G : xQ} {α β : zS} {s s' s1 : zM} {B at' a a1 b d N N' F F' p q t to u x y k i j w wh lv m S : Nat} {g g' g2 : pG} {v v' : Int32}
theorem M_mbF4 (h : pR c a d b N y g α s) (hw : wK c a 4 = false) (hf : gX26_fail (nI 1) (nI a) s = some (nI 0, s')) : gX26_mustBe (nI 4) s = some (nI 0, s') := by
  have am := h.am
  have bm := h.bm
  have a5 := h.a5
  unfold gX26_mustBe gX26_mustBe_19
  simp (disch := omega) only [gld, gst, glj, gsj, gpN0, gpN1, gl_x, gl_gi, pI_in', pI_clamp, pI_add, pI_mul, pI_sub, pI_succ, nmod_eq, pI_div, ni_neg, zn_neg, gnar0, gnar1, eq_self, ni_lt, ni_le, ni_eq, ni_zlt, ni_zle, ni_zeq, zn_lt, zn_le, zn_eq, zz_lt, zz_le, zz_eq, ni_zadd, zn_add, ni_zsub, zn_sub, ni_zmul, zn_mul, nZ_add, nZ_sub, nZ_mul, upd_same, upd_other, upd_upd, gl_bi, gl_mi, gl_bs, gl_ms, gl_bn, gl_mn, if_true, if_false, ↓reduceIte, not_true_eq_false, not_false_eq_true, true_and, and_true, false_and, and_false, and_self, or_false, false_or, or_self, or_true, true_or, Nat.not_lt_zero, Nat.reduceAdd, Nat.reduceMul, Nat.add_zero, Nat.zero_add, Nat.mul_zero, Nat.zero_mul, Nat.reduceEqDiff, Nat.reduceLT, Nat.reduceLeDiff, Nat.succ_ne_zero, ua_ua, us_us, tn_le, tn_nle, tn_lt, tn_nlt, tn_eq, tn_ne, tz_le, tz_nle, tz_lt, tz_nlt, tz_eq, tz_ne, ls_us, ls_uj, ls_ua, ls_ub, lj_us, lj_uj, lj_ua, lj_ub, la_us, la_uj, la_ua, la_ub, lb_us, lb_uj, lb_ua, lb_ub, nl0, nl1, nl2, nl3, nl4, nl5, nl6, nl7, nl8, nl9, nl10, nl11, nl12, nl13, nl14, nl15, nl16, nl17, nl18, nl19, nl20, nl21, nl22, nl23, nl24, nl25, nl26, nl27, nl28, nl29, nl30, nl31, nl32, nl33, nl34, nl35, nl36, nl37, nl38, nl39, nl40, nl41, nl42, nl43, nl44, nl45, nl46, nl47, nl48, nl49, nl50, nl51, nl52, nl53, nl54, nl55, nl56, nl57, nl58, nl59, nl60, nl61, nl62, nl63, nl64, nl65, nl66, nl67, nl68, nl69, nl70, nl71, nl72, nl73, nl74, nl75, nl76, nl77, nl78, nl79, nl80, nl82, nl83, nl84, nl85, nl86, nl88, nl90, nl96, nl97, nl99, nl100, nl101, nl104, nl112, nl115, nl120, nl121, nl122, nl126, nl127, nl128, nl160, nl200, nl201, nl202, nl255, nl256, nl300, nl320, nl322, nl400, nl500, nl600, nl640, nl732, nl968, nl999, nl1000, nl1001, nl1040, nl1440, nl1500, nl1501, nl1600, nl2000, nl2240, nl3131, nl4000, nl4095, nl4096, nl4960, nl5000, nl6000, nl6001, nl8000, nl9999, nl10000, nl10200, nl13520, nl14000, nl20000, nl32768, nl40000, nl46000, nl64000, nl65536, nl78000, nl100000, nl128000, nl400000, nl730000, am, bm, M_isK h.k h.mw, hw, b2n_f, hf]
theorem cl_parF (h : pV c D L B at' N F g α s) (ha : at' < c.n) (hF : F < 20) (hd : D.dp = i + 1) (hS : D.st i = S) (h8 : 8 ≤ S) (h11 : S ≤ 11) (hw : wK c at' 1 = true) (hn : wW c (at' + 1) 16 = false) (hf : wK c (at' + 1) 4 = false ∨ (S = 9 ∧ D.se = 0)) : cQ c D B at' N F α s (hX4_named G (some c.p) (zwI α 40 4 c.p (nI 0))) (gX26_named (nI S) (us s 43 (nI 0))) := by
  obtain ⟨i10, hu, cu, ku, xs, d26, r29, r22, u2⟩ := h.cur hd
  have h0 := h.o
  have R0 := h0.start (s' := us s 43 (nI 0)) (lv := 0) ha hF (fun k hk => by
    rw [ls_us] at hk
    split at hk
    · omega
    · exact absurd rfl hk) (fun _ => rfl) rfl (fun z => absurd z (by decide))
  have kp : zkd (zwI α 40 4 c.p (nI 0)) c.p = 41 := R0.kp
  have cu' : zA (zwI α 40 4 c.p (nI 0)) 40 11 c.p = some (D.ou (D.os i)) := by rw [zA_zwI]; exact cu
  have ax' : zI (zwI α 40 4 c.p (nI 0)) 40 3 c.p = nI at' := R0.ax
  have oK := h.op i (by omega)
  have U0 := h.u _ hu
  have I0 := h.inn (by omega)
  rw [hd, Nat.add_sub_cancel, hS] at I0
  obtain ⟨prn, rkp⟩ := I0.pr h8 h11
  obtain ⟨xse, mse, lse⟩ := I0.se h8 h11
  have plL := U0.lp.resolve_left prn
  have N1 := h0.N1
  have N8 : N < 7900 := by
    have := h0.N0
    have := h0.n
    omega
  have e0 : (zwI α 40 4 c.p (nI 0)).2 (D.ou (D.os i)) = α.2 (D.ou (D.os i)) := zwI_ne (by have := U0.lo; have := h0.p; omega)
  have St : hX4_state G (some c.p) (nI 8) (nI 11) (zwI α 40 4 c.p (nI 0)) = some (.inl (), (zwI α 40 4 c.p (nI 0))) := by
    rw [X_state (k := S) (i := 8) (j := 11) kp cu' (by rw [zkd_eq e0]; exact ku) (by rw [zI_eq e0, xs, hS]) (by omega) (by decide) (by decide), if_pos (by omega)]
  have hb0 : pB (c.on (zwI α 40 4 c.p (nI 0)) (us s 43 (nI 0)) N at' 0) N at' 0 := on_pB (by decide) (.inl (by decide))
  rcases R0.take (G := G) (k := 1) (by decide) hb0 with ⟨_, x1, _, R1⟩ | ⟨e, β, s', w, x1, x2, n1, x3⟩
  · have kp1 : zkd (zwI (zwI α 40 4 c.p (nI 0)) 40 3 c.p (nI (at' + 1))) c.p = 41 := R1.kp
    have x1' : hX4_take G (some c.p) (nI 1) (zwI α 40 4 c.p (nI 0)) = some (.inl (nI (c.vs at')), (zwI (zwI α 40 4 c.p (nI 0)) 40 3 c.p (nI (at' + 1)))) := x1
    rcases R1.meets (G := G) (w := 16) (by decide) with ⟨ew, _⟩ | ⟨_, y1, _⟩
    · exact absurd (hn.symm.trans ew) (by decide)
    have y1' : hX4_meets G (some c.p) (nI 16) (zwI (zwI α 40 4 c.p (nI 0)) 40 3 c.p (nI (at' + 1))) = some (nI 0, (zwI (zwI α 40 4 c.p (nI 0)) 40 3 c.p (nI (at' + 1)))) := y1
    have e1 : (zwI (zwI α 40 4 c.p (nI 0)) 40 3 c.p (nI (at' + 1))).2 (D.ou (D.os i)) = α.2 (D.ou (D.os i)) := h.unX R1.x hu
    obtain ⟨Ff, g1, g2⟩ := R0.k.fm
    have F1 : gX26_fail (nI 1) (nI (at' + 1)) (maS (us s 43 (nI 0)) at') = some (nI 0, mFl (maS (us s 43 (nI 0)) at') F 1 (at' + 1)) := M_fail rfl h0.fm hF
    obtain ⟨e0', β0, s0, _, _, m0, p0⟩ := R0.fail (G := G) (w := at' + 1) (wh := 1) hb0 (show at' + 1 ≤ c.n by omega) (show at' ≤ at' + 1 by omega) (by omega) (.inl rfl)
    have am0 : ls (us s 43 (nI 0)) 41 = nI at' := h0.am
    have m35 : ls (us s 43 (nI 0)) 35 = nI D.se := mse
    have T1 := M_isW R0.k R0.mw (k := at' + 1) (a := 16) (by have := h0.n; omega) (by decide)
    have T2 := M_isK R0.k R0.mw (k := at' + 1) (a := 4) (by have := h0.n; omega) (by decide)
    rw [show wW (c.on (zwI α 40 4 c.p (nI 0)) (us s 43 (nI 0)) N at' 0) (at' + 1) 16 = false from hn] at T1
    have Mf : gX26_named (nI S) (us s 43 (nI 0)) = some ((), s0) := by
      have K : gX26_named_49 (us s 43 (nI 0)) = some ((), s0) := by
        unfold gX26_named_49
        rw [gl_x, am0, show nI at' + 1 = nI (at' + 1) from pI_succ at']
        show Option.bind (gX26_fail (nI 1) (nI (at' + 1)) (us s 43 (nI 0))) _ = _
        rw [m0, gl_bs]
      unfold gX26_named
      rw [gl_x, am0, gl_x, show nI at' + 1 = nI (at' + 1) from pI_succ at']
      show Option.bind (gX26_isWord (nI (at' + 1)) (nI 16) (us s 43 (nI 0))) _ = _
      rw [T1, gl_bs, if_neg (show ¬ ¬ nI (b2n false) = 0 from fun z => z rfl), gl_x]
      show Option.bind (gX26_isKind (ls (us s 43 (nI 0)) 41 + 1) (nI 4) (us s 43 (nI 0))) _ = _
      rw [am0, show nI at' + 1 = nI (at' + 1) from pI_succ at', T2, gl_bs]
      rcases hk : wK (c.on (zwI α 40 4 c.p (nI 0)) (us s 43 (nI 0)) N at' 0) (at' + 1) 4 with _ | _
      · rw [if_pos (show nI (b2n false) = 0 from rfl)]
        exact K
      · rw [if_neg (show ¬ nI (b2n true) = 0 from bT)]
        rcases hf with z | ⟨z1, z2⟩
        · exact absurd (z.symm.trans hk) (by decide)
        · rw [if_neg (show ¬ ¬ nI S = 9 from fun z => z (by rw [z1]; rfl)), gl_x]
          show (if 0 < ls (us s 43 (nI 0)) 35 then _ else _) = _
          rw [m35, if_neg (show ¬ 0 < nI D.se from by rw [z2]; decide)]
          exact K
    have key : ∃ e β w s', hX4_named G (some c.p) (zwI α 40 4 c.p (nI 0)) = some (.inr e, β) ∧ zthr β e 3 = true ∧ pE (c.on (zwI α 40 4 c.p (nI 0)) (us s 43 (nI 0)) N at' 0) 1 w β s' ∧ ls s' 42 = nI (at' + 1) := by
      have X0 : ∀ R : Nat × zS, hX4_named_59 G (some c.p) (some (D.ou (D.os i))) (nI at') (nI (c.vs at')) (nI 0) (if S = 9 ∧ D.se = 0 then 0 else 1) (some c.p) (zwI (zwI α 40 4 c.p (nI 0)) 40 3 c.p (nI (at' + 1))) = some (.inr R.1, R.2) → zthr R.2 R.1 3 = true → hX4_named G (some c.p) (zwI α 40 4 c.p (nI 0)) = some (.inr R.1, R.2) := fun R hR hT => by
        unfold hX4_named hX4_named_54
        rw [kfA kp, gl_bs, cu', if_pos (of_eq_true (kis kp (by decide)))]
        show zcase (hX4_state G (some c.p) (nI 8) (nI 11) (zwI α 40 4 c.p (nI 0))) _ _ = _
        rw [St, zc_l, kfI kp, gl_bs, ax', if_pos (of_eq_true (kis kp (by decide)))]
        show zcase (hX4_take G (some c.p) (nI 1) (zwI α 40 4 c.p (nI 0))) _ _ = _
        rw [x1', zc_l, if_pos (of_eq_true (kis kp1 (by decide)))]
        show Option.bind (hX4_meets G (some c.p) (nI 16) (zwI (zwI α 40 4 c.p (nI 0)) 40 3 c.p (nI (at' + 1)))) _ = _
        rw [y1', gl_bs, if_neg (show ¬ ¬ nI 0 = 0 from fun z => z rfl), kfI (by rw [zkd_eq e1]; exact ku), gl_bs, zI_eq e1, xs, hS]
        by_cases e : S = 9
        · rw [if_neg (show ¬ ¬ nI S = 9 from fun z => z (by rw [e]; rfl)), kfA (by rw [zkd_eq e1]; exact ku), gl_bs, zA_eq e1, xse]
          by_cases q : D.se = 0
          · rw [if_pos (show pN g D.se = none from by rw [q]; rfl)]
            rw [if_pos ⟨e, q⟩] at hR
            exact hR
          · rw [if_neg (show ¬ pN g D.se = none from by rw [pN_s q]; simp)]
            rw [if_neg (fun z => q z.2)] at hR
            exact hR
        · rw [if_pos (show ¬ nI S = 9 from by rw [show (9 : Int32) = nI 9 from rfl, pI_inj (by omega) (by decide)]; exact e)]
          rw [if_neg (fun z => e z.1)] at hR
          exact hR
      by_cases hz : S = 9 ∧ D.se = 0
      · obtain ⟨e, β, s', w, n1, n2, n3, n4⟩ := R1.no (G := G) (hb0.go (by omega))
        refine ⟨e, β, w, s', X0 (e, β) ?_ n2, n2, n4, ?_⟩
        · unfold hX4_named_59
          rw [if_pos hz, if_pos (of_eq_true (kis kp1 (by decide)))]
          show zcase (hX4_must G (some c.p) (nI 0) (zwI (zwI α 40 4 c.p (nI 0)) 40 3 c.p (nI (at' + 1)))) _ _ = _
          rw [show hX4_must G (some c.p) (nI 0) (zwI (zwI α 40 4 c.p (nI 0)) 40 3 c.p (nI (at' + 1))) = some (.inr e, β) from n1, zc_r, if_pos n2]
        · have q := n3.symm.trans F1
          simp only [Option.some.injEq, Prod.mk.injEq] at q
          rw [q.2]
          rfl
      · have hk : wK (c.on (zwI α 40 4 c.p (nI 0)) (us s 43 (nI 0)) N at' 0) (at' + 1) 4 = false := hf.resolve_right hz
        rcases R1.period (G := G) (hb0.go (by omega)) with ⟨zz, _⟩ | ⟨e, β, s', w, n1, n2, n3, n4⟩
        · exact absurd (hk.symm.trans zz) (by decide)
        refine ⟨e, β, w, s', X0 (e, β) ?_ n2, n2, n4, ?_⟩
        · unfold hX4_named_59
          rw [if_neg hz, if_pos (of_eq_true (kis kp1 (by decide)))]
          show zcase (hX4_must G (some c.p) (nI 1) (zwI (zwI α 40 4 c.p (nI 0)) 40 3 c.p (nI (at' + 1)))) _ _ = _
          rw [X_must1, zc_l, if_pos (of_eq_true (kis kp1 (by decide))), show hX4_period G (some c.p) (zwI (zwI α 40 4 c.p (nI 0)) 40 3 c.p (nI (at' + 1))) = some (.inr e, β) from n1, zc_r, if_pos n2]
        · have q := n3.symm.trans (M_mbF4 R1 hk F1)
          simp only [Option.some.injEq, Prod.mk.injEq] at q
          rw [q.2]
          rfl
    obtain ⟨e, β, w, s', k1, k2, k3, k4⟩ := key
    have hw' : w = at' + 1 := by
      have := k3.b2
      rw [k4, pI_inj (by have := h0.n; omega) (by have : w ≤ c.n := k3.w1; have := h0.n; omega)] at this
      exact this.symm
    subst hw'
    exact .inr ⟨e, β, s0, 1, at' + 1, k1, k2, Mf, pE.mk k3.x k3.xb k3.xw p0.I p0.A p0.B p0.b1 p0.b2 p0.nt p0.w1 p0.w2 p0.wh p0.N k3.zcb k3.zwb⟩
  · exfalso
    have := (M_mbT R0 hw).symm.trans n1
    simp only [Option.some.injEq, Prod.mk.injEq] at this
    exact absurd this.1 (by decide)
end PAZZF
