/-! THE PURE LAYER: the parser: END DECLARATIVES. -/
section PAZY
variable {L L2 : Nat → Prop} {c : pC} {D : pD} {G : xQ} {α β : zS} {s s' s1 : zM} {B at' a a1 b d N N' F F' p q t to u x y k i j w wh lv m S : Nat} {g g' g2 : pG} {v : Int32}
theorem cl_edc (h : pV c D L B at' N F g α s) (ha : at' < c.n) (hF : F < 20) (hd : D.dp = i + 1) (hS : D.st i = 9) : cQ c D B at' N F α s (hX4_header G (some c.p) (nI 33) (zwI α 40 4 c.p (nI 0))) (gX26_ended (nI 9) (maS (us s 43 (nI 0)) at')) := by
  obtain ⟨i10, hu, cu, ku, xs, d26, r29, r22, u2⟩ := h.cur hd
  have h0 := h.o
  have R0 := h0.start (s' := us s 43 (nI 0)) (lv := 0) ha hF (fun k hk => by
    rw [ls_us] at hk
    split at hk
    · omega
    · exact absurd rfl hk) (fun _ => rfl) rfl (fun z => absurd z (by decide))
  have kp : zkd (zwI α 40 4 c.p (nI 0)) c.p = 41 := R0.kp
  have cu' : zA (zwI α 40 4 c.p (nI 0)) 40 11 c.p = some (D.ou (D.os i)) := by rw [zA_zwI]; exact cu
  have ax' : zI (zwI α 40 4 c.p (nI 0)) 40 3 c.p = nI at' := R0.ax
  have oK := h.op i (by omega)
  have uK := h.u _ hu
  have kp1 : zkd (zwI (zwI α 40 4 c.p (nI 0)) 40 3 c.p (nI (at' + 1))) c.p = 41 := (R0.adv ha).kp
  have x9 : ∀ {β : zS}, β.2 (D.ou (D.os i)) = α.2 (D.ou (D.os i)) → zkd β (D.ou (D.os i)) = 44 ∧ zI β 43 3 (D.ou (D.os i)) = nI 9 := fun e => ⟨by rw [zkd_eq e]; exact ku, by rw [zI_eq e, xs, hS]⟩
  have e0 : (zwI α 40 4 c.p (nI 0)).2 (D.ou (D.os i)) = α.2 (D.ou (D.os i)) := zwI_ne (by have := (h.u _ hu).lo; have := h0.p; omega)
  have e1 : (zwI (zwI α 40 4 c.p (nI 0)) 40 3 c.p (nI (at' + 1))).2 (D.ou (D.os i)) = α.2 (D.ou (D.os i)) := h.unX (R0.adv ha).x hu
  have X0 : ∀ R, hX4_need G (some c.p) (nI 32) (zwI (zwI α 40 4 c.p (nI 0)) 40 3 c.p (nI (at' + 1))) = R → hX4_header G (some c.p) (nI 33) (zwI α 40 4 c.p (nI 0)) = zcase (zcase R (fun p20 =>
        if zis G p20.2 (some c.p) 41 = true then
          zcase (hX4_period G (some c.p) p20.2) (fun p21 =>
            (zpA p21.2 (some (D.ou (D.os i))) 43 10 none).bind fun σ22 =>
            (zpA σ22 (some (D.ou (D.os i))) 43 11 none).bind fun σ23 =>
            (zpI σ23 (some (D.ou (D.os i))) 43 3 (nI 10)).bind fun σ24 =>
            some (.inl (()), σ24)) (fun p25 =>
            if zthr p25.2 p25.1 3 = true then
              some (.inr p25.1, p25.2)
            else none)
        else none) (fun p26 =>
        if zthr p26.2 p26.1 3 = true then
          some (.inr p26.1, p26.2)
        else none)) (fun p2 =>
          hX4_header_666 G  p2.2) (fun p3 =>
          if zthr p3.2 p3.1 3 = true then
            some (.inr p3.1, p3.2)
          else none) := fun R hR => by
    unfold hX4_header hX4_header_640 hX4_header_659
    rw [kfA kp, gl_bs, cu', kfI kp, gl_bs, ax', if_pos (by decide), if_neg (show ¬ ¬ nI 33 = 33 from fun z => z rfl), kfI (x9 e0).1, gl_bs, (x9 e0).2, if_neg (by decide), if_pos (of_eq_true (kis kp (by decide)))]
    show zcase (hX4_must G (some c.p) (nI 1) (zwI α 40 4 c.p (nI 0))) _ _ = _
    rw [X_must1, zc_l, if_pos (of_eq_true (kis kp (by decide)))]
    have E : hX4_end G (some c.p) (zwI α 40 4 c.p (nI 0)) = zcase R (fun p20 =>
        if zis G p20.2 (some c.p) 41 = true then
          zcase (hX4_period G (some c.p) p20.2) (fun p21 =>
            (zpA p21.2 (some (D.ou (D.os i))) 43 10 none).bind fun σ22 =>
            (zpA σ22 (some (D.ou (D.os i))) 43 11 none).bind fun σ23 =>
            (zpI σ23 (some (D.ou (D.os i))) 43 3 (nI 10)).bind fun σ24 =>
            some (.inl (()), σ24)) (fun p25 =>
            if zthr p25.2 p25.1 3 = true then
              some (.inr p25.1, p25.2)
            else none)
        else none) (fun p26 =>
        if zthr p26.2 p26.1 3 = true then
          some (.inr p26.1, p26.2)
        else none) := by
      unfold hX4_end
      rw [kfA kp, gl_bs, cu', kfI kp, gl_bs, ax', kpI kp, gl_bs, show nI at' + 1 = nI (at' + 1) from pI_succ at', kfI (x9 e1).1, gl_bs, (x9 e1).2, if_neg (show ¬ ¬ nI 9 = 9 from fun z => z rfl), if_pos (of_eq_true (kis kp1 (by decide))), ← hR]
      rfl
    rw [← E]
  have hb1 : pB (c.on (zwI α 40 4 c.p (nI 0)) (us s 43 (nI 0)) N at' 0) N (at' + 1) 0 := by
    have := on_pB (c := c) (α := zwI α 40 4 c.p (nI 0)) (s := us s 43 (nI 0)) (N := N) (at' := at') (lv := 0) (k := 4) (by decide) (.inl (by decide))
    unfold pB at *; omega
  have R1 := R0.adv ha
  have am1 : ls (maS (us s 43 (nI 0)) at') 41 = nI (at' + 1) := R1.am
  have M0 : ∀ w, wW (c.on (zwI α 40 4 c.p (nI 0)) (us s 43 (nI 0)) N at' 0) (at' + 1) 32 = w → gX26_ended (nI 9) (maS (us s 43 (nI 0)) at') = if w = true then (gX26_mustBe (nI 4) (maS (maS (us s 43 (nI 0)) at') (at' + 1))).bind (fun p15 => if ¬ p15.1 = 0 then xlet (us p15.2 35 (nI 0)) fun s16 => xlet (us s16 36 (nI 0)) fun s17 => (gX26_to (nI 10) s17).bind fun p18 => some ((), p18.2) else some ((), p15.2)) else (gX26_fail (nI 1) (nI (at' + 1)) (maS (us s 43 (nI 0)) at')).bind fun p20 => some ((), p20.2) := fun w hw => by
    unfold gX26_ended gX26_ended_42 gX26_ended_43 gX26_ended_78 gX26_ended_67
    rw [if_pos (show nI 9 = 9 from rfl), if_neg (show ¬ ¬ (0 : Int32) = 0 from fun z => z rfl), if_neg (show ¬ ¬ nI 9 = 9 from fun z => z rfl), gl_x, am1]
    show Option.bind (gX26_isWord (nI (at' + 1)) (nI 32) (maS (us s 43 (nI 0)) at')) _ = _
    rw [M_isW R1.k R1.mw (by have := h0.n; omega) (by decide), gl_bs, hw]
    rcases w with _ | _
    · rw [if_neg (show ¬ ¬ nI (b2n false) = 0 from fun z => z rfl), if_neg (by decide)]
      rw [gl_x, am1]
      rfl
    · rw [if_pos (show ¬ nI (b2n true) = 0 from bT), if_pos rfl, gl_x, am1, gl_x, if_neg (show ¬ ¬ (0 : Int32) = 0 from fun z => z rfl), show nI (at' + 1) + 1 = nI (at' + 1 + 1) from pI_succ _]
      rfl
  rcases R1.meets (G := G) (w := 32) (by decide) with ⟨ew, x1, m1, R2⟩ | ⟨ew, x1, m1⟩
  · have kp2 := R2.kp
    have XN : hX4_need G (some (c.on (zwI α 40 4 c.p (nI 0)) (us s 43 (nI 0)) N at' 0).p) (nI 32) (xaS (c.on (zwI α 40 4 c.p (nI 0)) (us s 43 (nI 0)) N at' 0) (zwI α 40 4 c.p (nI 0)) at') = some (.inl (), xaS (c.on (zwI α 40 4 c.p (nI 0)) (us s 43 (nI 0)) N at' 0) (xaS (c.on (zwI α 40 4 c.p (nI 0)) (us s 43 (nI 0)) N at' 0) (zwI α 40 4 c.p (nI 0)) at') (at' + 1)) := by
      have kp := R1.kp
      unfold hX4_need
      simp (disch := omega) only [gld, gst, glj, gsj, gpN0, gpN1, gl_x, gl_gi, pI_in', pI_clamp, pI_add, pI_mul, pI_sub, pI_succ, nmod_eq, pI_div, ni_neg, zn_neg, gnar0, gnar1, eq_self, ni_lt, ni_le, ni_eq, ni_zlt, ni_zle, ni_zeq, zn_lt, zn_le, zn_eq, zz_lt, zz_le, zz_eq, ni_zadd, zn_add, ni_zsub, zn_sub, ni_zmul, zn_mul, nZ_add, nZ_sub, nZ_mul, upd_same, upd_other, upd_upd, gl_bi, gl_mi, gl_bs, gl_ms, gl_bn, gl_mn, if_true, if_false, ↓reduceIte, not_true_eq_false, not_false_eq_true, true_and, and_true, false_and, and_false, and_self, or_false, false_or, or_self, or_true, true_or, Nat.not_lt_zero, Nat.reduceAdd, Nat.reduceMul, Nat.add_zero, Nat.zero_add, Nat.mul_zero, Nat.zero_mul, Nat.reduceEqDiff, Nat.reduceLT, Nat.reduceLeDiff, Nat.succ_ne_zero, ua_ua, us_us, tn_le, tn_nle, tn_lt, tn_nlt, tn_eq, tn_ne, tz_le, tz_nle, tz_lt, tz_nlt, tz_eq, tz_ne, kfI, kfJ, kfA, kpI, kpA, kis, kal, kald, kcald, kaald, Option.some.injEq, ls_us, ls_uj, ls_ua, ls_ub, lj_us, lj_uj, lj_ua, lj_ub, la_us, la_uj, la_ua, la_ub, lb_us, lb_uj, lb_ua, lb_ub, nl0, nl1, nl2, nl3, nl4, nl5, nl6, nl7, nl8, nl9, nl10, nl11, nl12, nl13, nl14, nl15, nl16, nl17, nl18, nl19, nl20, nl21, nl22, nl23, nl24, nl25, nl26, nl27, nl28, nl29, nl30, nl31, nl32, nl33, nl34, nl35, nl36, nl37, nl38, nl39, nl40, nl41, nl42, nl43, nl44, nl45, nl46, nl47, nl48, nl49, nl50, nl51, nl52, nl53, nl54, nl55, nl56, nl57, nl58, nl59, nl60, nl61, nl62, nl63, nl64, nl65, nl66, nl67, nl68, nl69, nl70, nl71, nl72, nl73, nl74, nl75, nl76, nl77, nl78, nl79, nl80, nl82, nl83, nl84, nl85, nl86, nl88, nl90, nl96, nl97, nl99, nl100, nl101, nl104, nl112, nl115, nl120, nl121, nl122, nl126, nl127, nl128, nl160, nl200, nl201, nl202, nl255, nl256, nl300, nl320, nl322, nl400, nl500, nl600, nl640, nl732, nl968, nl999, nl1000, nl1001, nl1040, nl1440, nl1500, nl1501, nl1600, nl2000, nl2240, nl3131, nl4000, nl4095, nl4096, nl4960, nl5000, nl6000, nl6001, nl8000, nl9999, nl10000, nl10200, nl13520, nl14000, nl20000, nl32768, nl40000, nl46000, nl64000, nl65536, nl78000, nl100000, nl128000, nl400000, nl730000, x1, X_must1, zc_l]
    have XN' : hX4_need G (some c.p) (nI 32) (zwI (zwI α 40 4 c.p (nI 0)) 40 3 c.p (nI (at' + 1))) = some (.inl (), (zwI (zwI (zwI α 40 4 c.p (nI 0)) 40 3 c.p (nI (at' + 1))) 40 3 c.p (nI (at' + 1 + 1)))) := XN
    have hb2 : pB (c.on (zwI α 40 4 c.p (nI 0)) (us s 43 (nI 0)) N at' 0) N (at' + 1 + 1) 0 := hb1.go (by omega)
    rcases R2.period (G := G) hb2 with ⟨e2, y1, n1, R3⟩ | ⟨e, β, s', w, y1, y2, n1, y3⟩
    · have y1' : hX4_period G (some c.p) (zwI (zwI (zwI α 40 4 c.p (nI 0)) 40 3 c.p (nI (at' + 1))) 40 3 c.p (nI (at' + 1 + 1))) = some (.inl (), (zwI (zwI (zwI (zwI α 40 4 c.p (nI 0)) 40 3 c.p (nI (at' + 1))) 40 3 c.p (nI (at' + 1 + 1))) 40 3 c.p (nI (at' + 1 + 1 + 1)))) := y1
      have kp2' : zkd (zwI (zwI (zwI α 40 4 c.p (nI 0)) 40 3 c.p (nI (at' + 1))) 40 3 c.p (nI (at' + 1 + 1))) c.p = 41 := R2.kp
      have R3' : pR (c.on (zwI α 40 4 c.p (nI 0)) (us s 43 (nI 0)) N at' 0) (at' + 3) 0 N N 0 pG0 (zwI (zwI (zwI (zwI α 40 4 c.p (nI 0)) 40 3 c.p (nI (at' + 1))) 40 3 c.p (nI (at' + 1 + 1))) 40 3 c.p (nI (at' + 1 + 1 + 1))) (maS (maS (maS (us s 43 (nI 0)) at') (at' + 1)) (at' + 1 + 1)) := R3
      generalize (zwI (zwI (zwI (zwI α 40 4 c.p (nI 0)) 40 3 c.p (nI (at' + 1))) 40 3 c.p (nI (at' + 1 + 1))) 40 3 c.p (nI (at' + 1 + 1 + 1))) = α3 at y1' R3'
      have n1' : gX26_mustBe (nI 4) (maS (maS (us s 43 (nI 0)) at') (at' + 1)) = some (nI 1, (maS (maS (maS (us s 43 (nI 0)) at') (at' + 1)) (at' + 1 + 1))) := n1
      have d26' : ls (maS (maS (maS (us s 43 (nI 0)) at') (at' + 1)) (at' + 1 + 1)) 26 = nI (i + 1) := d26
      have b43 : ls (maS (maS (maS (us s 43 (nI 0)) at') (at' + 1)) (at' + 1 + 1)) 43 = nI 0 := rfl
      obtain ⟨V2, _, _⟩ := h.fin R3' (fun k hk => by rw [ls_us, if_neg (by omega)]) (fun _ => rfl) (fun z => absurd z (by decide)) (by omega) (by omega)
      generalize g.mrg pG0 N = g2 at V2
      generalize (maS (maS (maS (us s 43 (nI 0)) at') (at' + 1)) (at' + 1 + 1)) = s3 at n1' d26' b43 V2
      have U2 := V2.u _ hu
      have O2 := V2.op i (by omega)
      have I2 := V2.inn (by omega)
      rw [hd, Nat.add_sub_cancel, hS] at I2
      have kO : zkd α3 (D.ou (D.os i)) = 44 := U2.kn
      have Xf : hX4_header G (some c.p) (nI 33) (zwI α 40 4 c.p (nI 0)) = some (.inl (), zwI (zwA (zwA α3 43 10 (D.ou (D.os i)) none) 43 11 (D.ou (D.os i)) none) 43 3 (D.ou (D.os i)) (nI 10)) := by
        rw [X0 _ XN', zc_l, if_pos (of_eq_true (kis kp2' (by decide))), y1', zc_l, kpA kO, gl_bs, kpA (by rw [zkd_zwA]; exact kO), gl_bs, kpI (by rw [zkd_zwA, zkd_zwA]; exact kO), gl_bs, zc_l]
        rfl
      have Mf : gX26_ended (nI 9) (maS (us s 43 (nI 0)) at') = some ((), ua (us (us s3 35 (nI 0)) 36 (nI 0)) 27 (upd (la s3 27) i (nI 10))) := by
        rw [M0 _ ew, if_pos rfl, n1', gl_bs, if_pos (show ¬ nI 1 = 0 from n1n), gl_x, gl_x]
        show Option.bind (gX26_to (nI 10) _) _ = _
        rw [M_to (i := i) (by rw [ls_us, if_neg (by decide), ls_us, if_neg (by decide)]; exact d26') (by omega), gl_bs]
        rfl
      refine .inl ⟨_, _, D.set D.en D.da D.pr (va_up D.st i 10) D.nm D.fu D.hd D.fi D.ho D.de 0 0 D.lt D.it, _, at' + 3, N, _, F, Xf, Mf, b43, V2.upd (i := i) (u := D.os i) (q := D.ou (D.os i)) hd rfl rfl ?_ ?_ ?_ ?_ ?_ ?_ ?_ ?_ ?_ ?_ ?_ ?_ ?_, by omega, ⟨Nat.le_refl _, Nat.le_succ _⟩, rfl, rfl, rfl, rfl, rfl, rfl, rfl⟩
      · intro x hx1 hx2
        rw [zwI_ne hx1, zwA_ne hx1, zwA_ne hx1]
      · rfl
      · exact Nat.le_refl _
      · exact Nat.le_refl _
      · intro k hk
        show ls (us (us s3 35 (nI 0)) 36 (nI 0)) k = _
        rw [ls_us, if_neg (by omega), ls_us, if_neg (by omega)]
      · intro k hk
        rw [la_ua, if_neg (by omega)]
        rfl
      · intro k j k1 k2 hj
        rw [la_ua, if_neg (by omega)]
        rfl
      · intro k j k1 k2 hj
        rw [la_ua]
        split
        · rename_i e
          rw [e, upd_other hj]
        · rfl
      · exact fun k hk => ⟨rfl, rfl, rfl⟩
      · intro j hj
        refine ⟨?_, rfl, rfl, rfl⟩
        show (if j = i then 10 else D.st j) = _
        rw [if_neg hj]
      · refine uOk.mk U2.lo ?_ ?_ ?_ ?_ ?_ ?_ ?_ ?_ U2.mu U2.me U2.md U2.mp U2.lu U2.le U2.ld U2.lp
        · exact U2.hi
        · rw [zkd_zwI, zkd_zwA, zkd_zwA]; exact U2.kn
        · rw [zA_zwI, zA_zwA, if_neg (fun z => absurd z.2.1 (by decide)), zA_zwA, if_neg (fun z => absurd z.2.1 (by decide))]; exact U2.fl
        · rw [zkd_zwI, zkd_zwA, zkd_zwA]; exact U2.kl
        · rw [zA_zwI, zA_zwA, if_neg (fun z => absurd z.2.1 (by decide)), zA_zwA, if_neg (fun z => absurd z.2.1 (by decide))]; exact U2.xu
        · rw [zA_zwI, zA_zwA, if_neg (fun z => absurd z.2.1 (by decide)), zA_zwA, if_neg (fun z => absurd z.2.1 (by decide))]; exact U2.xe
        · rw [zA_zwI, zA_zwA, if_neg (fun z => absurd z.2.1 (by decide)), zA_zwA, if_neg (fun z => absurd z.2.1 (by decide))]; exact U2.xd
        · rw [zA_zwI, zA_zwA, if_neg (fun z => absurd z.2.1 (by decide)), zA_zwA, if_neg (fun z => absurd z.2.1 (by decide))]; exact U2.xp
      · refine oOk.mk O2.u ?_ ?_ ?_ ?_ O2.mo O2.mf O2.mh ?_ O2.kd ?_ ?_ O2.f1 O2.h1 O2.nb O2.rk
        · rw [zA_zwI, zA_zwA, if_neg (fun z => absurd z.2.1 (by decide)), zA_zwA, if_neg (fun z => absurd z.2.1 (by decide))]; exact O2.up
        · rw [zI_zwI, if_neg (fun z => absurd z.2.1 (by decide)), zI_zwA, zI_zwA]; exact O2.xh
        · show _ = nI (if i = i then 10 else D.st i)
          rw [zI_zwI, if_pos ⟨rfl, rfl, rfl⟩, if_pos rfl]
        · show upd _ i (nI 10) i = nI (if i = i then 10 else D.st i)
          rw [upd_same, if_pos rfl]
        · exact fun _ => O2.mn (by omega)
        · exact fun _ => O2.vl (by omega)
        · show (if i = i then 10 else D.st i) ≤ 12
          rw [if_pos rfl]; decide
      · have eS : va_up D.st i 10 i = 10 := if_pos rfl
        rw [eS]
        refine iOk.mk (fun z1 z2 => absurd z2 (by decide)) (fun z1 z2 => absurd z2 (by decide)) (fun _ _ => I2.pr (by decide) (by decide)) (fun z1 z2 => absurd z2 (by decide)) (fun z1 z2 => absurd z2 (by decide)) (fun z1 z2 => absurd z2 (by decide)) (fun z1 z2 => absurd z2 (by decide)) (fun z => absurd z (by decide)) (fun _ _ => ⟨?_, rfl, .inl rfl⟩) (fun _ _ => ⟨?_, rfl, .inl rfl⟩) (fun z => absurd z (by decide))
        · show _ = none
          rw [zA_zwI, zA_zwA, if_neg (fun z => absurd z.2.1 (by decide)), zA_zwA, if_pos ⟨rfl, rfl, rfl⟩]
        · show _ = none
          rw [zA_zwI, zA_zwA, if_pos ⟨rfl, rfl, rfl⟩]
    · refine .inr ⟨e, β, s', 1, w, ?_, y2, ?_, y3⟩
      · rw [X0 _ XN', zc_l, if_pos (of_eq_true (kis (show zkd (zwI (zwI (zwI α 40 4 c.p (nI 0)) 40 3 c.p (nI (at' + 1))) 40 3 c.p (nI (at' + 1 + 1))) c.p = 41 from kp2) (by decide))), show hX4_period G (some c.p) (zwI (zwI (zwI α 40 4 c.p (nI 0)) 40 3 c.p (nI (at' + 1))) 40 3 c.p (nI (at' + 1 + 1))) = some (.inr e, β) from y1, zc_r, if_pos y2, zc_r, if_pos y2]
      · rw [M0 _ ew, if_pos rfl, n1, gl_bs, if_neg (show ¬ ¬ nI 0 = 0 from fun z => z rfl)]
  · obtain ⟨q, β, s', w, x2, x3, m2, x4⟩ := R1.no (G := G) hb1
    have XN : hX4_need G (some (c.on (zwI α 40 4 c.p (nI 0)) (us s 43 (nI 0)) N at' 0).p) (nI 32) (xaS (c.on (zwI α 40 4 c.p (nI 0)) (us s 43 (nI 0)) N at' 0) (zwI α 40 4 c.p (nI 0)) at') = some (.inr q, β) := by
      have kp := R1.kp
      unfold hX4_need
      simp (disch := omega) only [gld, gst, glj, gsj, gpN0, gpN1, gl_x, gl_gi, pI_in', pI_clamp, pI_add, pI_mul, pI_sub, pI_succ, nmod_eq, pI_div, ni_neg, zn_neg, gnar0, gnar1, eq_self, ni_lt, ni_le, ni_eq, ni_zlt, ni_zle, ni_zeq, zn_lt, zn_le, zn_eq, zz_lt, zz_le, zz_eq, ni_zadd, zn_add, ni_zsub, zn_sub, ni_zmul, zn_mul, nZ_add, nZ_sub, nZ_mul, upd_same, upd_other, upd_upd, gl_bi, gl_mi, gl_bs, gl_ms, gl_bn, gl_mn, if_true, if_false, ↓reduceIte, not_true_eq_false, not_false_eq_true, true_and, and_true, false_and, and_false, and_self, or_false, false_or, or_self, or_true, true_or, Nat.not_lt_zero, Nat.reduceAdd, Nat.reduceMul, Nat.add_zero, Nat.zero_add, Nat.mul_zero, Nat.zero_mul, Nat.reduceEqDiff, Nat.reduceLT, Nat.reduceLeDiff, Nat.succ_ne_zero, ua_ua, us_us, tn_le, tn_nle, tn_lt, tn_nlt, tn_eq, tn_ne, tz_le, tz_nle, tz_lt, tz_nlt, tz_eq, tz_ne, kfI, kfJ, kfA, kpI, kpA, kis, kal, kald, kcald, kaald, Option.some.injEq, ls_us, ls_uj, ls_ua, ls_ub, lj_us, lj_uj, lj_ua, lj_ub, la_us, la_uj, la_ua, la_ub, lb_us, lb_uj, lb_ua, lb_ub, nl0, nl1, nl2, nl3, nl4, nl5, nl6, nl7, nl8, nl9, nl10, nl11, nl12, nl13, nl14, nl15, nl16, nl17, nl18, nl19, nl20, nl21, nl22, nl23, nl24, nl25, nl26, nl27, nl28, nl29, nl30, nl31, nl32, nl33, nl34, nl35, nl36, nl37, nl38, nl39, nl40, nl41, nl42, nl43, nl44, nl45, nl46, nl47, nl48, nl49, nl50, nl51, nl52, nl53, nl54, nl55, nl56, nl57, nl58, nl59, nl60, nl61, nl62, nl63, nl64, nl65, nl66, nl67, nl68, nl69, nl70, nl71, nl72, nl73, nl74, nl75, nl76, nl77, nl78, nl79, nl80, nl82, nl83, nl84, nl85, nl86, nl88, nl90, nl96, nl97, nl99, nl100, nl101, nl104, nl112, nl115, nl120, nl121, nl122, nl126, nl127, nl128, nl160, nl200, nl201, nl202, nl255, nl256, nl300, nl320, nl322, nl400, nl500, nl600, nl640, nl732, nl968, nl999, nl1000, nl1001, nl1040, nl1440, nl1500, nl1501, nl1600, nl2000, nl2240, nl3131, nl4000, nl4095, nl4096, nl4960, nl5000, nl6000, nl6001, nl8000, nl9999, nl10000, nl10200, nl13520, nl14000, nl20000, nl32768, nl40000, nl46000, nl64000, nl65536, nl78000, nl100000, nl128000, nl400000, nl730000, x1, x2, zc_r, x3]
    have XN' : hX4_need G (some c.p) (nI 32) (zwI (zwI α 40 4 c.p (nI 0)) 40 3 c.p (nI (at' + 1))) = some (.inr q, β) := XN
    refine .inr ⟨q, β, s', 1, w, ?_, x3, ?_, x4⟩
    · rw [X0 _ XN', zc_r, if_pos x3, zc_r, if_pos x3]
    · rw [M0 _ ew, if_neg (by decide), m2, gl_bs]
end PAZY
