/-! THE PURE LAYER: the parser: END of a unit. -/
section PAZZA
variable {L L2 : Nat → Prop} {c : pC} {D : pD} {G : xQ} {α β : zS} {s s' s1 : zM} {B at' a a1 b d N N' F F' p q t to u x y k i j w wh lv m S f : Nat} {g g' g2 : pG} {v : Int32}
theorem X_isFn (kq : zkd α q = 44) (hu : zA α 43 1 q = some u) (ku : zkd α u = 45) (hk : zI α 44 0 u = nI (1 + f)) (hf : f ≤ 1) : hX42_isFunction G (some q) α = some (nI f, α) := by
  have n0 : narrow .boolean (.int (0 : Int32)) = .int 0 := by decide
  have n1 : narrow .boolean (.int (1 : Int32)) = .int 1 := by decide
  unfold hX42_isFunction hX42_isFunction_16
  rw [kfA kq, gl_bs, hu, kfI ku, gl_bs, hk]
  have : f = 0 ∨ f = 1 := by omega
  rcases this with rfl | rfl
  · rw [if_pos (by decide), if_pos n0]
    rfl
  · rw [if_neg (by decide), if_pos n1]
    rfl
theorem X_e101 (h : pV c D L B a N F g α s) (hd : D.dp = i + 1) : hX4_end_101 G (some c.p) (some (D.ou (D.os i))) α = some (.inl (), zwI (zwA α 40 11 c.p (if i = 0 then none else some (D.ou (D.os (i - 1))))) 40 8 c.p (nI i)) := by
  have o := h.op i (by omega)
  have u := h.u _ o.u
  have kp := h.o.x.kp
  unfold hX4_end_101
  rw [kfA u.kn, gl_bs, o.up, kpA kp, gl_bs, kfI (by rw [zkd_zwA]; exact kp), gl_bs, zI_zwA, h.dx, hd, kpI (by rw [zkd_zwA]; exact kp), gl_bs, nl1, pI_sub (by omega), Nat.add_sub_cancel]
theorem M_e169 (h : pV c D L B a N F g α s) (hd : D.dp = i + 1) : gX26_ended_169 s = some ((), us s 26 (nI i)) := by
  unfold gX26_ended_169
  rw [gl_x, h.dm, hd, nl1, pI_sub (by omega), Nat.add_sub_cancel, gl_x]
theorem cl_eun (h : pV c D L B at' N F g α s) (ha : at' < c.n) (hF : F < 20) (hd : D.dp = i + 1) (hS : D.st i = S) (hS1 : S ≠ 0) (hS2 : S ≠ 9) : cQ c D B at' N F α s (hX4_header G (some c.p) (nI 33) (zwI α 40 4 c.p (nI 0))) (gX26_ended (nI S) (maS (us s 43 (nI 0)) at')) := by
  obtain ⟨i10, hu, cu, ku, xs, d26, r29, r22, u2⟩ := h.cur hd
  have h0 := h.o
  have R0 := h0.start (s' := us s 43 (nI 0)) (lv := 0) ha hF (fun k hk => by
    rw [ls_us] at hk
    split at hk
    · omega
    · exact absurd rfl hk) (fun _ => rfl) rfl (fun z => absurd z (by decide))
  have kp : zkd (zwI α 40 4 c.p (nI 0)) c.p = 41 := R0.kp
  have cu' : zA (zwI α 40 4 c.p (nI 0)) 40 11 c.p = some (D.ou (D.os i)) := by rw [zA_zwI]; exact cu
  have ax' : zI (zwI α 40 4 c.p (nI 0)) 40 3 c.p = nI at' := R0.ax
  have oK := h.op i (by omega)
  have uK := h.u _ hu
  have kp1 : zkd (zwI (zwI α 40 4 c.p (nI 0)) 40 3 c.p (nI (at' + 1))) c.p = 41 := (R0.adv ha).kp
  have R1 := R0.adv ha
  have U0 := h.u _ hu
  have f1 := oK.f1
  have wn := h.g.nd _ U0.lu
  have e0 : (zwI α 40 4 c.p (nI 0)).2 (D.ou (D.os i)) = α.2 (D.ou (D.os i)) := zwI_ne (by have := U0.lo; have := h0.p; omega)
  have e1 : (zwI (zwI α 40 4 c.p (nI 0)) 40 3 c.p (nI (at' + 1))).2 (D.ou (D.os i)) = α.2 (D.ou (D.os i)) := h.unX R1.x hu
  have e2 : (zwI (zwI α 40 4 c.p (nI 0)) 40 3 c.p (nI (at' + 1))).2 (g.oa (D.un (D.os i))) = α.2 (g.oa (D.un (D.os i))) := by
    have := wn.lo
    have := h0.p
    rw [zwI_ne (by omega), zwI_ne (by omega)]
  have Fn : hX42_isFunction G (some (D.ou (D.os i))) (zwI (zwI α 40 4 c.p (nI 0)) 40 3 c.p (nI (at' + 1))) = some (nI (D.fu i), (zwI (zwI α 40 4 c.p (nI 0)) 40 3 c.p (nI (at' + 1)))) := X_isFn (by rw [zkd_eq e1]; exact ku) (by rw [zA_eq e1]; exact U0.xu) (by rw [zkd_eq e2]; exact wn.kn) (by rw [zI_eq e2, wn.kd]; exact oK.kd) f1
  have S12 := oK.s12
  have S0 : nI S ≠ nI 0 := by rw [ne_eq, pI_inj (by omega) (by decide)]; exact hS1
  have S9 : nI S ≠ nI 9 := by rw [ne_eq, pI_inj (by omega) (by decide)]; exact hS2
  have X0 : ∀ R, hX4_need G (some c.p) (nI (34 + D.fu i)) (zwI (zwI α 40 4 c.p (nI 0)) 40 3 c.p (nI (at' + 1))) = R → hX4_header G (some c.p) (nI 33) (zwI α 40 4 c.p (nI 0)) = zcase (zcase R (fun p5 =>
      (zfI p5.2 (some c.p) 40 3).bind fun x6 =>
      if zis G p5.2 (some c.p) 41 = true then
        zcase (hX4_take G (some c.p) (nI 1) p5.2) (fun p7 =>
          if zis G p7.2 (some c.p) 41 = true then
            zcase (hX4_period G (some c.p) p7.2) (fun p8 =>
              (zfA p8.2 (some (D.ou (D.os i))) 43 1).bind fun r9 =>
              (zfI p8.2 r9 44 1).bind fun x10 =>
              if p7.1 = x10 then
                hX4_end_101 G (some c.p) (some (D.ou (D.os i))) p8.2
              else
                if zis G p8.2 (some c.p) 41 = true then
                  (hX4_note G (some c.p) (nI 2) x6 p8.2).bind fun p11 =>
                  hX4_end_101 G (some c.p) (some (D.ou (D.os i))) p11.2
                else none) (fun p => if zthr p.2 p.1 3 = true then some (.inr p.1, p.2) else none)
          else none) (fun p => if zthr p.2 p.1 3 = true then some (.inr p.1, p.2) else none)
      else none) (fun p => if zthr p.2 p.1 3 = true then some (.inr p.1, p.2) else none)) (fun p2 =>
          hX4_header_666 G  p2.2) (fun p => if zthr p.2 p.1 3 = true then some (.inr p.1, p.2) else none) := fun R hR => by
    unfold hX4_header hX4_header_640 hX4_header_659
    rw [kfA kp, gl_bs, cu', kfI kp, gl_bs, ax', if_pos (by decide), if_neg (show ¬ ¬ nI 33 = 33 from fun z => z rfl), kfI (by rw [zkd_eq e0]; exact ku), gl_bs, zI_eq e0, xs, hS, if_neg (by rw [nl0, pI_le (by omega) (by decide)]; omega), if_pos (of_eq_true (kis kp (by decide)))]
    show zcase (hX4_must G (some c.p) (nI 1) (zwI α 40 4 c.p (nI 0))) _ _ = _
    rw [X_must1, zc_l, if_pos (of_eq_true (kis kp (by decide)))]
    have E : hX4_end G (some c.p) (zwI α 40 4 c.p (nI 0)) = zcase R (fun p5 =>
      (zfI p5.2 (some c.p) 40 3).bind fun x6 =>
      if zis G p5.2 (some c.p) 41 = true then
        zcase (hX4_take G (some c.p) (nI 1) p5.2) (fun p7 =>
          if zis G p7.2 (some c.p) 41 = true then
            zcase (hX4_period G (some c.p) p7.2) (fun p8 =>
              (zfA p8.2 (some (D.ou (D.os i))) 43 1).bind fun r9 =>
              (zfI p8.2 r9 44 1).bind fun x10 =>
              if p7.1 = x10 then
                hX4_end_101 G (some c.p) (some (D.ou (D.os i))) p8.2
              else
                if zis G p8.2 (some c.p) 41 = true then
                  (hX4_note G (some c.p) (nI 2) x6 p8.2).bind fun p11 =>
                  hX4_end_101 G (some c.p) (some (D.ou (D.os i))) p11.2
                else none) (fun p => if zthr p.2 p.1 3 = true then some (.inr p.1, p.2) else none)
          else none) (fun p => if zthr p.2 p.1 3 = true then some (.inr p.1, p.2) else none)
      else none) (fun p => if zthr p.2 p.1 3 = true then some (.inr p.1, p.2) else none) := by
      unfold hX4_end
      rw [kfA kp, gl_bs, cu', kfI kp, gl_bs, ax', kpI kp, gl_bs, show nI at' + 1 = nI (at' + 1) from pI_succ at', kfI (by rw [zkd_eq e1]; exact ku), gl_bs, zI_eq e1, xs, hS, if_pos (show ¬ nI S = 9 from S9), if_pos (of_eq_true (kis (by rw [zkd_eq e1]; exact ku) (by decide))), Fn, gl_bs]
      unfold hX4_end_66
      rcases (show D.fu i = 0 ∨ D.fu i = 1 by omega) with z | z
      · rw [z] at hR ⊢
        rw [if_pos (show nI 0 = 0 from rfl), if_pos (of_eq_true (kis kp1 (by decide))), ← hR]
        rfl
      · rw [z] at hR ⊢
        rw [if_neg (show ¬ nI 1 = 0 from n1n), if_pos (of_eq_true (kis kp1 (by decide))), ← hR]
        rfl
    rw [← E]
  have hb1 : pB (c.on (zwI α 40 4 c.p (nI 0)) (us s 43 (nI 0)) N at' 0) N (at' + 1) 0 := by
    have := on_pB (c := c) (α := zwI α 40 4 c.p (nI 0)) (s := us s 43 (nI 0)) (N := N) (at' := at') (lv := 0) (k := 4) (by decide) (.inl (by decide))
    unfold pB at *; omega
  have am1 : ls (maS (us s 43 (nI 0)) at') 41 = nI (at' + 1) := R1.am
  have d26' : ls (maS (us s 43 (nI 0)) at') 26 = nI (i + 1) := d26
  have r30 : la (maS (us s 43 (nI 0)) at') 30 i = nI (D.fu i) := oK.mf
  have M0 : ∀ w, wW (c.on (zwI α 40 4 c.p (nI 0)) (us s 43 (nI 0)) N at' 0) (at' + 1) (34 + D.fu i) = w → gX26_ended (nI S) (maS (us s 43 (nI 0)) at') = if w = true then gX26_ended_78 (nI 1) (maS (us s 43 (nI 0)) at') else (gX26_fail (nI 1) (nI (at' + 1)) (maS (us s 43 (nI 0)) at')).bind fun p20 => some ((), p20.2) := fun w hw => by
    unfold gX26_ended gX26_ended_32 gX26_ended_42 gX26_ended_43 gX26_ended_67
    rw [if_neg (show ¬ nI S = 9 from S9), gl_x, am1, gl_x, d26', nl1, pI_sub (by omega), Nat.add_sub_cancel, pgld (by omega) (by decide), gl_bs, r30]
    have W := M_isW (a := 34 + D.fu i) R1.k R1.mw (k := at' + 1) (by have := h0.n; omega) (by omega)
    rw [hw] at W
    rcases (show D.fu i = 0 ∨ D.fu i = 1 by omega) with z | z
    · rw [z] at W ⊢
      rw [if_pos (show nI 0 = 0 from rfl)]
      show Option.bind (gX26_isWord (nI (at' + 1)) (nI (34 + 0)) (maS (us s 43 (nI 0)) at')) _ = _
      rw [W, gl_bs]
      rcases w with _ | _
      · rw [if_pos (show nI (b2n false) = 0 from rfl), if_neg (show ¬ ¬ (0 : Int32) = 0 from fun z => z rfl), if_pos (show ¬ nI S = 9 from S9), gl_x, am1, if_neg (by decide)]
      · rw [if_neg (show ¬ nI (b2n true) = 0 from bT), if_pos (show ¬ nI 1 = 0 from n1n), if_pos rfl]
    · rw [z] at W ⊢
      rw [if_neg (show ¬ nI 1 = 0 from n1n)]
      show Option.bind (gX26_isWord (nI (at' + 1)) (nI (34 + 1)) (maS (us s 43 (nI 0)) at')) _ = _
      rw [W, gl_bs]
      rcases w with _ | _
      · rw [if_pos (show nI (b2n false) = 0 from rfl), if_neg (show ¬ ¬ (0 : Int32) = 0 from fun z => z rfl), if_pos (show ¬ nI S = 9 from S9), gl_x, am1, if_neg (by decide)]
      · rw [if_neg (show ¬ nI (b2n true) = 0 from bT), if_pos (show ¬ nI 1 = 0 from n1n), if_pos rfl]
  have M1 : gX26_ended_78 (nI 1) (maS (us s 43 (nI 0)) at') = (gX26_mustBe (nI 1) (maS (maS (us s 43 (nI 0)) at') (at' + 1))).bind fun p5 => if ¬ p5.1 = 0 then xlet (ls p5.2 41) fun x6 => xlet (x6 - nI 1) fun x7 => (gX26_mustBe (nI 4) p5.2).bind fun p8 => if ¬ p8.1 = 0 then (gld p8.2 3 1500 x7).bind fun x10 => xlet (ls p8.2 26) fun x12 => (gld p8.2 28 11 (x12 - nI 1)).bind fun x13 => if x10 = x13 then gX26_ended_169 p8.2 else (gX26_note (nI 2) x7 p8.2).bind fun p14 => gX26_ended_169 p14.2 else some ((), p8.2) else some ((), p5.2) := by
    unfold gX26_ended_78
    rw [gl_x, am1, gl_x, if_pos (show ¬ nI 1 = 0 from n1n), show nI (at' + 1) + 1 = nI (at' + 1 + 1) from pI_succ _]
    rfl
  rcases R1.meets (G := G) (w := 34 + D.fu i) (by omega) with ⟨ew, x1, m1, R2⟩ | ⟨ew, x1, m1⟩
  · have kp2 : zkd (zwI (zwI (zwI α 40 4 c.p (nI 0)) 40 3 c.p (nI (at' + 1))) 40 3 c.p (nI (at' + 1 + 1))) c.p = 41 := R2.kp
    have XN : hX4_need G (some (c.on (zwI α 40 4 c.p (nI 0)) (us s 43 (nI 0)) N at' 0).p) (nI (34 + D.fu i)) (xaS (c.on (zwI α 40 4 c.p (nI 0)) (us s 43 (nI 0)) N at' 0) (zwI α 40 4 c.p (nI 0)) at') = some (.inl (), xaS (c.on (zwI α 40 4 c.p (nI 0)) (us s 43 (nI 0)) N at' 0) (xaS (c.on (zwI α 40 4 c.p (nI 0)) (us s 43 (nI 0)) N at' 0) (zwI α 40 4 c.p (nI 0)) at') (at' + 1)) := by
      have kp := R1.kp
      have kp' := R2.kp
      unfold hX4_need
      simp (disch := omega) only [gld, gst, glj, gsj, gpN0, gpN1, gl_x, gl_gi, pI_in', pI_clamp, pI_add, pI_mul, pI_sub, pI_succ, nmod_eq, pI_div, ni_neg, zn_neg, gnar0, gnar1, eq_self, ni_lt, ni_le, ni_eq, ni_zlt, ni_zle, ni_zeq, zn_lt, zn_le, zn_eq, zz_lt, zz_le, zz_eq, ni_zadd, zn_add, ni_zsub, zn_sub, ni_zmul, zn_mul, nZ_add, nZ_sub, nZ_mul, upd_same, upd_other, upd_upd, gl_bi, gl_mi, gl_bs, gl_ms, gl_bn, gl_mn, if_true, if_false, ↓reduceIte, not_true_eq_false, not_false_eq_true, true_and, and_true, false_and, and_false, and_self, or_false, false_or, or_self, or_true, true_or, Nat.not_lt_zero, Nat.reduceAdd, Nat.reduceMul, Nat.add_zero, Nat.zero_add, Nat.mul_zero, Nat.zero_mul, Nat.reduceEqDiff, Nat.reduceLT, Nat.reduceLeDiff, Nat.succ_ne_zero, ua_ua, us_us, tn_le, tn_nle, tn_lt, tn_nlt, tn_eq, tn_ne, tz_le, tz_nle, tz_lt, tz_nlt, tz_eq, tz_ne, kfI, kfJ, kfA, kpI, kpA, kis, kal, kald, kcald, kaald, Option.some.injEq, ls_us, ls_uj, ls_ua, ls_ub, lj_us, lj_uj, lj_ua, lj_ub, la_us, la_uj, la_ua, la_ub, lb_us, lb_uj, lb_ua, lb_ub, nl0, nl1, nl2, nl3, nl4, nl5, nl6, nl7, nl8, nl9, nl10, nl11, nl12, nl13, nl14, nl15, nl16, nl17, nl18, nl19, nl20, nl21, nl22, nl23, nl24, nl25, nl26, nl27, nl28, nl29, nl30, nl31, nl32, nl33, nl34, nl35, nl36, nl37, nl38, nl39, nl40, nl41, nl42, nl43, nl44, nl45, nl46, nl47, nl48, nl49, nl50, nl51, nl52, nl53, nl54, nl55, nl56, nl57, nl58, nl59, nl60, nl61, nl62, nl63, nl64, nl65, nl66, nl67, nl68, nl69, nl70, nl71, nl72, nl73, nl74, nl75, nl76, nl77, nl78, nl79, nl80, nl82, nl83, nl84, nl85, nl86, nl88, nl90, nl96, nl97, nl99, nl100, nl101, nl104, nl112, nl115, nl120, nl121, nl122, nl126, nl127, nl128, nl160, nl200, nl201, nl202, nl255, nl256, nl300, nl320, nl322, nl400, nl500, nl600, nl640, nl732, nl968, nl999, nl1000, nl1001, nl1040, nl1440, nl1500, nl1501, nl1600, nl2000, nl2240, nl3131, nl4000, nl4095, nl4096, nl4960, nl5000, nl6000, nl6001, nl8000, nl9999, nl10000, nl10200, nl13520, nl14000, nl20000, nl32768, nl40000, nl46000, nl64000, nl65536, nl78000, nl100000, nl128000, nl400000, nl730000, x1, X_must1, zc_l]
    have XN' : hX4_need G (some c.p) (nI (34 + D.fu i)) (zwI (zwI α 40 4 c.p (nI 0)) 40 3 c.p (nI (at' + 1))) = some (.inl (), (zwI (zwI (zwI α 40 4 c.p (nI 0)) 40 3 c.p (nI (at' + 1))) 40 3 c.p (nI (at' + 1 + 1)))) := XN
    have ax2 : zI (zwI (zwI (zwI α 40 4 c.p (nI 0)) 40 3 c.p (nI (at' + 1))) 40 3 c.p (nI (at' + 1 + 1))) 40 3 c.p = nI (at' + 1 + 1) := R2.ax
    have hb2 : pB (c.on (zwI α 40 4 c.p (nI 0)) (us s 43 (nI 0)) N at' 0) N (at' + 1 + 1) 0 := hb1.go (by omega)
    rcases R2.take (G := G) (k := 1) (by decide) hb2 with ⟨e3, y1, n1, R3⟩ | ⟨e, β, s', w, y1, y2, n1, y3⟩
    · have y1' : hX4_take G (some c.p) (nI 1) (zwI (zwI (zwI α 40 4 c.p (nI 0)) 40 3 c.p (nI (at' + 1))) 40 3 c.p (nI (at' + 1 + 1))) = some (.inl (nI (c.vs (at' + 1 + 1))), (zwI (zwI (zwI (zwI α 40 4 c.p (nI 0)) 40 3 c.p (nI (at' + 1))) 40 3 c.p (nI (at' + 1 + 1))) 40 3 c.p (nI (at' + 1 + 1 + 1)))) := y1
      have kp3 : zkd (zwI (zwI (zwI (zwI α 40 4 c.p (nI 0)) 40 3 c.p (nI (at' + 1))) 40 3 c.p (nI (at' + 1 + 1))) 40 3 c.p (nI (at' + 1 + 1 + 1))) c.p = 41 := R3.kp
      have hb3 : pB (c.on (zwI α 40 4 c.p (nI 0)) (us s 43 (nI 0)) N at' 0) N (at' + 1 + 1 + 1) 0 := hb2.go (by omega)
      have am3 : ls (maS (maS (maS (us s 43 (nI 0)) at') (at' + 1)) (at' + 1 + 1)) 41 = nI (at' + 1 + 1 + 1) := R3.am
      rcases R3.period (G := G) hb3 with ⟨e4, u1, v1, R4⟩ | ⟨e, β, s', w, u1, u2, v1, u3⟩
      · have u1' : hX4_period G (some c.p) (zwI (zwI (zwI (zwI α 40 4 c.p (nI 0)) 40 3 c.p (nI (at' + 1))) 40 3 c.p (nI (at' + 1 + 1))) 40 3 c.p (nI (at' + 1 + 1 + 1))) = some (.inl (), (zwI (zwI (zwI (zwI (zwI α 40 4 c.p (nI 0)) 40 3 c.p (nI (at' + 1))) 40 3 c.p (nI (at' + 1 + 1))) 40 3 c.p (nI (at' + 1 + 1 + 1))) 40 3 c.p (nI (at' + 1 + 1 + 1 + 1)))) := u1
        have v1' : gX26_mustBe (nI 4) (maS (maS (maS (us s 43 (nI 0)) at') (at' + 1)) (at' + 1 + 1)) = some (nI 1, (maS (maS (maS (maS (us s 43 (nI 0)) at') (at' + 1)) (at' + 1 + 1)) (at' + 1 + 1 + 1))) := v1
        have R4' : pR (c.on (zwI α 40 4 c.p (nI 0)) (us s 43 (nI 0)) N at' 0) (at' + 4) 0 N N 0 pG0 (zwI (zwI (zwI (zwI (zwI α 40 4 c.p (nI 0)) 40 3 c.p (nI (at' + 1))) 40 3 c.p (nI (at' + 1 + 1))) 40 3 c.p (nI (at' + 1 + 1 + 1))) 40 3 c.p (nI (at' + 1 + 1 + 1 + 1))) (maS (maS (maS (maS (us s 43 (nI 0)) at') (at' + 1)) (at' + 1 + 1)) (at' + 1 + 1 + 1)) := R4
        have n2 := e3
        have l2 : at' + 1 + 1 < c.n := (wK_i (c := (c.on (zwI α 40 4 c.p (nI 0)) (us s 43 (nI 0)) N at' 0)) e3).1
        have rv : la (maS (maS (maS (maS (us s 43 (nI 0)) at') (at' + 1)) (at' + 1 + 1)) (at' + 1 + 1 + 1)) 3 (at' + 1 + 1) = nI (c.vs (at' + 1 + 1)) := R4.mw.rv (at' + 1 + 1) l2
        have r28 : la (maS (maS (maS (maS (us s 43 (nI 0)) at') (at' + 1)) (at' + 1 + 1)) (at' + 1 + 1 + 1)) 28 i = nI (D.nm i) := oK.mn (by omega)
        have d26'' : ls (maS (maS (maS (maS (us s 43 (nI 0)) at') (at' + 1)) (at' + 1 + 1)) (at' + 1 + 1 + 1)) 26 = nI (i + 1) := d26
        have nb := oK.nb
        have vb := h0.vs _ l2
        obtain ⟨V, _, _⟩ := h.fin R4' (fun k hk => by rw [ls_us, if_neg (by omega)]) (fun _ => rfl) (fun z => absurd z (by decide)) (by omega) (by omega)
        have g2e : (g.mrg pG0 N).oa (D.un (D.os i)) = g.oa (D.un (D.os i)) := mrg_o (h.g.bd _ U0.lu).2
        generalize g.mrg pG0 N = g2 at V g2e
        have b43 : ls (maS (maS (maS (maS (us s 43 (nI 0)) at') (at' + 1)) (at' + 1 + 1)) (at' + 1 + 1 + 1)) 43 = nI 0 := rfl
        generalize (zwI (zwI (zwI (zwI (zwI α 40 4 c.p (nI 0)) 40 3 c.p (nI (at' + 1))) 40 3 c.p (nI (at' + 1 + 1))) 40 3 c.p (nI (at' + 1 + 1 + 1))) 40 3 c.p (nI (at' + 1 + 1 + 1 + 1))) = α4 at u1' V
        generalize (maS (maS (maS (maS (us s 43 (nI 0)) at') (at' + 1)) (at' + 1 + 1)) (at' + 1 + 1 + 1)) = s4 at v1' rv r28 d26'' b43 V
        have U4 := V.u _ hu
        have O4 := V.op i (by omega)
        have W4 := V.g.nd _ U4.lu
        have kw := W4.kn
        have vw := W4.vl
        have xu4 := U4.xu
        rw [g2e] at kw vw xu4
        rw [O4.vl (by omega)] at vw
        have kp4 := V.o.x.kp
        have XA : hX4_header G (some c.p) (nI 33) (zwI α 40 4 c.p (nI 0)) = zcase (if nI (c.vs (at' + 1 + 1)) = nI (D.nm i) then hX4_end_101 G (some c.p) (some (D.ou (D.os i))) α4 else (hX4_note G (some c.p) (nI 2) (nI (at' + 1 + 1)) α4).bind fun p11 => hX4_end_101 G (some c.p) (some (D.ou (D.os i))) p11.2) (fun p2 => hX4_header_666 G p2.2) (fun p => if zthr p.2 p.1 3 = true then some (.inr p.1, p.2) else none) := by
          rw [X0 _ XN', zc_l, kfI kp2, gl_bs, ax2, if_pos (of_eq_true (kis kp2 (by decide))), y1', zc_l, if_pos (of_eq_true (kis kp3 (by decide))), u1', zc_l, kfA U4.kn, gl_bs, xu4, kfI kw, gl_bs, vw, if_pos (of_eq_true (kis kp4 (by decide)))]
        have MA : gX26_ended (nI S) (maS (us s 43 (nI 0)) at') = if nI (c.vs (at' + 1 + 1)) = nI (D.nm i) then gX26_ended_169 s4 else (gX26_note (nI 2) (nI (at' + 1 + 1)) s4).bind fun p14 => gX26_ended_169 p14.2 := by
          rw [M0 _ ew, if_pos rfl, M1, show gX26_mustBe (nI 1) (maS (maS (us s 43 (nI 0)) at') (at' + 1)) = some (nI 1, (maS (maS (maS (us s 43 (nI 0)) at') (at' + 1)) (at' + 1 + 1))) from n1, gl_bs, if_pos (show ¬ nI 1 = 0 from n1n), gl_x, am3, gl_x, pI_sub (by omega), Nat.add_sub_cancel]
          show Option.bind (gX26_mustBe (nI 4) (maS (maS (maS (us s 43 (nI 0)) at') (at' + 1)) (at' + 1 + 1))) _ = _
          rw [v1', gl_bs, if_pos (show ¬ nI 1 = 0 from n1n), pgld (by have := h0.n; omega) (by decide), gl_bs, rv, gl_x, d26'', pI_sub (by omega), Nat.add_sub_cancel, pgld (by omega) (by decide), gl_bs, r28]
        by_cases ev : nI (c.vs (at' + 1 + 1)) = nI (D.nm i)
        · refine .inl ⟨_, _, _, _, at' + 4, N, _, F, ?_, ?_, ?_, V.pop hd, by omega, ⟨Nat.le_refl _, Nat.le_succ _⟩, rfl, rfl, rfl, rfl, rfl, rfl, rfl⟩
          · rw [XA, if_pos ev, X_e101 V hd, zc_l]
            rfl
          · rw [MA, if_pos ev, M_e169 V hd]
          · rw [ls_us, if_neg (by decide)]; exact b43
        · obtain ⟨w1, w2, V'⟩ := pV_note (G := G) (wh := 2) (w := at' + 1 + 1) V hF
          refine .inl ⟨_, _, _, _, at' + 4, N, _, F + 1, ?_, ?_, ?_, V'.pop hd, by omega, ⟨Nat.le_succ _, Nat.le_refl _⟩, rfl, rfl, rfl, rfl, rfl, rfl, rfl⟩
          · rw [XA, if_neg ev, w1, gl_bs, X_e101 V' hd, zc_l]
            rfl
          · rw [MA, if_neg ev, w2, gl_bs, M_e169 V' hd]
          · rw [ls_us, if_neg (by decide)]
            show ls (mNo s4 F 2 (at' + 1 + 1)) 43 = _
            unfold mNo
            rw [ls_us, if_neg (by decide)]
            exact b43
      · refine .inr ⟨e, β, s', 1, w, ?_, u2, ?_, u3⟩
        · rw [X0 _ XN', zc_l, kfI kp2, gl_bs, ax2, if_pos (of_eq_true (kis kp2 (by decide))), y1', zc_l, if_pos (of_eq_true (kis kp3 (by decide))), show hX4_period G (some c.p) (zwI (zwI (zwI (zwI α 40 4 c.p (nI 0)) 40 3 c.p (nI (at' + 1))) 40 3 c.p (nI (at' + 1 + 1))) 40 3 c.p (nI (at' + 1 + 1 + 1))) = some (.inr e, β) from u1, zc_r, if_pos u2, zc_r, if_pos u2]
        · rw [M0 _ ew, if_pos rfl, M1, show gX26_mustBe (nI 1) (maS (maS (us s 43 (nI 0)) at') (at' + 1)) = some (nI 1, (maS (maS (maS (us s 43 (nI 0)) at') (at' + 1)) (at' + 1 + 1))) from n1, gl_bs, if_pos (show ¬ nI 1 = 0 from n1n), gl_x, am3, gl_x, pI_sub (by omega), Nat.add_sub_cancel]
          show Option.bind (gX26_mustBe (nI 4) (maS (maS (maS (us s 43 (nI 0)) at') (at' + 1)) (at' + 1 + 1))) _ = _
          rw [show gX26_mustBe (nI 4) (maS (maS (maS (us s 43 (nI 0)) at') (at' + 1)) (at' + 1 + 1)) = some (nI 0, s') from v1, gl_bs, if_neg (show ¬ ¬ nI 0 = 0 from fun z => z rfl)]
    · refine .inr ⟨e, β, s', 1, w, ?_, y2, ?_, y3⟩
      · rw [X0 _ XN', zc_l, kfI kp2, gl_bs, ax2, if_pos (of_eq_true (kis kp2 (by decide))), show hX4_take G (some c.p) (nI 1) (zwI (zwI (zwI α 40 4 c.p (nI 0)) 40 3 c.p (nI (at' + 1))) 40 3 c.p (nI (at' + 1 + 1))) = some (.inr e, β) from y1, zc_r, if_pos y2, zc_r, if_pos y2]
      · rw [M0 _ ew, if_pos rfl, M1, show gX26_mustBe (nI 1) (maS (maS (us s 43 (nI 0)) at') (at' + 1)) = some (nI 0, s') from n1, gl_bs, if_neg (show ¬ ¬ nI 0 = 0 from fun z => z rfl)]
  · obtain ⟨q, β, s', w, x2, x3, m2, x4⟩ := R1.no (G := G) hb1
    have XN : hX4_need G (some (c.on (zwI α 40 4 c.p (nI 0)) (us s 43 (nI 0)) N at' 0).p) (nI (34 + D.fu i)) (xaS (c.on (zwI α 40 4 c.p (nI 0)) (us s 43 (nI 0)) N at' 0) (zwI α 40 4 c.p (nI 0)) at') = some (.inr q, β) := by
      have kp := R1.kp
      unfold hX4_need
      simp (disch := omega) only [gld, gst, glj, gsj, gpN0, gpN1, gl_x, gl_gi, pI_in', pI_clamp, pI_add, pI_mul, pI_sub, pI_succ, nmod_eq, pI_div, ni_neg, zn_neg, gnar0, gnar1, eq_self, ni_lt, ni_le, ni_eq, ni_zlt, ni_zle, ni_zeq, zn_lt, zn_le, zn_eq, zz_lt, zz_le, zz_eq, ni_zadd, zn_add, ni_zsub, zn_sub, ni_zmul, zn_mul, nZ_add, nZ_sub, nZ_mul, upd_same, upd_other, upd_upd, gl_bi, gl_mi, gl_bs, gl_ms, gl_bn, gl_mn, if_true, if_false, ↓reduceIte, not_true_eq_false, not_false_eq_true, true_and, and_true, false_and, and_false, and_self, or_false, false_or, or_self, or_true, true_or, Nat.not_lt_zero, Nat.reduceAdd, Nat.reduceMul, Nat.add_zero, Nat.zero_add, Nat.mul_zero, Nat.zero_mul, Nat.reduceEqDiff, Nat.reduceLT, Nat.reduceLeDiff, Nat.succ_ne_zero, ua_ua, us_us, tn_le, tn_nle, tn_lt, tn_nlt, tn_eq, tn_ne, tz_le, tz_nle, tz_lt, tz_nlt, tz_eq, tz_ne, kfI, kfJ, kfA, kpI, kpA, kis, kal, kald, kcald, kaald, Option.some.injEq, ls_us, ls_uj, ls_ua, ls_ub, lj_us, lj_uj, lj_ua, lj_ub, la_us, la_uj, la_ua, la_ub, lb_us, lb_uj, lb_ua, lb_ub, nl0, nl1, nl2, nl3, nl4, nl5, nl6, nl7, nl8, nl9, nl10, nl11, nl12, nl13, nl14, nl15, nl16, nl17, nl18, nl19, nl20, nl21, nl22, nl23, nl24, nl25, nl26, nl27, nl28, nl29, nl30, nl31, nl32, nl33, nl34, nl35, nl36, nl37, nl38, nl39, nl40, nl41, nl42, nl43, nl44, nl45, nl46, nl47, nl48, nl49, nl50, nl51, nl52, nl53, nl54, nl55, nl56, nl57, nl58, nl59, nl60, nl61, nl62, nl63, nl64, nl65, nl66, nl67, nl68, nl69, nl70, nl71, nl72, nl73, nl74, nl75, nl76, nl77, nl78, nl79, nl80, nl82, nl83, nl84, nl85, nl86, nl88, nl90, nl96, nl97, nl99, nl100, nl101, nl104, nl112, nl115, nl120, nl121, nl122, nl126, nl127, nl128, nl160, nl200, nl201, nl202, nl255, nl256, nl300, nl320, nl322, nl400, nl500, nl600, nl640, nl732, nl968, nl999, nl1000, nl1001, nl1040, nl1440, nl1500, nl1501, nl1600, nl2000, nl2240, nl3131, nl4000, nl4095, nl4096, nl4960, nl5000, nl6000, nl6001, nl8000, nl9999, nl10000, nl10200, nl13520, nl14000, nl20000, nl32768, nl40000, nl46000, nl64000, nl65536, nl78000, nl100000, nl128000, nl400000, nl730000, x1, x2, zc_r, x3]
    have XN' : hX4_need G (some c.p) (nI (34 + D.fu i)) (zwI (zwI α 40 4 c.p (nI 0)) 40 3 c.p (nI (at' + 1))) = some (.inr q, β) := XN
    refine .inr ⟨q, β, s', 1, w, ?_, x3, ?_, x4⟩
    · rw [X0 _ XN', zc_r, if_pos x3, zc_r, if_pos x3]
    · rw [M0 _ ew, if_neg (by decide), m2, gl_bs]
end PAZZA
