/-! THE PURE LAYER: the parser: a paragraph. -/
section PAZZD
variable {L L2 : Nat → Prop} {c : pC} {D : pD} {G : xQ} {α β : zS} {s s' s1 : zM} {B at' a a1 b d N N' F F' p q t to u x y k i j w wh lv m S : Nat} {g g' g2 : pG} {v v' : Int32}
theorem M_mbT4 (h : pR c a d b N y g α s) (hw : wK c a 4 = true) : gX26_mustBe (nI 4) s = some (nI 1, maS s a) := by
  have am := h.am
  have bm := h.bm
  have a5 := h.a5
  unfold gX26_mustBe gX26_mustBe_19 maS
  simp (disch := omega) only [gld, gst, glj, gsj, gpN0, gpN1, gl_x, gl_gi, pI_in', pI_clamp, pI_add, pI_mul, pI_sub, pI_succ, nmod_eq, pI_div, ni_neg, zn_neg, gnar0, gnar1, eq_self, ni_lt, ni_le, ni_eq, ni_zlt, ni_zle, ni_zeq, zn_lt, zn_le, zn_eq, zz_lt, zz_le, zz_eq, ni_zadd, zn_add, ni_zsub, zn_sub, ni_zmul, zn_mul, nZ_add, nZ_sub, nZ_mul, upd_same, upd_other, upd_upd, gl_bi, gl_mi, gl_bs, gl_ms, gl_bn, gl_mn, if_true, if_false, ↓reduceIte, not_true_eq_false, not_false_eq_true, true_and, and_true, false_and, and_false, and_self, or_false, false_or, or_self, or_true, true_or, Nat.not_lt_zero, Nat.reduceAdd, Nat.reduceMul, Nat.add_zero, Nat.zero_add, Nat.mul_zero, Nat.zero_mul, Nat.reduceEqDiff, Nat.reduceLT, Nat.reduceLeDiff, Nat.succ_ne_zero, ua_ua, us_us, tn_le, tn_nle, tn_lt, tn_nlt, tn_eq, tn_ne, tz_le, tz_nle, tz_lt, tz_nlt, tz_eq, tz_ne, ls_us, ls_uj, ls_ua, ls_ub, lj_us, lj_uj, lj_ua, lj_ub, la_us, la_uj, la_ua, la_ub, lb_us, lb_uj, lb_ua, lb_ub, nl0, nl1, nl2, nl3, nl4, nl5, nl6, nl7, nl8, nl9, nl10, nl11, nl12, nl13, nl14, nl15, nl16, nl17, nl18, nl19, nl20, nl21, nl22, nl23, nl24, nl25, nl26, nl27, nl28, nl29, nl30, nl31, nl32, nl33, nl34, nl35, nl36, nl37, nl38, nl39, nl40, nl41, nl42, nl43, nl44, nl45, nl46, nl47, nl48, nl49, nl50, nl51, nl52, nl53, nl54, nl55, nl56, nl57, nl58, nl59, nl60, nl61, nl62, nl63, nl64, nl65, nl66, nl67, nl68, nl69, nl70, nl71, nl72, nl73, nl74, nl75, nl76, nl77, nl78, nl79, nl80, nl82, nl83, nl84, nl85, nl86, nl88, nl90, nl96, nl97, nl99, nl100, nl101, nl104, nl112, nl115, nl120, nl121, nl122, nl126, nl127, nl128, nl160, nl200, nl201, nl202, nl255, nl256, nl300, nl320, nl322, nl400, nl500, nl600, nl640, nl732, nl968, nl999, nl1000, nl1001, nl1040, nl1440, nl1500, nl1501, nl1600, nl2000, nl2240, nl3131, nl4000, nl4095, nl4096, nl4960, nl5000, nl6000, nl6001, nl8000, nl9999, nl10000, nl10200, nl13520, nl14000, nl20000, nl32768, nl40000, nl46000, nl64000, nl65536, nl78000, nl100000, nl128000, nl400000, nl730000, am, bm, M_isK h.k h.mw, hw, b2n_t]
theorem cl_par (h : pV c D L B at' N F g α s) (ha : at' < c.n) (hF : F < 20) (hd : D.dp = i + 1) (hS : D.st i = S) (h8 : 8 ≤ S) (h11 : S ≤ 11) (h9 : S = 9 → D.se ≠ 0) (hw : wK c at' 1 = true) (hn : wW c (at' + 1) 16 = false) (hp : wK c (at' + 1) 4 = true) : cQ c D B at' N F α s (hX4_named G (some c.p) (zwI α 40 4 c.p (nI 0))) (gX26_named (nI S) (us s 43 (nI 0))) := by
  obtain ⟨i10, hu, cu, ku, xs, d26, r29, r22, u2⟩ := h.cur hd
  have h0 := h.o
  have R0 := h0.start (s' := us s 43 (nI 0)) (lv := 0) ha hF (fun k hk => by
    rw [ls_us] at hk
    split at hk
    · omega
    · exact absurd rfl hk) (fun _ => rfl) rfl (fun z => absurd z (by decide))
  have kp : zkd (zwI α 40 4 c.p (nI 0)) c.p = 41 := R0.kp
  have cu' : zA (zwI α 40 4 c.p (nI 0)) 40 11 c.p = some (D.ou (D.os i)) := by rw [zA_zwI]; exact cu
  have ax' : zI (zwI α 40 4 c.p (nI 0)) 40 3 c.p = nI at' := R0.ax
  have oK := h.op i (by omega)
  have U0 := h.u _ hu
  have I0 := h.inn (by omega)
  rw [hd, Nat.add_sub_cancel, hS] at I0
  obtain ⟨prn, rkp⟩ := I0.pr h8 h11
  obtain ⟨xse, mse, lse⟩ := I0.se h8 h11
  have plL := U0.lp.resolve_left prn
  have N1 := h0.N1
  have N8 : N < 7900 := by
    have := h0.N0
    have := h0.n
    omega
  have e0 : (zwI α 40 4 c.p (nI 0)).2 (D.ou (D.os i)) = α.2 (D.ou (D.os i)) := zwI_ne (by have := U0.lo; have := h0.p; omega)
  have St : hX4_state G (some c.p) (nI 8) (nI 11) (zwI α 40 4 c.p (nI 0)) = some (.inl (), (zwI α 40 4 c.p (nI 0))) := by
    rw [X_state (k := S) (i := 8) (j := 11) kp cu' (by rw [zkd_eq e0]; exact ku) (by rw [zI_eq e0, xs, hS]) (by omega) (by decide) (by decide), if_pos (by omega)]
  have hb0 : pB (c.on (zwI α 40 4 c.p (nI 0)) (us s 43 (nI 0)) N at' 0) N at' 0 := on_pB (by decide) (.inl (by decide))
  have a2n : at' + 1 < c.n := (wK_i (c := c) hp).1
  rcases R0.take (G := G) (k := 1) (by decide) hb0 with ⟨_, x1, _, R1⟩ | ⟨e, β, s', w, x1, x2, n1, x3⟩
  · have kp1 : zkd (zwI (zwI α 40 4 c.p (nI 0)) 40 3 c.p (nI (at' + 1))) c.p = 41 := R1.kp
    have x1' : hX4_take G (some c.p) (nI 1) (zwI α 40 4 c.p (nI 0)) = some (.inl (nI (c.vs at')), (zwI (zwI α 40 4 c.p (nI 0)) 40 3 c.p (nI (at' + 1)))) := x1
    rcases R1.meets (G := G) (w := 16) (by decide) with ⟨ew, _⟩ | ⟨_, y1, _⟩
    · exact absurd (hn.symm.trans ew) (by decide)
    have y1' : hX4_meets G (some c.p) (nI 16) (zwI (zwI α 40 4 c.p (nI 0)) 40 3 c.p (nI (at' + 1))) = some (nI 0, (zwI (zwI α 40 4 c.p (nI 0)) 40 3 c.p (nI (at' + 1)))) := y1
    rcases R1.period (G := G) (hb0.go (by omega)) with ⟨_, z1, _, R2⟩ | ⟨e, β, s', w, z1, z2, n2, z3⟩
    · have z1' : hX4_period G (some c.p) (zwI (zwI α 40 4 c.p (nI 0)) 40 3 c.p (nI (at' + 1))) = some (.inl (), (zwI (zwI (zwI α 40 4 c.p (nI 0)) 40 3 c.p (nI (at' + 1))) 40 3 c.p (nI (at' + 1 + 1)))) := z1
      have e1 : (zwI (zwI α 40 4 c.p (nI 0)) 40 3 c.p (nI (at' + 1))).2 (D.ou (D.os i)) = α.2 (D.ou (D.os i)) := h.unX R1.x hu
      have e2 : (zwI (zwI (zwI α 40 4 c.p (nI 0)) 40 3 c.p (nI (at' + 1))) 40 3 c.p (nI (at' + 1 + 1))).2 (D.ou (D.os i)) = α.2 (D.ou (D.os i)) := h.unX R2.x hu
      obtain ⟨to, hto⟩ : ∃ to, to = (if D.se ≠ 0 then D.se else D.pr (D.os i)) := ⟨_, rfl⟩
      have X0 : hX4_named G (some c.p) (zwI α 40 4 c.p (nI 0)) = hX4_named_136 G (some (D.ou (D.os i))) (nI at') (nI (c.vs at')) (some (g.oa to)) (some (D.ou (D.os i))) (zwI (zwI (zwI α 40 4 c.p (nI 0)) 40 3 c.p (nI (at' + 1))) 40 3 c.p (nI (at' + 1 + 1))) := by
        unfold hX4_named hX4_named_54
        rw [kfA kp, gl_bs, cu', if_pos (of_eq_true (kis kp (by decide)))]
        show zcase (hX4_state G (some c.p) (nI 8) (nI 11) (zwI α 40 4 c.p (nI 0))) _ _ = _
        rw [St, zc_l, kfI kp, gl_bs, ax', if_pos (of_eq_true (kis kp (by decide)))]
        show zcase (hX4_take G (some c.p) (nI 1) (zwI α 40 4 c.p (nI 0))) _ _ = _
        rw [x1', zc_l, if_pos (of_eq_true (kis kp1 (by decide)))]
        show Option.bind (hX4_meets G (some c.p) (nI 16) (zwI (zwI α 40 4 c.p (nI 0)) 40 3 c.p (nI (at' + 1)))) _ = _
        rw [y1', gl_bs, if_neg (show ¬ ¬ nI 0 = 0 from fun z => z rfl), kfI (by rw [zkd_eq e1]; exact ku), gl_bs, zI_eq e1, xs, hS]
        have K : hX4_named_59 G (some c.p) (some (D.ou (D.os i))) (nI at') (nI (c.vs at')) (nI 0) 1 (some c.p) (zwI (zwI α 40 4 c.p (nI 0)) 40 3 c.p (nI (at' + 1))) = hX4_named_136 G (some (D.ou (D.os i))) (nI at') (nI (c.vs at')) (some (g.oa to)) (some (D.ou (D.os i))) (zwI (zwI (zwI α 40 4 c.p (nI 0)) 40 3 c.p (nI (at' + 1))) 40 3 c.p (nI (at' + 1 + 1))) := by
          unfold hX4_named_59
          rw [if_pos (of_eq_true (kis kp1 (by decide)))]
          show zcase (hX4_must G (some c.p) (nI 1) (zwI (zwI α 40 4 c.p (nI 0)) 40 3 c.p (nI (at' + 1)))) _ _ = _
          rw [X_must1, zc_l, if_pos (of_eq_true (kis kp1 (by decide))), z1', zc_l, if_pos (show nI 0 = 0 from rfl), kfA (by rw [zkd_eq e2]; exact ku), gl_bs, zA_eq e2, xse]
          by_cases q : D.se = 0
          · rw [if_pos (show pN g D.se = none from by rw [q]; rfl), kfA (by rw [zkd_eq e2]; exact ku), gl_bs, zA_eq e2, U0.xp, pN_s prn, hto, if_neg (fun z => z q)]
          · rw [if_neg (show ¬ pN g D.se = none from by rw [pN_s q]; simp), gl_bs, pN_s q, hto, if_pos q]
        by_cases e : S = 9
        · rw [if_neg (show ¬ ¬ nI S = 9 from fun z => z (by rw [e]; rfl)), kfA (by rw [zkd_eq e1]; exact ku), gl_bs, zA_eq e1, xse, pN_s (h9 e), if_neg (show ¬ some (g.oa D.se) = none from by simp)]
          exact K
        · rw [if_pos (show ¬ nI S = 9 from by rw [show (9 : Int32) = nI 9 from rfl, pI_inj (by omega) (by decide)]; exact e)]
          exact K
      obtain ⟨S', hS', hc⟩ : ∃ S', S' = (if S = 9 then 9 else 11) ∧ ((S = 9 ∧ S' = 9) ∨ (S ≠ 9 ∧ S' = 11)) := by
        by_cases e : S = 9
        · exact ⟨9, by rw [if_pos e], .inl ⟨e, rfl⟩⟩
        · exact ⟨11, by rw [if_neg e], .inr ⟨e, rfl⟩⟩
      have R2' : pR (c.on (zwI α 40 4 c.p (nI 0)) (us s 43 (nI 0)) N at' 0) (at' + 2) 0 N N 0 pG0 (zwI (zwI (zwI α 40 4 c.p (nI 0)) 40 3 c.p (nI (at' + 1))) 40 3 c.p (nI (at' + 1 + 1))) (maS (maS (us s 43 (nI 0)) at') (at' + 1)) := R2
      generalize (zwI (zwI (zwI α 40 4 c.p (nI 0)) 40 3 c.p (nI (at' + 1))) 40 3 c.p (nI (at' + 1 + 1))) = α2 at X0 R2' e2
      obtain ⟨R3, q3⟩ := R2'.cell
      obtain ⟨β, x4, R4⟩ := R3.new (G := G) (kv := nI 24) (v := nI (c.vs at')) (v' := nI at') (r := 3000000) q3 (by decide)
      have x4' : hX43_init G (some (zn α2)) (nI 24) (nI (c.vs at')) (nI at') (zmk α2 (44 + 1) 0 9) = some ((), β) := x4
      have tL : L to ∧ 3000000 < g.r to := by
        rw [hto]
        by_cases e2 : D.se = 0
        · rw [if_neg (fun z => z e2)]
          exact ⟨plL, by rw [rkp]; decide⟩
        · rw [if_pos e2]
          obtain ⟨q1, q2⟩ := lse.resolve_left e2
          exact ⟨q1, by rw [q2]; decide⟩
      obtain ⟨δ, l, g2, kU, y1, y2, V2, oN, rN, _⟩ := h.root (G := G) (to := to) (t := N) R4 (fun k hk => by rw [ls_us, if_neg (by omega)]) (fun _ => rfl) (fun z => absurd z (by decide)) (by omega) (by omega) hF tL.1 (Nat.le_refl _) (Nat.lt_succ_self _) (by rw [push_r, if_pos rfl]; exact tL.2) (by rw [mMk_la (by decide) (by decide), if_pos rfl]; rfl)
      rw [push_oa, if_pos rfl] at y1 oN
      rw [push_r, if_pos rfl] at rN
      have U2 := V2.u _ hu
      have O2 := V2.op i (by omega)
      have I2 := V2.inn (by omega)
      rw [hd, Nat.add_sub_cancel, hS] at I2
      have kO : zkd δ (D.ou (D.os i)) = 44 := U2.kn
      have kO' : zkd (zwA δ 43 11 (D.ou (D.os i)) (some (zn α2))) (D.ou (D.os i)) = 44 := by rw [zkd_zwA]; exact kO
      have GO := X_goOn (G := G) (S := S) kO' (by rw [zI_zwA, O2.xs, hS]) (by omega)
      rw [← hS'] at GO
      have Xf : hX4_named G (some c.p) (zwI α 40 4 c.p (nI 0)) = some (.inl (), zwI (zwA δ 43 11 (D.ou (D.os i)) (some (zn α2))) 43 3 (D.ou (D.os i)) (nI S')) := by
        rw [X0]
        unfold hX4_named_136 hX4_named_153
        show Option.bind (znO α2 44 9) _ = _
        rw [znO_e, gl_bs, if_pos (of_eq_true (kis q3.kd (by decide)))]
        show Option.bind (hX43_init G (some (zn α2)) (nI 24) (nI (c.vs at')) (nI at') _) _ = _
        rw [x4', gl_bs, if_pos (of_eq_true (kis kU (by decide)))]
        show Option.bind (hX43_add G (some (g.oa to)) (some (zn α2)) β) _ = _
        rw [y1, gl_bs, kpA kO, gl_bs, if_pos (of_eq_true (kis kO' (by decide))), GO, gl_bs]
      have bm6 : ls (maS (maS (us s 43 (nI 0)) at') (at' + 1)) 43 = nI 0 := rfl
      have f35 : ls (maS (maS (us s 43 (nI 0)) at') (at' + 1)) 35 = nI D.se := mse
      have d26' : ls (maS (maS (us s 43 (nI 0)) at') (at' + 1)) 26 = nI (i + 1) := d26
      have r29' : la (maS (maS (us s 43 (nI 0)) at') (at' + 1)) 29 i = nI (D.os i) := r29
      have r25' : la (maS (maS (us s 43 (nI 0)) at') (at' + 1)) 25 (D.os i) = nI (D.pr (D.os i)) := U0.mp
      have rv : la (maS (maS (us s 43 (nI 0)) at') (at' + 1)) 3 at' = nI (c.vs at') := R2'.mw.rv at' ha
      have Nm4 : ls (maS (maS (us s 43 (nI 0)) at') (at' + 1)) 8 = nI N := R3.Nm
      have e41 : us (us s 43 (nI 0)) 41 (nI (at' + 2)) = (maS (maS (us s 43 (nI 0)) at') (at' + 1)) := by
        unfold maS
        rw [us_us]
      have am0 : ls (us s 43 (nI 0)) 41 = nI at' := h0.am
      have T1 := M_isW R0.k R0.mw (k := at' + 1) (a := 16) (by have := h0.n; omega) (by decide)
      have T2 := M_isK R0.k R0.mw (k := at' + 1) (a := 4) (by have := h0.n; omega) (by decide)
      rw [show wW (c.on (zwI α 40 4 c.p (nI 0)) (us s 43 (nI 0)) N at' 0) (at' + 1) 16 = false from hn] at T1
      rw [show wK (c.on (zwI α 40 4 c.p (nI 0)) (us s 43 (nI 0)) N at' 0) (at' + 1) 4 = true from hp] at T2
      have m35 : ls (us s 43 (nI 0)) 35 = nI D.se := mse
      have bs := fun z : D.se ≠ 0 => h.g.bd _ (lse.resolve_left z).1
      have MA : gX26_named (nI S) (us s 43 (nI 0)) = gX26_named_97 (nI S) (nI at') (nI 0) (nI 24) (maS (maS (us s 43 (nI 0)) at') (at' + 1)) := by
        have K : gX26_named_62 (nI S) (nI at') (nI 0) (us s 43 (nI 0)) = gX26_named_97 (nI S) (nI at') (nI 0) (nI 24) (maS (maS (us s 43 (nI 0)) at') (at' + 1)) := by
          unfold gX26_named_62 gX26_named_85
          rw [gl_x, am0, gl_x, if_pos (show nI 0 = 0 from rfl), if_pos (show nI 0 = 0 from rfl), show nI at' + 2 = nI (at' + 2) from by rw [show (2 : Int32) = nI 2 from rfl, ← pI_add], e41]
          rfl
        unfold gX26_named
        rw [gl_x, am0, gl_x, show nI at' + 1 = nI (at' + 1) from pI_succ at']
        show Option.bind (gX26_isWord (nI (at' + 1)) (nI 16) (us s 43 (nI 0))) _ = _
        rw [T1, gl_bs, if_neg (show ¬ ¬ nI (b2n false) = 0 from fun z => z rfl), gl_x]
        show Option.bind (gX26_isKind (ls (us s 43 (nI 0)) 41 + 1) (nI 4) (us s 43 (nI 0))) _ = _
        rw [am0, show nI at' + 1 = nI (at' + 1) from pI_succ at', T2, gl_bs, if_neg (show ¬ nI (b2n true) = 0 from bT)]
        by_cases e : S = 9
        · rw [if_neg (show ¬ ¬ nI S = 9 from fun z => z (by rw [e]; rfl)), gl_x]
          show (if 0 < ls (us s 43 (nI 0)) 35 then _ else _) = _
          rw [m35, if_pos (show 0 < nI D.se from by rw [nl0, pI_lt (by decide) (by have := bs (h9 e); omega)]; have := h9 e; omega)]
          exact K
        · rw [if_pos (show ¬ nI S = 9 from by rw [show (9 : Int32) = nI 9 from rfl, pI_inj (by omega) (by decide)]; exact e)]
          exact K
      generalize (maS (maS (us s 43 (nI 0)) at') (at' + 1)) = s3 at MA bm6 f35 d26' r29' r25' rv Nm4 y2 V2 U2 O2 I2
      have l5 : ∀ k, k ≠ 8 → ls (mAtS (mMk s3 N (nI 24) (nI (c.vs at')) (nI at')) to l N) k = ls s3 k := fun k hk => by
        rw [mAtS_ls]
        show (if k = 8 then _ else _) = _
        rw [if_neg hk]
        rfl
      have M168 : gX26_named_168 (nI S) (nI 0) (nI N) (nI to) (mMk s3 N (nI 24) (nI (c.vs at')) (nI at')) = some ((), ua (us (us (mAtS (mMk s3 N (nI 24) (nI (c.vs at')) (nI at')) to l N) 35 (nI D.se)) 36 (nI N)) 27 (upd (la (mAtS (mMk s3 N (nI 24) (nI (c.vs at')) (nI at')) to l N) 27) i (nI S'))) := by
        unfold gX26_named_168 gX26_named_173 gX26_named_187 gX26_named_201 gX26_named_216
        rw [y2, gl_bs, if_pos (show nI 0 = 0 from rfl), gl_x, show ls (mAtS (mMk s3 N (nI 24) (nI (c.vs at')) (nI at')) to l N) 35 = nI D.se from (l5 35 (by decide)).trans f35, gl_x, if_pos (show nI 0 = 0 from rfl), gl_x]
        rcases hc with ⟨c1, c2⟩ | ⟨c1, c2⟩
        · rw [if_pos (show nI S = 9 from by rw [c1]; rfl)]
          exact congrArg (fun z => some ((), z)) (ua_same (s := us (us (mAtS (mMk s3 N (nI 24) (nI (c.vs at')) (nI at')) to l N) 35 (nI D.se)) 36 (nI N)) (k := 27) (j := i) (v := nI S') (by show la (mAtS (mMk s3 N (nI 24) (nI (c.vs at')) (nI at')) to l N) 27 i = _; rw [O2.ms, hS, c1, c2])).symm
        · rw [if_neg (show ¬ nI S = 9 from by rw [show (9 : Int32) = nI 9 from rfl, pI_inj (by omega) (by decide)]; exact c1)]
          show Option.bind (gX26_to (nI 11) (us (us (mAtS (mMk s3 N (nI 24) (nI (c.vs at')) (nI at')) to l N) 35 (nI D.se)) 36 (nI N))) _ = _
          rw [M_to (i := i) (by rw [ls_us, if_neg (by decide), ls_us, if_neg (by decide)]; exact (l5 26 (by decide)).trans d26') (by omega), gl_bs, c2]
          rfl
      have Mf : gX26_named (nI S) (us s 43 (nI 0)) = some ((), ua (us (us (mAtS (mMk s3 N (nI 24) (nI (c.vs at')) (nI at')) to l N) 35 (nI D.se)) 36 (nI N)) 27 (upd (la (mAtS (mMk s3 N (nI 24) (nI (c.vs at')) (nI at')) to l N) 27) i (nI S'))) := by
        rw [MA]
        unfold gX26_named_97
        rw [pgld (by have := h0.n; omega) (by decide), gl_bs, rv]
        show Option.bind (gX26_make (nI 24) (nI (c.vs at')) (nI at') s3) _ = _
        rw [M_make Nm4 (by omega), gl_bs, if_pos (show nI 0 = 0 from rfl), gl_x]
        show (if ls (mMk s3 N (nI 24) (nI (c.vs at')) (nI at')) 35 ≤ 0 then _ else _) = _
        rw [show ls (mMk s3 N (nI 24) (nI (c.vs at')) (nI at')) 35 = nI D.se from f35]
        by_cases e2 : D.se = 0
        · rw [if_pos (show nI D.se ≤ 0 from by rw [e2]; decide)]
          show Option.bind (gX26_here (mMk s3 N (nI 24) (nI (c.vs at')) (nI at'))) _ = _
          rw [M_here (i := i) (u := D.os i) (s := mMk s3 N (nI 24) (nI (c.vs at')) (nI at')) d26' r29' (by omega), gl_bs]
          show Option.bind (gld (mMk s3 N (nI 24) (nI (c.vs at')) (nI at')) 25 600 (nI (D.os i))) _ = _
          rw [pgld (by omega) (by decide), gl_bs, show la (mMk s3 N (nI 24) (nI (c.vs at')) (nI at')) 25 (D.os i) = nI (D.pr (D.os i)) from r25', ← M168, hto, if_neg (fun z => z e2)]
        · rw [if_neg (show ¬ nI D.se ≤ 0 from by rw [nl0, pI_le (by have := bs e2; omega) (by decide)]; omega), gl_x]
          show gX26_named_168 (nI S) (nI 0) (nI N) (nI D.se) (mMk s3 N (nI 24) (nI (c.vs at')) (nI at')) = _
          rw [← M168, hto, if_pos e2]
      refine .inl ⟨_, _, D.set D.en D.da D.pr (va_up D.st i S') D.nm D.fu D.hd D.fi D.ho D.de D.se N D.lt D.it, _, at' + 2, N + 1, _, F, Xf, Mf, ?_, V2.upd (i := i) (u := D.os i) (q := D.ou (D.os i)) hd rfl rfl ?_ ?_ ?_ ?_ ?_ ?_ ?_ ?_ ?_ ?_ ?_ ?_ ?_, by omega, ⟨Nat.le_refl _, Nat.le_succ _⟩, rfl, rfl, rfl, rfl, rfl, rfl, rfl⟩
      · exact (l5 43 (by decide)).trans bm6
      · intro x hx1 hx2
        rw [zwI_ne hx1, zwA_ne hx1]
      · rfl
      · exact Nat.le_refl _
      · exact Nat.le_refl _
      · intro k hk
        show ls (us (us _ 35 (nI D.se)) 36 (nI N)) k = _
        rw [ls_us, if_neg (by omega), ls_us, if_neg (by omega)]
      · intro k hk
        rw [la_ua, if_neg (by omega)]
        rfl
      · intro k j k1 k2 hj
        rw [la_ua, if_neg (by omega)]
        rfl
      · intro k j k1 k2 hj
        rw [la_ua]
        split
        · rename_i e
          rw [e, upd_other hj]
        · rfl
      · exact fun k hk => ⟨rfl, rfl, rfl⟩
      · intro j hj
        refine ⟨?_, rfl, rfl, rfl⟩
        show (if j = i then S' else D.st j) = _
        rw [if_neg hj]
      · refine uOk.mk U2.lo ?_ ?_ ?_ ?_ ?_ ?_ ?_ ?_ U2.mu U2.me U2.md U2.mp U2.lu U2.le U2.ld U2.lp
        · exact U2.hi
        · rw [zkd_zwI, zkd_zwA]; exact U2.kn
        · rw [zA_zwI, zA_zwA, if_neg (fun z => absurd z.2.1 (by decide))]; exact U2.fl
        · rw [zkd_zwI, zkd_zwA]; exact U2.kl
        · rw [zA_zwI, zA_zwA, if_neg (fun z => absurd z.2.1 (by decide))]; exact U2.xu
        · rw [zA_zwI, zA_zwA, if_neg (fun z => absurd z.2.1 (by decide))]; exact U2.xe
        · rw [zA_zwI, zA_zwA, if_neg (fun z => absurd z.2.1 (by decide))]; exact U2.xd
        · rw [zA_zwI, zA_zwA, if_neg (fun z => absurd z.2.1 (by decide))]; exact U2.xp
      · refine oOk.mk O2.u ?_ ?_ ?_ ?_ O2.mo O2.mf O2.mh ?_ O2.kd ?_ ?_ O2.f1 O2.h1 O2.nb O2.rk
        · rw [zA_zwI, zA_zwA, if_neg (fun z => absurd z.2.1 (by decide))]; exact O2.up
        · rw [zI_zwI, if_neg (fun z => absurd z.2.1 (by decide)), zI_zwA]; exact O2.xh
        · show _ = nI (if i = i then S' else D.st i)
          rw [zI_zwI, if_pos ⟨rfl, rfl, rfl⟩, if_pos rfl]
        · show upd _ i (nI S') i = nI (if i = i then S' else D.st i)
          rw [upd_same, if_pos rfl]
        · exact fun _ => O2.mn (by omega)
        · exact fun _ => O2.vl (by omega)
        · show (if i = i then S' else D.st i) ≤ 12
          rw [if_pos rfl]; omega
      · have eS : va_up D.st i S' i = S' := if_pos rfl
        rw [eS]
        refine iOk.mk (fun z1 z2 => by omega) (fun z1 z2 => by omega) (fun _ _ => I2.pr h8 h11) (fun z1 z2 => by omega) (fun z1 z2 => by omega) (fun z1 z2 => by omega) (fun z1 z2 => by omega) (fun z => ?_) (fun _ _ => ?_) (fun _ _ => ?_) (fun z => by omega)
        · obtain ⟨w1, w2, w3⟩ := I2.de (by omega)
          exact ⟨w1, by rw [zA_zwI, zA_zwA, if_neg (fun z => absurd z.2.1 (by decide))]; exact w2, w3⟩
        · obtain ⟨w1, w2⟩ := I2.se h8 h11
          exact ⟨by rw [zA_zwI, zA_zwA, if_neg (fun z => absurd z.2.1 (by decide))]; exact w1, rfl, w2.2⟩
        · exact ⟨by show _ = pN g2 N; rw [zA_zwI, zA_zwA, if_pos ⟨rfl, rfl, rfl⟩, pN_s (show N ≠ 0 by omega), oN], rfl, .inr ⟨.inr ⟨Nat.le_refl _, Nat.lt_succ_self _⟩, rN⟩⟩
    · exfalso
      have := (M_mbT4 R1 hp).symm.trans n2
      simp only [Option.some.injEq, Prod.mk.injEq] at this
      exact absurd this.1 (by decide)
  · exfalso
    have := (M_mbT R0 hw).symm.trans n1
    simp only [Option.some.injEq, Prod.mk.injEq] at this
    exact absurd this.1 (by decide)
end PAZZD
