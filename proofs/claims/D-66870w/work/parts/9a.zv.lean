/-! THE PURE LAYER: the parser: the sections of data. -/
section PAZV
variable {L L2 : Nat → Prop} {c : pC} {D : pD} {G : xQ} {α β : zS} {s s' s1 : zM} {B at' a a1 b d N N' F F' p q t to u x y k i j w wh lv m S : Nat} {g g' g2 : pG} {v : Int32}
theorem cl_wrk (h : pV c D L B at' N F g α s) (ha : at' < c.n) (hF : F < 20) (hd : D.dp = i + 1) (hS : D.st i = S) (hS1 : 3 ≤ S) (hS2 : S ≤ 5) : cQ c D B at' N F α s (hX4_header G (some c.p) (nI 14) (zwI α 40 4 c.p (nI 0))) (gX26_division2 (nI 14) (nI at') (maS (us s 43 (nI 0)) at')) := by
  obtain ⟨i10, hu, cu, ku, xs, d26, r29, r22, u2⟩ := h.cur hd
  have h0 := h.o
  have R0 := h0.start (s' := us s 43 (nI 0)) (lv := 0) ha hF (fun k hk => by
    rw [ls_us] at hk
    split at hk
    · omega
    · exact absurd rfl hk) (fun _ => rfl) rfl (fun z => absurd z (by decide))
  have kp : zkd (zwI α 40 4 c.p (nI 0)) c.p = 41 := R0.kp
  have cu' : zA (zwI α 40 4 c.p (nI 0)) 40 11 c.p = some (D.ou (D.os i)) := by rw [zA_zwI]; exact cu
  have ax' : zI (zwI α 40 4 c.p (nI 0)) 40 3 c.p = nI at' := R0.ax
  have oK := h.op i (by omega)
  have uK := h.u _ hu
  have St : hX4_state G (some c.p) (nI 3) (nI 5) (zwI α 40 4 c.p (nI 0)) = some (.inl (), zwI α 40 4 c.p (nI 0)) := by
    rw [X_state (k := S) (i := 3) (j := 5) kp cu' (by rw [zkd_zwI]; exact ku) (by
      rw [zI_zwI, if_neg (fun z => by have := z.1; omega), xs, hS]) (by omega) (by decide) (by decide), if_pos (by omega)]
  have X0 : ∀ R, hX4_second G (some c.p) (nI 16) (zwI α 40 4 c.p (nI 0)) = R → hX4_header G (some c.p) (nI 14) (zwI α 40 4 c.p (nI 0)) = zcase R (fun p40 =>
            (zfA p40.2 (some (D.ou (D.os i))) 43 5).bind fun r41 =>
            (znO p40.2 44 9).bind fun p42 =>
            if zis G p42.2 p42.1 45 = true then
              (hX43_init G p42.1 (nI 9) (nI 0) (nI at') p42.2).bind fun p13 =>
    if zis G p13.2 r41 45 = true then
      (hX43_add G r41 p42.1 p13.2).bind fun p14 =>
      if zis G p14.2 (some (D.ou (D.os i))) 44 = true then
        (hX42_items G (some (D.ou (D.os i))) p14.1 p14.2).bind fun p15 =>
        (zpI p15.2 (some (D.ou (D.os i))) 43 3 (nI 6)).bind fun σ12 => hX4_header_666 G σ12
      else none
    else none
            else none) (fun p47 =>
            if zthr p47.2 p47.1 3 = true then
              some (.inr p47.1, p47.2)
            else none) := fun R hR => by
    unfold hX4_header hX4_header_433 hX4_header_447 hX4_header_478 hX4_header_503
    rw [kfA kp, gl_bs, cu', kfI kp, gl_bs, ax', if_neg (by decide), if_neg (by decide), if_neg (by decide), if_neg (by decide), if_neg (by decide), if_neg (by decide), if_neg (by decide), if_neg (by decide), if_neg (by decide), if_neg (by decide), if_neg (by decide), if_neg (by decide), if_neg (by decide), if_pos (by decide), if_neg (show ¬ ¬ nI 14 = 14 from fun z => z rfl), if_pos (of_eq_true (kis kp (by decide)))]
    show zcase (hX4_state G (some c.p) (nI 3) (nI 5) (zwI α 40 4 c.p (nI 0))) _ _ = _
    rw [St, zc_l, if_pos (of_eq_true (kis kp (by decide)))]
    show zcase (hX4_second G (some c.p) (nI 16) (zwI α 40 4 c.p (nI 0))) _ _ = _
    rw [hR]
    simp only [if_neg (show ¬ ¬ nI 14 = 14 from fun z => z rfl)]
    rfl
  have M0 : gX26_division2 (nI 14) (nI at') (maS (us s 43 (nI 0)) at') = gX26_division2_28 (nI 14) (nI at') (nI 0) (nI 16) (maS (us s 43 (nI 0)) at') := by
    unfold gX26_division2 gX26_division2_16
    rw [if_neg (by decide), if_pos (show ¬ nI 14 = 12 from by decide), if_pos (by decide)]
    rfl
  have hb0 : pB (c.on (zwI α 40 4 c.p (nI 0)) (us s 43 (nI 0)) N at' 0) N at' 4 := on_pB (by decide) (.inl (by decide))
  rcases R0.second (G := G) (hb0.le (by decide)) ha (w := 16) (by decide) with ⟨x1, m1, m2, R3⟩ | ⟨e, β, s', v, x1, x2, m1, x3⟩
  · have x1' : hX4_second G (some c.p) (nI 16) (zwI α 40 4 c.p (nI 0)) = some (.inl (), zwI (zwI (zwI (zwI α 40 4 c.p (nI 0)) 40 3 c.p (nI (at' + 1))) 40 3 c.p (nI (at' + 1 + 1))) 40 3 c.p (nI (at' + 2 + 1))) := x1
    have zk : ∀ k, k < D.nu → (zwI (zwI (zwI (zwI α 40 4 c.p (nI 0)) 40 3 c.p (nI (at' + 1))) 40 3 c.p (nI (at' + 1 + 1))) 40 3 c.p (nI (at' + 2 + 1))).2 (D.ou k) = α.2 (D.ou k) := fun k hk => h.unX R3.x hk
    have R3' : pR (c.on (zwI α 40 4 c.p (nI 0)) (us s 43 (nI 0)) N at' 0) (at' + 3) 0 N N 0 pG0 (zwI (zwI (zwI (zwI α 40 4 c.p (nI 0)) 40 3 c.p (nI (at' + 1))) 40 3 c.p (nI (at' + 1 + 1))) 40 3 c.p (nI (at' + 2 + 1))) (maS (maS (maS (us s 43 (nI 0)) at') (at' + 1)) (at' + 2)) := R3
    generalize zwI (zwI (zwI (zwI α 40 4 c.p (nI 0)) 40 3 c.p (nI (at' + 1))) 40 3 c.p (nI (at' + 1 + 1))) 40 3 c.p (nI (at' + 2 + 1)) = α3 at x1' zk R3'
    clear x1 R3
    obtain ⟨R4, q4⟩ := R3'.cell
    obtain ⟨β, x4, R5⟩ := R4.new (G := G) (kv := nI 9) (v := nI 0) (v' := nI at') (r := 7000000) q4 (by decide)
    have U0 := h.u _ hu
    have I0 := h.inn (by omega)
    rw [hd, Nat.add_sub_cancel, hS] at I0
    obtain ⟨dne, rk⟩ := I0.da (by omega) (by omega)
    have dL := U0.ld.resolve_left dne
    have N1 := h0.N1
    have N8 : N < 7900 := by
      have := h0.N0
      have := h0.n
      omega
    obtain ⟨γ, l, g2, kU, y1, y2, V2, oN, rN, _⟩ := h.root (G := G) (to := D.da (D.os i)) (t := N) R5 (fun k hk => by rw [ls_us, if_neg (by omega)]) (fun _ => rfl) (fun z => absurd z (by decide)) (by omega) (by omega) hF dL (Nat.le_refl _) (Nat.lt_succ_self _) (by
      rw [push_r, if_pos rfl, rk]
      decide) (by rw [mMk_la (by decide) (by decide), if_pos rfl]; rfl)
    rw [push_oa, if_pos rfl] at y1 oN
    rw [push_r, if_pos rfl] at rN
    have U2 := V2.u _ hu
    have O2 := V2.op i (by omega)
    have I2 := V2.inn (by omega)
    rw [hd, Nat.add_sub_cancel, hS] at I2
    have kO : zkd γ (D.ou (D.os i)) = 44 := U2.kn
    have x4' : hX43_init G (some (zn α3)) (nI 9) (nI 0) (nI at') (zmk α3 (44 + 1) 0 9) = some ((), β) := x4
    have It : hX42_items G (some (D.ou (D.os i))) (some (zn α3)) γ = some ((), (zsL (zwA (zwA γ 43 7 (D.ou (D.os i)) (some (zn α3))) 43 12 (D.ou (D.os i)) none) (D.ou (D.os i) + 1) 0 0 0 (zB (zwA (zwA γ 43 7 (D.ou (D.os i)) (some (zn α3))) 43 12 (D.ou (D.os i)) none) (D.ou (D.os i) + 1)) (zC (zwA (zwA γ 43 7 (D.ou (D.os i)) (some (zn α3))) 43 12 (D.ou (D.os i)) none) (D.ou (D.os i) + 1)) [] (zm (zwA (zwA γ 43 7 (D.ou (D.os i)) (some (zn α3))) 43 12 (D.ou (D.os i)) none) (D.ou (D.os i) + 1) + 1))) := by
      unfold hX42_items
      rw [kpA kO, gl_bs, kpA (by rw [zkd_zwA]; exact kO), gl_bs, kfA (by rw [zkd_zwA, zkd_zwA]; exact kO), gl_bs, zA_zwA, if_neg (fun z => absurd z.2.1 (by decide)), zA_zwA, if_neg (fun z => absurd z.2.1 (by decide)), U2.fl]
      unfold zLclear
      show Option.bind (if zkd (zwA (zwA γ 43 7 (D.ou (D.os i)) (some (zn α3))) 43 12 (D.ou (D.os i)) none) (D.ou (D.os i) + 1) = 3 then _ else none) _ = _
      rw [if_pos (by rw [zkd_zwA, zkd_zwA]; exact U2.kl), gl_bs]
    have Xf : hX4_header G (some c.p) (nI 14) (zwI α 40 4 c.p (nI 0)) = some (.inl (), zwI (zsL (zwA (zwA γ 43 7 (D.ou (D.os i)) (some (zn α3))) 43 12 (D.ou (D.os i)) none) (D.ou (D.os i) + 1) 0 0 0 (zB (zwA (zwA γ 43 7 (D.ou (D.os i)) (some (zn α3))) 43 12 (D.ou (D.os i)) none) (D.ou (D.os i) + 1)) (zC (zwA (zwA γ 43 7 (D.ou (D.os i)) (some (zn α3))) 43 12 (D.ou (D.os i)) none) (D.ou (D.os i) + 1)) [] (zm (zwA (zwA γ 43 7 (D.ou (D.os i)) (some (zn α3))) 43 12 (D.ou (D.os i)) none) (D.ou (D.os i) + 1) + 1)) 43 3 (D.ou (D.os i)) (nI 6)) := by
      rw [X0 _ x1', zc_l, kfA (by rw [zkd_eq (zk _ hu)]; exact ku), gl_bs, zA_eq (zk _ hu), U0.xd, pN_s dne]
      show Option.bind (znO α3 44 9) _ = _
      rw [znO_e, gl_bs, if_pos (of_eq_true (kis q4.kd (by decide)))]
      show Option.bind (hX43_init G (some (zn α3)) (nI 9) (nI 0) (nI at') _) _ = _
      rw [x4', gl_bs, if_pos (of_eq_true (kis kU (by decide)))]
      show Option.bind (hX43_add G (some (g.oa (D.da (D.os i)))) (some (zn α3)) β) _ = _
      rw [y1, gl_bs, if_pos (of_eq_true (kis kO (by decide)))]
      show Option.bind (hX42_items G (some (D.ou (D.os i))) (some (zn α3)) γ) _ = _
      rw [It, gl_bs, kpI (by rw [zkd_zsL, zkd_zwA, zkd_zwA]; exact kO), gl_bs]
      rfl
    have m2' : gX26_mustBe (nI 4) (maS (maS (us s 43 (nI 0)) at') (at' + 1)) = some (nI 1, maS (maS (maS (us s 43 (nI 0)) at') (at' + 1)) (at' + 2)) := m2
    have d26' : ls (maS (maS (maS (us s 43 (nI 0)) at') (at' + 1)) (at' + 2)) 26 = nI (i + 1) := d26
    have r29' : la (maS (maS (maS (us s 43 (nI 0)) at') (at' + 1)) (at' + 2)) 29 i = nI (D.os i) := r29
    have r22' : la (maS (maS (maS (us s 43 (nI 0)) at') (at' + 1)) (at' + 2)) 24 (D.os i) = nI (D.da (D.os i)) := U0.md
    have b43 : ls (maS (maS (maS (us s 43 (nI 0)) at') (at' + 1)) (at' + 2)) 43 = nI 0 := rfl
    have Nm4 : ls (maS (maS (maS (us s 43 (nI 0)) at') (at' + 1)) (at' + 2)) 8 = nI N := R4.Nm
    generalize maS (maS (maS (us s 43 (nI 0)) at') (at' + 1)) (at' + 2) = s3 at m2' d26' r29' r22' b43 Nm4 y2 V2 U2 O2 I2
    have l5 : ∀ k, k ≠ 8 → ls (mAtS (mMk s3 N (nI 9) (nI 0) (nI at')) (D.da (D.os i)) l N) k = ls s3 k := fun k hk => by
      rw [mAtS_ls]
      show (if k = 8 then _ else _) = _
      rw [if_neg hk]
      rfl
    have Mf : gX26_division2 (nI 14) (nI at') (maS (us s 43 (nI 0)) at') = some ((), ua (us (us (us (mAtS (mMk s3 N (nI 9) (nI 0) (nI at')) (D.da (D.os i)) l N) 33 (nI N)) 37 (nI 0)) 38 (nI 0)) 27 (upd (la (mAtS (mMk s3 N (nI 9) (nI 0) (nI at')) (D.da (D.os i)) l N) 27) i (nI 6))) := by
      rw [M0]
      unfold gX26_division2_28 gX26_division2_88 gX26_division2_123 gX26_division2_142 gX26_division2_157 gX26_division2_169 gX26_division2_179 gX26_division2_232
      rw [m1, gl_bs, if_neg (show ¬ nI 1 = 0 from n1n)]
      show Option.bind (gX26_mustBe (nI 4) (maS (maS (us s 43 (nI 0)) at') (at' + 1))) _ = _
      rw [m2', gl_bs, if_pos (show ¬ nI 1 = 0 from n1n), if_pos (show ¬ nI 14 = 4 from by decide), if_pos (show ¬ nI 14 = 12 from by decide), if_pos (show ¬ nI 14 = 13 from by decide), if_neg (show ¬ ¬ nI 14 = 14 from fun z => z rfl)]
      show Option.bind (gX26_make (nI 9) (nI 0) (nI at') s3) _ = _
      rw [M_make Nm4 (by omega), gl_bs]
      show Option.bind (gX26_here (mMk s3 N (nI 9) (nI 0) (nI at'))) _ = _
      rw [M_here (i := i) (u := D.os i) (s := mMk s3 N (nI 9) (nI 0) (nI at')) d26' r29' (by omega), gl_bs, if_pos (show nI 0 = 0 from rfl)]
      show Option.bind (gld (mMk s3 N (nI 9) (nI 0) (nI at')) 24 600 (nI (D.os i))) _ = _
      rw [pgld (by omega) (by decide), gl_bs, show la (mMk s3 N (nI 9) (nI 0) (nI at')) 24 (D.os i) = nI (D.da (D.os i)) from r22']
      show Option.bind (gX26_attach (nI (D.da (D.os i))) (nI N) (mMk s3 N (nI 9) (nI 0) (nI at'))) _ = _
      rw [y2, gl_bs, if_pos (show ¬ nI 14 = 4 from by decide), if_pos (show ¬ nI 14 = 12 from by decide), if_pos (show ¬ nI 14 = 13 from by decide), if_neg (show ¬ ¬ nI 0 = 0 from fun z => z rfl), gl_x, gl_x, gl_x, if_pos (show ¬ nI 14 = 4 from by decide), if_pos (show ¬ nI 14 = 12 from by decide), if_pos (show ¬ nI 14 = 13 from by decide), if_neg (show ¬ ¬ nI 14 = 14 from fun z => z rfl)]
      show Option.bind (gX26_to (nI 6) _) _ = _
      rw [M_to (i := i) (by rw [ls_us, if_neg (by decide), ls_us, if_neg (by decide), ls_us, if_neg (by decide)]; exact (l5 26 (by decide)).trans d26') (by omega), gl_bs]
      rfl
    refine .inl ⟨_, _, D.set D.en D.da D.pr (va_up D.st i 6) D.nm D.fu D.hd D.fi N D.de D.se D.pa 0 [], _, at' + 3, N + 1, _, F, Xf, Mf, ?_, V2.upd (i := i) (u := D.os i) (q := D.ou (D.os i)) hd rfl rfl ?_ ?_ ?_ ?_ ?_ ?_ ?_ ?_ ?_ ?_ ?_ ?_ ?_, by omega, ⟨Nat.le_refl _, Nat.le_succ _⟩, rfl, rfl, rfl, rfl, rfl, rfl, rfl⟩
    · exact (l5 43 (by decide)).trans b43
    · intro x hx1 hx2
      rw [zwI_ne hx1, zsL_ne hx2, zwA_ne hx1, zwA_ne hx1]
    · rfl
    · exact Nat.le_refl _
    · exact Nat.le_refl _
    · intro k hk
      show ls (us (us (us _ 33 (nI N)) 37 (nI 0)) 38 (nI 0)) k = _
      rw [ls_us, if_neg (by omega), ls_us, if_neg (by omega), ls_us, if_neg (by omega)]
    · intro k hk
      rw [la_ua, if_neg (by omega)]
      rfl
    · intro k j k1 k2 hj
      rw [la_ua, if_neg (by omega)]
      rfl
    · intro k j k1 k2 hj
      rw [la_ua]
      split
      · rename_i e
        rw [e, upd_other hj]
      · rfl
    · exact fun k hk => ⟨rfl, rfl, rfl⟩
    · intro j hj
      refine ⟨?_, rfl, rfl, rfl⟩
      show (if j = i then 6 else D.st j) = _
      rw [if_neg hj]
    · refine uOk.mk U2.lo ?_ ?_ ?_ ?_ ?_ ?_ ?_ ?_ U2.mu U2.me U2.md U2.mp U2.lu U2.le U2.ld U2.lp
      · exact U2.hi
      · rw [zkd_zwI, zkd_zsL, zkd_zwA, zkd_zwA]; exact U2.kn
      · rw [zA_zwI, zA_zsL, zA_zwA, if_neg (fun z => absurd z.2.1 (by decide)), zA_zwA, if_neg (fun z => absurd z.2.1 (by decide))]; exact U2.fl
      · rw [zkd_zwI, zkd_zsL, zkd_zwA, zkd_zwA]; exact U2.kl
      · rw [zA_zwI, zA_zsL, zA_zwA, if_neg (fun z => absurd z.2.1 (by decide)), zA_zwA, if_neg (fun z => absurd z.2.1 (by decide))]; exact U2.xu
      · rw [zA_zwI, zA_zsL, zA_zwA, if_neg (fun z => absurd z.2.1 (by decide)), zA_zwA, if_neg (fun z => absurd z.2.1 (by decide))]; exact U2.xe
      · rw [zA_zwI, zA_zsL, zA_zwA, if_neg (fun z => absurd z.2.1 (by decide)), zA_zwA, if_neg (fun z => absurd z.2.1 (by decide))]; exact U2.xd
      · rw [zA_zwI, zA_zsL, zA_zwA, if_neg (fun z => absurd z.2.1 (by decide)), zA_zwA, if_neg (fun z => absurd z.2.1 (by decide))]; exact U2.xp
    · refine oOk.mk O2.u ?_ ?_ ?_ ?_ O2.mo O2.mf O2.mh ?_ O2.kd ?_ ?_ O2.f1 O2.h1 O2.nb O2.rk
      · rw [zA_zwI, zA_zsL, zA_zwA, if_neg (fun z => absurd z.2.1 (by decide)), zA_zwA, if_neg (fun z => absurd z.2.1 (by decide))]; exact O2.up
      · rw [zI_zwI, if_neg (fun z => absurd z.2.1 (by decide)), zI_zsL, zI_zwA, zI_zwA]; exact O2.xh
      · show _ = nI (if i = i then 6 else D.st i)
        rw [zI_zwI, if_pos ⟨rfl, rfl, rfl⟩, if_pos rfl]
      · show upd _ i (nI 6) i = nI (if i = i then 6 else D.st i)
        rw [upd_same, if_pos rfl]
      · exact fun _ => O2.mn (by omega)
      · exact fun _ => O2.vl (by omega)
      · show (if i = i then 6 else D.st i) ≤ 12
        rw [if_pos rfl]; decide
    · have eS : va_up D.st i 6 i = 6 := if_pos rfl
      rw [eS]
      refine iOk.mk (fun z1 z2 => absurd z2 (by decide)) (fun _ _ => I2.da (by omega) (by omega)) (fun z1 z2 => absurd z1 (by decide)) (fun z1 z2 => absurd z2 (by decide)) (fun _ _ => ⟨.inr ⟨Nat.le_refl _, Nat.lt_succ_self _⟩, ?_, ?_, Nat.le_of_eq rN.symm⟩) (fun _ _ => ⟨?_, rfl, .inl rfl⟩) (fun _ _ => ⟨rfl, ?_, fun i hi => absurd hi (Nat.not_lt_zero _)⟩) (fun z => absurd z (by decide)) (fun z1 z2 => absurd z1 (by decide)) (fun z1 z2 => absurd z1 (by decide)) (fun _ => ?_)
      · show _ = some (g2.oa N)
        rw [zA_zwI, zA_zsL, zA_zwA, if_neg (fun z => absurd z.2.1 (by decide)), zA_zwA, if_pos ⟨rfl, rfl, rfl⟩, oN]
      · rfl
      · show _ = none
        rw [zA_zwI, zA_zsL, zA_zwA, if_pos ⟨rfl, rfl, rfl⟩]
      · show _ = []
        rw [zL_zwI, zL_zsL, if_pos rfl]
      · obtain ⟨w1, w2⟩ := I2.s8 (by omega)
        exact ⟨by rw [zA_zwI, zA_zsL, zA_zwA, if_neg (fun z => absurd z.2.1 (by decide)), zA_zwA, if_neg (fun z => absurd z.2.1 (by decide))]; exact w1, by rw [zA_zwI, zA_zsL, zA_zwA, if_neg (fun z => absurd z.2.1 (by decide)), zA_zwA, if_neg (fun z => absurd z.2.1 (by decide))]; exact w2⟩
  · refine .inr ⟨e, β, s', 1, v, ?_, x2, ?_, x3⟩
    · rw [X0 _ x1, zc_r, if_pos x2]
    · rw [M0]
      unfold gX26_division2_28 gX26_division2_42
      rcases m1 with m1 | ⟨m1, m2⟩
      · rw [m1, gl_bs, if_pos (show nI 0 = 0 from rfl)]
      · rw [m1, gl_bs, if_neg (show ¬ nI 1 = 0 from n1n), show (4 : Int32) = nI 4 from rfl]
        show (gX26_mustBe (nI 4) (maS (maS (us s 43 (nI 0)) at') (at' + 1))).bind _ = _
        rw [m2, gl_bs, if_neg (show ¬ ¬ nI 0 = 0 from fun z => z rfl)]
theorem cl_lnk (h : pV c D L B at' N F g α s) (ha : at' < c.n) (hF : F < 20) (hd : D.dp = i + 1) (hS : D.st i = S) (hS1 : 3 ≤ S) (hS2 : S ≤ 6) : cQ c D B at' N F α s (hX4_header G (some c.p) (nI 15) (zwI α 40 4 c.p (nI 0))) (gX26_division2 (nI 15) (nI at') (maS (us s 43 (nI 0)) at')) := by
  obtain ⟨i10, hu, cu, ku, xs, d26, r29, r22, u2⟩ := h.cur hd
  have h0 := h.o
  have R0 := h0.start (s' := us s 43 (nI 0)) (lv := 0) ha hF (fun k hk => by
    rw [ls_us] at hk
    split at hk
    · omega
    · exact absurd rfl hk) (fun _ => rfl) rfl (fun z => absurd z (by decide))
  have kp : zkd (zwI α 40 4 c.p (nI 0)) c.p = 41 := R0.kp
  have cu' : zA (zwI α 40 4 c.p (nI 0)) 40 11 c.p = some (D.ou (D.os i)) := by rw [zA_zwI]; exact cu
  have ax' : zI (zwI α 40 4 c.p (nI 0)) 40 3 c.p = nI at' := R0.ax
  have oK := h.op i (by omega)
  have uK := h.u _ hu
  have St : hX4_state G (some c.p) (nI 3) (nI 6) (zwI α 40 4 c.p (nI 0)) = some (.inl (), zwI α 40 4 c.p (nI 0)) := by
    rw [X_state (k := S) (i := 3) (j := 6) kp cu' (by rw [zkd_zwI]; exact ku) (by
      rw [zI_zwI, if_neg (fun z => by have := z.1; omega), xs, hS]) (by omega) (by decide) (by decide), if_pos (by omega)]
  have X0 : ∀ R, hX4_second G (some c.p) (nI 16) (zwI α 40 4 c.p (nI 0)) = R → hX4_header G (some c.p) (nI 15) (zwI α 40 4 c.p (nI 0)) = zcase R (fun p40 =>
            (zfA p40.2 (some (D.ou (D.os i))) 43 5).bind fun r41 =>
            (znO p40.2 44 9).bind fun p42 =>
            if zis G p42.2 p42.1 45 = true then
              (hX43_init G p42.1 (nI 10) (nI 0) (nI at') p42.2).bind fun p13 =>
    if zis G p13.2 r41 45 = true then
      (hX43_add G r41 p42.1 p13.2).bind fun p14 =>
      if zis G p14.2 (some (D.ou (D.os i))) 44 = true then
        (hX42_items G (some (D.ou (D.os i))) p14.1 p14.2).bind fun p15 =>
        (zpI p15.2 (some (D.ou (D.os i))) 43 3 (nI 7)).bind fun σ12 => hX4_header_666 G σ12
      else none
    else none
            else none) (fun p47 =>
            if zthr p47.2 p47.1 3 = true then
              some (.inr p47.1, p47.2)
            else none) := fun R hR => by
    unfold hX4_header hX4_header_433 hX4_header_447 hX4_header_478 hX4_header_503
    rw [kfA kp, gl_bs, cu', kfI kp, gl_bs, ax', if_neg (by decide), if_neg (by decide), if_neg (by decide), if_neg (by decide), if_neg (by decide), if_neg (by decide), if_neg (by decide), if_neg (by decide), if_neg (by decide), if_neg (by decide), if_neg (by decide), if_neg (by decide), if_neg (by decide), if_neg (by decide), if_pos (by decide), if_pos (show ¬ nI 15 = 14 from by decide), if_pos (of_eq_true (kis kp (by decide)))]
    show zcase (hX4_state G (some c.p) (nI 3) (nI 6) (zwI α 40 4 c.p (nI 0))) _ _ = _
    rw [St, zc_l, if_pos (of_eq_true (kis kp (by decide)))]
    show zcase (hX4_second G (some c.p) (nI 16) (zwI α 40 4 c.p (nI 0))) _ _ = _
    rw [hR]
    simp only [if_pos (show ¬ nI 15 = 14 from by decide)]
    rfl
  have M0 : gX26_division2 (nI 15) (nI at') (maS (us s 43 (nI 0)) at') = gX26_division2_28 (nI 15) (nI at') (nI 0) (nI 16) (maS (us s 43 (nI 0)) at') := by
    unfold gX26_division2 gX26_division2_16
    rw [if_neg (by decide), if_pos (show ¬ nI 15 = 12 from by decide), if_pos (by decide)]
    rfl
  have hb0 : pB (c.on (zwI α 40 4 c.p (nI 0)) (us s 43 (nI 0)) N at' 0) N at' 4 := on_pB (by decide) (.inl (by decide))
  rcases R0.second (G := G) (hb0.le (by decide)) ha (w := 16) (by decide) with ⟨x1, m1, m2, R3⟩ | ⟨e, β, s', v, x1, x2, m1, x3⟩
  · have x1' : hX4_second G (some c.p) (nI 16) (zwI α 40 4 c.p (nI 0)) = some (.inl (), zwI (zwI (zwI (zwI α 40 4 c.p (nI 0)) 40 3 c.p (nI (at' + 1))) 40 3 c.p (nI (at' + 1 + 1))) 40 3 c.p (nI (at' + 2 + 1))) := x1
    have zk : ∀ k, k < D.nu → (zwI (zwI (zwI (zwI α 40 4 c.p (nI 0)) 40 3 c.p (nI (at' + 1))) 40 3 c.p (nI (at' + 1 + 1))) 40 3 c.p (nI (at' + 2 + 1))).2 (D.ou k) = α.2 (D.ou k) := fun k hk => h.unX R3.x hk
    have R3' : pR (c.on (zwI α 40 4 c.p (nI 0)) (us s 43 (nI 0)) N at' 0) (at' + 3) 0 N N 0 pG0 (zwI (zwI (zwI (zwI α 40 4 c.p (nI 0)) 40 3 c.p (nI (at' + 1))) 40 3 c.p (nI (at' + 1 + 1))) 40 3 c.p (nI (at' + 2 + 1))) (maS (maS (maS (us s 43 (nI 0)) at') (at' + 1)) (at' + 2)) := R3
    generalize zwI (zwI (zwI (zwI α 40 4 c.p (nI 0)) 40 3 c.p (nI (at' + 1))) 40 3 c.p (nI (at' + 1 + 1))) 40 3 c.p (nI (at' + 2 + 1)) = α3 at x1' zk R3'
    clear x1 R3
    obtain ⟨R4, q4⟩ := R3'.cell
    obtain ⟨β, x4, R5⟩ := R4.new (G := G) (kv := nI 10) (v := nI 0) (v' := nI at') (r := 7000000) q4 (by decide)
    have U0 := h.u _ hu
    have I0 := h.inn (by omega)
    rw [hd, Nat.add_sub_cancel, hS] at I0
    obtain ⟨dne, rk⟩ := I0.da (by omega) (by omega)
    have dL := U0.ld.resolve_left dne
    have N1 := h0.N1
    have N8 : N < 7900 := by
      have := h0.N0
      have := h0.n
      omega
    obtain ⟨γ, l, g2, kU, y1, y2, V2, oN, rN, _⟩ := h.root (G := G) (to := D.da (D.os i)) (t := N) R5 (fun k hk => by rw [ls_us, if_neg (by omega)]) (fun _ => rfl) (fun z => absurd z (by decide)) (by omega) (by omega) hF dL (Nat.le_refl _) (Nat.lt_succ_self _) (by
      rw [push_r, if_pos rfl, rk]
      decide) (by rw [mMk_la (by decide) (by decide), if_pos rfl]; rfl)
    rw [push_oa, if_pos rfl] at y1 oN
    rw [push_r, if_pos rfl] at rN
    have U2 := V2.u _ hu
    have O2 := V2.op i (by omega)
    have I2 := V2.inn (by omega)
    rw [hd, Nat.add_sub_cancel, hS] at I2
    have kO : zkd γ (D.ou (D.os i)) = 44 := U2.kn
    have x4' : hX43_init G (some (zn α3)) (nI 10) (nI 0) (nI at') (zmk α3 (44 + 1) 0 9) = some ((), β) := x4
    have It : hX42_items G (some (D.ou (D.os i))) (some (zn α3)) γ = some ((), (zsL (zwA (zwA γ 43 7 (D.ou (D.os i)) (some (zn α3))) 43 12 (D.ou (D.os i)) none) (D.ou (D.os i) + 1) 0 0 0 (zB (zwA (zwA γ 43 7 (D.ou (D.os i)) (some (zn α3))) 43 12 (D.ou (D.os i)) none) (D.ou (D.os i) + 1)) (zC (zwA (zwA γ 43 7 (D.ou (D.os i)) (some (zn α3))) 43 12 (D.ou (D.os i)) none) (D.ou (D.os i) + 1)) [] (zm (zwA (zwA γ 43 7 (D.ou (D.os i)) (some (zn α3))) 43 12 (D.ou (D.os i)) none) (D.ou (D.os i) + 1) + 1))) := by
      unfold hX42_items
      rw [kpA kO, gl_bs, kpA (by rw [zkd_zwA]; exact kO), gl_bs, kfA (by rw [zkd_zwA, zkd_zwA]; exact kO), gl_bs, zA_zwA, if_neg (fun z => absurd z.2.1 (by decide)), zA_zwA, if_neg (fun z => absurd z.2.1 (by decide)), U2.fl]
      unfold zLclear
      show Option.bind (if zkd (zwA (zwA γ 43 7 (D.ou (D.os i)) (some (zn α3))) 43 12 (D.ou (D.os i)) none) (D.ou (D.os i) + 1) = 3 then _ else none) _ = _
      rw [if_pos (by rw [zkd_zwA, zkd_zwA]; exact U2.kl), gl_bs]
    have Xf : hX4_header G (some c.p) (nI 15) (zwI α 40 4 c.p (nI 0)) = some (.inl (), zwI (zsL (zwA (zwA γ 43 7 (D.ou (D.os i)) (some (zn α3))) 43 12 (D.ou (D.os i)) none) (D.ou (D.os i) + 1) 0 0 0 (zB (zwA (zwA γ 43 7 (D.ou (D.os i)) (some (zn α3))) 43 12 (D.ou (D.os i)) none) (D.ou (D.os i) + 1)) (zC (zwA (zwA γ 43 7 (D.ou (D.os i)) (some (zn α3))) 43 12 (D.ou (D.os i)) none) (D.ou (D.os i) + 1)) [] (zm (zwA (zwA γ 43 7 (D.ou (D.os i)) (some (zn α3))) 43 12 (D.ou (D.os i)) none) (D.ou (D.os i) + 1) + 1)) 43 3 (D.ou (D.os i)) (nI 7)) := by
      rw [X0 _ x1', zc_l, kfA (by rw [zkd_eq (zk _ hu)]; exact ku), gl_bs, zA_eq (zk _ hu), U0.xd, pN_s dne]
      show Option.bind (znO α3 44 9) _ = _
      rw [znO_e, gl_bs, if_pos (of_eq_true (kis q4.kd (by decide)))]
      show Option.bind (hX43_init G (some (zn α3)) (nI 10) (nI 0) (nI at') _) _ = _
      rw [x4', gl_bs, if_pos (of_eq_true (kis kU (by decide)))]
      show Option.bind (hX43_add G (some (g.oa (D.da (D.os i)))) (some (zn α3)) β) _ = _
      rw [y1, gl_bs, if_pos (of_eq_true (kis kO (by decide)))]
      show Option.bind (hX42_items G (some (D.ou (D.os i))) (some (zn α3)) γ) _ = _
      rw [It, gl_bs, kpI (by rw [zkd_zsL, zkd_zwA, zkd_zwA]; exact kO), gl_bs]
      rfl
    have m2' : gX26_mustBe (nI 4) (maS (maS (us s 43 (nI 0)) at') (at' + 1)) = some (nI 1, maS (maS (maS (us s 43 (nI 0)) at') (at' + 1)) (at' + 2)) := m2
    have d26' : ls (maS (maS (maS (us s 43 (nI 0)) at') (at' + 1)) (at' + 2)) 26 = nI (i + 1) := d26
    have r29' : la (maS (maS (maS (us s 43 (nI 0)) at') (at' + 1)) (at' + 2)) 29 i = nI (D.os i) := r29
    have r22' : la (maS (maS (maS (us s 43 (nI 0)) at') (at' + 1)) (at' + 2)) 24 (D.os i) = nI (D.da (D.os i)) := U0.md
    have b43 : ls (maS (maS (maS (us s 43 (nI 0)) at') (at' + 1)) (at' + 2)) 43 = nI 0 := rfl
    have Nm4 : ls (maS (maS (maS (us s 43 (nI 0)) at') (at' + 1)) (at' + 2)) 8 = nI N := R4.Nm
    generalize maS (maS (maS (us s 43 (nI 0)) at') (at' + 1)) (at' + 2) = s3 at m2' d26' r29' r22' b43 Nm4 y2 V2 U2 O2 I2
    have l5 : ∀ k, k ≠ 8 → ls (mAtS (mMk s3 N (nI 10) (nI 0) (nI at')) (D.da (D.os i)) l N) k = ls s3 k := fun k hk => by
      rw [mAtS_ls]
      show (if k = 8 then _ else _) = _
      rw [if_neg hk]
      rfl
    have Mf : gX26_division2 (nI 15) (nI at') (maS (us s 43 (nI 0)) at') = some ((), ua (us (us (us (mAtS (mMk s3 N (nI 10) (nI 0) (nI at')) (D.da (D.os i)) l N) 33 (nI N)) 37 (nI 0)) 38 (nI 0)) 27 (upd (la (mAtS (mMk s3 N (nI 10) (nI 0) (nI at')) (D.da (D.os i)) l N) 27) i (nI 7))) := by
      rw [M0]
      unfold gX26_division2_28 gX26_division2_88 gX26_division2_123 gX26_division2_142 gX26_division2_157 gX26_division2_169 gX26_division2_179 gX26_division2_232
      rw [m1, gl_bs, if_neg (show ¬ nI 1 = 0 from n1n)]
      show Option.bind (gX26_mustBe (nI 4) (maS (maS (us s 43 (nI 0)) at') (at' + 1))) _ = _
      rw [m2', gl_bs, if_pos (show ¬ nI 1 = 0 from n1n), if_pos (show ¬ nI 15 = 4 from by decide), if_pos (show ¬ nI 15 = 12 from by decide), if_pos (show ¬ nI 15 = 13 from by decide), if_pos (show ¬ nI 15 = 14 from by decide)]
      show Option.bind (gX26_make (nI 10) (nI 0) (nI at') s3) _ = _
      rw [M_make Nm4 (by omega), gl_bs]
      show Option.bind (gX26_here (mMk s3 N (nI 10) (nI 0) (nI at'))) _ = _
      rw [M_here (i := i) (u := D.os i) (s := mMk s3 N (nI 10) (nI 0) (nI at')) d26' r29' (by omega), gl_bs, if_pos (show nI 0 = 0 from rfl)]
      show Option.bind (gld (mMk s3 N (nI 10) (nI 0) (nI at')) 24 600 (nI (D.os i))) _ = _
      rw [pgld (by omega) (by decide), gl_bs, show la (mMk s3 N (nI 10) (nI 0) (nI at')) 24 (D.os i) = nI (D.da (D.os i)) from r22']
      show Option.bind (gX26_attach (nI (D.da (D.os i))) (nI N) (mMk s3 N (nI 10) (nI 0) (nI at'))) _ = _
      rw [y2, gl_bs, if_pos (show ¬ nI 15 = 4 from by decide), if_pos (show ¬ nI 15 = 12 from by decide), if_pos (show ¬ nI 15 = 13 from by decide), if_neg (show ¬ ¬ nI 0 = 0 from fun z => z rfl), gl_x, gl_x, gl_x, if_pos (show ¬ nI 15 = 4 from by decide), if_pos (show ¬ nI 15 = 12 from by decide), if_pos (show ¬ nI 15 = 13 from by decide), if_pos (show ¬ nI 15 = 14 from by decide)]
      show Option.bind (gX26_to (nI 7) _) _ = _
      rw [M_to (i := i) (by rw [ls_us, if_neg (by decide), ls_us, if_neg (by decide), ls_us, if_neg (by decide)]; exact (l5 26 (by decide)).trans d26') (by omega), gl_bs]
      rfl
    refine .inl ⟨_, _, D.set D.en D.da D.pr (va_up D.st i 7) D.nm D.fu D.hd D.fi N D.de D.se D.pa 0 [], _, at' + 3, N + 1, _, F, Xf, Mf, ?_, V2.upd (i := i) (u := D.os i) (q := D.ou (D.os i)) hd rfl rfl ?_ ?_ ?_ ?_ ?_ ?_ ?_ ?_ ?_ ?_ ?_ ?_ ?_, by omega, ⟨Nat.le_refl _, Nat.le_succ _⟩, rfl, rfl, rfl, rfl, rfl, rfl, rfl⟩
    · exact (l5 43 (by decide)).trans b43
    · intro x hx1 hx2
      rw [zwI_ne hx1, zsL_ne hx2, zwA_ne hx1, zwA_ne hx1]
    · rfl
    · exact Nat.le_refl _
    · exact Nat.le_refl _
    · intro k hk
      show ls (us (us (us _ 33 (nI N)) 37 (nI 0)) 38 (nI 0)) k = _
      rw [ls_us, if_neg (by omega), ls_us, if_neg (by omega), ls_us, if_neg (by omega)]
    · intro k hk
      rw [la_ua, if_neg (by omega)]
      rfl
    · intro k j k1 k2 hj
      rw [la_ua, if_neg (by omega)]
      rfl
    · intro k j k1 k2 hj
      rw [la_ua]
      split
      · rename_i e
        rw [e, upd_other hj]
      · rfl
    · exact fun k hk => ⟨rfl, rfl, rfl⟩
    · intro j hj
      refine ⟨?_, rfl, rfl, rfl⟩
      show (if j = i then 7 else D.st j) = _
      rw [if_neg hj]
    · refine uOk.mk U2.lo ?_ ?_ ?_ ?_ ?_ ?_ ?_ ?_ U2.mu U2.me U2.md U2.mp U2.lu U2.le U2.ld U2.lp
      · exact U2.hi
      · rw [zkd_zwI, zkd_zsL, zkd_zwA, zkd_zwA]; exact U2.kn
      · rw [zA_zwI, zA_zsL, zA_zwA, if_neg (fun z => absurd z.2.1 (by decide)), zA_zwA, if_neg (fun z => absurd z.2.1 (by decide))]; exact U2.fl
      · rw [zkd_zwI, zkd_zsL, zkd_zwA, zkd_zwA]; exact U2.kl
      · rw [zA_zwI, zA_zsL, zA_zwA, if_neg (fun z => absurd z.2.1 (by decide)), zA_zwA, if_neg (fun z => absurd z.2.1 (by decide))]; exact U2.xu
      · rw [zA_zwI, zA_zsL, zA_zwA, if_neg (fun z => absurd z.2.1 (by decide)), zA_zwA, if_neg (fun z => absurd z.2.1 (by decide))]; exact U2.xe
      · rw [zA_zwI, zA_zsL, zA_zwA, if_neg (fun z => absurd z.2.1 (by decide)), zA_zwA, if_neg (fun z => absurd z.2.1 (by decide))]; exact U2.xd
      · rw [zA_zwI, zA_zsL, zA_zwA, if_neg (fun z => absurd z.2.1 (by decide)), zA_zwA, if_neg (fun z => absurd z.2.1 (by decide))]; exact U2.xp
    · refine oOk.mk O2.u ?_ ?_ ?_ ?_ O2.mo O2.mf O2.mh ?_ O2.kd ?_ ?_ O2.f1 O2.h1 O2.nb O2.rk
      · rw [zA_zwI, zA_zsL, zA_zwA, if_neg (fun z => absurd z.2.1 (by decide)), zA_zwA, if_neg (fun z => absurd z.2.1 (by decide))]; exact O2.up
      · rw [zI_zwI, if_neg (fun z => absurd z.2.1 (by decide)), zI_zsL, zI_zwA, zI_zwA]; exact O2.xh
      · show _ = nI (if i = i then 7 else D.st i)
        rw [zI_zwI, if_pos ⟨rfl, rfl, rfl⟩, if_pos rfl]
      · show upd _ i (nI 7) i = nI (if i = i then 7 else D.st i)
        rw [upd_same, if_pos rfl]
      · exact fun _ => O2.mn (by omega)
      · exact fun _ => O2.vl (by omega)
      · show (if i = i then 7 else D.st i) ≤ 12
        rw [if_pos rfl]; decide
    · have eS : va_up D.st i 7 i = 7 := if_pos rfl
      rw [eS]
      refine iOk.mk (fun z1 z2 => absurd z2 (by decide)) (fun _ _ => I2.da (by omega) (by omega)) (fun z1 z2 => absurd z1 (by decide)) (fun z1 z2 => absurd z2 (by decide)) (fun _ _ => ⟨.inr ⟨Nat.le_refl _, Nat.lt_succ_self _⟩, ?_, ?_, Nat.le_of_eq rN.symm⟩) (fun _ _ => ⟨?_, rfl, .inl rfl⟩) (fun _ _ => ⟨rfl, ?_, fun i hi => absurd hi (Nat.not_lt_zero _)⟩) (fun z => absurd z (by decide)) (fun z1 z2 => absurd z1 (by decide)) (fun z1 z2 => absurd z1 (by decide)) (fun _ => ?_)
      · show _ = some (g2.oa N)
        rw [zA_zwI, zA_zsL, zA_zwA, if_neg (fun z => absurd z.2.1 (by decide)), zA_zwA, if_pos ⟨rfl, rfl, rfl⟩, oN]
      · rfl
      · show _ = none
        rw [zA_zwI, zA_zsL, zA_zwA, if_pos ⟨rfl, rfl, rfl⟩]
      · show _ = []
        rw [zL_zwI, zL_zsL, if_pos rfl]
      · obtain ⟨w1, w2⟩ := I2.s8 (by omega)
        exact ⟨by rw [zA_zwI, zA_zsL, zA_zwA, if_neg (fun z => absurd z.2.1 (by decide)), zA_zwA, if_neg (fun z => absurd z.2.1 (by decide))]; exact w1, by rw [zA_zwI, zA_zsL, zA_zwA, if_neg (fun z => absurd z.2.1 (by decide)), zA_zwA, if_neg (fun z => absurd z.2.1 (by decide))]; exact w2⟩
  · refine .inr ⟨e, β, s', 1, v, ?_, x2, ?_, x3⟩
    · rw [X0 _ x1, zc_r, if_pos x2]
    · rw [M0]
      unfold gX26_division2_28 gX26_division2_42
      rcases m1 with m1 | ⟨m1, m2⟩
      · rw [m1, gl_bs, if_pos (show nI 0 = 0 from rfl)]
      · rw [m1, gl_bs, if_neg (show ¬ nI 1 = 0 from n1n), show (4 : Int32) = nI 4 from rfl]
        show (gX26_mustBe (nI 4) (maS (maS (us s 43 (nI 0)) at') (at' + 1))).bind _ = _
        rw [m2, gl_bs, if_neg (show ¬ ¬ nI 0 = 0 from fun z => z rfl)]
end PAZV
