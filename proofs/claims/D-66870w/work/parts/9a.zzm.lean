/-! THE PURE LAYER: the parser: PROCEDURE DIVISION. -/
section PAZZM
variable {L L2 : Nat → Prop} {c : pC} {D D' : pD} {G : xQ} {α β : zS} {s s' s1 : zM} {B at' a a1 b d f N N' F F' p q t to u x y k i j w wh lv m S r : Nat} {g g' g2 : pG} {v v' : Int32}
theorem prc_tail (h : pV c D L B at' N F g α s) (hF : F < 20) (hd : D.dp = i + 1) (hS : D.st i = S) (hS1 : 1 ≤ S) (hS2 : S ≤ 7) (e : pR (c.on (zwI α 40 4 c.p (nI 0)) (us s 43 (nI 0)) N at' 0) a d b N' 0 g' β s') (hb : b + 10 * at' ≤ N + 10 * a) (haa : at' ≤ a) (hN' : N < N') (hr : g'.r N = 9000000) (l16 : la s' 16 N = nI 0) : cQ c D B at' N F α s (hX4_header_561 G (some c.p) (some (D.ou (D.os i))) (some (g'.oa N)) β) (gX26_begun_34 (nI N) s') := by
  obtain ⟨i10, hu, cu, ku, xs, d26, r29, r22, u2⟩ := h.cur hd
  have h0 := h.o
  have oK := h.op i (by omega)
  have kp := e.kp
  have kp' : zkd β c.p = 41 := kp
  have N1 := h0.N1
  have n5 := h0.n
  have bp : pB (c.on (zwI α 40 4 c.p (nI 0)) (us s 43 (nI 0)) N at' 0) b a 0 := ⟨by show b + 0 + 10 * at' ≤ N + 10 * a + 60; omega, .inl (by decide)⟩
  rcases e.period (G := G) bp with ⟨e2, y1, n1, R⟩ | ⟨ex, γ, s2, w, y1, y2, n1, y3⟩
  · have y1' : hX4_period G (some c.p) β = some (.inl (), zwI β 40 3 c.p (nI (a + 1))) := y1
    have n1' : gX26_mustBe (nI 4) s' = some (nI 1, us s' 41 (nI (a + 1))) := n1
    have R' : pR (c.on (zwI α 40 4 c.p (nI 0)) (us s 43 (nI 0)) N at' 0) (a + 1) d b N' 0 g' (zwI β 40 3 c.p (nI (a + 1))) (us s' 41 (nI (a + 1))) := R
    have zk : ∀ k, k < D.nu → (zwI β 40 3 c.p (nI (a + 1))).2 (D.ou k) = α.2 (D.ou k) := fun k hk => h.unX R.x hk
    have l16' : la (us s' 41 (nI (a + 1))) 16 N = nI 0 := l16
    have m := R'.m
    have d26' : ls (us s' 41 (nI (a + 1))) 26 = nI (i + 1) := (m.I 26 (by decide)).trans d26
    have r29' : la (us s' 41 (nI (a + 1))) 29 i = nI (D.os i) := (congrFun (m.B 29 (by decide)) i).trans r29
    have r22' : la (us s' 41 (nI (a + 1))) 22 (D.os i) = nI (D.un (D.os i)) := (congrFun (m.B 22 (by decide)) _).trans r22
    have b43 : ls (us s' 41 (nI (a + 1))) 43 = nI 0 := R'.bm
    have U0 := h.u _ hu
    have rk := oK.rk
    have al : a + 1 ≤ c.n := R'.al
    generalize zwI β 40 3 c.p (nI (a + 1)) = α3 at y1' zk R'
    generalize us s' 41 (nI (a + 1)) = s3 at n1' R' l16' d26' r29' r22' b43
    obtain ⟨γ, l, g2, kU, y1, y2, V2, oN, rN, _⟩ := h.root (G := G) (to := D.un (D.os i)) (t := N) R' (fun k hk => by rw [ls_us, if_neg (by omega)]) (fun _ => rfl) (fun z => absurd z (by decide)) (by omega) (by omega) hF U0.lu (Nat.le_refl _) hN' (by
      rw [hr, rk]
      omega) l16'
    rw [hr] at rN
    have U2 := V2.u _ hu
    have O2 := V2.op i (by omega)
    have I2 := V2.inn (by omega)
    rw [hd, Nat.add_sub_cancel, hS] at I2
    have kO : zkd γ (D.ou (D.os i)) = 44 := U2.kn
    have Xf : hX4_header_561 G (some c.p) (some (D.ou (D.os i))) (some (g'.oa N)) β = some (.inl (), zwI (zwA γ 43 8 (D.ou (D.os i)) (some (g'.oa N))) 43 3 (D.ou (D.os i)) (nI 8)) := by
      unfold hX4_header_561
      rw [if_pos (of_eq_true (kis kp' (by decide))), y1', zc_l, kfA (by rw [zkd_eq (zk _ hu)]; exact ku), gl_bs, zA_eq (zk _ hu), U0.xu, if_pos (of_eq_true (kis kU (by decide)))]
      show Option.bind (hX43_add G (some (g.oa (D.un (D.os i)))) (some (g'.oa N)) α3) _ = _
      rw [y1, gl_bs, kpA kO, gl_bs, kpI (by rw [zkd_zwA]; exact kO), gl_bs]
      rfl
    have l5 : ∀ k, ls (mAtS s3 (D.un (D.os i)) l N) k = ls s3 k := fun k => mAtS_ls
    have Mf : gX26_begun_34 (nI N) s' = some ((), ua (us (us (us (ua (mAtS s3 (D.un (D.os i)) l N) 25 (upd (la (mAtS s3 (D.un (D.os i)) l N) 25) (D.os i) (nI N))) 35 (nI 0)) 36 (nI 0)) 34 (nI 0)) 27 (upd (la (mAtS s3 (D.un (D.os i)) l N) 27) i (nI 8))) := by
      unfold gX26_begun_34
      show Option.bind (gX26_mustBe (nI 4) s') _ = _
      rw [n1', gl_bs, if_pos (show ¬ nI 1 = 0 from n1n), M_here (i := i) (u := D.os i) d26' r29' (by omega), gl_bs]
      show Option.bind (gld s3 22 600 (nI (D.os i))) _ = _
      rw [pgld (by omega) (by decide), gl_bs, r22']
      show Option.bind (gX26_attach (nI (D.un (D.os i))) (nI N) s3) _ = _
      rw [y2, gl_bs, M_here (i := i) (u := D.os i) ((l5 26).trans d26') (by rw [mAtS_la (by decide)]; exact r29') (by omega), gl_bs]
      show Option.bind (gst (mAtS s3 (D.un (D.os i)) l N) 25 600 (nI (D.os i)) (nI N)) _ = _
      rw [pgst (by omega) (by decide), gl_bs, gl_x, gl_x, gl_x]
      show Option.bind (gX26_to (nI 8) _) _ = _
      rw [M_to (i := i) (by rw [ls_us, if_neg (by decide), ls_us, if_neg (by decide), ls_us, if_neg (by decide)]; exact (l5 26).trans d26') (by omega), gl_bs]
      rfl
    refine .inl ⟨_, _, D.set D.en D.da (va_up D.pr (D.os i) N) (va_up D.st i 8) D.nm D.fu D.hd D.fi D.ho 0 0 0 D.lt D.it, _, a + 1, N', _, F, Xf, Mf, ?_, V2.upd (i := i) (u := D.os i) (q := D.ou (D.os i)) hd rfl rfl ?_ ?_ ?_ ?_ ?_ ?_ ?_ ?_ ?_ ?_ ?_ ?_ ?_, by omega, ⟨Nat.le_refl _, Nat.le_succ _⟩, rfl, rfl, rfl, rfl, rfl, rfl, rfl⟩
    · exact (l5 43).trans b43
    · intro x hx1 hx2
      rw [zwI_ne hx1, zwA_ne hx1]
    · rfl
    · exact Nat.le_refl _
    · exact Nat.le_refl _
    · intro k hk
      show ls (us (us (us _ 35 (nI 0)) 36 (nI 0)) 34 (nI 0)) k = _
      rw [ls_us, if_neg (by omega), ls_us, if_neg (by omega), ls_us, if_neg (by omega)]
      rfl
    · intro k hk
      rw [la_ua, if_neg (by omega)]
      show la (ua _ 25 _) k = _
      rw [la_ua, if_neg (by omega)]
    · intro k j k1 k2 hj
      rw [la_ua, if_neg (by omega)]
      show la (ua _ 25 _) k j = _
      rw [la_ua]
      split
      · rename_i e
        rw [e, upd_other hj]
      · rfl
    · intro k j k1 k2 hj
      rw [la_ua]
      split
      · rename_i e
        rw [e, upd_other hj]
      · show la (ua _ 25 _) k j = _
        rw [la_ua, if_neg (by omega)]
    · intro k hk
      refine ⟨rfl, rfl, ?_⟩
      show (if k = D.os i then N else D.pr k) = _
      rw [if_neg hk]
    · intro j hj
      refine ⟨?_, rfl, rfl, rfl⟩
      show (if j = i then 8 else D.st j) = _
      rw [if_neg hj]
    · refine uOk.mk U2.lo ?_ ?_ ?_ ?_ ?_ ?_ ?_ ?_ ?_ ?_ ?_ ?_ U2.lu U2.le U2.ld ?_
      · exact U2.hi
      · rw [zkd_zwI, zkd_zwA]; exact U2.kn
      · rw [zA_zwI, zA_zwA, if_neg (fun z => absurd z.2.1 (by decide))]; exact U2.fl
      · rw [zkd_zwI, zkd_zwA]; exact U2.kl
      · rw [zA_zwI, zA_zwA, if_neg (fun z => absurd z.2.1 (by decide))]; exact U2.xu
      · rw [zA_zwI, zA_zwA, if_neg (fun z => absurd z.2.1 (by decide))]; exact U2.xe
      · rw [zA_zwI, zA_zwA, if_neg (fun z => absurd z.2.1 (by decide))]; exact U2.xd
      · show _ = pN _ (if D.os i = D.os i then N else D.pr (D.os i))
        rw [zA_zwI, zA_zwA, if_pos ⟨rfl, rfl, rfl⟩, if_pos rfl, pN_s (by omega)]
        rw [oN]
      · exact U2.mu
      · exact U2.me
      · exact U2.md
      · show upd _ (D.os i) (nI N) (D.os i) = nI (if D.os i = D.os i then N else D.pr (D.os i))
        rw [upd_same, if_pos rfl]
      · show (if D.os i = D.os i then N else D.pr (D.os i)) = 0 ∨ pLn L N N' (if D.os i = D.os i then N else D.pr (D.os i))
        rw [if_pos rfl]
        exact .inr (.inr ⟨Nat.le_refl _, hN'⟩)
    · refine oOk.mk O2.u ?_ ?_ ?_ ?_ O2.mo O2.mf O2.mh ?_ O2.kd ?_ ?_ O2.f1 O2.h1 O2.nb O2.rk
      · rw [zA_zwI, zA_zwA, if_neg (fun z => absurd z.2.1 (by decide))]; exact O2.up
      · rw [zI_zwI, if_neg (fun z => absurd z.2.1 (by decide)), zI_zwA]; exact O2.xh
      · show _ = nI (if i = i then 8 else D.st i)
        rw [zI_zwI, if_pos ⟨rfl, rfl, rfl⟩, if_pos rfl]
      · show upd _ i (nI 8) i = nI (if i = i then 8 else D.st i)
        rw [upd_same, if_pos rfl]
      · exact fun _ => O2.mn (by omega)
      · exact fun _ => O2.vl (by omega)
      · show (if i = i then 8 else D.st i) ≤ 12
        rw [if_pos rfl]; decide
    · have eS : va_up D.st i 8 i = 8 := if_pos rfl
      rw [eS]
      obtain ⟨w1, w2⟩ := I2.s8 (by omega)
      refine iOk.mk (fun z1 z2 => absurd z2 (by decide)) (fun z1 z2 => absurd z2 (by decide)) (fun _ _ => ?_) (fun z1 z2 => absurd z2 (by decide)) (fun z1 z2 => absurd z2 (by decide)) (fun z1 z2 => absurd z2 (by decide)) (fun z1 z2 => absurd z2 (by decide)) (fun z => absurd z (by decide)) (fun _ _ => ?_) (fun _ _ => ?_) (fun z => absurd z (by decide))
      · show (if D.os i = D.os i then N else D.pr (D.os i)) ≠ 0 ∧ g2.r (if D.os i = D.os i then N else D.pr (D.os i)) = 9000000
        rw [if_pos rfl]
        exact ⟨by omega, rN⟩
      · exact ⟨by rw [zA_zwI, zA_zwA, if_neg (fun z => absurd z.2.1 (by decide))]; exact w1, rfl, .inl rfl⟩
      · exact ⟨by rw [zA_zwI, zA_zwA, if_neg (fun z => absurd z.2.1 (by decide))]; exact w2, rfl, .inl rfl⟩
  · refine .inr ⟨ex, γ, s2, 1, w, ?_, y2, ?_, y3⟩
    · unfold hX4_header_561
      rw [if_pos (of_eq_true (kis kp' (by decide))), show hX4_period G (some c.p) β = some (.inr ex, γ) from y1, zc_r, if_pos y2]
    · unfold gX26_begun_34
      show Option.bind (gX26_mustBe (nI 4) s') _ = _
      rw [n1, gl_bs, if_neg (show ¬ ¬ nI 0 = 0 from fun z => z rfl)]
theorem cl_prc (h : pV c D L B at' N F g α s) (ha : at' < c.n) (hF : F < 20) (hd : D.dp = i + 1) (hS : D.st i = S) (hS1 : 1 ≤ S) (hS2 : S ≤ 7) : cQ c D B at' N F α s (hX4_header G (some c.p) (nI 30) (zwI α 40 4 c.p (nI 0))) (gX26_begun (nI at') (maS (us s 43 (nI 0)) at')) := by
  obtain ⟨i10, hu, cu, ku, xs, d26, r29, r22, u2⟩ := h.cur hd
  have h0 := h.o
  have R0 := h0.start (s' := us s 43 (nI 0)) (lv := 0) ha hF (fun k hk => by
    rw [ls_us] at hk
    split at hk
    · omega
    · exact absurd rfl hk) (fun _ => rfl) rfl (fun z => absurd z (by decide))
  have kp : zkd (zwI α 40 4 c.p (nI 0)) c.p = 41 := R0.kp
  have cu' : zA (zwI α 40 4 c.p (nI 0)) 40 11 c.p = some (D.ou (D.os i)) := by rw [zA_zwI]; exact cu
  have ax' : zI (zwI α 40 4 c.p (nI 0)) 40 3 c.p = nI at' := R0.ax
  have St : hX4_state G (some c.p) (nI 1) (nI 7) (zwI α 40 4 c.p (nI 0)) = some (.inl (), zwI α 40 4 c.p (nI 0)) := by
    rw [X_state (k := S) (i := 1) (j := 7) kp cu' (by rw [zkd_zwI]; exact ku) (by
      rw [zI_zwI, if_neg (fun z => by have := z.1; omega), xs, hS]) (by omega) (by decide) (by decide), if_pos (by omega)]
  have R1 := R0.adv ha
  have kp1 : zkd (zwI (zwI α 40 4 c.p (nI 0)) 40 3 c.p (nI (at' + 1))) c.p = 41 := R1.kp
  have X0 : ∀ R, hX4_need G (some c.p) (nI 1) (zwI (zwI α 40 4 c.p (nI 0)) 40 3 c.p (nI (at' + 1))) = R → hX4_header G (some c.p) (nI 30) (zwI α 40 4 c.p (nI 0)) = zcase R (fun p92 =>
            (znO p92.2 44 9).bind fun p93 =>
            if zis G p93.2 p93.1 45 = true then
              (hX43_init G p93.1 (nI 20) (nI 0) (nI at') p93.2).bind fun p94 =>
              if zis G p94.2 (some c.p) 41 = true then
                (hX4_meets G (some c.p) (nI 31) p94.2).bind fun p95 =>
                if p95.1 = 0 then
                  hX4_header_561 G (some c.p) (some (D.ou (D.os i))) p93.1 p95.2
                else
                  if zis G p95.2 (some c.p) 41 = true then
                    zcase (hX4_names G (some c.p) p93.1 (nI 21) p95.2) (fun p96 =>
                      hX4_header_561 G (some c.p) (some (D.ou (D.os i))) p93.1 p96.2) (fun p97 =>
                      if zthr p97.2 p97.1 3 = true then
                        some (.inr p97.1, p97.2)
                      else none)
                  else none
              else none
            else none) (fun p98 =>
            if zthr p98.2 p98.1 3 = true then
              some (.inr p98.1, p98.2)
            else none) := fun R hR => by
    unfold hX4_header
    rw [kfA kp, gl_bs, cu', kfI kp, gl_bs, ax', if_neg (by decide), if_neg (by decide), if_neg (by decide), if_neg (by decide), if_neg (by decide), if_neg (by decide), if_neg (by decide), if_neg (by decide), if_neg (by decide), if_neg (by decide), if_neg (by decide), if_neg (by decide), if_neg (by decide), if_neg (by decide), if_neg (by decide), if_neg (by decide), if_neg (by decide), if_neg (by decide), if_neg (by decide), if_neg (by decide), if_neg (by decide), if_neg (by decide), if_neg (by decide), if_neg (by decide), if_neg (by decide), if_neg (by decide), if_neg (by decide), if_neg (by decide), if_neg (by decide), if_pos (by decide), if_pos (of_eq_true (kis kp (by decide)))]
    show zcase (hX4_state G (some c.p) (nI 1) (nI 7) (zwI α 40 4 c.p (nI 0))) _ _ = _
    rw [St, zc_l, kfI kp, gl_bs, ax', kpI kp, gl_bs, show nI at' + 1 = nI (at' + 1) from pI_succ at', if_pos (of_eq_true (kis kp1 (by decide)))]
    show zcase (hX4_need G (some c.p) (nI 1) (zwI (zwI α 40 4 c.p (nI 0)) 40 3 c.p (nI (at' + 1)))) _ _ = _
    rw [hR]
    rfl
  have hb0 : pB (c.on (zwI α 40 4 c.p (nI 0)) (us s 43 (nI 0)) N at' 0) N at' 4 := on_pB (by decide) (.inl (by decide))
  have hb1 : pB (c.on (zwI α 40 4 c.p (nI 0)) (us s 43 (nI 0)) N at' 0) N (at' + 1) 0 := by unfold pB at *; omega
  have N0 := h0.N0
  have n5 := h0.n
  have N1 := h0.N1
  rcases R1.need (G := G) (w := 1) (by decide) hb1 with ⟨e2, x1, m1, R3⟩ | ⟨e, γ, s', w, x1, x2, m1, x3⟩
  · have x1' : hX4_need G (some c.p) (nI 1) (zwI (zwI α 40 4 c.p (nI 0)) 40 3 c.p (nI (at' + 1))) = some (.inl (), zwI (zwI (zwI α 40 4 c.p (nI 0)) 40 3 c.p (nI (at' + 1))) 40 3 c.p (nI (at' + 1 + 1))) := x1
    have m1' : gX26_must (nI 1) (maS (us s 43 (nI 0)) at') = some (nI 1, maS (maS (us s 43 (nI 0)) at') (at' + 1)) := m1
    have R3' : pR (c.on (zwI α 40 4 c.p (nI 0)) (us s 43 (nI 0)) N at' 0) (at' + 2) 0 N N 0 pG0 (zwI (zwI (zwI α 40 4 c.p (nI 0)) 40 3 c.p (nI (at' + 1))) 40 3 c.p (nI (at' + 1 + 1))) (maS (maS (us s 43 (nI 0)) at') (at' + 1)) := R3
    generalize zwI (zwI (zwI α 40 4 c.p (nI 0)) 40 3 c.p (nI (at' + 1))) 40 3 c.p (nI (at' + 1 + 1)) = α3 at x1' R3'
    generalize maS (maS (us s 43 (nI 0)) at') (at' + 1) = s3 at m1' R3'
    clear x1 R3
    obtain ⟨R4, q4⟩ := R3'.cell
    obtain ⟨β, x4, R5⟩ := R4.new (G := G) (kv := nI 20) (v := nI 0) (v' := nI at') (r := 9000000) q4 (by decide)
    have x4' : hX43_init G (some (zn α3)) (nI 20) (nI 0) (nI at') (zmk α3 (44 + 1) 0 9) = some ((), β) := x4
    have kp5 : zkd β c.p = 41 := R5.kp
    have XA : hX4_header G (some c.p) (nI 30) (zwI α 40 4 c.p (nI 0)) = (hX4_meets G (some c.p) (nI 31) β).bind fun p95 =>
                if p95.1 = 0 then
                  hX4_header_561 G (some c.p) (some (D.ou (D.os i))) (some (zn α3)) p95.2
                else
                  if zis G p95.2 (some c.p) 41 = true then
                    zcase (hX4_names G (some c.p) (some (zn α3)) (nI 21) p95.2) (fun p96 =>
                      hX4_header_561 G (some c.p) (some (D.ou (D.os i))) (some (zn α3)) p96.2) (fun p97 =>
                      if zthr p97.2 p97.1 3 = true then
                        some (.inr p97.1, p97.2)
                      else none)
                  else none := by
      rw [X0 _ x1', zc_l]
      show Option.bind (znO α3 44 9) _ = _
      rw [znO_e, gl_bs, if_pos (of_eq_true (kis q4.kd (by decide)))]
      show Option.bind (hX43_init G (some (zn α3)) (nI 20) (nI 0) (nI at') (zmk α3 (44 + 1) 0 9)) _ = _
      rw [x4', gl_bs, if_pos (of_eq_true (kis kp5 (by decide)))]
    have MA : gX26_begun (nI at') (maS (us s 43 (nI 0)) at') = (gX26_meets (nI 31) (mMk s3 N (nI 20) (nI 0) (nI at'))).bind fun p15 => if p15.1 = 0 then gX26_begun_34 (nI N) p15.2 else (gX26_names (nI N) (nI 21) p15.2).bind fun p16 => gX26_begun_34 (nI N) p16.2 := by
      unfold gX26_begun
      show Option.bind (gX26_must (nI 1) (maS (us s 43 (nI 0)) at')) _ = _
      rw [m1', gl_bs, if_pos (show ¬ nI 1 = 0 from n1n)]
      show Option.bind (gX26_make (nI 20) (nI 0) (nI at') s3) _ = _
      rw [M_make R4.Nm (by omega), gl_bs]
      rfl
    have oN : (pG0.push N (zn α3) 9000000).oa N = zn α3 := by rw [push_oa, if_pos rfl]
    have rN : (pG0.push N (zn α3) 9000000).r N = 9000000 := by rw [push_r, if_pos rfl]
    have l16 : la (mMk s3 N (nI 20) (nI 0) (nI at')) 16 N = nI 0 := mMk_16
    generalize mMk s3 N (nI 20) (nI 0) (nI at') = s5 at R5 MA l16
    generalize pG0.push N (zn α3) 9000000 = g5 at R5 oN rN
    rcases R5.meets (G := G) (w := 31) (by decide) with ⟨ew, z1, n1, R6⟩ | ⟨ew, z1, n1⟩
    · have z1' : hX4_meets G (some c.p) (nI 31) β = some (nI 1, zwI β 40 3 c.p (nI (at' + 2 + 1))) := z1
      have kp6 : zkd (zwI β 40 3 c.p (nI (at' + 2 + 1))) c.p = 41 := R6.kp
      have b6 : pB (c.on (zwI α 40 4 c.p (nI 0)) (us s 43 (nI 0)) N at' 0) (N + 1 + 1) (at' + 2 + 1) 4 := by unfold pB at *; omega
      have XB : hX4_header G (some c.p) (nI 30) (zwI α 40 4 c.p (nI 0)) = zcase (hX4_names G (some c.p) (some (zn α3)) (nI 21) (zwI β 40 3 c.p (nI (at' + 2 + 1)))) (fun p96 =>
                      hX4_header_561 G (some c.p) (some (D.ou (D.os i))) (some (zn α3)) p96.2) (fun p97 =>
                      if zthr p97.2 p97.1 3 = true then
                        some (.inr p97.1, p97.2)
                      else none) := by
        rw [XA, z1', gl_bs, if_neg (show ¬ nI 1 = 0 from n1n), if_pos (of_eq_true (kis kp6 (by decide)))]
      have MB : gX26_begun (nI at') (maS (us s 43 (nI 0)) at') = (gX26_names (nI N) (nI 21) (maS s5 (at' + 2))).bind fun p16 => gX26_begun_34 (nI N) p16.2 := by
        rw [MA, n1, gl_bs, if_neg (show ¬ nI 1 = 0 from n1n)]
      have J := R6.names (G := G) (k := 21) (to := N) (by decide) (by decide) (by decide) b6 (Nat.le_refl _) (Nat.lt_succ_self _) (by rw [rN]; decide) (Nat.zero_le _)
      rw [oN] at J
      rcases J with ⟨_, γ, _, s7, a1, a2, a7, b7, N7, g7, a3, a4, a5, a6, _⟩ | ⟨e, γ, _, s7, wh, w, a1, a2, a3, a4, a5⟩
      · have a1' : hX4_names G (some c.p) (some (zn α3)) (nI 21) (zwI β 40 3 c.p (nI (at' + 2 + 1))) = some (.inl (), γ) := a1
        have o7 := (a4.oa N (Nat.lt_succ_self _)).trans oN
        have T := prc_tail (G := G) (a := a7) (b := b7) (N' := N7) (g' := g7) (β := γ) (s' := s7) h hF hd hS hS1 hS2 a3 (by omega) (by omega) (by have := a4.n; omega) ((a4.r N (Nat.lt_succ_self _)).trans rN) ((a4.up N (Nat.lt_succ_self _)).trans l16)
        rw [o7] at T
        rw [XB, a1', zc_l, MB, a2, gl_bs]
        exact T
      · refine .inr ⟨e, γ, s7, wh, w, ?_, a2, ?_, a4⟩
        · rw [XB, show hX4_names G (some c.p) (some (zn α3)) (nI 21) (zwI β 40 3 c.p (nI (at' + 2 + 1))) = some (.inr e, γ) from a1, zc_r, if_pos a2]
        · rw [MB, a3, gl_bs]
          unfold gX26_begun_34
          show Option.bind (gX26_mustBe (nI 4) s7) _ = _
          rw [Bd_mustBe a4.b1, gl_bs, if_neg (show ¬ ¬ nI 0 = 0 from fun z => z rfl)]
    · have z1' : hX4_meets G (some c.p) (nI 31) β = some (nI 0, β) := z1
      have T := prc_tail (G := G) (a := at' + 2) (b := N + 1 + 1) (N' := N + 1) (g' := g5) (β := β) (s' := s5) h hF hd hS hS1 hS2 R5 (by omega) (by omega) (Nat.lt_succ_self _) rN l16
      rw [oN] at T
      rw [XA, z1', gl_bs, if_pos (show nI 0 = 0 from rfl), MA, n1, gl_bs, if_pos (show nI 0 = 0 from rfl)]
      exact T
  · refine .inr ⟨e, γ, s', 1, w, ?_, x2, ?_, x3⟩
    · rw [X0 _ (show hX4_need G (some c.p) (nI 1) (zwI (zwI α 40 4 c.p (nI 0)) 40 3 c.p (nI (at' + 1))) = some (.inr e, γ) from x1), zc_r, if_pos x2]
    · unfold gX26_begun
      show Option.bind (gX26_must (nI 1) (maS (us s 43 (nI 0)) at')) _ = _
      rw [show gX26_must (nI 1) (maS (us s 43 (nI 0)) at') = some (nI 0, s') from m1, gl_bs, if_neg (show ¬ ¬ nI 0 = 0 from fun z => z rfl)]
end PAZZM
