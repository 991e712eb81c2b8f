/-! THE PURE LAYER: the parser: ENVIRONMENT DIVISION. -/
section PAZS
variable {L L2 : Nat → Prop} {c : pC} {D : pD} {G : xQ} {α β : zS} {s s' s1 : zM} {B at' a a1 b d N N' F F' p q t to u x y k i j w wh lv m : Nat} {g g' g2 : pG} {v : Int32}
/-- X's cell of a unit, behind a clause's steps -/
theorem pV.unX (h : pV c D L B at' N F g α s) (hx : xKp (c.on (zwI α 40 4 c.p (nI 0)) s1 N at' lv) β) (hk : k < D.nu) : β.2 (D.ou k) = α.2 (D.ou k) := by
  have o := h.u k hk
  have lo := o.lo
  have hi := o.hi
  have p := h.o.p
  rw [hx.fr _ (.inl (show D.ou k < zn α by omega)) (show D.ou k ≠ c.p by omega)]
  exact zwI_ne (by omega)
theorem pV.cur (h : pV c D L B at' N F g α s) (hd : D.dp = i + 1) : i < 10 ∧ D.os i < D.nu ∧ zA α 40 11 c.p = some (D.ou (D.os i)) ∧ zkd α (D.ou (D.os i)) = 44 ∧ zI α 43 3 (D.ou (D.os i)) = nI (D.st i) ∧ ls s 26 = nI (i + 1) ∧ la s 29 i = nI (D.os i) ∧ la s 22 (D.os i) = nI (D.un (D.os i)) ∧ D.os i < 200 := by
  have d10 := h.d10
  have o := h.op i (by omega)
  have u := h.u _ o.u
  have nb := h.nb
  have al := h.o.al
  have n := h.o.n
  have ou := o.u
  have cu := h.cu
  rw [hd, if_neg (by omega), Nat.add_sub_cancel] at cu
  exact ⟨by omega, o.u, cu, u.kn, o.xs, by rw [h.dm, hd], o.mo, u.mu, by omega⟩
/-- a clause's inside is done; its root t, loose, is laid below the living node to -/
theorem pV.root (h : pV c D L B at' N F g α s) (e : pR (c.on (zwI α 40 4 c.p (nI 0)) s1 N at' lv) a d b N' 0 g' β s') (h1 : ∀ k, k < 42 → ls s1 k = ls s k) (h2 : ∀ k, la s1 k = la s k) (hv : lv = 1 → ls s' 45 = nI 0) (hb : b + 10 * at' + 2 ≤ N + 10 * a) (ha : at' < a) (hF : F < 20) (h3 : L to) (t1 : N ≤ t) (t2 : t < N') (hr : g'.r t < g.r to) (h0 : la s' 16 t = nI 0) : ∃ γ l g2, zkd β (g.oa to) = 45 ∧ hX43_add G (some (g.oa to)) (some (g'.oa t)) β = some (some (g'.oa t), γ) ∧ gX26_attach (nI to) (nI t) s' = some ((), mAtS s' to l t) ∧ pV c D (pLn L N N') B a N' F g2 γ (mAtS s' to l t) ∧ g2.oa t = g'.oa t ∧ g2.r t = g'.r t ∧ (∀ u, L u → g2.oa u = g.oa u ∧ g2.r u = g.r u) := by
  obtain ⟨V, z1, z2⟩ := h.fin e h1 h2 hv hb ha
  have b0 := h.g.bd _ h3
  have N0 := h.o.N0
  have n5 := h.o.n
  have al : a ≤ c.n := e.al
  have Nb := e.Nb
  have V0 := V.o.N0
  obtain ⟨γ, y1, y2, V2, y3, y4, y5⟩ := V.att (G := G) (to := to) (t := t) (by omega) (.inl h3) (.inr ⟨t1, t2⟩) (by rw [mrg_rn t1, mrg_ro b0.2]; exact hr) h0 (fun z => by have := (h.g.bd _ (h.rm _ z).1).2; omega) (by omega) (by omega)
  have kU := (V.g.nd to (.inl h3)).kn
  rw [mrg_o b0.2] at kU
  rw [mrg_o b0.2, mrg_n t1] at y1
  exact ⟨γ, _, _, kU, y1, y2, V2, mrg_n t1, mrg_rn t1, fun u hu => ⟨mrg_o (h.g.bd u hu).2, mrg_ro (h.g.bd u hu).2⟩⟩
theorem cl_env (h : pV c D L B at' N F g α s) (ha : at' < c.n) (hF : F < 20) (hd : D.dp = i + 1) (hS : D.st i = 1) : cQ c D B at' N F α s (hX4_header G (some c.p) (nI 4) (zwI α 40 4 c.p (nI 0))) (gX26_division2 (nI 4) (nI at') (maS (us s 43 (nI 0)) at')) := by
  obtain ⟨i10, hu, cu, ku, xs, d26, r29, r22, u2⟩ := h.cur hd
  have h0 := h.o
  have R0 := h0.start (s' := us s 43 (nI 0)) (lv := 0) ha hF (fun k hk => by
    rw [ls_us] at hk
    split at hk
    · omega
    · exact absurd rfl hk) (fun _ => rfl) rfl (fun z => absurd z (by decide))
  have kp : zkd (zwI α 40 4 c.p (nI 0)) c.p = 41 := R0.kp
  have cu' : zA (zwI α 40 4 c.p (nI 0)) 40 11 c.p = some (D.ou (D.os i)) := by rw [zA_zwI]; exact cu
  have ax' : zI (zwI α 40 4 c.p (nI 0)) 40 3 c.p = nI at' := R0.ax
  have oK := h.op i (by omega)
  have uK := h.u _ hu
  have St : hX4_state G (some c.p) (nI 1) (nI 1) (zwI α 40 4 c.p (nI 0)) = some (.inl (), zwI α 40 4 c.p (nI 0)) := by
    rw [X_state (k := 1) (i := 1) (j := 1) kp cu' (by rw [zkd_zwI]; exact ku) (by
      rw [zI_zwI, if_neg (fun z => by have := z.1; omega), xs, hS]) (by decide) (by decide) (by decide), if_pos (by omega)]
  have X0 : ∀ R, hX4_second G (some c.p) (nI 1) (zwI α 40 4 c.p (nI 0)) = R → hX4_header G (some c.p) (nI 4) (zwI α 40 4 c.p (nI 0)) = zcase R (fun p40 =>
            (zfA p40.2 (some (D.ou (D.os i))) 43 1).bind fun r41 =>
            (znO p40.2 44 9).bind fun p42 =>
            if zis G p42.2 p42.1 45 = true then
              (hX43_init G p42.1 (nI 3) (nI 0) (nI at') p42.2).bind fun p43 =>
              if zis G p43.2 r41 45 = true then
                (hX43_add G r41 p42.1 p43.2).bind fun p44 =>
                (zpA p44.2 (some (D.ou (D.os i))) 43 4 p44.1).bind fun σ45 =>
                (zpI σ45 (some (D.ou (D.os i))) 43 3 (nI 2)).bind fun σ46 =>
                hX4_header_666 G  σ46
              else none
            else none) (fun p47 =>
            if zthr p47.2 p47.1 3 = true then
              some (.inr p47.1, p47.2)
            else none) := fun R hR => by
    unfold hX4_header
    rw [kfA kp, gl_bs, cu', kfI kp, gl_bs, ax', if_neg (by decide), if_neg (by decide), if_neg (by decide), if_pos (by decide), if_pos (of_eq_true (kis kp (by decide)))]
    show zcase (hX4_state G (some c.p) (nI 1) (nI 1) (zwI α 40 4 c.p (nI 0))) _ _ = _
    rw [St, zc_l, if_pos (of_eq_true (kis kp (by decide)))]
    show zcase (hX4_second G (some c.p) (nI 1) (zwI α 40 4 c.p (nI 0))) _ _ = _
    rw [hR]
    rfl
  have M0 : gX26_division2 (nI 4) (nI at') (maS (us s 43 (nI 0)) at') = gX26_division2_28 (nI 4) (nI at') (nI 1) (nI 1) (maS (us s 43 (nI 0)) at') := by
    unfold gX26_division2 gX26_division2_11 gX26_division2_16
    rw [if_pos (by decide), if_neg (by decide)]
    rfl
  have hb0 : pB (c.on (zwI α 40 4 c.p (nI 0)) (us s 43 (nI 0)) N at' 0) N at' 4 := on_pB (by decide) (.inl (by decide))
  rcases R0.second (G := G) (hb0.le (by decide)) ha (w := 1) (by decide) with ⟨x1, m1, m2, R3⟩ | ⟨e, β, s', v, x1, x2, m1, x3⟩
  · have x1' : hX4_second G (some c.p) (nI 1) (zwI α 40 4 c.p (nI 0)) = some (.inl (), zwI (zwI (zwI (zwI α 40 4 c.p (nI 0)) 40 3 c.p (nI (at' + 1))) 40 3 c.p (nI (at' + 1 + 1))) 40 3 c.p (nI (at' + 2 + 1))) := x1
    have zk : ∀ k, k < D.nu → (zwI (zwI (zwI (zwI α 40 4 c.p (nI 0)) 40 3 c.p (nI (at' + 1))) 40 3 c.p (nI (at' + 1 + 1))) 40 3 c.p (nI (at' + 2 + 1))).2 (D.ou k) = α.2 (D.ou k) := fun k hk => h.unX R3.x hk
    have R3' : pR (c.on (zwI α 40 4 c.p (nI 0)) (us s 43 (nI 0)) N at' 0) (at' + 3) 0 N N 0 pG0 (zwI (zwI (zwI (zwI α 40 4 c.p (nI 0)) 40 3 c.p (nI (at' + 1))) 40 3 c.p (nI (at' + 1 + 1))) 40 3 c.p (nI (at' + 2 + 1))) (maS (maS (maS (us s 43 (nI 0)) at') (at' + 1)) (at' + 2)) := R3
    generalize zwI (zwI (zwI (zwI α 40 4 c.p (nI 0)) 40 3 c.p (nI (at' + 1))) 40 3 c.p (nI (at' + 1 + 1))) 40 3 c.p (nI (at' + 2 + 1)) = α3 at x1' zk R3'
    clear x1 R3
    obtain ⟨R4, q4⟩ := R3'.cell
    obtain ⟨β, x4, R5⟩ := R4.new (G := G) (kv := nI 3) (v := nI 0) (v' := nI at') (r := 9000000) q4 (by decide)
    have U0 := h.u _ hu
    have rk := oK.rk
    have N1 := h0.N1
    have N8 : N < 7900 := by
      have := h0.N0
      have := h0.n
      omega
    obtain ⟨γ, l, g2, kU, y1, y2, V2, oN, rN, _⟩ := h.root (G := G) (to := D.un (D.os i)) (t := N) R5 (fun k hk => by rw [ls_us, if_neg (by omega)]) (fun _ => rfl) (fun z => absurd z (by decide)) (by omega) (by omega) hF U0.lu (Nat.le_refl _) (Nat.lt_succ_self _) (by
      rw [push_r, if_pos rfl, rk]
      omega) (by rw [mMk_la (by decide) (by decide), if_pos rfl]; rfl)
    rw [push_oa, if_pos rfl] at y1 oN
    rw [push_r, if_pos rfl] at rN
    have U2 := V2.u _ hu
    have O2 := V2.op i (by omega)
    have I2 := V2.inn (by omega)
    rw [hd, Nat.add_sub_cancel, hS] at I2
    have kO : zkd γ (D.ou (D.os i)) = 44 := U2.kn
    have x4' : hX43_init G (some (zn α3)) (nI 3) (nI 0) (nI at') (zmk α3 (44 + 1) 0 9) = some ((), β) := x4
    have Xf : hX4_header G (some c.p) (nI 4) (zwI α 40 4 c.p (nI 0)) = some (.inl (), zwI (zwA γ 43 4 (D.ou (D.os i)) (some (zn α3))) 43 3 (D.ou (D.os i)) (nI 2)) := by
      rw [X0 _ x1', zc_l, kfA (by rw [zkd_eq (zk _ hu)]; exact ku), gl_bs, zA_eq (zk _ hu), U0.xu]
      show Option.bind (znO α3 44 9) _ = _
      rw [znO_e, gl_bs, if_pos (of_eq_true (kis q4.kd (by decide)))]
      show Option.bind (hX43_init G (some (zn α3)) (nI 3) (nI 0) (nI at') _) _ = _
      rw [x4', gl_bs, if_pos (of_eq_true (kis kU (by decide)))]
      show Option.bind (hX43_add G (some (g.oa (D.un (D.os i)))) (some (zn α3)) β) _ = _
      rw [y1, gl_bs, kpA kO, gl_bs, kpI (by rw [zkd_zwA]; exact kO), gl_bs]
      rfl
    have m2' : gX26_mustBe (nI 4) (maS (maS (us s 43 (nI 0)) at') (at' + 1)) = some (nI 1, maS (maS (maS (us s 43 (nI 0)) at') (at' + 1)) (at' + 2)) := m2
    have d26' : ls (maS (maS (maS (us s 43 (nI 0)) at') (at' + 1)) (at' + 2)) 26 = nI (i + 1) := d26
    have r29' : la (maS (maS (maS (us s 43 (nI 0)) at') (at' + 1)) (at' + 2)) 29 i = nI (D.os i) := r29
    have r22' : la (maS (maS (maS (us s 43 (nI 0)) at') (at' + 1)) (at' + 2)) 22 (D.os i) = nI (D.un (D.os i)) := r22
    have b43 : ls (maS (maS (maS (us s 43 (nI 0)) at') (at' + 1)) (at' + 2)) 43 = nI 0 := rfl
    have Nm4 : ls (maS (maS (maS (us s 43 (nI 0)) at') (at' + 1)) (at' + 2)) 8 = nI N := R4.Nm
    generalize maS (maS (maS (us s 43 (nI 0)) at') (at' + 1)) (at' + 2) = s3 at m2' d26' r29' r22' b43 Nm4 y2 V2 U2 O2 I2
    have l5 : ∀ k, k ≠ 8 → ls (mAtS (mMk s3 N (nI 3) (nI 0) (nI at')) (D.un (D.os i)) l N) k = ls s3 k := fun k hk => by
      rw [mAtS_ls]
      show (if k = 8 then _ else _) = _
      rw [if_neg hk]
      rfl
    have Mf : gX26_division2 (nI 4) (nI at') (maS (us s 43 (nI 0)) at') = some ((), ua (us (us (ua (mAtS (mMk s3 N (nI 3) (nI 0) (nI at')) (D.un (D.os i)) l N) 23 (upd (la (mAtS (mMk s3 N (nI 3) (nI 0) (nI at')) (D.un (D.os i)) l N) 23) (D.os i) (nI N))) 37 (nI 0)) 38 (nI 0)) 27 (upd (la (mAtS (mMk s3 N (nI 3) (nI 0) (nI at')) (D.un (D.os i)) l N) 27) i (nI 2))) := by
      rw [M0]
      unfold gX26_division2_28 gX26_division2_88 gX26_division2_123 gX26_division2_142 gX26_division2_157 gX26_division2_169 gX26_division2_179 gX26_division2_232
      rw [m1, gl_bs, if_neg (show ¬ nI 1 = 0 from n1n)]
      show Option.bind (gX26_mustBe (nI 4) (maS (maS (us s 43 (nI 0)) at') (at' + 1))) _ = _
      rw [m2', gl_bs, if_pos (show ¬ nI 1 = 0 from n1n), if_neg (show ¬ ¬ nI 4 = 4 from fun z => z rfl)]
      show Option.bind (gX26_make (nI 3) (nI 0) (nI at') s3) _ = _
      rw [M_make Nm4 (by omega), gl_bs]
      show Option.bind (gX26_here (mMk s3 N (nI 3) (nI 0) (nI at'))) _ = _
      rw [M_here (i := i) (u := D.os i) (s := mMk s3 N (nI 3) (nI 0) (nI at')) d26' r29' (by omega), gl_bs, if_neg (show ¬ nI 1 = 0 from n1n)]
      show Option.bind (gld (mMk s3 N (nI 3) (nI 0) (nI at')) 22 600 (nI (D.os i))) _ = _
      rw [pgld (by omega) (by decide), gl_bs, show la (mMk s3 N (nI 3) (nI 0) (nI at')) 22 (D.os i) = nI (D.un (D.os i)) from r22']
      show Option.bind (gX26_attach (nI (D.un (D.os i))) (nI N) (mMk s3 N (nI 3) (nI 0) (nI at'))) _ = _
      rw [y2, gl_bs, if_neg (show ¬ ¬ nI 4 = 4 from fun z => z rfl)]
      show Option.bind (gst (mAtS (mMk s3 N (nI 3) (nI 0) (nI at')) (D.un (D.os i)) l N) 23 600 (nI (D.os i)) (nI N)) _ = _
      rw [pgst (by omega) (by decide), gl_bs, if_pos (show ¬ nI 4 = 12 from by decide), if_pos (show ¬ nI 4 = 13 from by decide), if_pos (show ¬ nI 1 = 0 from n1n), gl_x, gl_x, if_neg (show ¬ ¬ nI 4 = 4 from fun z => z rfl)]
      show Option.bind (gX26_to (nI 2) _) _ = _
      rw [M_to (i := i) (by rw [ls_us, if_neg (by decide), ls_us, if_neg (by decide)]; exact (l5 26 (by decide)).trans d26') (by omega), gl_bs]
      rfl
    refine .inl ⟨_, _, D.set (va_up D.en (D.os i) N) D.da D.pr (va_up D.st i 2) D.nm D.fu D.hd D.fi D.ho D.de D.se D.pa D.lt D.it, _, at' + 3, N + 1, _, F, Xf, Mf, ?_, V2.upd (i := i) (u := D.os i) (q := D.ou (D.os i)) hd rfl rfl ?_ ?_ ?_ ?_ ?_ ?_ ?_ ?_ ?_ ?_ ?_ ?_ ?_, by omega, ⟨Nat.le_refl _, Nat.le_succ _⟩, rfl, rfl, rfl, rfl, rfl, rfl, rfl⟩
    · exact (l5 43 (by decide)).trans b43
    · intro x hx1 hx2
      rw [zwI_ne hx1, zwA_ne hx1]
    · rfl
    · exact Nat.le_refl _
    · exact Nat.le_refl _
    · intro k hk
      show ls (us (us _ 37 (nI 0)) 38 (nI 0)) k = _
      rw [ls_us, if_neg (by omega), ls_us, if_neg (by omega)]
      rfl
    · intro k hk
      rw [la_ua, if_neg (by omega)]
      show la (ua _ 23 _) k = _
      rw [la_ua, if_neg (by omega)]
    · intro k j k1 k2 hj
      rw [la_ua, if_neg (by omega)]
      show la (ua _ 23 _) k j = _
      rw [la_ua]
      split
      · rename_i e
        rw [e, upd_other hj]
      · rfl
    · intro k j k1 k2 hj
      rw [la_ua]
      split
      · rename_i e
        rw [e, upd_other hj]
      · show la (ua _ 23 _) k j = _
        rw [la_ua, if_neg (by omega)]
    · intro k hk
      refine ⟨?_, rfl, rfl⟩
      show (if k = D.os i then N else D.en k) = _
      rw [if_neg hk]
    · intro j hj
      refine ⟨?_, rfl, rfl, rfl⟩
      show (if j = i then 2 else D.st j) = _
      rw [if_neg hj]
    · refine uOk.mk U2.lo ?_ ?_ ?_ ?_ ?_ ?_ ?_ ?_ ?_ ?_ ?_ ?_ U2.lu ?_ U2.ld U2.lp
      · exact U2.hi
      · rw [zkd_zwI, zkd_zwA]; exact U2.kn
      · rw [zA_zwI, zA_zwA, if_neg (fun z => absurd z.2.1 (by decide))]; exact U2.fl
      · rw [zkd_zwI, zkd_zwA]; exact U2.kl
      · rw [zA_zwI, zA_zwA, if_neg (fun z => absurd z.2.1 (by decide))]; exact U2.xu
      · show _ = pN _ (if D.os i = D.os i then N else D.en (D.os i))
        rw [zA_zwI, zA_zwA, if_pos ⟨rfl, rfl, rfl⟩, if_pos rfl, pN_s (by omega)]
        rw [oN]
      · rw [zA_zwI, zA_zwA, if_neg (fun z => absurd z.2.1 (by decide))]; exact U2.xd
      · rw [zA_zwI, zA_zwA, if_neg (fun z => absurd z.2.1 (by decide))]; exact U2.xp
      · exact U2.mu
      · show upd _ (D.os i) (nI N) (D.os i) = nI (if D.os i = D.os i then N else D.en (D.os i))
        rw [upd_same, if_pos rfl]
      · exact U2.md
      · exact U2.mp
      · show (if D.os i = D.os i then N else D.en (D.os i)) = 0 ∨ pLn L N (N + 1) (if D.os i = D.os i then N else D.en (D.os i))
        rw [if_pos rfl]
        exact .inr (.inr ⟨Nat.le_refl _, Nat.lt_succ_self _⟩)
    · refine oOk.mk O2.u ?_ ?_ ?_ ?_ O2.mo O2.mf O2.mh ?_ O2.kd ?_ ?_ O2.f1 O2.h1 O2.nb O2.rk
      · rw [zA_zwI, zA_zwA, if_neg (fun z => absurd z.2.1 (by decide))]; exact O2.up
      · rw [zI_zwI, if_neg (fun z => absurd z.2.1 (by decide)), zI_zwA]; exact O2.xh
      · show _ = nI (if i = i then 2 else D.st i)
        rw [zI_zwI, if_pos ⟨rfl, rfl, rfl⟩, if_pos rfl]
      · show upd _ i (nI 2) i = nI (if i = i then 2 else D.st i)
        rw [upd_same, if_pos rfl]
      · exact fun _ => O2.mn (by rw [hS]; decide)
      · exact fun _ => O2.vl (by rw [hS]; decide)
      · show (if i = i then 2 else D.st i) ≤ 12
        rw [if_pos rfl]; decide
    · have eS : va_up D.st i 2 i = 2 := if_pos rfl
      rw [eS]
      refine iOk.mk (fun _ _ => ?_) (fun z1 z2 => absurd z1 (by decide)) (fun z1 z2 => absurd z1 (by decide)) (fun z1 z2 => absurd z1 (by decide)) (fun z1 z2 => absurd z1 (by decide)) (fun z1 z2 => absurd z1 (by decide)) (fun z1 z2 => absurd z1 (by decide)) (fun z => absurd z (by decide)) (fun z1 z2 => absurd z1 (by decide)) (fun z1 z2 => absurd z1 (by decide)) (fun _ => ?_)
      · show (if D.os i = D.os i then N else D.en (D.os i)) ≠ 0 ∧ g2.r (if D.os i = D.os i then N else D.en (D.os i)) = 9000000
        rw [if_pos rfl]
        exact ⟨by omega, rN⟩
      · obtain ⟨w1, w2⟩ := I2.s8 (by decide)
        exact ⟨by rw [zA_zwI, zA_zwA, if_neg (fun z => absurd z.2.1 (by decide))]; exact w1, by rw [zA_zwI, zA_zwA, if_neg (fun z => absurd z.2.1 (by decide))]; exact w2⟩
  · refine .inr ⟨e, β, s', 1, v, ?_, x2, ?_, x3⟩
    · rw [X0 _ x1, zc_r, if_pos x2]
    · rw [M0]
      unfold gX26_division2_28 gX26_division2_42
      rcases m1 with m1 | ⟨m1, m2⟩
      · rw [m1, gl_bs, if_pos (show nI 0 = 0 from rfl)]
      · rw [m1, gl_bs, if_neg (show ¬ nI 1 = 0 from n1n), show (4 : Int32) = nI 4 from rfl]
        show (gX26_mustBe (nI 4) (maS (maS (us s 43 (nI 0)) at') (at' + 1))).bind _ = _
        rw [m2, gl_bs, if_neg (show ¬ ¬ nI 0 = 0 from fun z => z rfl)]
end PAZS
