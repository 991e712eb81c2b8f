/-! THE PURE LAYER: the parser: IDENTIFICATION DIVISION, a unit begins. -/
section PAZZL
variable {L L2 : Nat → Prop} {c : pC} {D D' : pD} {G : xQ} {α β : zS} {s s' s1 : zM} {B at' a a1 b d f N N' F F' p q t to u x y k i j w wh lv m S r : Nat} {g g' g2 : pG} {v v' : Int32}
/-- M's side up to its node -/
theorem M_id47 (h26 : ls s 26 = nI k) (hk : k < 10) (am : ls s 41 = nI at') (m1 : gX26_must (nI 1) (us s 41 (nI (at' + 1))) = some (nI 1, s1)) (m2 : gX26_mustBe (nI 4) s1 = some (nI 1, s')) (hN : ls s' 8 = nI N) (h8 : N < 8000) (d26 : ls s' 26 = nI k) : gX26_identified_47 (nI 1) s = if k = 0 then gX26_identified_142 (nI N) (nI 0) (mMk s' N (nI 1) (nI 0) (nI at')) else (gX26_here (mMk s' N (nI 1) (nI 0) (nI at'))).bind fun p47 => (gld p47.2 22 600 p47.1).bind fun x48 => gX26_identified_142 (nI N) x48 p47.2 := by
  unfold gX26_identified_47
  rw [if_neg (show ¬ nI 1 = 0 from n1n), gl_x, h26, if_pos (show ¬ nI k = 10 from by rw [nl10, pI_inj (by omega) (by decide)]; omega), gl_x, gl_x, am, gl_x, show nI at' + 1 = nI (at' + 1) from pI_succ at']
  show Option.bind (gX26_must (nI 1) (us s 41 (nI (at' + 1)))) _ = _
  rw [m1, gl_bs, if_neg (show ¬ nI 1 = 0 from n1n)]
  show Option.bind (gX26_mustBe (nI 4) s1) _ = _
  rw [m2, gl_bs, if_pos (show ¬ nI 1 = 0 from n1n)]
  show Option.bind (gX26_make (nI 1) (nI 0) (nI at') s') _ = _
  rw [M_make hN h8, gl_bs, gl_x, mMk_ls (by decide), d26]
  by_cases z : k = 0
  · rw [z, if_neg (show ¬ ¬ nI 0 = 0 from fun z => z rfl), if_pos rfl]
    rfl
  · rw [if_pos (show ¬ nI k = 0 from by rw [nl0, pI_inj (by omega) (by decide)]; exact z), if_neg z]
theorem cl_begT (h : pV c D L B at' N F g α s) (ha : at' < c.n) (hF : F < 20) (hv : ∀ i, D.dp = i + 1 → v = nI (D.st i)) (hb : pBg D) (hd : D.dp < 10) : cQ c D B at' N F α s (hX4_begin G (some c.p) (zwI α 40 4 c.p (nI 0))) (gX26_identified v (us s 43 (nI 0))) := by
  have h0 := h.o
  have R0 := h0.start (s' := us s 43 (nI 0)) (lv := 0) ha hF (fun k hk => by
    rw [ls_us] at hk
    split at hk
    · omega
    · exact absurd rfl hk) (fun _ => rfl) rfl (fun z => absurd z (by decide))
  have p := h0.p
  have B1 := h0.B1
  have N1 := h0.N1
  have N0 := h0.N0
  have n5 := h0.n
  have kp : zkd (zwI α 40 4 c.p (nI 0)) c.p = 41 := R0.kp
  have ax' : zI (zwI α 40 4 c.p (nI 0)) 40 3 c.p = nI at' := R0.ax
  have am' : ls (us s 43 (nI 0)) 41 = nI at' := R0.am
  have hb0 : pB (c.on (zwI α 40 4 c.p (nI 0)) (us s 43 (nI 0)) N at' 0) N at' 4 := on_pB (by decide) (.inl (by decide))
  obtain ⟨X1, _⟩ := X_beg (G := G) (β := zwI α 40 4 c.p (nI 0)) h kp (fun x hx => zwI_ne hx) (by rw [zA_zwI])
  obtain ⟨M1, _⟩ := M_beg (s' := us s 43 (nI 0)) h rfl rfl hv
  obtain ⟨β, y1, ⟨u1, u2, u3, u4, u5, u6, u7, u8⟩, ⟨w1, w2, w3, w4, w5, w6, w7, w8, w9⟩, y2, y3, y4, y5⟩ := X_unit (G := G) (c := c.on (zwI α 40 4 c.p (nI 0)) (us s 43 (nI 0)) N at' 0) (α := zwI α 40 4 c.p (nI 0)) (o := zA α 40 11 c.p) (v := nI at') (Nat.le_refl _)
  have R1 := R0.qt (k := 3) (β := β) (by omega) (fun x hx => y2 x (by omega)) (by omega) (by omega)
  have zne : zn (zwI α 40 4 c.p (nI 0)) = zn α := rfl
  rw [zne] at y1 u1 u2 u3 u4 u5 u6 u7 u8 w1 w2 w3 w4 w5 w6 w7 w8 w9
  have R2 := R1.adv ha
  have kp2 : zkd (zwI β 40 3 c.p (nI (at' + 1))) c.p = 41 := R2.kp
  have kpβ : zkd β c.p = 41 := R1.kp
  have axβ : zI β 40 3 c.p = nI at' := R1.ax
  have kpm : zkd (zmk (zwI α 40 4 c.p (nI 0)) 44 0 14) c.p = 41 := by rw [zkd_eq (zmk_ne (by rw [zne]; omega))]; exact kp
  have hb2 : pB (c.on (zwI α 40 4 c.p (nI 0)) (us s 43 (nI 0)) N at' 0) (N + 3) (at' + 1) 0 := by unfold pB at *; omega
  have X0 : ∀ R, hX4_need G (some c.p) (nI 1) (zwI β 40 3 c.p (nI (at' + 1))) = R → hX4_begin G (some c.p) (zwI α 40 4 c.p (nI 0)) = zcase R (fun p12 =>
        if zis G p12.2 (some c.p) 41 = true then
          zcase (hX4_period G (some c.p) p12.2) (fun p13 =>
            (zfA p13.2 (some c.p) 40 11).bind fun r14 =>
            if r14 = none then
              (zfA p13.2 (some c.p) 40 13).bind fun r23 =>
              (zfA p13.2 (some (zn α)) 43 1).bind fun r24 =>
              (zLadd p13.2 r23 r24).bind fun p25 =>
              hX4_begin_143 G (some c.p) (some (zn α)) p25.2
            else
              (zfA p13.2 (some c.p) 40 11).bind fun r15 =>
              (zpI p13.2 r15 43 3 (12 : Int32)).bind fun σ16 =>
              (zfA σ16 (some c.p) 40 11).bind fun r17 =>
              (zpN σ16 r17 43 2 .boolean 1).bind fun σ18 =>
              (zfA σ18 (some c.p) 40 11).bind fun r19 =>
              (zfA σ18 r19 43 1).bind fun r20 =>
              (zfA σ18 (some (zn α)) 43 1).bind fun r21 =>
              if zis G σ18 r20 45 = true then
                (hX43_add G r20 r21 σ18).bind fun p22 =>
                hX4_begin_143 G (some c.p) (some (zn α)) p22.2
              else none) (fun p26 =>
            if zthr p26.2 p26.1 3 = true then
              some (.inr p26.1, p26.2)
            else none)
        else none) (fun p27 =>
        if zthr p27.2 p27.1 3 = true then
          some (.inr p27.1, p27.2)
        else none) := fun R hR => by
    rw [X1 hb]
    unfold hX4_begin_28 hX4_begin_33 hX4_begin_54
    rw [if_pos (of_eq_true (kis kp (by decide)))]
    show zcase (hX4_must G (some c.p) (nI 1) (zwI α 40 4 c.p (nI 0))) _ _ = _
    rw [X_must1, zc_l, kfI kp, gl_bs, zI_zwI, if_neg (show ¬ ((40 : Nat) = 40 ∧ (8 : Nat) = 4 ∧ c.p = c.p) from fun z => absurd z.2.1 (by decide)), h.dx, if_pos (show ¬ nI D.dp = 10 from by rw [nl10, pI_inj (by omega) (by decide)]; omega)]
    show Option.bind (znO (zwI α 40 4 c.p (nI 0)) 43 14) _ = _
    rw [znO_e, gl_bs, kfA kpm, gl_bs, kfI kpm, gl_bs, zI_eq (zmk_ne (by rw [zne]; omega)), ax', zA_eq (zmk_ne (by rw [zne]; omega)), zA_zwI, zne, if_pos (of_eq_true (kis (show zkd (zmk (zwI α 40 4 c.p (nI 0)) 44 0 14) (zn α) = 44 from by rw [zkd_zmk, if_pos zne.symm]) (by decide)))]
    show Option.bind (hX42_init G (some (zn α)) (zA α 40 11 c.p) (nI at') (zmk (zwI α 40 4 c.p (nI 0)) 44 0 14)) _ = _
    rw [y1, gl_bs, kfI kpβ, gl_bs, axβ, kpI kpβ, gl_bs, show nI at' + 1 = nI (at' + 1) from pI_succ at', if_pos (of_eq_true (kis kp2 (by decide)))]
    show zcase (hX4_need G (some c.p) (nI 1) (zwI β 40 3 c.p (nI (at' + 1)))) _ _ = _
    rw [hR]
  rcases R2.need (G := G) (w := 1) (by decide) hb2 with ⟨e2, x1, m1, R3⟩ | ⟨e, γ, s', w, x1, x2, m1, x3⟩
  · have x1' : hX4_need G (some c.p) (nI 1) (zwI β 40 3 c.p (nI (at' + 1))) = some (.inl (), zwI (zwI β 40 3 c.p (nI (at' + 1))) 40 3 c.p (nI (at' + 1 + 1))) := x1
    have kp3 : zkd (zwI (zwI β 40 3 c.p (nI (at' + 1))) 40 3 c.p (nI (at' + 1 + 1))) c.p = 41 := R3.kp
    have m1' : gX26_must (nI 1) (us (us s 43 (nI 0)) 41 (nI (at' + 1))) = some (nI 1, maS (maS (us s 43 (nI 0)) at') (at' + 1)) := m1
    rcases R3.period (G := G) (hb2.go (by omega)) with ⟨e3, z1, n1, R4⟩ | ⟨e, γ, s', w, z1, z2, n1, z3⟩
    · have z1' : hX4_period G (some c.p) (zwI (zwI β 40 3 c.p (nI (at' + 1))) 40 3 c.p (nI (at' + 1 + 1))) = some (.inl (), zwI (zwI (zwI β 40 3 c.p (nI (at' + 1))) 40 3 c.p (nI (at' + 1 + 1))) 40 3 c.p (nI (at' + 1 + 1 + 1))) := z1
      have n1' : gX26_mustBe (nI 4) (maS (maS (us s 43 (nI 0)) at') (at' + 1)) = some (nI 1, maS (maS (maS (us s 43 (nI 0)) at') (at' + 1)) (at' + 1 + 1)) := n1
      have R4' : pR (c.on (zwI α 40 4 c.p (nI 0)) (us s 43 (nI 0)) N at' 0) (at' + 3) 0 (N + 3) N 0 pG0 (zwI (zwI (zwI β 40 3 c.p (nI (at' + 1))) 40 3 c.p (nI (at' + 1 + 1))) 40 3 c.p (nI (at' + 1 + 1 + 1))) (maS (maS (maS (us s 43 (nI 0)) at') (at' + 1)) (at' + 1 + 1)) := R4
      obtain ⟨V, vz, vw⟩ := h.fin R4' (fun k hk => by rw [ls_us, if_neg (by omega)]) (fun _ => rfl) (fun z => absurd z (by decide)) (by omega) (by omega)
      have b43 : ls (maS (maS (maS (us s 43 (nI 0)) at') (at' + 1)) (at' + 1 + 1)) 43 = nI 0 := rfl
      have Nm5 : ls (maS (maS (maS (us s 43 (nI 0)) at') (at' + 1)) (at' + 1 + 1)) 8 = nI N := R4'.Nm
      have d26 : ls (maS (maS (maS (us s 43 (nI 0)) at') (at' + 1)) (at' + 1 + 1)) 26 = nI D.dp := h.dm
      have MA := M_id47 (s := us s 43 (nI 0)) h.dm hd am' m1' n1' Nm5 (by omega) d26
      have fr5 : ∀ x, x ≠ c.p → (zwI (zwI (zwI β 40 3 c.p (nI (at' + 1))) 40 3 c.p (nI (at' + 1 + 1))) 40 3 c.p (nI (at' + 1 + 1 + 1))).2 x = β.2 x := fun x hx => by rw [zwI_ne hx, zwI_ne hx, zwI_ne hx]
      have nz5 : zn (zwI (zwI (zwI β 40 3 c.p (nI (at' + 1))) 40 3 c.p (nI (at' + 1 + 1))) 40 3 c.p (nI (at' + 1 + 1 + 1))) = zn α + 5 := y3
      generalize zwI (zwI (zwI β 40 3 c.p (nI (at' + 1))) 40 3 c.p (nI (at' + 1 + 1))) 40 3 c.p (nI (at' + 1 + 1 + 1)) = α5 at z1' V vz vw fr5 nz5
      generalize maS (maS (maS (us s 43 (nI 0)) at') (at' + 1)) (at' + 1 + 1) = s5 at V b43 MA d26
      have g2o : ∀ t, pLn L N N t → L t ∧ (g.mrg pG0 N).oa t = g.oa t := fun t ht => by
        rcases ht with ht | ht
        · exact ⟨ht, mrg_o (h.g.bd t ht).2⟩
        · omega
      generalize g.mrg pG0 N = g2 at V g2o
      have q0 : α5.2 (zn α) = β.2 (zn α) := fr5 _ (by omega)
      have q1 : α5.2 (zn α + 1) = β.2 (zn α + 1) := fr5 _ (by omega)
      have q2 : α5.2 (zn α + 2) = β.2 (zn α + 2) := fr5 _ (by omega)
      have q3 : α5.2 (zn α + 2 + 1) = β.2 (zn α + 2 + 1) := fr5 _ (by omega)
      have V1 := pV_push V (r := 10000000 * (12 - D.dp)) (q := zn α + 2) (k := 1) (v := nI 0) (v' := nI at') (by omega) (by omega) (fun t ht z => by
        obtain ⟨t1, t2⟩ := g2o t ht
        have := (h.g.nd t t1).hi
        omega) (by omega) (by rw [zkd_eq q2]; exact w1) (by rw [zA_eq q2]; exact w2) (by rw [zkd_eq q3]; exact w3) (by rw [zL_eq q3]; exact w4) (by rw [zI_eq q2]; exact w5) (by decide) (by rw [zI_eq q2]; exact w6) (by rw [zI_eq q2]; exact w7) (by rw [zI_eq q2]; exact w8)
      have oN : (g2.push N (zn α + 2) (10000000 * (12 - D.dp))).oa N = zn α + 2 := by rw [push_oa, if_pos rfl]
      have rN : (g2.push N (zn α + 2) (10000000 * (12 - D.dp))).r N = 10000000 * (12 - D.dp) := by rw [push_r, if_pos rfl]
      have g3o : ∀ t, L t → (g2.push N (zn α + 2) (10000000 * (12 - D.dp))).oa t = g.oa t := fun t ht => by
        rw [push_oa, if_neg (by have := (h.g.bd t ht).2; omega), (g2o t (.inl ht)).2]
      have c6 : zA α5 44 6 (zn α + 2) = none := by rw [zA_eq q2]; exact w9
      have k9 : la (mMk s5 N (nI 1) (nI 0) (nI at')) 9 N = nI 1 := by rw [mMk_la (by decide) (by decide), if_pos rfl]; rfl
      have l16 : la (mMk s5 N (nI 1) (nI 0) (nI at')) 16 N = nI 0 := mMk_16
      have b43' : ls (mMk s5 N (nI 1) (nI 0) (nI at')) 43 = nI 0 := by rw [mMk_ls (by decide)]; exact b43
      have d26' : ls (mMk s5 N (nI 1) (nI 0) (nI at')) 26 = nI D.dp := V1.dm
      have d20' : ls (mMk s5 N (nI 1) (nI 0) (nI at')) 20 = nI D.nu := V1.nm
      generalize g2.push N (zn α + 2) (10000000 * (12 - D.dp)) = g3 at V1 oN rN g3o
      generalize mMk s5 N (nI 1) (nI 0) (nI at') = s6 at V1 k9 l16 b43' MA d26' d20'
      have kp5 : zkd α5 c.p = 41 := V1.o.x.kp
      have cu5 := V1.cu
      have k5 : zkd α5 (zn α) = 44 := by rw [zkd_eq q0]; exact u1
      have xn5 : zA α5 43 1 (zn α) = some (zn α + 2) := by rw [zA_eq q0]; exact u6
      have nu2 : D.nu < 600 := by have := h.nb; have := h0.al; omega
      have nrt : N ∉ D.rt := fun z => by have := (h.g.bd _ (h.rm N z).1).2; omega
      have fresh : ∀ k, k < D.nu → D.ou k ≠ zn α := fun k hk z => by have := (h.u k hk).hi; omega
      have uB := h.uB
      have rB := h.rB
      have nb3 := h.nb
      by_cases z : D.dp = 0
      · obtain ⟨β6, a1, a2, V2, a3, a4, a5, a6⟩ := pV_rta V1 (t := N) (by omega) (.inr rfl) l16 (by rw [oN]; exact c6) nrt (by omega) (by omega)
        rw [oN] at a1
        have f0 := a4 (zn α) (by omega)
        have f1 := a4 (zn α + 1) (by omega)
        obtain ⟨β7, b1, b2, b3, V3⟩ := pV_opn V2 (q := zn α) (t := N) (s' := us (us (ua (ua (ua (ua (ua (ua (ua (ua (mAtS s6 0 D.rt N) 22 (upd (la (mAtS s6 0 D.rt N) 22) D.nu (nI N))) 23 (upd (la (mAtS s6 0 D.rt N) 23) D.nu (nI 0))) 24 (upd (la (mAtS s6 0 D.rt N) 24) D.nu (nI 0))) 25 (upd (la (mAtS s6 0 D.rt N) 25) D.nu (nI 0))) 27 (upd (la (mAtS s6 0 D.rt N) 27) D.dp (nI 0))) 29 (upd (la (mAtS s6 0 D.rt N) 29) D.dp (nI D.nu))) 30 (upd (la (mAtS s6 0 D.rt N) 30) D.dp (nI 0))) 31 (upd (la (mAtS s6 0 D.rt N) 31) D.dp (nI 0))) 26 (nI (D.dp + 1))) 20 (nI (D.nu + 1))) hd (show 3 * (D.nu + 1) ≤ at' + 3 by omega) (.inr rfl) rN (by rw [mAtS_la (by decide)]; exact k9) (by omega) (by omega) fresh (by rw [zkd_eq f0]; exact k5) (by rw [zA_eq f0, zA_eq q0]; exact u2) (by rw [zkd_eq f1, zkd_eq q1]; exact u3) (by
          show _ = if D.dp = 0 then none else some (D.ou (D.os (D.dp - 1)))
          rw [zA_eq f0, zA_eq q0, u5]; exact h.cu) (by rw [zA_eq f0, xn5, oN]) (fun k k0 k1 k2 => by rw [zA_eq f0, zA_eq q0]; exact u7 k k0 k1 k2) (fun k => by rw [zI_eq f0, zI_eq q0]; exact u8 k) (fun i (hi : D.dp = i + 1) => by omega) (by show zc β6 + 1 ≤ D.z0 + _ + _; omega) (by show zw β6 + 7 ≤ D.w0 + _ + _; omega) (fun k k0 k1 => by rw [ls_us, if_neg k0, ls_us, if_neg k1]; rfl) rfl rfl rfl rfl rfl rfl rfl rfl rfl rfl (fun k hk => by rw [la_us, la_us, la_ua, if_neg (by omega), la_ua, if_neg (by omega), la_ua, if_neg (by omega), la_ua, if_neg (by omega), la_ua, if_neg (by omega), la_ua, if_neg (by omega), la_ua, if_neg (by omega), la_ua, if_neg (by omega)])
        have kp6 : zkd β6 c.p = 41 := V2.o.x.kp
        refine .inl ⟨_, _, _, _, at' + 3, N + 1, _, F, ?_, ?_, ?_, V3, by omega, ⟨Nat.le_refl _, Nat.le_succ _⟩, rfl, rfl, rfl, rfl, rfl, rfl, rfl⟩
        · rw [X0 _ x1', zc_l, if_pos (of_eq_true (kis kp3 (by decide))), z1', zc_l, kfA kp5, gl_bs, cu5, if_pos z, if_pos rfl, kfA kp5, gl_bs, V1.lr, kfA k5, gl_bs, xn5, a1, gl_bs]
          unfold hX4_begin_143
          rw [kpA kp6, gl_bs, kfA (by rw [zkd_zwA]; exact kp6), gl_bs, zA_zwA, if_neg (fun z => absurd z.2.1 (by decide)), show zA β6 40 12 c.p = some D.lu from V2.lu]
          rw [show zLadd (zwA β6 40 11 c.p (some (zn α))) (some D.lu) (some (zn α)) = some (1, β7) from b1, gl_bs, kfI b2, gl_bs, show zI β7 40 8 c.p = nI D.dp from b3, kpI b2, gl_bs, show nI D.dp + 1 = nI (D.dp + 1) from pI_succ _]
          rfl
        · rw [M1 hb, MA, if_pos z]
          unfold gX26_identified_142
          rw [a2, gl_bs, gl_x, mAtS_ls, d26', z, if_pos (by decide)]
          have := M_id172 (s := mAtS s6 0 D.rt N) (v := nI N) (u := D.nu) (i := D.dp) (by rw [mAtS_ls]; exact d20') (by rw [mAtS_ls]; exact d26') nu2 (by omega)
          rw [z] at this
          exact this
        · rw [ls_us, if_neg (by decide), ls_us, if_neg (by decide)]
          exact mAtS_ls.trans b43'
      · obtain ⟨i, hi⟩ : ∃ i, D.dp = i + 1 := ⟨D.dp - 1, by omega⟩
        have oi := V1.op i (by omega)
        have hu := oi.u
        have U := V1.u _ hu
        have U0 := h.u _ (h.op i (by omega)).u
        have ulo := U.lo
        have uhi := U0.hi
        have ku := U.kn
        have kl := U.kl
        have d26i : ls s6 26 = nI (i + 1) := by rw [d26', hi]
        have r29 : la s6 29 i = nI (D.os i) := oi.mo
        have un8 := (V1.g.bd _ U.lu).2
        have i12 : i < 10 := by omega
        obtain ⟨_, _, att1, _, _, _, _⟩ := V1.att (G := G) (to := D.un (D.os i)) (t := N) (by omega) U.lu (.inr rfl) (by rw [rN, oi.rk]; omega) l16 nrt (by omega) (by omega)
        have V2 := V1.upd (i := i) (u := D.os i) (q := D.ou (D.os i)) (β := zwI (zwI α5 43 3 (D.ou (D.os i)) (nI 12)) 43 2 (D.ou (D.os i)) (nI 1)) (s' := ua (ua s6 27 (upd (la s6 27) i (nI 12))) 31 (upd (la s6 31) i (nI 1))) (en := D.en) (da := D.da) (pr := D.pr) (st := va_up D.st i 12) (nm := D.nm) (fu := D.fu) (hd := va_up D.hd i 1) (fi := D.fi) (ho := D.ho) (de := D.de) (se := D.se) (pa := D.pa) (lt := D.lt) (it := D.it) hi rfl rfl (fun x hx1 _ => by rw [zwI_ne hx1, zwI_ne hx1]) rfl (Nat.le_refl _) (Nat.le_refl _) (fun _ _ => rfl) (fun k hk => by rw [la_ua, if_neg (by omega), la_ua, if_neg (by omega)]) (fun k j k1 k2 _ => by rw [la_ua, if_neg (by omega), la_ua, if_neg (by omega)]) (fun k j k1 k2 hj => by
            rw [la_ua]
            split
            · rename_i e
              rw [e, upd_other hj]
            · rw [la_ua]
              split
              · rename_i e
                rw [e, upd_other hj]
              · rfl) (fun _ _ => ⟨rfl, rfl, rfl⟩) (fun j hj => ⟨if_neg hj, rfl, rfl, if_neg hj⟩) (by
            refine uOk.mk U.lo U.hi ?_ ?_ ?_ ?_ ?_ ?_ ?_ U.mu U.me U.md U.mp U.lu U.le U.ld U.lp
            · rw [zkd_zwI, zkd_zwI]; exact ku
            · rw [zA_zwI, zA_zwI]; exact U.fl
            · rw [zkd_zwI, zkd_zwI]; exact kl
            · rw [zA_zwI, zA_zwI]; exact U.xu
            · rw [zA_zwI, zA_zwI]; exact U.xe
            · rw [zA_zwI, zA_zwI]; exact U.xd
            · rw [zA_zwI, zA_zwI]; exact U.xp) (by
            refine oOk.mk oi.u ?_ ?_ ?_ ?_ oi.mo oi.mf ?_ ?_ oi.kd ?_ ?_ oi.f1 ?_ oi.nb oi.rk
            · rw [zA_zwI, zA_zwI]; exact oi.up
            · show _ = nI (if i = i then 1 else D.hd i)
              rw [zI_zwI, if_pos ⟨rfl, rfl, rfl⟩, if_pos rfl]
            · show _ = nI (if i = i then 12 else D.st i)
              rw [zI_zwI, if_neg (fun z => absurd z.2.1 (by decide)), zI_zwI, if_pos ⟨rfl, rfl, rfl⟩, if_pos rfl]
            · show upd (la s6 27) i (nI 12) i = nI (if i = i then 12 else D.st i)
              rw [upd_same, if_pos rfl]
            · show upd (la s6 31) i (nI 1) i = nI (if i = i then 1 else D.hd i)
              rw [upd_same, if_pos rfl]
            · have b2 := hb.resolve_left z
              rw [hi, Nat.add_sub_cancel] at b2
              exact fun _ => oi.mn (by omega)
            · have b2 := hb.resolve_left z
              rw [hi, Nat.add_sub_cancel] at b2
              exact fun _ => oi.vl (by omega)
            · show (if i = i then 12 else D.st i) ≤ 12
              rw [if_pos rfl]; decide
            · show (if i = i then 1 else D.hd i) ≤ 1
              rw [if_pos rfl]; decide) (by
            rw [show va_up D.st i 12 i = 12 from if_pos rfl]
            exact iOk.mk (fun z1 z2 => absurd z2 (by decide)) (fun z1 z2 => absurd z2 (by decide)) (fun z1 z2 => absurd z2 (by decide)) (fun z1 z2 => absurd z2 (by decide)) (fun z1 z2 => absurd z2 (by decide)) (fun z1 z2 => absurd z2 (by decide)) (fun z1 z2 => absurd z2 (by decide)) (fun z => absurd z (by decide)) (fun z1 z2 => absurd z2 (by decide)) (fun z1 z2 => absurd z2 (by decide)) (fun z => absurd z (by decide)))
        obtain ⟨β6, a1, _, V2', aX, a5, a6⟩ := V2.att (G := G) (to := D.un (D.os i)) (t := N) (by omega) U.lu (.inr rfl) (by rw [rN, oi.rk]; omega) l16 nrt (by show zc α5 + 1 ≤ D.z0 + _ + _; omega) (by show zw α5 + 7 ≤ D.w0 + _ + _; omega)
        rw [oN] at a1 aX
        rw [mAtS_ua (by decide), mAtS_ua (by decide)] at V2'
        have Wt := V1.g.nd _ U.lu
        have toE : g3.oa (D.un (D.os i)) + 2 < zn α := by
          rw [g3o _ U0.lu]
          exact (h.g.nd _ U0.lu).hi
        have cz5 : zc (zwI (zwI α5 43 3 (D.ou (D.os i)) (nI 12)) 43 2 (D.ou (D.os i)) (nI 1)) = zc α5 := rfl
        have cw5 : zw (zwI (zwI α5 43 3 (D.ou (D.os i)) (nI 12)) 43 2 (D.ou (D.os i)) (nI 1)) = zw α5 := rfl
        have f0 : β6.2 (zn α) = α5.2 (zn α) := by rw [aX.fr _ (by omega) (by omega), zwI_ne (by omega), zwI_ne (by omega)]
        have f1 : β6.2 (zn α + 1) = α5.2 (zn α + 1) := by rw [aX.fr _ (by omega) (by omega), zwI_ne (by omega), zwI_ne (by omega)]
        have nz6 : zn α5 ≤ zn β6 := aX.n
        have b43'' : ls (ua (ua (mAtS s6 (D.un (D.os i)) (g3.ch (D.un (D.os i))) N) 27 (upd (la s6 27) i (nI 12))) 31 (upd (la s6 31) i (nI 1))) 43 = nI 0 := mAtS_ls.trans b43'
        have d20'' : ls (ua (ua (mAtS s6 (D.un (D.os i)) (g3.ch (D.un (D.os i))) N) 27 (upd (la s6 27) i (nI 12))) 31 (upd (la s6 31) i (nI 1))) 20 = nI D.nu := mAtS_ls.trans d20'
        have d26'' : ls (ua (ua (mAtS s6 (D.un (D.os i)) (g3.ch (D.un (D.os i))) N) 27 (upd (la s6 27) i (nI 12))) 31 (upd (la s6 31) i (nI 1))) 26 = nI D.dp := mAtS_ls.trans d26'
        have k9'' : la (ua (ua (mAtS s6 (D.un (D.os i)) (g3.ch (D.un (D.os i))) N) 27 (upd (la s6 27) i (nI 12))) 31 (upd (la s6 31) i (nI 1))) 9 N = nI 1 := by rw [la_ua, if_neg (by decide), la_ua, if_neg (by decide), mAtS_la (by decide)]; exact k9
        have MB : gX26_identified v (us s 43 (nI 0)) = gX26_identified_172 (nI N) (ua (ua (mAtS s6 (D.un (D.os i)) (g3.ch (D.un (D.os i))) N) 27 (upd (la s6 27) i (nI 12))) 31 (upd (la s6 31) i (nI 1))) := by
          rw [M1 hb, MA, if_neg z, M_here d26i r29 (by omega), gl_bs]
          show Option.bind (gld s6 22 600 (nI (D.os i))) _ = _
          rw [pgld (by omega) (by decide), gl_bs, U.mu]
          unfold gX26_identified_142
          rw [att1, gl_bs, gl_x, mAtS_ls, d26i, if_neg (by rw [nl0, pI_le (by omega) (by decide)]; omega)]
          show Option.bind (gX26_to (nI 12) (mAtS s6 (D.un (D.os i)) (g3.ch (D.un (D.os i))) N)) _ = _
          rw [M_to (i := i) (by rw [mAtS_ls]; exact d26i) (by omega), gl_bs, gl_x, ls_ua, mAtS_ls, d26i, nl1, pI_sub (by omega), Nat.add_sub_cancel, show vp_nar .boolean (nI 1) = nI 1 from rfl, pgst (by omega) (by decide), gl_bs, la_ua, if_neg (by decide), mAtS_la (by decide), mAtS_la (by decide)]
        generalize ua (ua (mAtS s6 (D.un (D.os i)) (g3.ch (D.un (D.os i))) N) 27 (upd (la s6 27) i (nI 12))) 31 (upd (la s6 31) i (nI 1)) = s7 at V2' b43'' d20'' d26'' k9'' MB
        obtain ⟨β7, b1, b2, b3, V3⟩ := pV_opn V2' (q := zn α) (t := N) (s' := us (us (ua (ua (ua (ua (ua (ua (ua (ua s7 22 (upd (la s7 22) D.nu (nI N))) 23 (upd (la s7 23) D.nu (nI 0))) 24 (upd (la s7 24) D.nu (nI 0))) 25 (upd (la s7 25) D.nu (nI 0))) 27 (upd (la s7 27) D.dp (nI 0))) 29 (upd (la s7 29) D.dp (nI D.nu))) 30 (upd (la s7 30) D.dp (nI 0))) 31 (upd (la s7 31) D.dp (nI 0))) 26 (nI (D.dp + 1))) 20 (nI (D.nu + 1))) hd (show 3 * (D.nu + 1) ≤ at' + 3 by omega) (.inr rfl) rN k9'' (by omega) (by omega) fresh (by rw [zkd_eq f0]; exact k5) (by rw [zA_eq f0, zA_eq q0]; exact u2) (by rw [zkd_eq f1, zkd_eq q1]; exact u3) (by
          show _ = if D.dp = 0 then none else some (D.ou (D.os (D.dp - 1)))
          rw [zA_eq f0, zA_eq q0, u5]; exact h.cu) (by rw [zA_eq f0, xn5]; exact congrArg some oN.symm) (fun k k0 k1 k2 => by rw [zA_eq f0, zA_eq q0]; exact u7 k k0 k1 k2) (fun k => by rw [zI_eq f0, zI_eq q0]; exact u8 k) (fun j (hj : D.dp = j + 1) => by
            show (if j = i then 12 else D.st j) = 12
            rw [if_pos (by omega)]) (by show zc β6 + 1 ≤ D.z0 + _ + _; omega) (by show zw β6 + 7 ≤ D.w0 + _ + _; omega) (fun k k0 k1 => by rw [ls_us, if_neg k0, ls_us, if_neg k1]; rfl) rfl rfl rfl rfl rfl rfl rfl rfl rfl rfl (fun k hk => by rw [la_us, la_us, la_ua, if_neg (by omega), la_ua, if_neg (by omega), la_ua, if_neg (by omega), la_ua, if_neg (by omega), la_ua, if_neg (by omega), la_ua, if_neg (by omega), la_ua, if_neg (by omega), la_ua, if_neg (by omega)])
        have kp6 : zkd β6 c.p = 41 := V2'.o.x.kp
        have kuT : zkd (zwI α5 43 3 (D.ou (D.os i)) (nI 12)) (D.ou (D.os i)) = 44 := by rw [zkd_zwI]; exact ku
        have kpT : zkd (zwI α5 43 3 (D.ou (D.os i)) (nI 12)) c.p = 41 := by rw [zkd_zwI]; exact kp5
        have kpU : zkd (zwI (zwI α5 43 3 (D.ou (D.os i)) (nI 12)) 43 2 (D.ou (D.os i)) (nI 1)) c.p = 41 := by rw [zkd_zwI]; exact kpT
        have kuU : zkd (zwI (zwI α5 43 3 (D.ou (D.os i)) (nI 12)) 43 2 (D.ou (D.os i)) (nI 1)) (D.ou (D.os i)) = 44 := by rw [zkd_zwI]; exact kuT
        have cuT : zA α5 40 11 c.p = some (D.ou (D.os i)) := by rw [cu5, if_neg z, hi, Nat.add_sub_cancel]
        refine .inl ⟨_, _, _, _, at' + 3, N + 1, _, F, ?_, ?_, ?_, V3, by omega, ⟨Nat.le_refl _, Nat.le_succ _⟩, rfl, rfl, rfl, rfl, rfl, rfl, rfl⟩
        · rw [X0 _ x1', zc_l, if_pos (of_eq_true (kis kp3 (by decide))), z1', zc_l, kfA kp5, gl_bs, cuT, if_neg (by simp), gl_bs, kpI ku, gl_bs]
          show Option.bind (zfA (zwI α5 43 3 (D.ou (D.os i)) (nI 12)) (some c.p) 40 11) _ = _
          rw [kfA kpT, gl_bs, zA_zwI, cuT]
          show Option.bind (zpN (zwI α5 43 3 (D.ou (D.os i)) (nI 12)) (some (D.ou (D.os i))) 43 2 .boolean (nI 1)) _ = _
          rw [show zpN (zwI α5 43 3 (D.ou (D.os i)) (nI 12)) (some (D.ou (D.os i))) 43 2 .boolean (nI 1) = some (zwI (zwI α5 43 3 (D.ou (D.os i)) (nI 12)) 43 2 (D.ou (D.os i)) (nI 1)) from by
            unfold zpN
            rw [if_pos (by decide)]
            exact kpI kuT, gl_bs, kfA kpU, gl_bs, zA_zwI, zA_zwI, cuT, kfA kuU, gl_bs, zA_zwI, zA_zwI, U.xu, kfA (by rw [zkd_zwI, zkd_zwI]; exact k5), gl_bs, zA_zwI, zA_zwI, xn5, if_pos (of_eq_true (kis (by rw [zkd_zwI, zkd_zwI]; exact Wt.kn) (by decide))), a1, gl_bs]
          unfold hX4_begin_143
          rw [kpA kp6, gl_bs, kfA (by rw [zkd_zwA]; exact kp6), gl_bs, zA_zwA, if_neg (fun z => absurd z.2.1 (by decide)), show zA β6 40 12 c.p = some D.lu from V2'.lu]
          rw [show zLadd (zwA β6 40 11 c.p (some (zn α))) (some D.lu) (some (zn α)) = some (1, β7) from b1, gl_bs, kfI b2, gl_bs, show zI β7 40 8 c.p = nI D.dp from b3, kpI b2, gl_bs, show nI D.dp + 1 = nI (D.dp + 1) from pI_succ _]
          rfl
        · rw [MB]
          exact M_id172 d20'' d26'' nu2 (by omega)
        · rw [ls_us, if_neg (by decide), ls_us, if_neg (by decide)]
          exact b43''
    · refine .inr ⟨e, γ, s', 1, w, ?_, z2, ?_, z3⟩
      · rw [X0 _ x1', zc_l, if_pos (of_eq_true (kis kp3 (by decide))), show hX4_period G (some c.p) (zwI (zwI β 40 3 c.p (nI (at' + 1))) 40 3 c.p (nI (at' + 1 + 1))) = some (.inr e, γ) from z1, zc_r, if_pos z2]
      · rw [M1 hb]
        unfold gX26_identified_47 gX26_identified_111
        rw [if_neg (show ¬ nI 1 = 0 from n1n), gl_x, show ls (us s 43 (nI 0)) 26 = nI D.dp from h.dm, if_pos (show ¬ nI D.dp = 10 from by rw [nl10, pI_inj (by omega) (by decide)]; omega), gl_x, gl_x, am', gl_x, show nI at' + 1 = nI (at' + 1) from pI_succ at']
        show Option.bind (gX26_must (nI 1) (us (us s 43 (nI 0)) 41 (nI (at' + 1)))) _ = _
        rw [m1', gl_bs, if_neg (show ¬ nI 1 = 0 from n1n)]
        show Option.bind (gX26_mustBe (nI 4) (maS (maS (us s 43 (nI 0)) at') (at' + 1))) _ = _
        rw [show gX26_mustBe (nI 4) (maS (maS (us s 43 (nI 0)) at') (at' + 1)) = some (nI 0, s') from n1, gl_bs, if_neg (show ¬ ¬ nI 0 = 0 from fun z => z rfl)]
  · refine .inr ⟨e, γ, s', 1, w, ?_, x2, ?_, x3⟩
    · rw [X0 _ (show hX4_need G (some c.p) (nI 1) (zwI β 40 3 c.p (nI (at' + 1))) = some (.inr e, γ) from x1), zc_r, if_pos x2]
    · rw [M1 hb]
      unfold gX26_identified_47 gX26_identified_111
      rw [if_neg (show ¬ nI 1 = 0 from n1n), gl_x, show ls (us s 43 (nI 0)) 26 = nI D.dp from h.dm, if_pos (show ¬ nI D.dp = 10 from by rw [nl10, pI_inj (by omega) (by decide)]; omega), gl_x, gl_x, am', gl_x, show nI at' + 1 = nI (at' + 1) from pI_succ at']
      show Option.bind (gX26_must (nI 1) (us (us s 43 (nI 0)) 41 (nI (at' + 1)))) _ = _
      rw [show gX26_must (nI 1) (us (us s 43 (nI 0)) 41 (nI (at' + 1))) = some (nI 0, s') from m1, gl_bs, if_pos (show nI 0 = 0 from rfl)]
end PAZZL
