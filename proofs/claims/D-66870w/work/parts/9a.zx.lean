/-! THE PURE LAYER: the parser: DECLARATIVES. -/
section PAZX
variable {L L2 : Nat → Prop} {c : pC} {D : pD} {G : xQ} {α β : zS} {s s' s1 : zM} {B at' a a1 b d N N' F F' p q t to u x y k i j w wh lv m S : Nat} {g g' g2 : pG} {v : Int32}
/-- attaching leaves the other numbers -/
theorem gX26_attach_us {a b : Int32} : gX26_attach a b (us s k v) = (gX26_attach a b s).map fun p => (p.1, us p.2 k v) := by
  have e : ∀ {n : Nat} {f : Nat → Int32} {t : zM}, ua (us t k v) n f = us (ua t n f) k v := rfl
  unfold gX26_attach gX26_attach_45 gst gld
  by_cases h1 : xin b 8000 = true
  · by_cases h2 : xin a 8000 = true
    · simp only [if_pos h1, if_pos h2, gl_bs, la_us, e]
      split
      · split
        · rfl
        · rfl
      · rfl
    · simp only [if_pos h1, if_neg h2, gl_bs, la_us, e]
      rfl
  · simp only [if_neg h1]
    rfl
theorem cl_dcl (h : pV c D L B at' N F g α s) (ha : at' < c.n) (hF : F < 20) (hd : D.dp = i + 1) (hS : D.st i = 8) : cQ c D B at' N F α s (hX4_header G (some c.p) (nI 32) (zwI α 40 4 c.p (nI 0))) (gX26_reserved_247 v (nI 32) (nI at') (nI 0) (us s 43 (nI 0))) := by
  obtain ⟨i10, hu, cu, ku, xs, d26, r29, r22, u2⟩ := h.cur hd
  have h0 := h.o
  have R0 := h0.start (s' := us s 43 (nI 0)) (lv := 0) ha hF (fun k hk => by
    rw [ls_us] at hk
    split at hk
    · omega
    · exact absurd rfl hk) (fun _ => rfl) rfl (fun z => absurd z (by decide))
  have kp : zkd (zwI α 40 4 c.p (nI 0)) c.p = 41 := R0.kp
  have cu' : zA (zwI α 40 4 c.p (nI 0)) 40 11 c.p = some (D.ou (D.os i)) := by rw [zA_zwI]; exact cu
  have ax' : zI (zwI α 40 4 c.p (nI 0)) 40 3 c.p = nI at' := R0.ax
  have oK := h.op i (by omega)
  have uK := h.u _ hu
  have St : hX4_state G (some c.p) (nI 8) (nI 8) (zwI α 40 4 c.p (nI 0)) = some (.inl (), zwI α 40 4 c.p (nI 0)) := by
    rw [X_state (k := 8) (i := 8) (j := 8) kp cu' (by rw [zkd_zwI]; exact ku) (by
      rw [zI_zwI, if_neg (fun z => by have := z.1; omega), xs, hS]) (by decide) (by decide) (by decide), if_pos (by omega)]
  have kp1 : zkd (zwI (zwI α 40 4 c.p (nI 0)) 40 3 c.p (nI (at' + 1))) c.p = 41 := (R0.adv ha).kp
  have X0 : ∀ R, hX4_period G (some c.p) (zwI (zwI α 40 4 c.p (nI 0)) 40 3 c.p (nI (at' + 1))) = R → hX4_header G (some c.p) (nI 32) (zwI α 40 4 c.p (nI 0)) = zcase R (fun p103 =>
            (zfA p103.2 (some (D.ou (D.os i))) 43 8).bind fun r104 =>
            (znO p103.2 44 9).bind fun p105 =>
            if zis G p105.2 p105.1 45 = true then
              (hX43_init G p105.1 (nI 22) (nI 0) (nI at') p105.2).bind fun p106 =>
              if zis G p106.2 r104 45 = true then
                (hX43_add G r104 p105.1 p106.2).bind fun p107 =>
                (zpA p107.2 (some (D.ou (D.os i))) 43 9 p107.1).bind fun σ108 =>
                (zpI σ108 (some (D.ou (D.os i))) 43 3 (nI 9)).bind fun σ109 =>
                hX4_header_666 G  σ109
              else none
            else none) (fun p110 =>
            if zthr p110.2 p110.1 3 = true then
              some (.inr p110.1, p110.2)
            else none) := fun R hR => by
    unfold hX4_header
    rw [kfA kp, gl_bs, cu', kfI kp, gl_bs, ax', if_neg (by decide), if_neg (by decide), if_neg (by decide), if_neg (by decide), if_neg (by decide), if_neg (by decide), if_neg (by decide), if_neg (by decide), if_neg (by decide), if_neg (by decide), if_neg (by decide), if_neg (by decide), if_neg (by decide), if_neg (by decide), if_neg (by decide), if_neg (by decide), if_neg (by decide), if_neg (by decide), if_neg (by decide), if_neg (by decide), if_neg (by decide), if_neg (by decide), if_neg (by decide), if_neg (by decide), if_neg (by decide), if_neg (by decide), if_neg (by decide), if_neg (by decide), if_neg (by decide), if_neg (by decide), if_neg (by decide), if_pos (by decide), if_pos (of_eq_true (kis kp (by decide)))]
    show zcase (hX4_state G (some c.p) (nI 8) (nI 8) (zwI α 40 4 c.p (nI 0))) _ _ = _
    rw [St, zc_l, kfI kp, gl_bs, ax', kpI kp, gl_bs, show nI at' + 1 = nI (at' + 1) from pI_succ at', if_pos (of_eq_true (kis kp1 (by decide))), hR]
    rfl
  have hb0 : pB (c.on (zwI α 40 4 c.p (nI 0)) (us s 43 (nI 0)) N at' 0) N at' 4 := on_pB (by decide) (.inl (by decide))
  have bt : pB (c.on (zwI α 40 4 c.p (nI 0)) (us s 43 (nI 0)) N at' 0) N (at' + 1) 0 := by unfold pB at *; omega
  have M0 : gX26_reserved_247 v (nI 32) (nI at') (nI 0) (us s 43 (nI 0)) = (gX26_mustBe (nI 4) (maS (us s 43 (nI 0)) at')).bind fun p8 =>
                    if ¬ p8.1 = 0 then
                      (gX26_make (nI 22) (nI 0) (nI at') p8.2).bind fun p9 =>
                      xlet (us p9.2 34 p9.1) fun s10 =>
                      (gX26_here s10).bind fun p12 =>
                      (gld p12.2 25 600 p12.1).bind fun x13 =>
                      xlet (ls p12.2 34) fun x14 =>
                      (gX26_attach x13 x14 p12.2).bind fun p15 =>
                      (gX26_to (nI 9) p15.2).bind fun p16 =>
                      gX26_reserved_446 p16.2
                    else
                      some ((), p8.2) := by
    unfold gX26_reserved_247
    rw [if_pos (show nI 0 = 0 from rfl), if_pos (show ¬ nI 32 = 0 from by decide), gl_x, show ls (us s 43 (nI 0)) 41 = nI at' from h0.am, gl_x, if_neg (by decide), if_neg (by decide), if_neg (by decide), if_neg (by decide), if_neg (by decide), if_neg (by decide), if_pos (by decide), show nI at' + 1 = nI (at' + 1) from pI_succ at']
    rfl
  rcases (R0.adv ha).period (G := G) bt with ⟨e1, x1, m1, R3⟩ | ⟨e, β, s', w, x1, x2, m1, x3⟩
  · have x1' : hX4_period G (some c.p) (zwI (zwI α 40 4 c.p (nI 0)) 40 3 c.p (nI (at' + 1))) = some (.inl (), (zwI (zwI (zwI α 40 4 c.p (nI 0)) 40 3 c.p (nI (at' + 1))) 40 3 c.p (nI (at' + 1 + 1)))) := x1
    have zk : ∀ k, k < D.nu → (zwI (zwI (zwI α 40 4 c.p (nI 0)) 40 3 c.p (nI (at' + 1))) 40 3 c.p (nI (at' + 1 + 1))).2 (D.ou k) = α.2 (D.ou k) := fun k hk => h.unX R3.x hk
    have R3' : pR (c.on (zwI α 40 4 c.p (nI 0)) (us s 43 (nI 0)) N at' 0) (at' + 2) 0 N N 0 pG0 (zwI (zwI (zwI α 40 4 c.p (nI 0)) 40 3 c.p (nI (at' + 1))) 40 3 c.p (nI (at' + 1 + 1))) (maS (maS (us s 43 (nI 0)) at') (at' + 1)) := R3
    generalize (zwI (zwI (zwI α 40 4 c.p (nI 0)) 40 3 c.p (nI (at' + 1))) 40 3 c.p (nI (at' + 1 + 1))) = α3 at x1' zk R3'
    clear x1 R3
    obtain ⟨R4, q4⟩ := R3'.cell
    obtain ⟨β, x4, R5⟩ := R4.new (G := G) (kv := nI 22) (v := nI 0) (v' := nI at') (r := 5000000) q4 (by decide)
    have U0 := h.u _ hu
    have I0 := h.inn (by omega)
    rw [hd, Nat.add_sub_cancel, hS] at I0
    obtain ⟨dne, rk⟩ := I0.pr (by decide) (by decide)
    have dL := U0.lp.resolve_left dne
    have N1 := h0.N1
    have N8 : N < 7900 := by
      have := h0.N0
      have := h0.n
      omega
    obtain ⟨γ, l, g2, kU, y1, y2, V2, oN, rN, _⟩ := h.root (G := G) (to := D.pr (D.os i)) (t := N) R5 (fun k hk => by rw [ls_us, if_neg (by omega)]) (fun _ => rfl) (fun z => absurd z (by decide)) (by omega) (by omega) hF dL (Nat.le_refl _) (Nat.lt_succ_self _) (by
      rw [push_r, if_pos rfl, rk]
      decide) (by rw [mMk_la (by decide) (by decide), if_pos rfl]; rfl)
    rw [push_oa, if_pos rfl] at y1 oN
    rw [push_r, if_pos rfl] at rN
    have U2 := V2.u _ hu
    have O2 := V2.op i (by omega)
    have I2 := V2.inn (by omega)
    rw [hd, Nat.add_sub_cancel, hS] at I2
    have kO : zkd γ (D.ou (D.os i)) = 44 := U2.kn
    have x4' : hX43_init G (some (zn α3)) (nI 22) (nI 0) (nI at') (zmk α3 (44 + 1) 0 9) = some ((), β) := x4
    have Xf : hX4_header G (some c.p) (nI 32) (zwI α 40 4 c.p (nI 0)) = some (.inl (), zwI (zwA γ 43 9 (D.ou (D.os i)) (some (zn α3))) 43 3 (D.ou (D.os i)) (nI 9)) := by
      rw [X0 _ x1', zc_l, kfA (by rw [zkd_eq (zk _ hu)]; exact ku), gl_bs, zA_eq (zk _ hu), U0.xp, pN_s dne]
      show Option.bind (znO α3 44 9) _ = _
      rw [znO_e, gl_bs, if_pos (of_eq_true (kis q4.kd (by decide)))]
      show Option.bind (hX43_init G (some (zn α3)) (nI 22) (nI 0) (nI at') _) _ = _
      rw [x4', gl_bs, if_pos (of_eq_true (kis kU (by decide)))]
      show Option.bind (hX43_add G (some (g.oa (D.pr (D.os i)))) (some (zn α3)) β) _ = _
      rw [y1, gl_bs, kpA kO, gl_bs, kpI (by rw [zkd_zwA]; exact kO), gl_bs]
      rfl
    have m1' : gX26_mustBe (nI 4) (maS (us s 43 (nI 0)) at') = some (nI 1, (maS (maS (us s 43 (nI 0)) at') (at' + 1))) := m1
    have d26' : ls (maS (maS (us s 43 (nI 0)) at') (at' + 1)) 26 = nI (i + 1) := d26
    have r29' : la (maS (maS (us s 43 (nI 0)) at') (at' + 1)) 29 i = nI (D.os i) := r29
    have r25' : la (maS (maS (us s 43 (nI 0)) at') (at' + 1)) 25 (D.os i) = nI (D.pr (D.os i)) := U0.mp
    have b43 : ls (maS (maS (us s 43 (nI 0)) at') (at' + 1)) 43 = nI 0 := rfl
    have Nm4 : ls (maS (maS (us s 43 (nI 0)) at') (at' + 1)) 8 = nI N := R4.Nm
    generalize (maS (maS (us s 43 (nI 0)) at') (at' + 1)) = s3 at m1' d26' r29' r25' b43 Nm4 y2 V2 U2 O2 I2
    have l5 : ∀ k, k ≠ 8 → ls (mAtS (mMk s3 N (nI 22) (nI 0) (nI at')) (D.pr (D.os i)) l N) k = ls s3 k := fun k hk => by
      rw [mAtS_ls]
      show (if k = 8 then _ else _) = _
      rw [if_neg hk]
      rfl
    have at34 : gX26_attach (nI (D.pr (D.os i))) (nI N) (us (mMk s3 N (nI 22) (nI 0) (nI at')) 34 (nI N)) = some ((), us (mAtS (mMk s3 N (nI 22) (nI 0) (nI at')) (D.pr (D.os i)) l N) 34 (nI N)) := by
      have key := gX26_attach_us (k := 34) (v := nI N) (a := nI (D.pr (D.os i))) (b := nI N) (s := mMk s3 N (nI 22) (nI 0) (nI at'))
      rw [key, y2]
      rfl
    have Mf : gX26_reserved_247 v (nI 32) (nI at') (nI 0) (us s 43 (nI 0)) = some ((), ua (us (mAtS (mMk s3 N (nI 22) (nI 0) (nI at')) (D.pr (D.os i)) l N) 34 (nI N)) 27 (upd (la (mAtS (mMk s3 N (nI 22) (nI 0) (nI at')) (D.pr (D.os i)) l N) 27) i (nI 9))) := by
      rw [M0, m1', gl_bs, if_pos (show ¬ nI 1 = 0 from n1n)]
      show Option.bind (gX26_make (nI 22) (nI 0) (nI at') s3) _ = _
      rw [M_make Nm4 (by omega), gl_bs, gl_x]
      show Option.bind (gX26_here (us (mMk s3 N (nI 22) (nI 0) (nI at')) 34 (nI N))) _ = _
      rw [M_here (i := i) (u := D.os i) (s := us (mMk s3 N (nI 22) (nI 0) (nI at')) 34 (nI N)) d26' r29' (by omega), gl_bs]
      show Option.bind (gld (us (mMk s3 N (nI 22) (nI 0) (nI at')) 34 (nI N)) 25 600 (nI (D.os i))) _ = _
      rw [pgld (by omega) (by decide), gl_bs, gl_x, show la (us (mMk s3 N (nI 22) (nI 0) (nI at')) 34 (nI N)) 25 (D.os i) = nI (D.pr (D.os i)) from r25']
      show Option.bind (gX26_attach (nI (D.pr (D.os i))) (nI N) (us (mMk s3 N (nI 22) (nI 0) (nI at')) 34 (nI N))) _ = _
      rw [at34, gl_bs]
      show Option.bind (gX26_to (nI 9) (us (mAtS (mMk s3 N (nI 22) (nI 0) (nI at')) (D.pr (D.os i)) l N) 34 (nI N))) _ = _
      rw [M_to (i := i) (by rw [ls_us, if_neg (by decide)]; exact (l5 26 (by decide)).trans d26') (by omega), gl_bs]
      rfl
    refine .inl ⟨_, _, D.set D.en D.da D.pr (va_up D.st i 9) D.nm D.fu D.hd D.fi D.ho N D.se D.pa D.lt D.it, _, at' + 2, N + 1, _, F, Xf, Mf, ?_, V2.upd (i := i) (u := D.os i) (q := D.ou (D.os i)) hd rfl rfl ?_ ?_ ?_ ?_ ?_ ?_ ?_ ?_ ?_ ?_ ?_ ?_ ?_, by omega, ⟨Nat.le_refl _, Nat.le_succ _⟩, rfl, rfl, rfl, rfl, rfl, rfl, rfl⟩
    · exact (l5 43 (by decide)).trans b43
    · intro x hx1 hx2
      rw [zwI_ne hx1, zwA_ne hx1]
    · rfl
    · exact Nat.le_refl _
    · exact Nat.le_refl _
    · intro k hk
      show ls (us _ 34 (nI N)) k = _
      rw [ls_us, if_neg (by omega)]
    · intro k hk
      rw [la_ua, if_neg (by omega)]
      rfl
    · intro k j k1 k2 hj
      rw [la_ua, if_neg (by omega)]
      rfl
    · intro k j k1 k2 hj
      rw [la_ua]
      split
      · rename_i e
        rw [e, upd_other hj]
      · rfl
    · exact fun k hk => ⟨rfl, rfl, rfl⟩
    · intro j hj
      refine ⟨?_, rfl, rfl, rfl⟩
      show (if j = i then 9 else D.st j) = _
      rw [if_neg hj]
    · refine uOk.mk U2.lo ?_ ?_ ?_ ?_ ?_ ?_ ?_ ?_ U2.mu U2.me U2.md U2.mp U2.lu U2.le U2.ld U2.lp
      · exact U2.hi
      · rw [zkd_zwI, zkd_zwA]; exact U2.kn
      · rw [zA_zwI, zA_zwA, if_neg (fun z => absurd z.2.1 (by decide))]; exact U2.fl
      · rw [zkd_zwI, zkd_zwA]; exact U2.kl
      · rw [zA_zwI, zA_zwA, if_neg (fun z => absurd z.2.1 (by decide))]; exact U2.xu
      · rw [zA_zwI, zA_zwA, if_neg (fun z => absurd z.2.1 (by decide))]; exact U2.xe
      · rw [zA_zwI, zA_zwA, if_neg (fun z => absurd z.2.1 (by decide))]; exact U2.xd
      · rw [zA_zwI, zA_zwA, if_neg (fun z => absurd z.2.1 (by decide))]; exact U2.xp
    · refine oOk.mk O2.u ?_ ?_ ?_ ?_ O2.mo O2.mf O2.mh ?_ O2.kd ?_ ?_ O2.f1 O2.h1 O2.nb O2.rk
      · rw [zA_zwI, zA_zwA, if_neg (fun z => absurd z.2.1 (by decide))]; exact O2.up
      · rw [zI_zwI, if_neg (fun z => absurd z.2.1 (by decide)), zI_zwA]; exact O2.xh
      · show _ = nI (if i = i then 9 else D.st i)
        rw [zI_zwI, if_pos ⟨rfl, rfl, rfl⟩, if_pos rfl]
      · show upd _ i (nI 9) i = nI (if i = i then 9 else D.st i)
        rw [upd_same, if_pos rfl]
      · exact fun _ => O2.mn (by omega)
      · exact fun _ => O2.vl (by omega)
      · show (if i = i then 9 else D.st i) ≤ 12
        rw [if_pos rfl]; decide
    · have eS : va_up D.st i 9 i = 9 := if_pos rfl
      rw [eS]
      refine iOk.mk (fun z1 z2 => absurd z2 (by decide)) (fun z1 z2 => absurd z2 (by decide)) (fun _ _ => I2.pr (by decide) (by decide)) (fun z1 z2 => absurd z2 (by decide)) (fun z1 z2 => absurd z2 (by decide)) (fun z1 z2 => absurd z2 (by decide)) (fun z1 z2 => absurd z2 (by decide)) (fun _ => ⟨.inr ⟨Nat.le_refl _, Nat.lt_succ_self _⟩, ?_, rfl, rN⟩) (fun _ _ => ?_) (fun _ _ => ?_) (fun z => absurd z (by decide))
      · show _ = some (g2.oa N)
        rw [zA_zwI, zA_zwA, if_pos ⟨rfl, rfl, rfl⟩, oN]
      · obtain ⟨w1, w2⟩ := I2.se (by decide) (by decide)
        exact ⟨by rw [zA_zwI, zA_zwA, if_neg (fun z => absurd z.2.1 (by decide))]; exact w1, w2⟩
      · obtain ⟨w1, w2⟩ := I2.pa (by decide) (by decide)
        exact ⟨by rw [zA_zwI, zA_zwA, if_neg (fun z => absurd z.2.1 (by decide))]; exact w1, w2⟩
  · refine .inr ⟨e, β, s', 1, w, ?_, x2, ?_, x3⟩
    · rw [X0 _ x1, zc_r, if_pos x2]
    · rw [M0, m1, gl_bs, if_neg (show ¬ ¬ nI 0 = 0 from fun z => z rfl)]
end PAZX
