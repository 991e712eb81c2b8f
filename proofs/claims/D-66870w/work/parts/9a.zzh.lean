/-! THE PURE LAYER: the parser: PROGRAM-ID, FUNCTION-ID. -/
section PAZZH
variable {L L2 : Nat → Prop} {c : pC} {D D' : pD} {G : xQ} {α β : zS} {s s' s1 : zM} {B at' a a1 b d f N N' F F' p q t to u x y k i j w wh lv m S : Nat} {g g' g2 : pG} {v : Int32}
theorem M_un45 (h26 : ls s 26 = nI (i + 1)) (h29 : la s 29 i = nI u) (h22 : la s 22 u = nI t) (hi : i < 11) (hu : u < 600) (ht : t < 8000) (hf : f ≤ 1) (hk : k ≤ 2) : gX26_unitNamed_45 (nI f) v (nI k) (nI t) s = some ((), ua (ua (ua (ua (ua s 9 (upd (la s 9) t (nI k))) 10 (upd (la s 10) t v)) 28 (upd (la s 28) i v)) 30 (upd (la s 30) i (nI f))) 27 (upd (la s 27) i (nI 1))) := by
  unfold gX26_unitNamed_45
  rw [pgst ht (by decide), gl_bs, M_here (i := i) (u := u) (s := ua s 9 _) h26 h29 hi, gl_bs]
  show Option.bind (gld (ua s 9 (upd (la s 9) t (nI k))) 22 600 (nI u)) _ = _
  rw [pgld hu (by decide), gl_bs, show la (ua s 9 (upd (la s 9) t (nI k))) 22 u = nI t from h22]
  show Option.bind (gst (ua s 9 (upd (la s 9) t (nI k))) 10 8000 (nI t) v) _ = _
  rw [pgst ht (by decide), gl_bs, gl_x, show ls (ua (ua s 9 (upd (la s 9) t (nI k))) 10 (upd (la (ua s 9 (upd (la s 9) t (nI k))) 10) t v)) 26 = nI (i + 1) from h26, nl1, pI_sub (by omega), Nat.add_sub_cancel, pgst hi (by decide), gl_bs, gl_x, ls_ua, ls_ua, ls_ua, h26, pI_sub (by omega), Nat.add_sub_cancel, show vp_nar .boolean (nI f) = nI f from by
    rcases (show f = 0 ∨ f = 1 by omega) with z | z
    · rw [z]; rfl
    · rw [z]; rfl, pgst hi (by decide), gl_bs]
  rw [M_to (i := i) (by rw [ls_ua, ls_ua, ls_ua, ls_ua]; exact h26) hi, gl_bs]
  rfl
theorem cl_pid (h : pV c D L B at' N F g α s) (ha : at' < c.n) (hF : F < 20) (hd : D.dp = i + 1) (hS : D.st i = 0) (hf : f ≤ 1) (h1 : f = 1 → i = 0) : cQ c D B at' N F α s (hX4_header G (some c.p) (nI (2 + f)) (zwI α 40 4 c.p (nI 0))) (gX26_unitNamed (nI f) (maS (us s 43 (nI 0)) at')) := by
  obtain ⟨i10, hu, cu, ku, xs, d26, r29, r22, u2⟩ := h.cur hd
  have h0 := h.o
  have R0 := h0.start (s' := us s 43 (nI 0)) (lv := 0) ha hF (fun k hk => by
    rw [ls_us] at hk
    split at hk
    · omega
    · exact absurd rfl hk) (fun _ => rfl) rfl (fun z => absurd z (by decide))
  have kp : zkd (zwI α 40 4 c.p (nI 0)) c.p = 41 := R0.kp
  have cu' : zA (zwI α 40 4 c.p (nI 0)) 40 11 c.p = some (D.ou (D.os i)) := by rw [zA_zwI]; exact cu
  have ax' : zI (zwI α 40 4 c.p (nI 0)) 40 3 c.p = nI at' := R0.ax
  have oK := h.op i (by omega)
  have uK := h.u _ hu
  have ku' : zkd (zwI α 40 4 c.p (nI 0)) (D.ou (D.os i)) = 44 := by rw [zkd_zwI]; exact ku
  have st0 : zI (zwI α 40 4 c.p (nI 0)) 43 3 (D.ou (D.os i)) = nI 0 := by rw [zI_zwI, if_neg (fun z => absurd z.1 (by decide)), xs, hS]
  have R1 := R0.adv ha
  have kp1 : zkd (zwI (zwI α 40 4 c.p (nI 0)) 40 3 c.p (nI (at' + 1))) c.p = 41 := R1.kp
  have X3 : ∀ R, hX4_take G (some c.p) (nI 1) (zwI (zwI α 40 4 c.p (nI 0)) 40 3 c.p (nI (at' + 1))) = R → hX4_header_168 G (some c.p) (nI (2 + f)) (some (D.ou (D.os i))) (some c.p) (zwI α 40 4 c.p (nI 0)) = zcase R (fun p29 =>
          if zis G p29.2 (some c.p) 41 = true then
            zcase (hX4_period G (some c.p) p29.2) (fun p30 =>
              (zfA p30.2 (some (D.ou (D.os i))) 43 1).bind fun r31 =>
              if ¬ nI (2 + f) = (2 : Int32) then
                hX4_header_211 G (some (D.ou (D.os i))) p29.1 (nI 2) r31 p30.2
              else
                hX4_header_211 G (some (D.ou (D.os i))) p29.1 (nI 1) r31 p30.2) (fun p32 =>
              if zthr p32.2 p32.1 3 = true then
                some (.inr p32.1, p32.2)
              else none)
          else none) (fun p33 =>
          if zthr p33.2 p33.1 3 = true then
            some (.inr p33.1, p33.2)
          else none) := fun R hR => by
    unfold hX4_header_168 hX4_header_173
    rw [if_pos (of_eq_true (kis kp (by decide)))]
    show zcase (hX4_must G (some c.p) (nI 1) (zwI α 40 4 c.p (nI 0))) _ _ = _
    rw [X_must1, zc_l, kfI kp, gl_bs, ax', kpI kp, gl_bs, show nI at' + 1 = nI (at' + 1) from pI_succ at', if_pos (of_eq_true (kis kp1 (by decide)))]
    show zcase (hX4_take G (some c.p) (nI 1) (zwI (zwI α 40 4 c.p (nI 0)) 40 3 c.p (nI (at' + 1)))) _ _ = _
    rw [hR]
    rfl
  have X0 : hX4_header G (some c.p) (nI (2 + f)) (zwI α 40 4 c.p (nI 0)) = hX4_header_168 G (some c.p) (nI (2 + f)) (some (D.ou (D.os i))) (some c.p) (zwI α 40 4 c.p (nI 0)) := by
    unfold hX4_header hX4_header_148
    rw [kfA kp, gl_bs, cu', kfI kp, gl_bs, ax']
    rcases (show f = 0 ∨ f = 1 by omega) with z | z
    · rw [z, if_neg (by decide), if_pos (by decide), kfI ku', gl_bs, st0, if_neg (show ¬ ¬ nI 0 = 0 from fun z => z rfl), if_pos (by decide)]
    · have up := oK.up
      rw [if_pos (h1 z)] at up
      rw [z, if_neg (by decide), if_neg (by decide), if_pos (by decide), kfI ku', gl_bs, st0, if_neg (show ¬ ¬ nI 0 = 0 from fun z => z rfl), if_neg (by decide), kfA ku', gl_bs, zA_zwI, up, if_pos rfl]
  have hb0 : pB (c.on (zwI α 40 4 c.p (nI 0)) (us s 43 (nI 0)) N at' 0) N at' 4 := on_pB (by decide) (.inl (by decide))
  have hb1 : pB (c.on (zwI α 40 4 c.p (nI 0)) (us s 43 (nI 0)) N at' 0) N (at' + 1) 0 := by unfold pB at *; omega
  rcases R1.take (G := G) (k := 1) (by decide) hb1 with ⟨e3, y1, n1, R3⟩ | ⟨e, β, s', w, y1, y2, n1, y3⟩
  · have y1' : hX4_take G (some c.p) (nI 1) (zwI (zwI α 40 4 c.p (nI 0)) 40 3 c.p (nI (at' + 1))) = some (.inl (nI (c.vs (at' + 1))), (zwI (zwI (zwI α 40 4 c.p (nI 0)) 40 3 c.p (nI (at' + 1))) 40 3 c.p (nI (at' + 1 + 1)))) := y1
    have n1' : gX26_mustBe (nI 1) (maS (us s 43 (nI 0)) at') = some (nI 1, maS (maS (us s 43 (nI 0)) at') (at' + 1)) := n1
    have kp3 : zkd (zwI (zwI (zwI α 40 4 c.p (nI 0)) 40 3 c.p (nI (at' + 1))) 40 3 c.p (nI (at' + 1 + 1))) c.p = 41 := R3.kp
    have hb3 : pB (c.on (zwI α 40 4 c.p (nI 0)) (us s 43 (nI 0)) N at' 0) N (at' + 1 + 1) 0 := hb1.go (by omega)
    have ps := M_passed R3 (by omega)
    rw [Nat.add_sub_cancel] at ps
    have ps' : gX26_passed (maS (maS (us s 43 (nI 0)) at') (at' + 1)) = some (nI (c.vs (at' + 1)), maS (maS (us s 43 (nI 0)) at') (at' + 1)) := ps
    rcases R3.period (G := G) hb3 with ⟨e4, u1, v1, R4⟩ | ⟨e, β, s', w, u1, u2, v1, u3⟩
    · have u1' : hX4_period G (some c.p) (zwI (zwI (zwI α 40 4 c.p (nI 0)) 40 3 c.p (nI (at' + 1))) 40 3 c.p (nI (at' + 1 + 1))) = some (.inl (), (zwI (zwI (zwI (zwI α 40 4 c.p (nI 0)) 40 3 c.p (nI (at' + 1))) 40 3 c.p (nI (at' + 1 + 1))) 40 3 c.p (nI (at' + 1 + 1 + 1)))) := u1
      have v1' : gX26_mustBe (nI 4) (maS (maS (us s 43 (nI 0)) at') (at' + 1)) = some (nI 1, (maS (maS (maS (us s 43 (nI 0)) at') (at' + 1)) (at' + 1 + 1))) := v1
      have R4' : pR (c.on (zwI α 40 4 c.p (nI 0)) (us s 43 (nI 0)) N at' 0) (at' + 3) 0 N N 0 pG0 (zwI (zwI (zwI (zwI α 40 4 c.p (nI 0)) 40 3 c.p (nI (at' + 1))) 40 3 c.p (nI (at' + 1 + 1))) 40 3 c.p (nI (at' + 1 + 1 + 1))) (maS (maS (maS (us s 43 (nI 0)) at') (at' + 1)) (at' + 1 + 1)) := R4
      have l1 : at' + 1 < c.n := (wK_i (c := (c.on (zwI α 40 4 c.p (nI 0)) (us s 43 (nI 0)) N at' 0)) e3).1
      have d26'' : ls (maS (maS (maS (us s 43 (nI 0)) at') (at' + 1)) (at' + 1 + 1)) 26 = nI (i + 1) := d26
      have r29' : la (maS (maS (maS (us s 43 (nI 0)) at') (at' + 1)) (at' + 1 + 1)) 29 i = nI (D.os i) := r29
      have r22' : la (maS (maS (maS (us s 43 (nI 0)) at') (at' + 1)) (at' + 1 + 1)) 22 (D.os i) = nI (D.un (D.os i)) := r22
      have b43 : ls (maS (maS (maS (us s 43 (nI 0)) at') (at' + 1)) (at' + 1 + 1)) 43 = nI 0 := rfl
      have vb := h0.vs _ l1
      have un8 := (h.g.bd _ uK.lu).2
      have N0 := h0.N0
      have n5 := h0.n
      obtain ⟨V, _, _⟩ := h.fin R4' (fun k hk => by rw [ls_us, if_neg (by omega)]) (fun _ => rfl) (fun z => absurd z (by decide)) (by omega) (by omega)
      have g2e : (g.mrg pG0 N).oa (D.un (D.os i)) = g.oa (D.un (D.os i)) := mrg_o (h.g.bd _ uK.lu).2
      generalize g.mrg pG0 N = g2 at V g2e
      generalize (zwI (zwI (zwI (zwI α 40 4 c.p (nI 0)) 40 3 c.p (nI (at' + 1))) 40 3 c.p (nI (at' + 1 + 1))) 40 3 c.p (nI (at' + 1 + 1 + 1))) = α4 at u1' V
      generalize (maS (maS (maS (us s 43 (nI 0)) at') (at' + 1)) (at' + 1 + 1)) = s4 at v1' d26'' r29' r22' b43 V
      have U4 := V.u _ hu
      have kn4 := (V.g.nd _ U4.lu).kn
      have kq4 := U4.kn
      have xu4 := U4.xu
      have Xf : hX4_header G (some c.p) (nI (2 + f)) (zwI α 40 4 c.p (nI 0)) = some (.inl (), zwI (zwI (zwI α4 44 0 (g2.oa (D.un (D.os i))) (nI (1 + f))) 44 1 (g2.oa (D.un (D.os i))) (nI (c.vs (at' + 1)))) 43 3 (D.ou (D.os i)) (nI 1)) := by
        have XL : ∀ k, k ≤ 2 → hX4_header_211 G (some (D.ou (D.os i))) (nI (c.vs (at' + 1))) (nI k) (some (g2.oa (D.un (D.os i)))) α4 = some (.inl (), zwI (zwI (zwI α4 44 0 (g2.oa (D.un (D.os i))) (nI k)) 44 1 (g2.oa (D.un (D.os i))) (nI (c.vs (at' + 1)))) 43 3 (D.ou (D.os i)) (nI 1)) := fun k _ => by
          unfold hX4_header_211
          rw [kpI kn4, gl_bs, kfA (by rw [zkd_zwI]; exact kq4), gl_bs, zA_zwI, xu4, kpI (by rw [zkd_zwI]; exact kn4), gl_bs, kpI (by rw [zkd_zwI, zkd_zwI]; exact kq4), gl_bs]
          rfl
        rw [X0, X3 _ y1', zc_l, if_pos (of_eq_true (kis kp3 (by decide))), u1', zc_l, kfA kq4, gl_bs, xu4]
        rcases (show f = 0 ∨ f = 1 by omega) with z | z
        · rw [z, if_neg (by decide)]
          exact XL 1 (by decide)
        · rw [z, if_pos (by decide)]
          exact XL 2 (by decide)
      have Mf : gX26_unitNamed (nI f) (maS (us s 43 (nI 0)) at') = some ((), ua (ua (ua (ua (ua s4 9 (upd (la s4 9) (D.un (D.os i)) (nI (1 + f)))) 10 (upd (la s4 10) (D.un (D.os i)) (nI (c.vs (at' + 1))))) 28 (upd (la s4 28) i (nI (c.vs (at' + 1))))) 30 (upd (la s4 30) i (nI f))) 27 (upd (la s4 27) i (nI 1))) := by
        unfold gX26_unitNamed
        rw [show gX26_mustBe 1 (maS (us s 43 (nI 0)) at') = _ from n1', gl_bs, if_pos (show ¬ nI 1 = 0 from n1n)]
        show Option.bind (gX26_passed (maS (maS (us s 43 (nI 0)) at') (at' + 1))) _ = _
        rw [ps', gl_bs]
        show Option.bind (gX26_mustBe (nI 4) (maS (maS (us s 43 (nI 0)) at') (at' + 1))) _ = _
        rw [v1', gl_bs, if_pos (show ¬ nI 1 = 0 from n1n), M_here d26'' r29' (by omega), gl_bs]
        show Option.bind (gld s4 22 600 (nI (D.os i))) _ = _
        rw [pgld (by omega) (by decide), gl_bs, r22']
        rcases (show f = 0 ∨ f = 1 by omega) with z | z
        · rw [z, if_pos (show nI 0 = 0 from rfl)]
          exact M_un45 (k := 1) d26'' r29' r22' (by omega) (by omega) (by omega) (by decide) (by decide)
        · rw [z, if_neg (show ¬ nI 1 = 0 from n1n)]
          exact M_un45 (k := 2) d26'' r29' r22' (by omega) (by omega) (by omega) (by decide) (by decide)
      refine .inl ⟨_, _, _, _, at' + 3, N, _, F, Xf, Mf, b43, pV_kv V hd hS hf vb (fun _ => rfl) ?_ ?_ ?_ ?_ ?_ ?_, by omega, ⟨Nat.le_refl _, Nat.le_succ _⟩, rfl, rfl, rfl, rfl, rfl, rfl, rfl⟩
      · rfl
      · rfl
      · rfl
      · rfl
      · rfl
      · intro k hk
        rw [la_ua, if_neg (by omega), la_ua, if_neg (by omega), la_ua, if_neg (by omega), la_ua, if_neg (by omega), la_ua, if_neg (by omega)]
    · refine .inr ⟨e, β, s', 1, w, ?_, u2, ?_, u3⟩
      · rw [X0, X3 _ y1', zc_l, if_pos (of_eq_true (kis kp3 (by decide))), show hX4_period G (some c.p) (zwI (zwI (zwI α 40 4 c.p (nI 0)) 40 3 c.p (nI (at' + 1))) 40 3 c.p (nI (at' + 1 + 1))) = some (.inr e, β) from u1, zc_r, if_pos u2]
      · unfold gX26_unitNamed
        rw [show gX26_mustBe 1 (maS (us s 43 (nI 0)) at') = _ from n1', gl_bs, if_pos (show ¬ nI 1 = 0 from n1n)]
        show Option.bind (gX26_passed (maS (maS (us s 43 (nI 0)) at') (at' + 1))) _ = _
        rw [ps', gl_bs]
        show Option.bind (gX26_mustBe (nI 4) (maS (maS (us s 43 (nI 0)) at') (at' + 1))) _ = _
        rw [show gX26_mustBe (nI 4) (maS (maS (us s 43 (nI 0)) at') (at' + 1)) = some (nI 0, s') from v1, gl_bs, if_neg (show ¬ ¬ nI 0 = 0 from fun z => z rfl)]
  · refine .inr ⟨e, β, s', 1, w, ?_, y2, ?_, y3⟩
    · rw [X0, X3 _ (show hX4_take G (some c.p) (nI 1) (zwI (zwI α 40 4 c.p (nI 0)) 40 3 c.p (nI (at' + 1))) = some (.inr e, β) from y1), zc_r, if_pos y2]
    · unfold gX26_unitNamed
      rw [show gX26_mustBe 1 (maS (us s 43 (nI 0)) at') = some (nI 0, s') from n1, gl_bs, if_neg (show ¬ ¬ nI 0 = 0 from fun z => z rfl)]
end PAZZH
