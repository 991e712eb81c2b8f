/-! THE PURE LAYER: the parser: FD. -/
section PAZW
variable {L L2 : Nat → Prop} {c : pC} {D : pD} {G : xQ} {α β : zS} {s s' s1 : zM} {B at' a a1 b d N N' F F' p q t to u x y k i j w wh lv m S : Nat} {g g' g2 : pG} {v : Int32}
theorem cl_fd (h : pV c D L B at' N F g α s) (ha : at' < c.n) (hF : F < 20) (hd : D.dp = i + 1) (hS : D.st i = S) (hS1 : 4 ≤ S) (hS2 : S ≤ 5) : cQ c D B at' N F α s (hX4_header G (some c.p) (nI 17) (zwI α 40 4 c.p (nI 0))) (gX26_described (nI at') (maS (us s 43 (nI 0)) at')) := by
  obtain ⟨i10, hu, cu, ku, xs, d26, r29, r22, u2⟩ := h.cur hd
  have h0 := h.o
  have R0 := h0.start (s' := us s 43 (nI 0)) (lv := 0) ha hF (fun k hk => by
    rw [ls_us] at hk
    split at hk
    · omega
    · exact absurd rfl hk) (fun _ => rfl) rfl (fun z => absurd z (by decide))
  have kp : zkd (zwI α 40 4 c.p (nI 0)) c.p = 41 := R0.kp
  have cu' : zA (zwI α 40 4 c.p (nI 0)) 40 11 c.p = some (D.ou (D.os i)) := by rw [zA_zwI]; exact cu
  have ax' : zI (zwI α 40 4 c.p (nI 0)) 40 3 c.p = nI at' := R0.ax
  have oK := h.op i (by omega)
  have uK := h.u _ hu
  have St : hX4_state G (some c.p) (nI 4) (nI 5) (zwI α 40 4 c.p (nI 0)) = some (.inl (), zwI α 40 4 c.p (nI 0)) := by
    rw [X_state (k := S) (i := 4) (j := 5) kp cu' (by rw [zkd_zwI]; exact ku) (by
      rw [zI_zwI, if_neg (fun z => by have := z.1; omega), xs, hS]) (by omega) (by decide) (by decide), if_pos (by omega)]
  have kp1 : zkd (zwI (zwI α 40 4 c.p (nI 0)) 40 3 c.p (nI (at' + 1))) c.p = 41 := (R0.adv ha).kp
  have X0 : ∀ R, hX4_take G (some c.p) (nI 1) (zmk (zwI (zwI α 40 4 c.p (nI 0)) 40 3 c.p (nI (at' + 1))) 45 0 9) = R → hX4_header G (some c.p) (nI 17) (zwI α 40 4 c.p (nI 0)) = zcase R (fun p79 =>
            if zis G p79.2 (some (zn (zwI (zwI α 40 4 c.p (nI 0)) 40 3 c.p (nI (at' + 1))))) 45 = true then
              (hX43_init G (some (zn (zwI (zwI α 40 4 c.p (nI 0)) 40 3 c.p (nI (at' + 1))))) (nI 11) p79.1 (nI at') p79.2).bind fun p80 =>
              if zis G p80.2 (some c.p) 41 = true then
                zcase (hX4_period G (some c.p) p80.2) (fun p81 =>
                  (zfA p81.2 (some (D.ou (D.os i))) 43 6).bind fun r82 =>
                  if zis G p81.2 r82 45 = true then
                    (hX43_add G r82 (some (zn (zwI (zwI α 40 4 c.p (nI 0)) 40 3 c.p (nI (at' + 1))))) p81.2).bind fun p83 =>
                    if zis G p83.2 (some (D.ou (D.os i))) 44 = true then
                      (hX42_items G (some (D.ou (D.os i))) p83.1 p83.2).bind fun p84 =>
                      (zpI p84.2 (some (D.ou (D.os i))) 43 3 (nI 5)).bind fun σ85 =>
                      hX4_header_666 G  σ85
                    else none
                  else none) (fun p86 =>
                  if zthr p86.2 p86.1 3 = true then
                    some (.inr p86.1, p86.2)
                  else none)
              else none
            else none) (fun p87 =>
            if zthr p87.2 p87.1 3 = true then
              some (.inr p87.1, p87.2)
            else none) := fun R hR => by
    unfold hX4_header
    rw [kfA kp, gl_bs, cu', kfI kp, gl_bs, ax', if_neg (by decide), if_neg (by decide), if_neg (by decide), if_neg (by decide), if_neg (by decide), if_neg (by decide), if_neg (by decide), if_neg (by decide), if_neg (by decide), if_neg (by decide), if_neg (by decide), if_neg (by decide), if_neg (by decide), if_neg (by decide), if_neg (by decide), if_neg (by decide), if_pos (by decide), if_pos (of_eq_true (kis kp (by decide)))]
    show zcase (hX4_state G (some c.p) (nI 4) (nI 5) (zwI α 40 4 c.p (nI 0))) _ _ = _
    rw [St, zc_l, kfI kp, gl_bs, ax', kpI kp, gl_bs, show nI at' + 1 = nI (at' + 1) from pI_succ at']
    show Option.bind (znO (zwI (zwI α 40 4 c.p (nI 0)) 40 3 c.p (nI (at' + 1))) 44 9) _ = _
    rw [znO_e, gl_bs, if_pos (of_eq_true (kis (by rw [zkd_zmk, if_neg (fun z => by have := h0.p; have := h0.B1; have e : zn (zwI (zwI α 40 4 c.p (nI 0)) 40 3 c.p (nI (at' + 1))) = zn α := rfl; omega)]; exact kp1) (by decide)))]
    show zcase (hX4_take G (some c.p) (nI 1) (zmk (zwI (zwI α 40 4 c.p (nI 0)) 40 3 c.p (nI (at' + 1))) 45 0 9)) _ _ = _
    rw [hR]
    rfl
  have hb0 : pB (c.on (zwI α 40 4 c.p (nI 0)) (us s 43 (nI 0)) N at' 0) N at' 4 := on_pB (by decide) (.inl (by decide))
  obtain ⟨R1, q1⟩ := (R0.adv ha).cell
  have bt : pB (c.on (zwI α 40 4 c.p (nI 0)) (us s 43 (nI 0)) N at' 0) (N + 1) (at' + 1) 0 := by unfold pB at *; omega
  rcases R1.take (G := G) (k := 1) (by decide) bt with ⟨e1, x1, m1, R2⟩ | ⟨e, β, s', v, x1, x2, m1, x3⟩
  · obtain ⟨β, x4, R5⟩ := R2.new (G := G) (kv := nI 11) (v := nI (c.vs (at' + 1))) (v' := nI at') (r := 7000000) (q1.adv R1.k) (by decide)
    have ps := M_passed R2 (by omega)
    rw [Nat.add_sub_cancel] at ps
    have N8 : N < 7900 := by
      have := h0.N0
      have := h0.n
      omega
    have Nm2 := R2.Nm
    have x1' : hX4_take G (some c.p) (nI 1) (zmk (zwI (zwI α 40 4 c.p (nI 0)) 40 3 c.p (nI (at' + 1))) 45 0 9) = some (.inl (nI (c.vs (at' + 1))), zwI (zmk (zwI (zwI α 40 4 c.p (nI 0)) 40 3 c.p (nI (at' + 1))) 45 0 9) 40 3 c.p (nI (at' + 1 + 1))) := x1
    have x4' : hX43_init G (some (zn (zwI (zwI α 40 4 c.p (nI 0)) 40 3 c.p (nI (at' + 1))))) (nI 11) (nI (c.vs (at' + 1))) (nI at') (zwI (zmk (zwI (zwI α 40 4 c.p (nI 0)) 40 3 c.p (nI (at' + 1))) 45 0 9) 40 3 c.p (nI (at' + 1 + 1))) = some ((), β) := x4
    have kq : zkd (zwI (zmk (zwI (zwI α 40 4 c.p (nI 0)) 40 3 c.p (nI (at' + 1))) 45 0 9) 40 3 c.p (nI (at' + 1 + 1))) (zn (zwI (zwI α 40 4 c.p (nI 0)) 40 3 c.p (nI (at' + 1)))) = 45 := (q1.adv R1.k).kd
    have kp5 : zkd β c.p = 41 := R5.kp
    have M0 : gX26_described (nI at') (maS (us s 43 (nI 0)) at') = (gX26_mustBe (nI 4) (mMk (maS (maS (us s 43 (nI 0)) at') (at' + 1)) N (nI 11) (nI (c.vs (at' + 1))) (nI at'))).bind fun p4 => if ¬ p4.1 = 0 then xlet (ls p4.2 32) fun x5 => (gX26_attach x5 (nI N) p4.2).bind fun p6 => xlet (us p6.2 33 (nI N)) fun s7 => xlet (us s7 37 (nI 0)) fun s8 => xlet (us s8 38 (nI 0)) fun s9 => (gX26_to (nI 5) s9).bind fun p10 => some ((), p10.2) else some ((), p4.2) := by
      unfold gX26_described
      rw [show gX26_mustBe 1 (maS (us s 43 (nI 0)) at') = some (nI 1, maS (maS (us s 43 (nI 0)) at') (at' + 1)) from m1, gl_bs, if_pos (show ¬ nI 1 = 0 from n1n)]
      show Option.bind (gX26_passed (maS (maS (us s 43 (nI 0)) at') (at' + 1))) _ = _
      rw [show gX26_passed (maS (maS (us s 43 (nI 0)) at') (at' + 1)) = some (nI (c.vs (at' + 1)), maS (maS (us s 43 (nI 0)) at') (at' + 1)) from ps, gl_bs]
      show Option.bind (gX26_make (nI 11) (nI (c.vs (at' + 1))) (nI at') (maS (maS (us s 43 (nI 0)) at') (at' + 1))) _ = _
      rw [M_make Nm2 (by omega), gl_bs]
      rfl
    have bt2 : pB (c.on (zwI α 40 4 c.p (nI 0)) (us s 43 (nI 0)) N at' 0) (N + 1 + 1) (at' + 1 + 1) 0 := by unfold pB at *; omega
    rcases R5.period (G := G) bt2 with ⟨e2, y1, n1, R6⟩ | ⟨e, δ, s', v, y1, y2, n1, y3⟩
    · have zk : ∀ k, k < D.nu → (zwI β 40 3 c.p (nI (at' + 1 + 1 + 1))).2 (D.ou k) = α.2 (D.ou k) := fun k hk => h.unX R6.x hk
      have y1' : hX4_period G (some c.p) β = some (.inl (), zwI β 40 3 c.p (nI (at' + 1 + 1 + 1))) := y1
      have R6' : pR (c.on (zwI α 40 4 c.p (nI 0)) (us s 43 (nI 0)) N at' 0) (at' + 3) 0 (N + 1 + 1) (N + 1) 0 (pG0.push N (zn (zwI (zwI α 40 4 c.p (nI 0)) 40 3 c.p (nI (at' + 1)))) 7000000) (zwI β 40 3 c.p (nI (at' + 1 + 1 + 1))) (maS (mMk (maS (maS (us s 43 (nI 0)) at') (at' + 1)) N (nI 11) (nI (c.vs (at' + 1))) (nI at')) (at' + 1 + 1)) := R6
      generalize zwI β 40 3 c.p (nI (at' + 1 + 1 + 1)) = β6 at y1' zk R6'
      have U0 := h.u _ hu
      have I0 := h.inn (by omega)
      rw [hd, Nat.add_sub_cancel, hS] at I0
      obtain ⟨fL, fx, fm, rk⟩ := I0.fi hS1 hS2
      have N1 := h0.N1
      have l16 : la (maS (mMk (maS (maS (us s 43 (nI 0)) at') (at' + 1)) N (nI 11) (nI (c.vs (at' + 1))) (nI at')) (at' + 1 + 1)) 16 N = nI 0 := by
        show la (mMk (maS (maS (us s 43 (nI 0)) at') (at' + 1)) N (nI 11) (nI (c.vs (at' + 1))) (nI at')) 16 N = nI 0
        rw [mMk_la (by decide) (by decide), if_pos rfl]; rfl
      obtain ⟨γ, l, g2, kU, y1, y2, V2, oN, rN, _⟩ := h.root (G := G) (to := D.fi) (t := N) R6' (fun k hk => by rw [ls_us, if_neg (by omega)]) (fun _ => rfl) (fun z => absurd z (by decide)) (by omega) (by omega) hF fL (Nat.le_refl _) (Nat.lt_succ_self _) (by
        rw [push_r, if_pos rfl, rk]
        decide) l16
      rw [push_oa, if_pos rfl] at y1 oN
      rw [push_r, if_pos rfl] at rN
      have U2 := V2.u _ hu
      have O2 := V2.op i (by omega)
      have I2 := V2.inn (by omega)
      rw [hd, Nat.add_sub_cancel, hS] at I2
      have kO : zkd γ (D.ou (D.os i)) = 44 := U2.kn
      have It : hX42_items G (some (D.ou (D.os i))) (some (zn (zwI (zwI α 40 4 c.p (nI 0)) 40 3 c.p (nI (at' + 1))))) γ = some ((), (zsL (zwA (zwA γ 43 7 (D.ou (D.os i)) (some (zn (zwI (zwI α 40 4 c.p (nI 0)) 40 3 c.p (nI (at' + 1)))))) 43 12 (D.ou (D.os i)) none) (D.ou (D.os i) + 1) 0 0 0 (zB (zwA (zwA γ 43 7 (D.ou (D.os i)) (some (zn (zwI (zwI α 40 4 c.p (nI 0)) 40 3 c.p (nI (at' + 1)))))) 43 12 (D.ou (D.os i)) none) (D.ou (D.os i) + 1)) (zC (zwA (zwA γ 43 7 (D.ou (D.os i)) (some (zn (zwI (zwI α 40 4 c.p (nI 0)) 40 3 c.p (nI (at' + 1)))))) 43 12 (D.ou (D.os i)) none) (D.ou (D.os i) + 1)) [] (zm (zwA (zwA γ 43 7 (D.ou (D.os i)) (some (zn (zwI (zwI α 40 4 c.p (nI 0)) 40 3 c.p (nI (at' + 1)))))) 43 12 (D.ou (D.os i)) none) (D.ou (D.os i) + 1) + 1))) := by
        unfold hX42_items
        rw [kpA kO, gl_bs, kpA (by rw [zkd_zwA]; exact kO), gl_bs, kfA (by rw [zkd_zwA, zkd_zwA]; exact kO), gl_bs, zA_zwA, if_neg (fun z => absurd z.2.1 (by decide)), zA_zwA, if_neg (fun z => absurd z.2.1 (by decide)), U2.fl]
        unfold zLclear
        show Option.bind (if zkd (zwA (zwA γ 43 7 (D.ou (D.os i)) (some (zn (zwI (zwI α 40 4 c.p (nI 0)) 40 3 c.p (nI (at' + 1)))))) 43 12 (D.ou (D.os i)) none) (D.ou (D.os i) + 1) = 3 then _ else none) _ = _
        rw [if_pos (by rw [zkd_zwA, zkd_zwA]; exact U2.kl), gl_bs]
      have Xf : hX4_header G (some c.p) (nI 17) (zwI α 40 4 c.p (nI 0)) = some (.inl (), zwI (zsL (zwA (zwA γ 43 7 (D.ou (D.os i)) (some (zn (zwI (zwI α 40 4 c.p (nI 0)) 40 3 c.p (nI (at' + 1)))))) 43 12 (D.ou (D.os i)) none) (D.ou (D.os i) + 1) 0 0 0 (zB (zwA (zwA γ 43 7 (D.ou (D.os i)) (some (zn (zwI (zwI α 40 4 c.p (nI 0)) 40 3 c.p (nI (at' + 1)))))) 43 12 (D.ou (D.os i)) none) (D.ou (D.os i) + 1)) (zC (zwA (zwA γ 43 7 (D.ou (D.os i)) (some (zn (zwI (zwI α 40 4 c.p (nI 0)) 40 3 c.p (nI (at' + 1)))))) 43 12 (D.ou (D.os i)) none) (D.ou (D.os i) + 1)) [] (zm (zwA (zwA γ 43 7 (D.ou (D.os i)) (some (zn (zwI (zwI α 40 4 c.p (nI 0)) 40 3 c.p (nI (at' + 1)))))) 43 12 (D.ou (D.os i)) none) (D.ou (D.os i) + 1) + 1)) 43 3 (D.ou (D.os i)) (nI 5)) := by
        rw [X0 _ x1', zc_l, if_pos (of_eq_true (kis kq (by decide)))]
        show Option.bind (hX43_init G (some (zn (zwI (zwI α 40 4 c.p (nI 0)) 40 3 c.p (nI (at' + 1))))) (nI 11) (nI (c.vs (at' + 1))) (nI at') _) _ = _
        rw [x4', gl_bs, if_pos (of_eq_true (kis kp5 (by decide))), y1', zc_l, kfA (by rw [zkd_eq (zk _ hu)]; exact ku), gl_bs, zA_eq (zk _ hu), fx, if_pos (of_eq_true (kis kU (by decide)))]
        show Option.bind (hX43_add G (some (g.oa D.fi)) (some (zn (zwI (zwI α 40 4 c.p (nI 0)) 40 3 c.p (nI (at' + 1))))) β6) _ = _
        rw [y1, gl_bs, if_pos (of_eq_true (kis kO (by decide)))]
        show Option.bind (hX42_items G (some (D.ou (D.os i))) (some (zn (zwI (zwI α 40 4 c.p (nI 0)) 40 3 c.p (nI (at' + 1))))) γ) _ = _
        rw [It, gl_bs, kpI (by rw [zkd_zsL, zkd_zwA, zkd_zwA]; exact kO), gl_bs]
        rfl
      have d26' : ls (maS (mMk (maS (maS (us s 43 (nI 0)) at') (at' + 1)) N (nI 11) (nI (c.vs (at' + 1))) (nI at')) (at' + 1 + 1)) 26 = nI (i + 1) := d26
      have f32' : ls (maS (mMk (maS (maS (us s 43 (nI 0)) at') (at' + 1)) N (nI 11) (nI (c.vs (at' + 1))) (nI at')) (at' + 1 + 1)) 32 = nI D.fi := fm
      have b43 : ls (maS (mMk (maS (maS (us s 43 (nI 0)) at') (at' + 1)) N (nI 11) (nI (c.vs (at' + 1))) (nI at')) (at' + 1 + 1)) 43 = nI 0 := rfl
      have n1' : gX26_mustBe (nI 4) (mMk (maS (maS (us s 43 (nI 0)) at') (at' + 1)) N (nI 11) (nI (c.vs (at' + 1))) (nI at')) = some (nI 1, (maS (mMk (maS (maS (us s 43 (nI 0)) at') (at' + 1)) N (nI 11) (nI (c.vs (at' + 1))) (nI at')) (at' + 1 + 1))) := n1
      generalize (maS (mMk (maS (maS (us s 43 (nI 0)) at') (at' + 1)) N (nI 11) (nI (c.vs (at' + 1))) (nI at')) (at' + 1 + 1)) = s6 at n1' d26' f32' b43 y2 V2 U2 O2 I2
      have l5 : ∀ k, ls (mAtS s6 D.fi l N) k = ls s6 k := fun k => mAtS_ls
      have Mf : gX26_described (nI at') (maS (us s 43 (nI 0)) at') = some ((), ua (us (us (us (mAtS s6 D.fi l N) 33 (nI N)) 37 (nI 0)) 38 (nI 0)) 27 (upd (la (mAtS s6 D.fi l N) 27) i (nI 5))) := by
        rw [M0, n1', gl_bs, if_pos (show ¬ nI 1 = 0 from n1n), gl_x, f32']
        show Option.bind (gX26_attach (nI D.fi) (nI N) s6) _ = _
        rw [y2, gl_bs, gl_x, gl_x, gl_x]
        show Option.bind (gX26_to (nI 5) _) _ = _
        rw [M_to (i := i) (by rw [ls_us, if_neg (by decide), ls_us, if_neg (by decide), ls_us, if_neg (by decide)]; exact (l5 26).trans d26') (by omega), gl_bs]
        rfl
      refine .inl ⟨_, _, D.set D.en D.da D.pr (va_up D.st i 5) D.nm D.fu D.hd D.fi N D.de D.se D.pa 0 [], _, at' + 3, N + 1, _, F, Xf, Mf, ?_, V2.upd (i := i) (u := D.os i) (q := D.ou (D.os i)) hd rfl rfl ?_ ?_ ?_ ?_ ?_ ?_ ?_ ?_ ?_ ?_ ?_ ?_ ?_, by omega, ⟨Nat.le_refl _, Nat.le_succ _⟩, rfl, rfl, rfl, rfl, rfl, rfl, rfl⟩
      · exact (l5 43).trans b43
      · intro x hx1 hx2
        rw [zwI_ne hx1, zsL_ne hx2, zwA_ne hx1, zwA_ne hx1]
      · rfl
      · exact Nat.le_refl _
      · exact Nat.le_refl _
      · intro k hk
        show ls (us (us (us _ 33 (nI N)) 37 (nI 0)) 38 (nI 0)) k = _
        rw [ls_us, if_neg (by omega), ls_us, if_neg (by omega), ls_us, if_neg (by omega)]
      · intro k hk
        rw [la_ua, if_neg (by omega)]
        rfl
      · intro k j k1 k2 hj
        rw [la_ua, if_neg (by omega)]
        rfl
      · intro k j k1 k2 hj
        rw [la_ua]
        split
        · rename_i e
          rw [e, upd_other hj]
        · rfl
      · exact fun k hk => ⟨rfl, rfl, rfl⟩
      · intro j hj
        refine ⟨?_, rfl, rfl, rfl⟩
        show (if j = i then 5 else D.st j) = _
        rw [if_neg hj]
      · refine uOk.mk U2.lo ?_ ?_ ?_ ?_ ?_ ?_ ?_ ?_ U2.mu U2.me U2.md U2.mp U2.lu U2.le U2.ld U2.lp
        · exact U2.hi
        · rw [zkd_zwI, zkd_zsL, zkd_zwA, zkd_zwA]; exact U2.kn
        · rw [zA_zwI, zA_zsL, zA_zwA, if_neg (fun z => absurd z.2.1 (by decide)), zA_zwA, if_neg (fun z => absurd z.2.1 (by decide))]; exact U2.fl
        · rw [zkd_zwI, zkd_zsL, zkd_zwA, zkd_zwA]; exact U2.kl
        · rw [zA_zwI, zA_zsL, zA_zwA, if_neg (fun z => absurd z.2.1 (by decide)), zA_zwA, if_neg (fun z => absurd z.2.1 (by decide))]; exact U2.xu
        · rw [zA_zwI, zA_zsL, zA_zwA, if_neg (fun z => absurd z.2.1 (by decide)), zA_zwA, if_neg (fun z => absurd z.2.1 (by decide))]; exact U2.xe
        · rw [zA_zwI, zA_zsL, zA_zwA, if_neg (fun z => absurd z.2.1 (by decide)), zA_zwA, if_neg (fun z => absurd z.2.1 (by decide))]; exact U2.xd
        · rw [zA_zwI, zA_zsL, zA_zwA, if_neg (fun z => absurd z.2.1 (by decide)), zA_zwA, if_neg (fun z => absurd z.2.1 (by decide))]; exact U2.xp
      · refine oOk.mk O2.u ?_ ?_ ?_ ?_ O2.mo O2.mf O2.mh ?_ O2.kd ?_ ?_ O2.f1 O2.h1 O2.nb O2.rk
        · rw [zA_zwI, zA_zsL, zA_zwA, if_neg (fun z => absurd z.2.1 (by decide)), zA_zwA, if_neg (fun z => absurd z.2.1 (by decide))]; exact O2.up
        · rw [zI_zwI, if_neg (fun z => absurd z.2.1 (by decide)), zI_zsL, zI_zwA, zI_zwA]; exact O2.xh
        · show _ = nI (if i = i then 5 else D.st i)
          rw [zI_zwI, if_pos ⟨rfl, rfl, rfl⟩, if_pos rfl]
        · show upd _ i (nI 5) i = nI (if i = i then 5 else D.st i)
          rw [upd_same, if_pos rfl]
        · exact fun _ => O2.mn (by omega)
        · exact fun _ => O2.vl (by omega)
        · show (if i = i then 5 else D.st i) ≤ 12
          rw [if_pos rfl]; decide
      · have eS : va_up D.st i 5 i = 5 := if_pos rfl
        rw [eS]
        refine iOk.mk (fun z1 z2 => absurd z2 (by decide)) (fun _ _ => I2.da (by omega) (by omega)) (fun z1 z2 => absurd z1 (by decide)) (fun _ _ => ?_) (fun _ _ => ⟨.inr ⟨Nat.le_refl _, Nat.lt_succ_self _⟩, ?_, ?_, Nat.le_of_eq rN.symm⟩) (fun _ _ => ⟨?_, rfl, .inl rfl⟩) (fun _ _ => ⟨rfl, ?_, fun i hi => absurd hi (Nat.not_lt_zero _)⟩) (fun z => absurd z (by decide)) (fun z1 z2 => absurd z1 (by decide)) (fun z1 z2 => absurd z1 (by decide)) (fun _ => ?_)
        · obtain ⟨w1, w2, w3, w4⟩ := I2.fi hS1 hS2
          refine ⟨w1, ?_, ?_, w4⟩
          · show _ = some (g2.oa D.fi)
            rw [zA_zwI, zA_zsL, zA_zwA, if_neg (fun z => absurd z.2.1 (by decide)), zA_zwA, if_neg (fun z => absurd z.2.1 (by decide))]; exact w2
          · show ls (us (us (us (mAtS s6 D.fi l N) 33 (nI N)) 37 (nI 0)) 38 (nI 0)) 32 = nI D.fi
            rw [ls_us, if_neg (by decide), ls_us, if_neg (by decide), ls_us, if_neg (by decide)]; exact w3
        · show _ = some (g2.oa N)
          rw [zA_zwI, zA_zsL, zA_zwA, if_neg (fun z => absurd z.2.1 (by decide)), zA_zwA, if_pos ⟨rfl, rfl, rfl⟩, oN]
        · rfl
        · show _ = none
          rw [zA_zwI, zA_zsL, zA_zwA, if_pos ⟨rfl, rfl, rfl⟩]
        · show _ = []
          rw [zL_zwI, zL_zsL, if_pos rfl]
        · obtain ⟨w1, w2⟩ := I2.s8 (by omega)
          exact ⟨by rw [zA_zwI, zA_zsL, zA_zwA, if_neg (fun z => absurd z.2.1 (by decide)), zA_zwA, if_neg (fun z => absurd z.2.1 (by decide))]; exact w1, by rw [zA_zwI, zA_zsL, zA_zwA, if_neg (fun z => absurd z.2.1 (by decide)), zA_zwA, if_neg (fun z => absurd z.2.1 (by decide))]; exact w2⟩
    · refine .inr ⟨e, δ, s', 1, v, ?_, y2, ?_, y3⟩
      · rw [X0 _ x1', zc_l, if_pos (of_eq_true (kis kq (by decide)))]
        show Option.bind (hX43_init G (some (zn (zwI (zwI α 40 4 c.p (nI 0)) 40 3 c.p (nI (at' + 1))))) (nI 11) (nI (c.vs (at' + 1))) (nI at') _) _ = _
        rw [x4', gl_bs, if_pos (of_eq_true (kis kp5 (by decide))), show hX4_period G (some c.p) β = some (.inr e, δ) from y1, zc_r, if_pos y2]
      · rw [M0, n1, gl_bs, if_neg (show ¬ ¬ nI 0 = 0 from fun z => z rfl)]
  · refine .inr ⟨e, β, s', 1, v, ?_, x2, ?_, x3⟩
    · rw [X0 _ x1, zc_r, if_pos x2]
    · unfold gX26_described
      rw [show gX26_mustBe 1 (maS (us s 43 (nI 0)) at') = some (nI 0, s') from m1, gl_bs, if_neg (show ¬ ¬ nI 0 = 0 from fun z => z rfl)]
end PAZW
