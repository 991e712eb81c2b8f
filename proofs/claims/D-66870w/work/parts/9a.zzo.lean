/-! THE PURE LAYER: the parser: SELECT, whole. -/
section PAZZO
variable {L L2 : Nat → Prop} {c : pC} {D D' : pD} {G : xQ} {α β : zS} {s s' s1 : zM} {B at' a a1 b d e f N N' F F' p q t to u x y k i j w wh lv m S r : Nat} {g g' g2 : pG} {v v' : Int32}
theorem cl_sel (h : pV c D L B at' N F g α s) (ha : at' < c.n) (hF : F < 20) (hd : D.dp = i + 1) (hS : D.st i = 2) : cQ c D B at' N F α s (hX4_header G (some c.p) (nI 5) (zwI α 40 4 c.p (nI 0))) (gX26_select (nI at') (maS (us s 43 (nI 0)) at')) := by
  obtain ⟨i10, hu, cu, ku, xs, d26, r29, r22, u2⟩ := h.cur hd
  have h0 := h.o
  have R0 := h0.start (s' := us s 43 (nI 0)) (lv := 0) ha hF (fun k hk => by
    rw [ls_us] at hk
    split at hk
    · omega
    · exact absurd rfl hk) (fun _ => rfl) rfl (fun z => absurd z (by decide))
  have kp : zkd (zwI α 40 4 c.p (nI 0)) c.p = 41 := R0.kp
  have cu' : zA (zwI α 40 4 c.p (nI 0)) 40 11 c.p = some (D.ou (D.os i)) := by rw [zA_zwI]; exact cu
  have ax' : zI (zwI α 40 4 c.p (nI 0)) 40 3 c.p = nI at' := R0.ax
  have U0 := h.u _ hu
  have I0 := h.inn (by omega)
  rw [hd, Nat.add_sub_cancel, hS] at I0
  obtain ⟨en0, enr⟩ := I0.en (by decide) (by decide)
  have St : hX4_state G (some c.p) (nI 2) (nI 2) (zwI α 40 4 c.p (nI 0)) = some (.inl (), zwI α 40 4 c.p (nI 0)) := by
    rw [X_state (k := 2) (i := 2) (j := 2) kp cu' (by rw [zkd_zwI]; exact ku) (by
      rw [zI_zwI, if_neg (fun z => by have := z.1; omega), xs, hS]) (by omega) (by decide) (by decide), if_pos (by omega)]
  have R1 := R0.adv ha
  have kp1 : zkd (zwI (zwI α 40 4 c.p (nI 0)) 40 3 c.p (nI (at' + 1))) c.p = 41 := R1.kp
  obtain ⟨R2, q2⟩ := R1.cell
  have kp2 : zkd (zmk (zwI (zwI α 40 4 c.p (nI 0)) 40 3 c.p (nI (at' + 1))) 45 0 9) c.p = 41 := R2.kp
  have X0 : hX4_header G (some c.p) (nI 5) (zwI α 40 4 c.p (nI 0)) = seX G (some (g.oa (D.en (D.os i)))) (hX4_select G (some c.p) (zwI α 40 4 c.p (nI 0))) := by
    unfold hX4_header
    rw [kfA kp, gl_bs, cu', kfI kp, gl_bs, ax', if_neg (by decide), if_neg (by decide), if_neg (by decide), if_neg (by decide), if_pos (by decide), if_pos (of_eq_true (kis kp (by decide)))]
    show zcase (hX4_state G (some c.p) (nI 2) (nI 2) (zwI α 40 4 c.p (nI 0))) _ _ = _
    rw [St, zc_l, kfA (by rw [zkd_zwI]; exact ku), gl_bs, zA_zwI, U0.xe, pN_s en0, if_pos (of_eq_true (kis kp (by decide)))]
    rfl
  have hb0 : pB (c.on (zwI α 40 4 c.p (nI 0)) (us s 43 (nI 0)) N at' 0) N at' 4 := on_pB (by decide) (.inl (by decide))
  have b2 : pB (c.on (zwI α 40 4 c.p (nI 0)) (us s 43 (nI 0)) N at' 0) (N + 1) (at' + 1) 0 := by unfold pB at *; omega
  have N0 := h0.N0
  have n5 := h0.n
  have N1 := h0.N1
  have X1 : ∀ R, hX4_take G (some c.p) (nI 1) (zmk (zwI (zwI α 40 4 c.p (nI 0)) 40 3 c.p (nI (at' + 1))) 45 0 9) = R → hX4_select G (some c.p) (zwI α 40 4 c.p (nI 0)) = zcase R (fun p41 =>
      if zis G p41.2 (some (zn α)) 45 = true then
        (hX43_init G (some (zn α)) (nI 4) p41.1 (nI at') p41.2).bind fun p42 =>
        if zis G p42.2 (some c.p) 41 = true then
          zcase (hX4_need G (some c.p) (nI 6) p42.2) (fun p43 =>
            if zis G p43.2 (some c.p) 41 = true then
              (hX4_meets G (some c.p) (nI 48) p43.2).bind fun p44 =>
              (zfI p44.2 (some c.p) 40 3).bind fun x45 =>
              if zis G p44.2 (some c.p) 41 = true then
                (hX4_isKind G (some c.p) x45 (nI 2) p44.2).bind fun p46 =>
                if ¬ p46.1 = 0 then
                  hX4_select_61 G (some c.p) (some (zn α)) (nI 0) (some c.p) p46.2
                else
                  hX4_select_61 G (some c.p) (some (zn α)) (nI 1) (some c.p) p46.2
              else none
            else none) (fun p47 =>
            if zthr p47.2 p47.1 3 = true then
              some (.inr p47.1, p47.2)
            else none)
        else none
      else none) (fun p48 =>
      if zthr p48.2 p48.1 3 = true then
        some (.inr p48.1, p48.2)
      else none) := fun R hR => by
    unfold hX4_select
    rw [kfI kp, gl_bs, ax', gl_bs, kpI kp, gl_bs, show nI at' + 1 = nI (at' + 1) from pI_succ at']
    show Option.bind (znO (zwI (zwI α 40 4 c.p (nI 0)) 40 3 c.p (nI (at' + 1))) 44 9) _ = _
    rw [znO_e, gl_bs, if_pos (of_eq_true (kis kp2 (by decide)))]
    show zcase (hX4_take G (some c.p) (nI 1) (zmk (zwI (zwI α 40 4 c.p (nI 0)) 40 3 c.p (nI (at' + 1))) 45 0 9)) _ _ = _
    rw [hR]
    rfl
  rcases R2.take (G := G) (k := 1) (by decide) b2 with ⟨e3, y1, n1, R3⟩ | ⟨ex, γ, s4, w, y1, y2, n1, y3⟩
  · have y1' : hX4_take G (some c.p) (nI 1) (zmk (zwI (zwI α 40 4 c.p (nI 0)) 40 3 c.p (nI (at' + 1))) 45 0 9) = some (.inl (nI (c.vs (at' + 1))), zwI (zmk (zwI (zwI α 40 4 c.p (nI 0)) 40 3 c.p (nI (at' + 1))) 45 0 9) 40 3 c.p (nI (at' + 1 + 1))) := y1
    have q3 : xNw (c.on (zwI α 40 4 c.p (nI 0)) (us s 43 (nI 0)) N at' 0) (zwI (zmk (zwI (zwI α 40 4 c.p (nI 0)) 40 3 c.p (nI (at' + 1))) 45 0 9) 40 3 c.p (nI (at' + 1 + 1))) (zn α) := q2.adv R2.k
    have kq := q3.kd
    obtain ⟨β, x4, R5⟩ := R3.new (G := G) (kv := nI 4) (v := nI (c.vs (at' + 1))) (v' := nI at') (r := 1000) q3 (by decide)
    have ps := M_passed R3 (by omega)
    rw [Nat.add_sub_cancel] at ps
    have ps' : gX26_passed (maS (maS (us s 43 (nI 0)) at') (at' + 1)) = some (nI (c.vs (at' + 1)), maS (maS (us s 43 (nI 0)) at') (at' + 1)) := ps
    have Nm2 : ls (maS (maS (us s 43 (nI 0)) at') (at' + 1)) 8 = nI N := R3.Nm
    have kp5 : zkd β c.p = 41 := R5.kp
    have x4' : hX43_init G (some (zn α)) (nI 4) (nI (c.vs (at' + 1))) (nI at') (zwI (zmk (zwI (zwI α 40 4 c.p (nI 0)) 40 3 c.p (nI (at' + 1))) 45 0 9) 40 3 c.p (nI (at' + 1 + 1))) = some ((), β) := x4
    have XA : hX4_select G (some c.p) (zwI α 40 4 c.p (nI 0)) = zcase (hX4_need G (some c.p) (nI 6) β) (fun p43 =>
            if zis G p43.2 (some c.p) 41 = true then
              (hX4_meets G (some c.p) (nI 48) p43.2).bind fun p44 =>
              (zfI p44.2 (some c.p) 40 3).bind fun x45 =>
              if zis G p44.2 (some c.p) 41 = true then
                (hX4_isKind G (some c.p) x45 (nI 2) p44.2).bind fun p46 =>
                if ¬ p46.1 = 0 then
                  hX4_select_61 G (some c.p) (some (zn α)) (nI 0) (some c.p) p46.2
                else
                  hX4_select_61 G (some c.p) (some (zn α)) (nI 1) (some c.p) p46.2
              else none
            else none) (fun p47 =>
            if zthr p47.2 p47.1 3 = true then
              some (.inr p47.1, p47.2)
            else none) := by
      rw [X1 _ y1', zc_l, if_pos (of_eq_true (kis kq (by decide)))]
      show Option.bind (hX43_init G (some (zn α)) (nI 4) (nI (c.vs (at' + 1))) (nI at') (zwI (zmk (zwI (zwI α 40 4 c.p (nI 0)) 40 3 c.p (nI (at' + 1))) 45 0 9) 40 3 c.p (nI (at' + 1 + 1)))) _ = _
      rw [x4', gl_bs, if_pos (of_eq_true (kis kp5 (by decide)))]
    have MA : gX26_select (nI at') (maS (us s 43 (nI 0)) at') = (gX26_must (nI 6) (mMk (maS (maS (us s 43 (nI 0)) at') (at' + 1)) N (nI 4) (nI (c.vs (at' + 1))) (nI at'))).bind fun p33 => if ¬ p33.1 = 0 then (gX26_meets (nI 48) p33.2).bind fun p34 => xlet (ls p34.2 41) fun x35 => (gX26_isKind x35 (nI 1) p34.2).bind fun p36 => if ¬ p36.1 = 0 then gX26_select_72 (nI N) p36.2 else xlet (ls p36.2 41) fun x37 => (gX26_isKind x37 (nI 3) p36.2).bind fun p38 => if ¬ p38.1 = 0 then gX26_select_72 (nI N) p38.2 else xlet (ls p38.2 41) fun x39 => (gX26_fail (nI 1) x39 p38.2).bind fun p40 => some ((), p40.2) else some ((), p33.2) := by
      unfold gX26_select
      rw [show gX26_mustBe 1 (maS (us s 43 (nI 0)) at') = _ from n1, gl_bs, if_pos (show ¬ nI 1 = 0 from n1n)]
      show Option.bind (gX26_passed (maS (maS (us s 43 (nI 0)) at') (at' + 1))) _ = _
      rw [ps', gl_bs]
      show Option.bind (gX26_make (nI 4) (nI (c.vs (at' + 1))) (nI at') (maS (maS (us s 43 (nI 0)) at') (at' + 1))) _ = _
      rw [M_make Nm2 (by omega), gl_bs]
      rfl
    have oN : (pG0.push N (zn α) 1000).oa N = zn α := by rw [push_oa, if_pos rfl]
    have rN : (pG0.push N (zn α) 1000).r N = 1000 := by rw [push_r, if_pos rfl]
    have l16 : la (mMk (maS (maS (us s 43 (nI 0)) at') (at' + 1)) N (nI 4) (nI (c.vs (at' + 1))) (nI at')) 16 N = nI 0 := mMk_16
    generalize mMk (maS (maS (us s 43 (nI 0)) at') (at' + 1)) N (nI 4) (nI (c.vs (at' + 1))) (nI at') = s5 at R5 MA l16
    generalize pG0.push N (zn α) 1000 = g5 at R5 oN rN
    have b5 : pB (c.on (zwI α 40 4 c.p (nI 0)) (us s 43 (nI 0)) N at' 0) (N + 1 + 1) (at' + 1 + 1) 0 := by unfold pB at *; omega
    rcases R5.need (G := G) (w := 6) (by decide) b5 with ⟨e6, x6, m6, R6⟩ | ⟨ex, γ, s', w, x1, x2, m1, x3⟩
    · have x6' : hX4_need G (some c.p) (nI 6) β = some (.inl (), zwI β 40 3 c.p (nI (at' + 1 + 1 + 1))) := x6
      have kp6 : zkd (zwI β 40 3 c.p (nI (at' + 1 + 1 + 1))) c.p = 41 := R6.kp
      obtain ⟨xx, a7, β7, s7, z1, z2, R7, ha7, hla⟩ := R6.meetsA (G := G) (w := 48) (by decide)
      have z1' : hX4_meets G (some c.p) (nI 48) (zwI β 40 3 c.p (nI (at' + 1 + 1 + 1))) = some (nI xx, β7) := z1
      have kp7 : zkd β7 c.p = 41 := R7.kp
      have ax7 : zI β7 40 3 c.p = nI a7 := R7.ax
      have am7 := R7.am
      have a5 : a7 ≤ 505 := R7.a5
      have l7 := (congrFun (hla 16) N).trans l16
      have b7 : pB (c.on (zwI α 40 4 c.p (nI 0)) (us s 43 (nI 0)) N at' 0) (N + 1 + 1) a7 0 := ⟨by show N + 1 + 1 + 0 + 10 * at' ≤ N + 10 * a7 + 60; omega, .inl (by decide)⟩
      have KX : hX4_isKind G (some c.p) (nI a7) (nI 2) β7 = some (nI (b2n (wK (c.on (zwI α 40 4 c.p (nI 0)) (us s 43 (nI 0)) N at' 0) a7 2)), β7) := X_isK (c := c.on (zwI α 40 4 c.p (nI 0)) (us s 43 (nI 0)) N at' 0) R7.k R7.xw (by omega) (by decide)
      have KM : ∀ k, k < 6 → gX26_isKind (nI a7) (nI k) s7 = some (nI (b2n (wK (c.on (zwI α 40 4 c.p (nI 0)) (us s 43 (nI 0)) N at' 0) a7 k)), s7) := fun k hk => M_isK R7.k R7.mw (by omega) (by omega)
      have XB : hX4_select G (some c.p) (zwI α 40 4 c.p (nI 0)) = if wK (c.on (zwI α 40 4 c.p (nI 0)) (us s 43 (nI 0)) N at' 0) a7 2 = true then hX4_select_61 G (some c.p) (some (zn α)) (nI 0) (some c.p) β7 else hX4_select_61 G (some c.p) (some (zn α)) (nI 1) (some c.p) β7 := by
        rw [XA, x6', zc_l, if_pos (of_eq_true (kis kp6 (by decide))), z1', gl_bs, kfI kp7, gl_bs, ax7, if_pos (of_eq_true (kis kp7 (by decide))), KX, gl_bs]
        rcases wK (c.on (zwI α 40 4 c.p (nI 0)) (us s 43 (nI 0)) N at' 0) a7 2 with _ | _
        · rw [if_neg (show ¬ ¬ nI (b2n false) = 0 from fun z => z rfl), if_neg (by decide)]
        · rw [if_pos (show ¬ nI (b2n true) = 0 from bT), if_pos rfl]
      have MB : gX26_select (nI at') (maS (us s 43 (nI 0)) at') = if wK (c.on (zwI α 40 4 c.p (nI 0)) (us s 43 (nI 0)) N at' 0) a7 1 = true then gX26_select_72 (nI N) s7 else if wK (c.on (zwI α 40 4 c.p (nI 0)) (us s 43 (nI 0)) N at' 0) a7 3 = true then gX26_select_72 (nI N) s7 else (gX26_fail (nI 1) (nI a7) s7).bind fun p40 => some ((), p40.2) := by
        rw [MA, m6, gl_bs, if_pos (show ¬ nI 1 = 0 from n1n), z2, gl_bs, gl_x, am7, KM 1 (by decide), gl_bs]
        rcases wK (c.on (zwI α 40 4 c.p (nI 0)) (us s 43 (nI 0)) N at' 0) a7 1 with _ | _
        · rw [if_neg (show ¬ ¬ nI (b2n false) = 0 from fun z => z rfl), if_neg (by decide), gl_x, am7, KM 3 (by decide), gl_bs]
          rcases wK (c.on (zwI α 40 4 c.p (nI 0)) (us s 43 (nI 0)) N at' 0) a7 3 with _ | _
          · rw [if_neg (show ¬ ¬ nI (b2n false) = 0 from fun z => z rfl), if_neg (by decide), gl_x, am7]
          · rw [if_pos (show ¬ nI (b2n true) = 0 from bT), if_pos rfl]
        · rw [if_pos (show ¬ nI (b2n true) = 0 from bT), if_pos rfl]
      have T := sel_org (G := G) h hF hd hS R7 (by omega) (by omega) (Nat.lt_succ_self _) rN l7
      rw [oN] at T
      rcases k2 : wK (c.on (zwI α 40 4 c.p (nI 0)) (us s 43 (nI 0)) N at' 0) a7 2 with _ | _
      · rcases k1 : wK (c.on (zwI α 40 4 c.p (nI 0)) (us s 43 (nI 0)) N at' 0) a7 1 with _ | _
        · rcases k3 : wK (c.on (zwI α 40 4 c.p (nI 0)) (us s 43 (nI 0)) N at' 0) a7 3 with _ | _
          · obtain ⟨ex, δ, s8, w, t1, t2, t3, t4, _⟩ := R7.opno (G := G) (nm := true) b7 k2 k3 (.inr k1)
            refine .inr ⟨ex, δ, s8, 1, w, ?_, t2, ?_, t4⟩
            · rw [X0, XB, k2, if_neg (by decide)]
              refine seX_r ?_ t2
              unfold hX4_select_61
              rw [if_pos (of_eq_true (kis kp7 (by decide))), X_must1, zc_l, if_pos (of_eq_true (kis kp7 (by decide)))]
              show zcase (hX4_operand G (some c.p) (nI 1) β7) _ _ = _
              rw [show hX4_operand G (some c.p) (nI 1) β7 = some (.inr ex, δ) from t1, zc_r, if_pos t2]
            · rw [MB, k1, if_neg (by decide), k3, if_neg (by decide), t3, gl_bs]
          · rw [X0, XB, k2, if_neg (by decide), MB, k1, if_neg (by decide), k3, if_pos rfl]
            exact T
        · rw [X0, XB, k2, if_neg (by decide), MB, k1, if_pos rfl]
          exact T
      · obtain ⟨ex, δ, s8, w, t1, t2, t3, t4⟩ := R7.no (G := G) b7
        have k1 : wK (c.on (zwI α 40 4 c.p (nI 0)) (us s 43 (nI 0)) N at' 0) a7 1 = false := wK_f (by have := (wK_i k2).2; omega)
        have k3 : wK (c.on (zwI α 40 4 c.p (nI 0)) (us s 43 (nI 0)) N at' 0) a7 3 = false := wK_f (by have := (wK_i k2).2; omega)
        refine .inr ⟨ex, δ, s8, 1, w, ?_, t2, ?_, t4⟩
        · rw [X0, XB, k2, if_pos rfl]
          refine seX_r ?_ t2
          unfold hX4_select_61
          rw [if_pos (of_eq_true (kis kp7 (by decide)))]
          show zcase (hX4_must G (some c.p) (nI 0) β7) _ _ = _
          rw [show hX4_must G (some c.p) (nI 0) β7 = some (.inr ex, δ) from t1, zc_r, if_pos t2]
        · rw [MB, k1, if_neg (by decide), k3, if_neg (by decide), t3, gl_bs]
    · refine .inr ⟨ex, γ, s', 1, w, ?_, x2, ?_, x3⟩
      · rw [X0]
        refine seX_r ?_ x2
        rw [XA, show hX4_need G (some c.p) (nI 6) β = some (.inr ex, γ) from x1, zc_r, if_pos x2]
      · rw [MA, m1, gl_bs, if_neg (show ¬ ¬ nI 0 = 0 from fun z => z rfl)]
  · refine .inr ⟨ex, γ, s4, 1, w, ?_, y2, ?_, y3⟩
    · rw [X0]
      refine seX_r ?_ y2
      rw [X1 _ (show hX4_take G (some c.p) (nI 1) (zmk (zwI (zwI α 40 4 c.p (nI 0)) 40 3 c.p (nI (at' + 1))) 45 0 9) = some (.inr ex, γ) from y1), zc_r, if_pos y2]
    · unfold gX26_select
      rw [show gX26_mustBe 1 (maS (us s 43 (nI 0)) at') = some (nI 0, s4) from n1, gl_bs, if_neg (show ¬ ¬ nI 0 = 0 from fun z => z rfl)]
end PAZZO
