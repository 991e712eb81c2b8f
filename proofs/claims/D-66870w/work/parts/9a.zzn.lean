/-! THE PURE LAYER: the parser: SELECT. -/
/-- what X's header does with a SELECT's node -/
def seX (G : xQ) (r : Option Nat) (R : zF (Option Nat ⊕ Nat)) : zF (Unit ⊕ Nat) := zcase R (fun p51 => if zis G p51.2 r 45 = true then (hX43_add G r p51.1 p51.2).bind fun p52 => hX4_header_666 G p52.2 else none) (fun p53 => if zthr p53.2 p53.1 3 = true then some (.inr p53.1, p53.2) else none)
section PAZZN
variable {L L2 : Nat → Prop} {c : pC} {D D' : pD} {G : xQ} {α β : zS} {s s' s1 : zM} {B at' a a1 b d e f N N' F F' p q t to u x y k i j w wh lv m S r : Nat} {g g' g2 : pG} {v v' : Int32}
theorem seX_r {R : zF (Option Nat ⊕ Nat)} {o : Option Nat} (h : R = some (.inr e, β)) (ht : zthr β e 3 = true) : seX G o R = some (.inr e, β) := by
  unfold seX
  rw [h, zc_r, if_pos ht]
theorem seB_233 (h : ls s 43 = nI 1) : gX26_select_233 v s = some ((), s) := by
  unfold gX26_select_233
  rw [Bd_mustBe h, gl_bs, if_pos (show nI 0 = 0 from rfl)]
  rfl
theorem seB_190 (h : ls s 43 = nI 1) : gX26_select_190 v s = some ((), s) := by
  unfold gX26_select_190
  rw [gl_x, Bd_meets h, gl_bs, if_pos (show nI 0 = 0 from rfl)]
  exact seB_233 h
/-- a word that may be there -/
theorem pR.meetsA (h : pR c a d b N y g α s) (hw : w < 100000) : ∃ x a2 β' s', hX4_meets G (some c.p) (nI w) α = some (nI x, β') ∧ gX26_meets (nI w) s = some (nI x, s') ∧ pR c a2 d b N y g β' s' ∧ (a2 = a ∨ a2 = a + 1) ∧ (∀ k, la s' k = la s k) := by
  rcases h.meets (G := G) hw with ⟨_, x1, m1, h1⟩ | ⟨_, x1, m1⟩
  · exact ⟨1, a + 1, _, _, x1, m1, h1, .inr rfl, fun _ => rfl⟩
  · exact ⟨0, a, _, _, x1, m1, h, .inl rfl, fun _ => rfl⟩
theorem sel_tail (h : pV c D L B at' N F g α s) (hF : F < 20) (hd : D.dp = i + 1) (hS : D.st i = 2) (e : pR (c.on (zwI α 40 4 c.p (nI 0)) (us s 43 (nI 0)) N at' 0) a d b N' 0 g' β s') (hb : b + 10 * at' ≤ N + 10 * a) (haa : at' ≤ a) (hN' : N < N') (hr : g'.r N = 1000) (l16 : la s' 16 N = nI 0) : cQ c D B at' N F α s (seX G (some (g.oa (D.en (D.os i)))) (hX4_select_221 G (some c.p) (some (g'.oa N)) β)) (gX26_select_233 (nI N) s') := by
  obtain ⟨i10, hu, cu, ku, xs, d26, r29, r22, u2⟩ := h.cur hd
  have h0 := h.o
  have kp := e.kp
  have kp' : zkd β c.p = 41 := kp
  have N1 := h0.N1
  have n5 := h0.n
  have bp : pB (c.on (zwI α 40 4 c.p (nI 0)) (us s 43 (nI 0)) N at' 0) b a 0 := ⟨by show b + 0 + 10 * at' ≤ N + 10 * a + 60; omega, .inl (by decide)⟩
  rcases e.period (G := G) bp with ⟨e2, y1, n1, R⟩ | ⟨ex, γ, s2, w, y1, y2, n1, y3⟩
  · have y1' : hX4_period G (some c.p) β = some (.inl (), zwI β 40 3 c.p (nI (a + 1))) := y1
    have n1' : gX26_mustBe (nI 4) s' = some (nI 1, us s' 41 (nI (a + 1))) := n1
    have R' : pR (c.on (zwI α 40 4 c.p (nI 0)) (us s 43 (nI 0)) N at' 0) (a + 1) d b N' 0 g' (zwI β 40 3 c.p (nI (a + 1))) (us s' 41 (nI (a + 1))) := R
    have l16' : la (us s' 41 (nI (a + 1))) 16 N = nI 0 := l16
    have m := R'.m
    have U0 := h.u _ hu
    have d26' : ls (us s' 41 (nI (a + 1))) 26 = nI (i + 1) := (m.I 26 (by decide)).trans d26
    have r29' : la (us s' 41 (nI (a + 1))) 29 i = nI (D.os i) := (congrFun (m.B 29 (by decide)) i).trans r29
    have r23' : la (us s' 41 (nI (a + 1))) 23 (D.os i) = nI (D.en (D.os i)) := (congrFun (m.B 23 (by decide)) _).trans U0.me
    have b43 : ls (us s' 41 (nI (a + 1))) 43 = nI 0 := R'.bm
    have al : a + 1 ≤ c.n := R'.al
    have I0 := h.inn (by omega)
    rw [hd, Nat.add_sub_cancel, hS] at I0
    obtain ⟨en0, enr⟩ := I0.en (by decide) (by decide)
    have enL := U0.le.resolve_left en0
    generalize zwI β 40 3 c.p (nI (a + 1)) = α3 at y1' R'
    generalize us s' 41 (nI (a + 1)) = s3 at n1' R' l16' d26' r29' r23' b43
    obtain ⟨γ, l, g2, kU, y1, y2, V2, oN, rN, _⟩ := h.root (G := G) (to := D.en (D.os i)) (t := N) R' (fun k hk => by rw [ls_us, if_neg (by omega)]) (fun _ => rfl) (fun z => absurd z (by decide)) (by omega) (by omega) hF enL (Nat.le_refl _) hN' (by
      rw [hr, enr]
      decide) l16'
    refine .inl ⟨_, _, D, _, a + 1, N', _, F, ?_, ?_, ?_, V2, by omega, ⟨Nat.le_refl _, Nat.le_succ _⟩, rfl, rfl, rfl, rfl, rfl, rfl, rfl⟩
    · unfold seX hX4_select_221
      rw [if_pos (of_eq_true (kis kp' (by decide))), y1', zc_l, zc_l, if_pos (of_eq_true (kis kU (by decide)))]
      show Option.bind (hX43_add G (some (g.oa (D.en (D.os i)))) (some (g'.oa N)) α3) _ = _
      rw [y1, gl_bs]
      rfl
    · unfold gX26_select_233
      show Option.bind (gX26_mustBe (nI 4) s') _ = _
      rw [n1', gl_bs, if_neg (show ¬ nI 1 = 0 from n1n), M_here (i := i) (u := D.os i) d26' r29' (by omega), gl_bs]
      show Option.bind (gld s3 23 600 (nI (D.os i))) _ = _
      rw [pgld (by omega) (by decide), gl_bs, r23']
      show Option.bind (gX26_attach (nI (D.en (D.os i))) (nI N) s3) _ = _
      rw [y2, gl_bs]
      rfl
    · exact mAtS_ls.trans b43
  · refine .inr ⟨ex, γ, s2, 1, w, ?_, y2, ?_, y3⟩
    · refine seX_r ?_ y2
      unfold hX4_select_221
      rw [if_pos (of_eq_true (kis kp' (by decide))), show hX4_period G (some c.p) β = some (.inr ex, γ) from y1, zc_r, if_pos y2]
    · unfold gX26_select_233
      show Option.bind (gX26_mustBe (nI 4) s') _ = _
      rw [n1, gl_bs, if_pos (show nI 0 = 0 from rfl)]
      rfl
theorem sel_key (h : pV c D L B at' N F g α s) (hF : F < 20) (hd : D.dp = i + 1) (hS : D.st i = 2) (e : pR (c.on (zwI α 40 4 c.p (nI 0)) (us s 43 (nI 0)) N at' 0) a d b N' 0 g' β s') (hb : b + 10 * at' ≤ N + 10 * a) (haa : at' ≤ a) (hN' : N < N') (hr : g'.r N = 1000) (l16 : la s' 16 N = nI 0) : cQ c D B at' N F α s (seX G (some (g.oa (D.en (D.os i)))) (hX4_select_180 G (some c.p) (some (g'.oa N)) β)) (gX26_select_190 (nI N) s') := by
  have h0 := h.o
  have kp : zkd β c.p = 41 := e.kp
  have ax : zI β 40 3 c.p = nI a := e.ax
  have am := e.am
  have N1 := h0.N1
  rcases e.meets (G := G) (w := 11) (by decide) with ⟨ew, x1, m1, R1⟩ | ⟨ew, x1, m1⟩
  · have x1' : hX4_meets G (some c.p) (nI 11) β = some (nI 1, zwI β 40 3 c.p (nI (a + 1))) := x1
    have kp1 : zkd (zwI β 40 3 c.p (nI (a + 1))) c.p = 41 := R1.kp
    obtain ⟨xx, a2, β2, s2, z1, z2, R2, ha2, hla⟩ := R1.meetsA (G := G) (w := 67) (by decide)
    have z1' : hX4_meets G (some c.p) (nI 67) (zwI β 40 3 c.p (nI (a + 1))) = some (nI xx, β2) := z1
    obtain ⟨R3, q3⟩ := R2.cell
    have kp3 : zkd (zmk β2 45 0 9) c.p = 41 := R3.kp
    have b3 : pB (c.on (zwI α 40 4 c.p (nI 0)) (us s 43 (nI 0)) N at' 0) (b + 1) a2 0 := ⟨by show b + 1 + 0 + 10 * at' ≤ N + 10 * a2 + 60; omega, .inl (by decide)⟩
    have XA : hX4_select_180 G (some c.p) (some (g'.oa N)) β = zcase (hX4_take G (some c.p) (nI 1) (zmk β2 45 0 9)) (fun p7 =>
            if zis G p7.2 (some (zn β2)) 45 = true then
              (hX43_init G (some (zn β2)) (nI 6) p7.1 (nI a) p7.2).bind fun p8 =>
              if zis G p8.2 (some (g'.oa N)) 45 = true then
                (hX43_add G (some (g'.oa N)) (some (zn β2)) p8.2).bind fun p9 =>
                hX4_select_221 G (some c.p) (some (g'.oa N)) p9.2
              else none
            else none) (fun p10 =>
            if zthr p10.2 p10.1 3 = true then
              some (.inr p10.1, p10.2)
            else none) := by
      unfold hX4_select_180
      rw [kfI kp, gl_bs, ax, if_pos (of_eq_true (kis kp (by decide)))]
      show Option.bind (hX4_meets G (some c.p) (nI 11) β) _ = _
      rw [x1', gl_bs, if_neg (show ¬ nI 1 = 0 from n1n), if_pos (of_eq_true (kis kp1 (by decide)))]
      show Option.bind (hX4_meets G (some c.p) (nI 67) (zwI β 40 3 c.p (nI (a + 1)))) _ = _
      rw [z1', gl_bs]
      show Option.bind (znO β2 44 9) _ = _
      rw [znO_e, gl_bs, if_pos (of_eq_true (kis kp3 (by decide)))]
      rfl
    have MA : gX26_select_190 (nI N) s' = (gX26_mustBe (nI 1) s2).bind fun p9 => if p9.1 = 0 then gX26_select_233 (nI N) p9.2 else (gX26_passed p9.2).bind fun p10 => (gX26_child (nI N) 6 p10.1 (nI a) p10.2).bind fun p11 => gX26_select_233 (nI N) p11.2 := by
      unfold gX26_select_190
      rw [gl_x, am]
      show Option.bind (gX26_meets (nI 11) s') _ = _
      rw [m1, gl_bs, if_neg (show ¬ nI 1 = 0 from n1n)]
      show Option.bind (gX26_meets (nI 67) _) _ = _
      rw [z2, gl_bs]
      rfl
    rcases R3.take (G := G) (k := 1) (by decide) b3 with ⟨e4, y1, n1, R4⟩ | ⟨ex, γ, s4, w, y1, y2, n1, y3⟩
    · have y1' : hX4_take G (some c.p) (nI 1) (zmk β2 45 0 9) = some (.inl (nI (c.vs a2)), zwI (zmk β2 45 0 9) 40 3 c.p (nI (a2 + 1))) := y1
      have q4 := q3.adv R3.k (a := a2)
      have kq : zkd (zwI (zmk β2 45 0 9) 40 3 c.p (nI (a2 + 1))) (zn β2) = 45 := q4.kd
      have ps := M_passed R4 (by omega)
      rw [Nat.add_sub_cancel] at ps
      have b4 : pB (c.on (zwI α 40 4 c.p (nI 0)) (us s 43 (nI 0)) N at' 0) (b + 1) (a2 + 1) 0 := ⟨by show b + 1 + 0 + 10 * at' ≤ N + 10 * (a2 + 1) + 60; omega, .inl (by decide)⟩
      have N2 := R4.N0
      obtain ⟨γ, δ, g5, c1, c2, c3, c4, c5, c6⟩ := R4.childA (G := G) (to := N) (kv := nI 6) (v := nI (c.vs a2)) (v' := nI a) b4 (Nat.le_refl _) hN' (by rw [hr]; decide) (by omega) q4 (by decide)
      have c1' : hX43_init G (some (zn β2)) (nI 6) (nI (c.vs a2)) (nI a) (zwI (zmk β2 45 0 9) 40 3 c.p (nI (a2 + 1))) = some ((), γ) := c1
      have T := sel_tail (G := G) h hF hd hS c5 (by omega) (by omega) (by omega) ((c6.r N hN').trans hr) ((c6.up N hN').trans ((congrFun (hla 16) N).trans l16))
      rw [c6.oa N hN'] at T
      rw [XA, MA, y1', zc_l, if_pos (of_eq_true (kis kq (by decide))), show gX26_mustBe (nI 1) s2 = _ from n1, gl_bs, if_neg (show ¬ nI 1 = 0 from n1n)]
      show cQ c D B at' N F α s (seX G _ (Option.bind (hX43_init G (some (zn β2)) (nI 6) (nI (c.vs a2)) (nI a) (zwI (zmk β2 45 0 9) 40 3 c.p (nI (a2 + 1)))) _)) (Option.bind (gX26_passed (maS s2 a2)) _)
      rw [c1', gl_bs, if_pos (of_eq_true (kis c2 (by decide))), ps, gl_bs]
      show cQ c D B at' N F α s (seX G _ (Option.bind (hX43_add G (some (g'.oa N)) (some (zn β2)) γ) _)) (Option.bind (gX26_child (nI N) (nI 6) (nI (c.vs a2)) (nI a) (maS s2 a2)) _)
      rw [c3, gl_bs, c4, gl_bs]
      exact T
    · refine .inr ⟨ex, γ, s4, 1, w, ?_, y2, ?_, y3⟩
      · refine seX_r ?_ y2
        rw [XA, show hX4_take G (some c.p) (nI 1) (zmk β2 45 0 9) = some (.inr ex, γ) from y1, zc_r, if_pos y2]
      · rw [MA, n1, gl_bs, if_pos (show nI 0 = 0 from rfl)]
        exact seB_233 y3.b1
  · have T := sel_tail (G := G) h hF hd hS e hb haa hN' hr l16
    unfold hX4_select_180 gX26_select_190
    rw [kfI kp, gl_bs, if_pos (of_eq_true (kis kp (by decide))), gl_x]
    show cQ c D B at' N F α s (seX G _ (Option.bind (hX4_meets G (some c.p) (nI 11) β) _)) (Option.bind (gX26_meets (nI 11) s') _)
    rw [show hX4_meets G (some c.p) (nI 11) β = some (nI 0, β) from x1, gl_bs, if_pos (show nI 0 = 0 from rfl), m1, gl_bs, if_pos (show nI 0 = 0 from rfl)]
    exact T
theorem sel_org (h : pV c D L B at' N F g α s) (hF : F < 20) (hd : D.dp = i + 1) (hS : D.st i = 2) (e : pR (c.on (zwI α 40 4 c.p (nI 0)) (us s 43 (nI 0)) N at' 0) a d b N' 0 g' β s') (hb : b + 10 * at' ≤ N + 10 * a) (haa : at' ≤ a) (hN' : N < N') (hr : g'.r N = 1000) (l16 : la s' 16 N = nI 0) : cQ c D B at' N F α s (seX G (some (g.oa (D.en (D.os i)))) (hX4_select_61 G (some c.p) (some (g'.oa N)) (nI 1) (some c.p) β)) (gX26_select_72 (nI N) s') := by
  have h0 := h.o
  have kp : zkd β c.p = 41 := e.kp
  have N1 := h0.N1
  have n5 := h0.n
  have b0 : pB (c.on (zwI α 40 4 c.p (nI 0)) (us s 43 (nI 0)) N at' 0) b a 0 := ⟨by show b + 0 + 10 * at' ≤ N + 10 * a + 60; omega, .inl (by decide)⟩
  have N0 := e.N0
  rcases e.operandOf (G := G) (to := N) b0 (Nat.le_refl _) hN' (by rw [hr]; decide) (by omega) with ⟨_, β1, γ, s1, N1', g1, x1, x2, x3, x4, R1, X1⟩ | ⟨ex, γ, s2, w, y1, y2, n1, y3, _⟩
  · have kpγ : zkd γ c.p = 41 := R1.kp
    have axγ : zI γ 40 3 c.p = nI (a + 1) := R1.ax
    have am1 := R1.am
    have XA : hX4_select_61 G (some c.p) (some (g'.oa N)) (nI 1) (some c.p) β = (hX4_meets G (some c.p) (nI 7) γ).bind fun p25 =>
              if p25.1 = 0 then
                hX4_select_180 G (some c.p) (some (g'.oa N)) p25.2
              else
                if zis G p25.2 (some c.p) 41 = true then
                  (hX4_meets G (some c.p) (nI 67) p25.2).bind fun p26 =>
                  (zfI p26.2 (some c.p) 40 3).bind fun x27 =>
                  if zis G p26.2 (some c.p) 41 = true then
                    (hX4_isKind G (some c.p) x27 (nI 0) p26.2).bind fun p28 =>
                    if p28.1 = 0 then
                      hX4_select_140 G (some c.p) (some (g'.oa N)) (nI (a + 1)) (some c.p) p28.2
                    else
                      (zfA p28.2 (some c.p) 40 1).bind fun r29 =>
                      (zfI p28.2 (some c.p) 40 3).bind fun x30 =>
                      (ziald p28.2 r29 x30).bind fun x31 =>
                      if x31 < (8 : Int32) then
                        hX4_select_140 G (some c.p) (some (g'.oa N)) (nI (a + 1)) (some c.p) p28.2
                      else
                        (zfA p28.2 (some c.p) 40 1).bind fun r32 =>
                        (zfI p28.2 (some c.p) 40 3).bind fun x33 =>
                        (ziald p28.2 r32 x33).bind fun x34 =>
                        if (10 : Int32) < x34 then
                          hX4_select_140 G (some c.p) (some (g'.oa N)) (nI (a + 1)) (some c.p) p28.2
                        else
                          hX4_select_141 G (some c.p) (some (g'.oa N)) (nI (a + 1)) (nI 1) (some c.p) p28.2
                  else none
                else none := by
      unfold hX4_select_61
      rw [if_pos (of_eq_true (kis kp (by decide))), X_must1, zc_l, if_pos (of_eq_true (kis kp (by decide)))]
      show zcase (hX4_operand G (some c.p) (nI 1) β) _ _ = _
      rw [show hX4_operand G (some c.p) (nI 1) β = _ from x1, zc_l, if_pos (of_eq_true (kis x2 (by decide)))]
      show Option.bind (hX43_add G (some (g'.oa N)) (some (zn β)) β1) _ = _
      rw [x3, gl_bs, kfI kpγ, gl_bs, axγ, if_pos (of_eq_true (kis kpγ (by decide)))]
      rfl
    have MA : gX26_select_72 (nI N) s' = (gX26_meets (nI 7) s1).bind fun p22 => if p22.1 = 0 then gX26_select_190 (nI N) p22.2 else (gX26_meets (nI 67) p22.2).bind fun p23 => xlet (ls p23.2 41) fun x24 => (gX26_isKind x24 (nI 0) p23.2).bind fun p25 => if p25.1 = 0 then gX26_select_134 (nI N) (nI (a + 1)) p25.2 else xlet (ls p25.2 41) fun x27 => (gld p25.2 3 1500 x27).bind fun x28 => (gX26_in x28 (nI 8) (nI 10) p25.2).bind fun p29 => if p29.1 = 0 then gX26_select_134 (nI N) (nI (a + 1)) p29.2 else gX26_select_135 (nI N) (nI (a + 1)) (nI 1) p29.2 := by
      unfold gX26_select_72
      rw [x4, gl_bs, gl_x, am1]
      rfl
    have o1 := X1.oa N hN'
    have r1 := (X1.r N hN').trans hr
    have l1 := (X1.up N hN').trans l16
    have nn1 := X1.n
    rcases R1.meets (G := G) (w := 7) (by decide) with ⟨ew, z1, m1, R2⟩ | ⟨ew, z1, m1⟩
    · have z1' : hX4_meets G (some c.p) (nI 7) γ = some (nI 1, zwI γ 40 3 c.p (nI (a + 1 + 1))) := z1
      have kp2 : zkd (zwI γ 40 3 c.p (nI (a + 1 + 1))) c.p = 41 := R2.kp
      obtain ⟨xx, a3, β3, s3, w1, w2, R3, ha3, hla⟩ := R2.meetsA (G := G) (w := 67) (by decide)
      have w1' : hX4_meets G (some c.p) (nI 67) (zwI γ 40 3 c.p (nI (a + 1 + 1))) = some (nI xx, β3) := w1
      have kp3 : zkd β3 c.p = 41 := R3.kp
      have ax3 : zI β3 40 3 c.p = nI a3 := R3.ax
      have am3 := R3.am
      have a5 : a3 ≤ 505 := R3.a5
      have b3 : pB (c.on (zwI α 40 4 c.p (nI 0)) (us s 43 (nI 0)) N at' 0) (b + 3) a3 0 := ⟨by show b + 3 + 0 + 10 * at' ≤ N + 10 * a3 + 60; omega, .inl (by decide)⟩
      have KX : hX4_isKind G (some c.p) (nI a3) (nI 0) β3 = some (nI (b2n (wK (c.on (zwI α 40 4 c.p (nI 0)) (us s 43 (nI 0)) N at' 0) a3 0)), β3) := X_isK (c := c.on (zwI α 40 4 c.p (nI 0)) (us s 43 (nI 0)) N at' 0) R3.k R3.xw (by omega) (by decide)
      have KM : gX26_isKind (nI a3) (nI 0) s3 = some (nI (b2n (wK (c.on (zwI α 40 4 c.p (nI 0)) (us s 43 (nI 0)) N at' 0) a3 0)), s3) := M_isK R3.k R3.mw (by omega) (by decide)
      have FA : hX4_select_61 G (some c.p) (some (g'.oa N)) (nI 1) (some c.p) β = hX4_select_140 G (some c.p) (some (g'.oa N)) (nI (a + 1)) (some c.p) β3 → gX26_select_72 (nI N) s' = gX26_select_134 (nI N) (nI (a + 1)) s3 → cQ c D B at' N F α s (seX G (some (g.oa (D.en (D.os i)))) (hX4_select_61 G (some c.p) (some (g'.oa N)) (nI 1) (some c.p) β)) (gX26_select_72 (nI N) s') := fun f1 f2 => by
        obtain ⟨ex, δ, s4, w, t1, t2, t3, t4⟩ := R3.no (G := G) b3
        rw [f1, f2]
        refine .inr ⟨ex, δ, s4, 1, w, seX_r ?_ t2, t2, ?_, t4⟩
        · unfold hX4_select_140 hX4_select_141
          rw [if_pos (of_eq_true (kis kp3 (by decide)))]
          show zcase (hX4_must G (some c.p) (nI 0) β3) _ _ = _
          rw [show hX4_must G (some c.p) (nI 0) β3 = some (.inr ex, δ) from t1, zc_r, if_pos t2]
        · unfold gX26_select_134 gX26_select_135 gX26_select_162
          rw [if_pos rfl, if_pos rfl, gl_x, am3]
          show Option.bind (gX26_fail (nI 1) (nI a3) s3) _ = _
          rw [t3, gl_bs]
          exact seB_190 t4.b1
      rcases ek : wK (c.on (zwI α 40 4 c.p (nI 0)) (us s 43 (nI 0)) N at' 0) a3 0 with _ | _
      · rw [ek] at KX KM
        refine FA ?_ ?_
        · rw [XA, z1', gl_bs, if_neg (show ¬ nI 1 = 0 from n1n), if_pos (of_eq_true (kis kp2 (by decide))), w1', gl_bs, kfI kp3, gl_bs, ax3, if_pos (of_eq_true (kis kp3 (by decide))), KX, gl_bs, if_pos (show nI (b2n false) = 0 from rfl)]
        · rw [MA, m1, gl_bs, if_neg (show ¬ nI 1 = 0 from n1n), w2, gl_bs, gl_x, am3, KM, gl_bs, if_pos (show nI (b2n false) = 0 from rfl)]
      · rw [ek] at KX KM
        have l3 : a3 < c.n := (wK_i ek).1
        have v9 := h0.vs _ l3
        obtain ⟨v1, v2⟩ := X_wv R3 l3
        have v1' : zfA β3 (some c.p) 40 1 = some (some c.va) := v1
        have v2' : ziald β3 (some c.va) (nI a3) = some (nI (c.vs a3)) := v2
        have rv3 : la s3 3 a3 = nI (c.vs a3) := R3.mw.rv a3 l3
        have XB : hX4_select_61 G (some c.p) (some (g'.oa N)) (nI 1) (some c.p) β = if nI (c.vs a3) < (8 : Int32) then hX4_select_140 G (some c.p) (some (g'.oa N)) (nI (a + 1)) (some c.p) β3 else if (10 : Int32) < nI (c.vs a3) then hX4_select_140 G (some c.p) (some (g'.oa N)) (nI (a + 1)) (some c.p) β3 else hX4_select_141 G (some c.p) (some (g'.oa N)) (nI (a + 1)) (nI 1) (some c.p) β3 := by
          rw [XA, z1', gl_bs, if_neg (show ¬ nI 1 = 0 from n1n), if_pos (of_eq_true (kis kp2 (by decide))), w1', gl_bs, kfI kp3, gl_bs, ax3, if_pos (of_eq_true (kis kp3 (by decide))), KX, gl_bs, if_neg (show ¬ nI (b2n true) = 0 from bT)]
          show Option.bind (zfA β3 (some c.p) 40 1) _ = _
          rw [v1', gl_bs]
          show Option.bind (zfI β3 (some c.p) 40 3) _ = _
          rw [kfI kp3, gl_bs, ax3, v2', gl_bs]
          by_cases z8 : nI (c.vs a3) < (8 : Int32)
          · rw [if_pos z8, if_pos z8]
          · rw [if_neg z8, if_neg z8, gl_bs, gl_bs, v2', gl_bs]
        have MB : gX26_select_72 (nI N) s' = if decide (8 ≤ c.vs a3 ∧ c.vs a3 ≤ 10) = true then gX26_select_135 (nI N) (nI (a + 1)) (nI 1) s3 else gX26_select_134 (nI N) (nI (a + 1)) s3 := by
          rw [MA, m1, gl_bs, if_neg (show ¬ nI 1 = 0 from n1n), w2, gl_bs, gl_x, am3, KM, gl_bs, if_neg (show ¬ nI (b2n true) = 0 from bT), gl_x, am3, pgld (by omega) (by decide), gl_bs, rv3, M_in (by omega) (by decide) (by decide), gl_bs]
          rcases hd : decide (8 ≤ c.vs a3 ∧ c.vs a3 ≤ 10) with _ | _
          · rw [if_pos (show nI (b2n false) = 0 from rfl), if_neg (by decide)]
          · rw [if_neg (show ¬ nI (b2n true) = 0 from bT), if_pos rfl]
        by_cases hv : 8 ≤ c.vs a3 ∧ c.vs a3 ≤ 10
        · obtain ⟨R4, q4⟩ := R3.cell
          have b4 : pB (c.on (zwI α 40 4 c.p (nI 0)) (us s 43 (nI 0)) N at' 0) (b + 3 + 1) a3 0 := ⟨by show b + 3 + 1 + 0 + 10 * at' ≤ N + 10 * a3 + 60; omega, .inl (by decide)⟩
          have N2 := R4.N0
          have kp4 : zkd (zmk β3 45 0 9) c.p = 41 := R4.kp
          have ax4 : zI (zmk β3 45 0 9) 40 3 c.p = nI a3 := R4.ax
          have kq : zkd (zmk β3 45 0 9) (zn β3) = 45 := q4.kd
          obtain ⟨u1, u2⟩ := X_wv R4 l3
          have u1' : zfA (zmk β3 45 0 9) (some c.p) 40 1 = some (some c.va) := u1
          have u2' : ziald (zmk β3 45 0 9) (some c.va) (nI a3) = some (nI (c.vs a3)) := u2
          obtain ⟨δ, ε, g5, c1, c2, c3, c4, c5, c6⟩ := R4.childA (G := G) (to := N) (kv := nI 5) (v := nI (c.vs a3 - 8)) (v' := nI (a + 1)) b4 (Nat.le_refl _) (by omega) (by rw [r1]; decide) (by omega) q4 (by decide)
          have c1' : hX43_init G (some (zn β3)) (nI 5) (nI (c.vs a3 - 8)) (nI (a + 1)) (zmk β3 45 0 9) = some ((), δ) := c1
          have R6 := c5.adv l3
          have kpε : zkd ε c.p = 41 := c5.kp
          have axε : zI ε 40 3 c.p = nI a3 := c5.ax
          have T := sel_key (G := G) h hF hd hS R6 (by omega) (by omega) (by omega) ((c6.r N (by omega)).trans r1) ((c6.up N (by omega)).trans ((congrFun (hla 16) N).trans l1))
          rw [c6.oa N (by omega), o1] at T
          rw [o1] at c2 c3
          have am5 := c5.am
          rw [XB, if_neg (show ¬ nI (c.vs a3) < (8 : Int32) from by rw [nl8, pI_lt (by omega) (by decide)]; omega), if_neg (show ¬ (10 : Int32) < nI (c.vs a3) from by rw [nl10, pI_lt (by decide) (by omega)]; omega), MB, if_pos (decide_eq_true hv)]
          unfold hX4_select_141 gX26_select_135 gX26_select_162
          rw [if_pos (of_eq_true (kis kp3 (by decide))), X_must1, zc_l, if_neg (show ¬ nI 1 = 0 from n1n), gl_x, am3, pgld (by omega) (by decide), gl_bs, rv3]
          show cQ c D B at' N F α s (seX G _ (Option.bind (znO β3 44 9) _)) (Option.bind (gX26_child (nI N) (nI 5) (nI (c.vs a3) - nI 8) (nI (a + 1)) s3) _)
          rw [pI_sub (by omega), c4, gl_bs, if_neg (show ¬ nI 1 = 0 from n1n), gl_x, am5, gl_x, znO_e, gl_bs]
          show cQ c D B at' N F α s (seX G _ (Option.bind (zfA (zmk β3 45 0 9) (some c.p) 40 1) _)) _
          rw [u1', gl_bs]
          show cQ c D B at' N F α s (seX G _ (Option.bind (zfI (zmk β3 45 0 9) (some c.p) 40 3) _)) _
          rw [kfI kp4, gl_bs, ax4, u2', gl_bs, if_pos (of_eq_true (kis kq (by decide)))]
          show cQ c D B at' N F α s (seX G _ (Option.bind (hX43_init G (some (zn β3)) (nI 5) (nI (c.vs a3) - nI 8) (nI (a + 1)) (zmk β3 45 0 9)) _)) _
          rw [pI_sub (by omega), c1', gl_bs, if_pos (of_eq_true (kis c2 (by decide)))]
          show cQ c D B at' N F α s (seX G _ (Option.bind (hX43_add G (some (g'.oa N)) (some (zn β3)) δ) _)) _
          rw [c3, gl_bs, kfI kpε, gl_bs, axε, kpI kpε, gl_bs, pI_succ]
          exact T
        · refine FA ?_ ?_
          · rw [XB]
            by_cases z8 : nI (c.vs a3) < (8 : Int32)
            · rw [if_pos z8]
            · rw [if_neg z8, if_pos]
              rw [nl8, pI_lt (by omega) (by decide)] at z8
              rw [nl10, pI_lt (by decide) (by omega)]
              omega
          · rw [MB, if_neg (by rw [decide_eq_true_eq]; exact hv)]
    · have T := sel_key (G := G) h hF hd hS R1 (by omega) (by omega) (by omega) r1 l1
      rw [o1] at T
      rw [XA, MA, show hX4_meets G (some c.p) (nI 7) γ = some (nI 0, γ) from z1, gl_bs, if_pos (show nI 0 = 0 from rfl), m1, gl_bs, if_pos (show nI 0 = 0 from rfl)]
      exact T
  · refine .inr ⟨ex, γ, s2, 1, w, seX_r ?_ y2, y2, ?_, y3⟩
    · unfold hX4_select_61
      rw [if_pos (of_eq_true (kis kp (by decide))), X_must1, zc_l, if_pos (of_eq_true (kis kp (by decide)))]
      show zcase (hX4_operand G (some c.p) (nI 1) β) _ _ = _
      rw [show hX4_operand G (some c.p) (nI 1) β = _ from y1, zc_r, if_pos y2]
    · unfold gX26_select_72
      rw [n1, gl_bs, gl_x]
      show Option.bind (gX26_meets (nI 7) s2) _ = _
      rw [Bd_meets y3.b1, gl_bs, if_pos (show nI 0 = 0 from rfl)]
      exact seB_190 y3.b1
end PAZZN
