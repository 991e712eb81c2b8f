/-! THE PURE LAYER: the parser: READ, CALL, ADD. -/
section PAZD
variable {c : pC} {G : xQ} {α β γ αs δ : zS} {s s' s2 ss : zM} {a a1 a' d b b' N N' N2 Ns as bs k t t2 u w wh q r F F1 F' Fs f y to n jn o K p : Nat} {g g' g2 gs : pG} {v v' kv : Int32} {l ts : List Nat}
/-- what waits in the pile goes on: with a list behind one word -/
theorem ak1S (hli : cLi c G f) (h : pR c a d b N 0 g α s) (hb : pB c b a 20) (h1 : c.N0 ≤ t) (h2 : t < N) (hr : rS d < g.r t + 5) (hk : la s 9 t ≠ nI 53) (h45 : ls s 45 = nI K) (hK : K ≤ 2 * d + 1) (hF : 10 * (c.n - a) + 22 ≤ F) (hf : 3 * (40 - d) + 1 ≤ f) : sS c a d b N g s K F 0 0 3 (xAk1 c G f 62 77 (some (g.oa t)) α) (mS F (mPl s K (nI 42) (nI t))) := by
  obtain ⟨F0, rfl⟩ : ∃ x, F = x + 1 := ⟨F - 1, by omega⟩
  have nl := h.nl
  have al := h.al
  have hN := h.N8 hb
  have hq' : 42 = 37 ∨ 42 = 41 ∨ 42 = 42 := by omega
  have hs := (h.pl (v := nI 42) (v' := nI t) h45 (by omega)).p48 (k := K) (v := nI (0 + 1))
  have T1 := mS_go (F := F0) (s := mPl s K (nI 42) (nI t)) mPl_45 (by omega) mPl_46 (by omega) (by omega) (show ls (mPl s K (nI 42) (nI t)) 43 = nI 0 from h.bm)
  rw [mPl_47, M_goA hq' (by omega) mPl_46 mPl_48] at T1
  have X0 : pX0 N g s N g (ua (mPl s K (nI 42) (nI t)) 48 (upd (la (mPl s K (nI 42) (nI t)) 48) K (nI (0 + 1)))) := (pX0.rf.mm (s2 := mPl s K (nI 42) (nI t)) (mPl_la (by decide)) (mPl_la (by decide))).tr pX0.p48
  have L0 : pLo K s (ua (mPl s K (nI 42) (nI t)) 48 (upd (la (mPl s K (nI 42) (nI t)) 48) K (nI (0 + 1)))) := pLo.tr (fun i hi => mPl_lo h45 hi) pLo.p48
  have q45 : ls (ua (mPl s K (nI 42) (nI t)) 48 (upd (la (mPl s K (nI 42) (nI t)) 48) K (nI (0 + 1)))) 45 = nI (K + 1) := rfl
  have q46 : la (ua (mPl s K (nI 42) (nI t)) 48 (upd (la (mPl s K (nI 42) (nI t)) 48) K (nI (0 + 1)))) 46 K = nI 42 := by rw [la_ua, if_neg (by decide)]; exact mPl_46
  have q47 : la (ua (mPl s K (nI 42) (nI t)) 48 (upd (la (mPl s K (nI 42) (nI t)) 48) K (nI (0 + 1)))) 47 K = nI t := by rw [la_ua, if_neg (by decide)]; exact mPl_47
  have q48 : la (ua (mPl s K (nI 42) (nI t)) 48 (upd (la (mPl s K (nI 42) (nI t)) 48) K (nI (0 + 1)))) 48 K = nI 1 := by rw [la_ua, if_pos rfl, upd_same]
  have qk : la (ua (mPl s K (nI 42) (nI t)) 48 (upd (la (mPl s K (nI 42) (nI t)) 48) K (nI (0 + 1)))) 9 t ≠ nI 53 := by rw [la_ua, if_neg (by decide), mPl_la (by decide)]; exact hk
  rw [T1]
  generalize ua (mPl s K (nI 42) (nI t)) 48 (upd (la (mPl s K (nI 42) (nI t)) 48) K (nI (0 + 1))) = s1 at *
  have i1 : (aW 42).1 = nI 62 := rfl
  have i2 : (aW 42).2.1 = -1 := rfl
  have i3 : (aW 42).2.2 = nI (aE 42) := rfl
  unfold xAk1 gX26_asked
  rw [if_pos (of_eq_true (kis hs.kp (by decide))), if_neg (by decide), i1, i2, i3, nl62]
  rcases hs.meets (G := G) (w := 62) (by decide) with ⟨e, x1, m1, h3⟩ | ⟨e, x1, m1⟩
  · have al7 := h3.al
    rw [x1, gl_bs, m1, gl_bs, if_neg (by exact n1n)]
    show sS c a d b N g s K (F0 + 1) 0 0 3 (xLs c G f (nI (aE 42)) (some (g.oa t)) (xaS c α a)) (Option.bind (if ¬ nI 1 = 0 then _ else _) _)
    rw [if_pos (by exact n1n), if_pos rfl]
    unfold gX26_asked_36 gX26_asked_41 gX26_asked_53
    rw [if_neg (by decide), gu_id]
    have R := lsS (F := F0) (K := K) (q := 42) hli h3 (by unfold pB at *; omega) h1 h2 hr (show la s1 9 t ≠ nI 53 from qk) q45 hK hq' q46 q47 q48 (by omega) hf
    rcases R with ⟨γ, F4, s4, a4, b4, N4, g4, y1, y2, y3⟩ | ⟨e, γ, s4, wh, w, y1, y2, y3, y4⟩
    · have y5 := y3.a1
      have y6 := y3.b1
      have y8 := y3.f1
      exact .inl ⟨γ, F4, s4, a4, b4, N4, g4, y1, y2, sQ.mk y3.R (X0.tr (pX0.mk y3.X.n y3.X.oa y3.X.r y3.X.kd y3.X.up y3.X.w10)) ⟨y3.V.1, L0.tr y3.V.lo⟩ (by omega) (by omega) (by omega)⟩
    · exact .inr ⟨e, γ, s4, wh, w, y1, y2, y3, y4⟩
  · rw [x1, gl_bs, m1, gl_bs, if_pos (show (nI 0, α).1 = 0 from rfl)]
    show sS c a d b N g s K (F0 + 1) 0 0 3 (xSc c G (nI (aE 42)) (some (g.oa t)) α) (Option.bind (if ¬ nI 0 = 0 then _ else gX26_asked_12 (nI t) (nI (aE 42)) s1) _)
    rw [if_neg (fun z => z rfl)]
    unfold gX26_asked_12
    rw [gu_id]
    have R := scS (G := G) (F := F0) (w := aE 42) hs (t := t) h1 h2 (by omega) qk (by decide) (K := K) q45 (by omega) (by rw [q46, ne_eq, pI_inj (by omega) (by decide)]; omega)
    rcases R with ⟨γ, F4, s4, a4, b4, N4, g4, y1, y2, y3⟩ | ⟨e, γ, s4, wh, w, y1, y2, y3, y4⟩
    · have y5 := y3.a1
      have y6 := y3.b1
      have y8 := y3.f1
      exact .inl ⟨γ, F4, s4, a4, b4, N4, g4, y1, y2, sQ.mk y3.R (X0.tr y3.X) ⟨y3.V.1, L0.tr y3.V.lo⟩ (by omega) (by omega) (by omega)⟩
    · exact .inr ⟨e, γ, s4, wh, w, y1, y2, y3, y4⟩
/-- a later start -/
theorem sS.from {e1 e2 e3 : Nat} {fX : zF (Unit ⊕ Nat)} {T : gF Unit} (h : sS c a1 d b' N' g' s' K F e1 e2 e3 fX T) (hX : pX0 N g s N' g' s') (hL : pLo K s s') (ha : a ≤ a1) (hb : b' + 10 * a ≤ b + 10 * a1) : sS c a d b N g s K F e1 e2 e3 fX T := by
  rcases h with ⟨γ, F4, s4, a4, b4, N4, g4, y1, y2, y3⟩ | E
  · have y5 := y3.a1
    have y6 := y3.b1
    have y8 := y3.f1
    exact .inl ⟨γ, F4, s4, a4, b4, N4, g4, y1, y2, sQ.mk y3.R (hX.tr y3.X) ⟨y3.V.1, hL.tr y3.V.lo⟩ (by omega) (by omega) (by omega)⟩
  · exact .inr E
/-- READ -/
theorem st_41 (hli : cLi c G f) (h : pR c a d b N 0 g α s) (hb : pB c b a 20) (h1 : c.N0 ≤ t) (h2 : t < N) (hr : rS d < g.r t + 5) (hk : la s 9 t ≠ nI 53) (hk9 : ¬ pW (la s 9 t)) (h45 : ls s 45 = nI K) (hK : K ≤ 2 * d + 1) (hF : 10 * (c.n - a) + 22 ≤ F) (hf : 3 * (40 - d) + 1 ≤ f) : sS c a d b N g s K F 0 0 3 (xVf c G f 41 (g.oa t) α) ((mVb (nI 41) (nI t) s).bind fun p => mS F p.2) := by
  have kp := h.kp
  have nl := h.nl
  have al := h.al
  have hN := h.N8 hb
  rw [xV_41, mV_41, if_pos (of_eq_true (kis kp (by decide))), nl1]
  rcases h.nameV (G := G) (t := t) (hb.le (by omega)) h1 h2 (by omega) hk9 with ⟨β, x1, x2, x3, x4, x5, x6, x7⟩ | ⟨e, β, s', w, x1, x2, x3, x4, x5⟩
  · have al6 := x6.al
    rw [x1, zc_l, x2, gl_bs, if_neg (by exact n1n)]
    show sS c a d b N g s K F 0 0 3 (Option.bind (zpI (xaS c α a) (some (g.oa t)) 44 1 (nI (c.vs a))) _) (Option.bind (Option.bind (gX26_passed (maS s a)) _) _)
    rw [x4, gl_bs, x3, gl_bs]
    show sS c a d b N g s K F 0 0 3 _ (Option.bind (Option.bind (gst (maS s a) 10 8000 (nI t) (nI (c.vs a))) _) _)
    rw [x5, gl_bs]
    generalize ua (maS s a) 10 (upd (la (maS s a) 10) t (nI (c.vs a))) = s1 at *
    have p45 : ls s1 45 = nI K := x7.pl.1.trans h45
    unfold gX26_statement_419
    rw [M_pile p45 (by omega), gl_bs, s521, gl_bs]
    have R := ak2S (G := G) (q := 41) (F := F) hli x6 (by unfold pB at *; omega) h1 h2 hr (by rw [x7.kd t h2]; exact hk) p45 hK (.inr rfl) (by omega) hf
    exact R.from x7.x0 (x7.pl.pv h45).lo (by omega) (by omega)
  · refine .inr ⟨e, β, mPl s' K (nI 41) (nI t), 1, w, ?_, x2, ?_, x4.pl⟩
    · rw [x1, zc_r, if_pos x2]
    · obtain ⟨F0, rfl⟩ : ∃ x, F = x + 1 := ⟨F - 1, by omega⟩
      rw [x3, gl_bs, if_pos (show (nI 0, s').1 = 0 from rfl)]
      unfold gX26_statement_419
      rw [M_pile (x5.1.trans h45) (by omega), gl_bs, s521, gl_bs]
      exact mS_bad x4.pl.b1
/-- CALL -/
theorem st_42 (hli : cLi c G f) (h : pR c a d b N 0 g α s) (hb : pB c b a 20) (h1 : c.N0 ≤ t) (h2 : t < N) (hr : rS d < g.r t + 5) (hr0 : 0 < g.r t) (hk : la s 9 t ≠ nI 53) (h45 : ls s 45 = nI K) (hK : K ≤ 2 * d + 1) (hF : 10 * (c.n - a) + 22 ≤ F) (hf : 3 * (40 - d) + 1 ≤ f) : sS c a d b N g s K F 0 0 3 (xVf c G f 42 (g.oa t) α) ((mVb (nI 42) (nI t) s).bind fun p => mS F p.2) := by
  obtain ⟨F, rfl⟩ : ∃ x, F = x + 1 := ⟨F - 1, by omega⟩
  have kp := h.kp
  have ax := h.ax
  have am := h.am
  have a5 := h.a5
  have nl := h.nl
  have al := h.al
  have hN := h.N8 hb
  have M0 : ((mVb (nI 42) (nI t) s).bind fun p => mS (F + 1) p.2) = (gX26_call (nI t) s).bind fun p => mS (F + 1) p.2 := by
    rw [mV_42]
    exact gu_as (f := fun s => mS (F + 1) s)
  have Mc : gX26_call (nI t) s = if wK c a 1 = true ∨ wK c a 3 = true then gX26_call_44 (nI t) s else (gX26_fail (nI 1) (nI a) s).bind fun p11 => gX26_call_49 (nI t) p11.2 := by
    unfold gX26_call
    rw [gl_x, h.bm, if_neg (fun z => z rfl), gl_x, am, nl1, M_isK h.k h.mw (by omega) (by decide), gl_bs]
    rcases e1 : wK c a 1 with _ | _
    · rw [if_neg (fun z => z rfl)]
      show xlet (ls s 41) _ = _
      rw [gl_x, am, nl3, M_isK h.k h.mw (by omega) (by decide), gl_bs]
      rcases e3 : wK c a 3 with _ | _
      · rw [if_neg (fun z => z rfl), if_neg (fun z => z.elim (by decide) (by decide))]
        show xlet (ls s 41) _ = _
        rw [gl_x, am]
      · rw [if_pos (by exact bT), if_pos (.inr rfl)]
    · rw [if_pos (by exact bT), if_pos (.inl rfl)]
  have fin : ∀ {a1 b1 N1 : Nat} {g1 : pG} {α1 : zS} {s1 : zM}, pR c a1 d b1 N1 0 g1 α1 s1 → pX N g s N1 g1 s1 → a ≤ a1 → b1 + 10 * a ≤ b + 10 * a1 → sS c a d b N g s K (F + 1) 0 0 3 (xAk1 c G f 62 77 (some (g.oa t)) α1) ((gX26_call_65 (nI t) s1).bind fun p => mS (F + 1) p.2) := by
    intro a1 b1 N1 g1 α1 s1 h3 X3 ha hb3
    have al3 := h3.al
    have p45 : ls s1 45 = nI K := X3.pl.1.trans h45
    have n1 := X3.n
    unfold gX26_call_65
    rw [show (42 : Int32) = nI 42 from rfl, M_pile p45 (by omega), gl_bs, gl_bs]
    have R := ak1S (G := G) (F := F + 1) hli h3 (hb.go hb3) h1 (by omega) (by rw [X3.r t h2]; exact hr) (by rw [X3.kd t h2]; exact hk) p45 hK (by omega) hf
    rw [X3.oa t h2] at R
    exact R.from X3.x0 (X3.pl.pv h45).lo ha hb3
  have bad : ∀ {e : Nat} {β : zS} {s1 : zM} {w : Nat}, zthr β e 3 = true → pE c 1 w β s1 → pPl s s1 → sE c (some ((.inr e : Unit ⊕ Nat), β)) ((gX26_call_49 (nI t) s1).bind fun p => mS (F + 1) p.2) := by
    intro e β s1 w z2 z4 z5
    refine ⟨e, β, mPl s1 K (nI 42) (nI t), 1, w, rfl, z2, ?_, z4.pl⟩
    unfold gX26_call_49 gX26_call_65
    rw [Bd_meets z4.b1, gl_bs, if_pos (show (nI 0, s1).1 = 0 from rfl)]
    show Option.bind (Option.bind (gX26_pile 42 (nI t) s1) _) _ = _
    rw [show (42 : Int32) = nI 42 from rfl, M_pile (z5.1.trans h45) (by omega), gl_bs, gl_bs]
    exact mS_bad z4.pl.b1
  rw [M0, xV_42, kfI kp, ax, gl_bs, if_pos (of_eq_true (kis kp (by decide))), nl2, X_isK h.k h.xw (by omega) (by decide), gl_bs]
  have X306 : ∀ x, hX4_statement_306 G (rrX4_add G f).1 (rrX4_add G f).2.1 (rrX4_add G f).2.2.1 (rrX4_add G f).2.2.2.1 (rrX4_add G f).2.2.2.2.1 (rrX4_add G f).2.2.2.2.2 (some c.p) (some (g.oa t)) x (some c.p) α = zcase (hX4_must G (some c.p) x α) (fun p5 =>
      if zis G p5.2 (some c.p) 41 = true then
        zcase (hX4_operand G (some c.p) (nI 1) p5.2) (fun p6 =>
          if zis G p6.2 (some (g.oa t)) 45 = true then
            (hX43_add G (some (g.oa t)) p6.1 p6.2).bind fun p7 =>
            if zis G p7.2 (some c.p) 41 = true then
              (hX4_meets G (some c.p) (nI 31) p7.2).bind fun p8 =>
              if p8.1 = 0 then
                xAk1 c G f 62 77 (some (g.oa t)) p8.2
              else
                if zis G p8.2 (some c.p) 41 = true then
                  zcase (hX4_names G (some c.p) (some (g.oa t)) (nI 21) p8.2) (fun p9 =>
                    xAk1 c G f 62 77 (some (g.oa t)) p9.2) (fun p10 =>
                    if zthr p10.2 p10.1 3 = true then
                      some (.inr p10.1, p10.2)
                    else none)
                else none
            else none
          else none) (fun p11 =>
          if zthr p11.2 p11.1 3 = true then
            some (.inr p11.1, p11.2)
          else none)
      else none) (fun p12 =>
      if zthr p12.2 p12.1 3 = true then
        some (.inr p12.1, p12.2)
      else none) := fun x => if_pos (of_eq_true (kis kp (by decide)))
  rcases e2 : wK c a 2 with _ | _
  · rw [if_neg (fun z => z rfl)]
    show sS c a d b N g s K (F + 1) 0 0 3 (hX4_statement_306 G _ _ _ _ _ _ (some c.p) (some (g.oa t)) 1 (some c.p) α) _
    rw [X306, nl1, X_must1, zc_l]
    show sS c a d b N g s K (F + 1) 0 0 3 (if zis G α (some c.p) 41 = true then _ else _) _
    rw [if_pos (of_eq_true (kis kp (by decide)))]
    show sS c a d b N g s K (F + 1) 0 0 3 (zcase (hX4_operand G (some c.p) (nI 1) α) _ _) _
    by_cases eO : wK c a 1 = true ∨ wK c a 3 = true
    · rw [Mc, if_pos eO]
      unfold gX26_call_44
      rcases h.operandOf (G := G) (to := t) (hb.le (by omega)) h1 h2 hr0 (by omega) with ⟨hO, β, γ, s1, N1, g1, x1, x2, x3, x4, x5, x6⟩ | ⟨e, β, s', w, x1, x2, x3, x4, x5⟩
      · have kp5 := x5.kp
        have o1 := x6.oa t h2
        have r1 := x6.r t h2
        have n1 := x6.n
        rw [x1, zc_l, if_pos (of_eq_true (kis x2 (by decide)))]
        show sS c a d b N g s K (F + 1) 0 0 3 (Option.bind (hX43_add G (some (g.oa t)) (some (zn α)) β) _) _
        rw [x3, gl_bs, x4, gl_bs]
        show sS c a d b N g s K (F + 1) 0 0 3 (if zis G γ (some c.p) 41 = true then _ else _) ((gX26_call_49 (nI t) s1).bind fun p => mS (F + 1) p.2)
        unfold gX26_call_49
        rw [if_pos (of_eq_true (kis kp5 (by decide))), nl31]
        rcases x5.meets (G := G) (w := 31) (by decide) with ⟨e, y1, m1, h3⟩ | ⟨e, y1, m1⟩
        · rw [y1, gl_bs, m1, gl_bs, if_neg (by exact n1n)]
          show sS c a d b N g s K (F + 1) 0 0 3 (if zis G (xaS c γ (a + 1)) (some c.p) 41 = true then _ else _) (Option.bind (if nI 1 = 0 then _ else Option.bind (gX26_names (nI t) 21 (maS s1 (a + 1))) _) _)
          rw [if_pos (of_eq_true (kis h3.kp (by decide))), if_neg (by exact n1n), show (21 : Int32) = nI 21 from rfl]
          have hb3 : pB c (b + 3) (a + 1 + 1) 4 := by unfold pB at *; omega
          rcases h3.names (G := G) (k := 21) (to := t) (by rw [ne_eq, pI_inj (by decide) (by decide)]; decide) (by decide) (by decide) hb3 h1 (by omega) (by rw [r1]; exact hr0) (by omega) with ⟨v, β3, u3, s3, z1, z2, a', b', N', g', R, X, e1, e2, e3⟩ | ⟨e, β3, u3, s', wh, w, z1, z2, z3, z4, z5⟩
          · rw [o1] at z1
            have XX := (x6.tr (pX.ma (a := a + 1))).tr X
            have ff := fin R XX (by omega) (by omega)
            show sS c a d b N g s K (F + 1) 0 0 3 (zcase (hX4_names G (some c.p) (some (g.oa t)) (nI 21) (xaS c γ (a + 1))) _ _) _
            rw [z1, zc_l, z2, gl_bs]
            exact ff
          · rw [o1] at z1
            show sS c a d b N g s K (F + 1) 0 0 3 (zcase (hX4_names G (some c.p) (some (g.oa t)) (nI 21) (xaS c γ (a + 1))) _ _) _
            rw [z1, zc_r, if_pos z2, z3, gl_bs]
            refine .inr ⟨e, β3, mPl s' K (nI 42) (nI t), wh, w, rfl, z2, ?_, z4.pl⟩
            show Option.bind (gX26_call_65 (nI t) s') _ = _
            unfold gX26_call_65
            rw [show (42 : Int32) = nI 42 from rfl, M_pile ((x6.pl.tr (maS_pl.tr z5)).1.trans h45) (by omega), gl_bs, gl_bs]
            exact mS_bad z4.pl.b1
        · rw [y1, gl_bs, m1, gl_bs, if_pos (show (nI 0, γ).1 = 0 from rfl)]
          exact fin x5 x6 (by omega) (by omega)
      · rw [x1, zc_r, if_pos x2, x3, gl_bs]
        exact .inr (bad x2 x4 x5)
    · have e1 : wK c a 1 = false := by rw [← Bool.not_eq_true]; exact fun z => eO (.inl z)
      have e3 : wK c a 3 = false := by rw [← Bool.not_eq_true]; exact fun z => eO (.inr z)
      obtain ⟨q, β, s', v, z1, z2, z3, z4, z5⟩ := h.opno (G := G) (nm := true) (hb.le (by omega)) e2 e3 (.inr e1)
      have z1' : hX4_operand G (some c.p) (nI 1) α = some (.inr q, β) := z1
      rw [Mc, if_neg eO, z1', zc_r, if_pos z2, z3, gl_bs]
      exact .inr (bad z2 z4 z5)
  · have e1 : wK c a 1 = false := by have := (wK_i e2).2; exact wK_f (by omega)
    have e3 : wK c a 3 = false := by have := (wK_i e2).2; exact wK_f (by omega)
    obtain ⟨q, β, s', v, z1, z2, z3, z4, z5⟩ := h.no' (G := G) (hb.le (by omega))
    rw [if_pos (by exact bT)]
    show sS c a d b N g s K (F + 1) 0 0 3 (hX4_statement_306 G _ _ _ _ _ _ (some c.p) (some (g.oa t)) 0 (some c.p) α) _
    rw [X306, nl0, z1, zc_r, if_pos z2, Mc, if_neg (fun z => z.elim (by rw [e1]; decide) (by rw [e3]; decide)), z3, gl_bs]
    exact .inr (bad z2 z4 z5)
end PAZD
