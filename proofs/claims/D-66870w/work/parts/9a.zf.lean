/-! THE PURE LAYER: the parser: IF. -/
section PAZF
variable {c : pC} {G : xQ} {α β γ αs δ ε : zS} {s s' s2 ss : zM} {a a1 a' d b b' N N' N2 Ns as bs k t t2 u w wh q r F F1 F' Fs f y to n jn o K p : Nat} {g g' g2 gs : pG} {v v' kv : Int32} {l ts : List Nat}
/-- results one behind the other -/
theorem sS.ef {e1 e2 e3 : Nat} {fX : zF (Unit ⊕ Nat)} {T : gF Unit} (h : sS c a d b N g s K F e1 e2 e3 fX T) {F2 e4 : Nat} (hF : F2 + e3 ≤ F + e4) : sS c a d b N g s K F2 e1 e2 e4 fX T := by
  rcases h with ⟨γ, F4, s4, a4, b4, N4, g4, y1, y2, y3⟩ | E
  · have y8 := y3.f1
    exact .inl ⟨γ, F4, s4, a4, b4, N4, g4, y1, y2, sQ.mk y3.R y3.X y3.V y3.a1 y3.b1 (by omega)⟩
  · exact .inr E
/-- M's conditionOf, X's condition below node t -/
theorem pR.condOf (h : pR c a d b N y g α s) (hb : pB c b a 20) (h1 : c.N0 ≤ t) (h2 : t < N) (hr : 1100 < g.r t) : (∃ β γ t2 s' a' b' N', ∃ g' : pG, hX4_condition G (some c.p) α = some (.inl (some (g'.oa t2)), β) ∧ zkd β (g.oa t) = 45 ∧ hX43_add G (some (g.oa t)) (some (g'.oa t2)) β = some (some (g'.oa t2), γ) ∧ gX26_conditionOf (nI t) s = some ((), s') ∧ pR c a' d b' N' y (g'.add t t2) γ s' ∧ pX N g s N' (g'.add t t2) s' ∧ (∀ u, u < N → u ≠ t → (g'.add t t2).ch u = g.ch u) ∧ a < a' ∧ b' + 10 * a ≤ b + 1 + 10 * a') ∨ (∃ e β s' wh w, hX4_condition G (some c.p) α = some (.inr e, β) ∧ zthr β e 3 = true ∧ gX26_conditionOf (nI t) s = some ((), s') ∧ pE c wh w β s' ∧ pPl s s') := by
  have N1 := h.k.N1
  have yN := h.yN
  rcases h.condition (G := G) hb with ⟨β, t2, s', a', b', N', g', x1, x2, x3, x4, x5, x6, x7, x8, x9, x10⟩ | ⟨e, β, u, s', wh, w, x1, x2, x3, x4, x5⟩
  · have o1 := x4.x.oa t h2
    have r1 := x4.x.r t h2
    have a5 := x3.a5
    have n1 := x4.x.n
    have hN' := x3.N8 (k := 4) ((hb.go x10).le (by omega))
    have kn := (x3.g.nd t h1 (by omega)).kn
    have N0 := h.N0
    obtain ⟨γ, z1, z2, z3⟩ := x3.add (G := G) (to := t) (t := t2) (by omega) h1 (by omega) (by omega) x6 (by rw [r1]; omega) x7 (by omega)
    rw [o1] at kn z1
    refine .inl ⟨β, γ, t2, _, a', b' + 1, N', g', x1, kn, z1, ?_, z3, x4.x.add x5, fun u hu hut => by rw [add_ch, if_neg hut]; exact x4.fc u hu, x9, by omega⟩
    unfold gX26_conditionOf gX26_conditionOf_26
    rw [gl_x, h.bm, if_pos (show nI 0 = 0 from rfl), x2, gl_bs]
    show xlet (ls s' 43) _ = _
    rw [gl_x, x3.bm, if_neg (fun z => z rfl)]
    show Option.bind (gX26_attach (nI t) (nI t2) s') _ = _
    rw [z2, gl_bs]
  · refine .inr ⟨e, β, s', wh, w, x1, x2, ?_, x4, x5⟩
    unfold gX26_conditionOf gX26_conditionOf_26
    rw [gl_x, h.bm, if_pos (show nI 0 = 0 from rfl), x3, gl_bs]
    show xlet (ls s' 43) _ = _
    rw [gl_x, x4.b1, if_pos (by exact n1n)]
/-- a branch: a list, or NEXT SENTENCE -/
theorem brS (hli : cLi c G f) (h : pR c a d b N 0 g α s) (hb : pB c b a 18) (h1 : c.N0 ≤ t) (h2 : t < N) (hr : rS d < g.r t + 5) (hr0 : 0 < g.r t) (h45 : ls s 45 = nI K) (hK : K ≤ 2 * d + 2) (hF : 10 * (c.n - a) + 20 ≤ F) (hf : 3 * (40 - d) + 1 ≤ f) : sS c a d b N g s K F 1 2 0 ((rrX4_add G (f + 1)).2.1 (some c.p) (some (g.oa t)) α) ((gX26_branch_28 (nI t) s).bind fun p => mS F p.2) := by
  have kp := h.kp
  have ax := h.ax
  have am := h.am
  have a5 := h.a5
  have al := h.al
  have hN := h.N8 hb
  have X0 : (rrX4_add G (f + 1)).2.1 (some c.p) (some (g.oa t)) α = hX4_branch_r G (rrX4_add G f).1 (rrX4_add G f).2.1 (rrX4_add G f).2.2.1 (rrX4_add G f).2.2.2.1 (rrX4_add G f).2.2.2.2.1 (rrX4_add G f).2.2.2.2.2 (some c.p) (some (g.oa t)) α := rfl
  rw [X0]
  unfold hX4_branch_r gX26_branch_28 gX26_branch_82
  rw [kfI kp, ax, gl_bs, if_pos (of_eq_true (kis kp (by decide))), show (54 : Int32) = nI 54 from rfl, gl_x, am, gl_x, M_isW h.k h.mw (by omega) (by decide), gl_bs]
  rcases h.meets (G := G) (w := 54) (by decide) with ⟨e, x1, m1, h3⟩ | ⟨e, x1, m1⟩
  · have kp3 := h3.kp
    rw [x1, gl_bs, if_pos (by exact n1n), e]
    show sS c a d b N g s K F 1 2 0 (if zis G (xaS c α a) (some c.p) 41 = true then _ else _) (Option.bind (if ¬ nI (b2n true) = 0 then xlet (ls s 41) _ else _) _)
    rw [if_pos (of_eq_true (kis kp3 (by decide))), if_pos (by exact bT), gl_x, am, gl_x, pI_1, show (55 : Int32) = nI 55 from rfl]
    show sS c a d b N g s K F 1 2 0 (zcase (hX4_need G (some c.p) (nI 55) (xaS c α a)) _ _) (Option.bind (Option.bind (gX26_must (nI 55) (maS s a)) _) _)
    rcases h3.needZ (G := G) (w := 55) (by decide) (by unfold pB at *; omega) with ⟨y3, y1, y2, y7⟩ | ⟨e, β2, s', w, y1, y2, y3, y4, y5⟩
    · have al7 := y7.al
      obtain ⟨h8, hq⟩ := y7.cell
      have zq : zn (xaS c (xaS c α a) (a + 1)) = zn α := rfl
      rw [zq] at hq
      obtain ⟨β, γ, g', z1, z2, z3, z4, z5, z6⟩ := h8.childA (G := G) (to := t) (kv := nI 42) (v := nI 0) (v' := nI a) (by unfold pB at *; omega) h1 h2 hr0 (by omega) hq (by rw [ne_eq, pI_inj (by decide) (by decide)]; decide)
      have XX := ((pX.ma (a := a)).tr (pX.ma (a := a + 1))).tr z6
      refine .inl ⟨γ, F, _, a + 1 + 1, b + 1 + 2, N + 1, g', ?_, ?_, sQ.mk z5 XX.x0 (XX.pl.pv h45) (by omega) (by omega) (by omega)⟩
      · have kdq : zkd (zmk (xaS c (xaS c α a) (a + 1)) 45 0 9) (zn α) = 45 := hq.kd
        rw [y1, zc_l, znO_e, gl_bs]
        show (if zis G (zmk (xaS c (xaS c α a) (a + 1)) 45 0 9) (some (zn α)) 45 = true then _ else _) = _
        rw [if_pos (of_eq_true (kis kdq (by decide))), show (42 : Int32) = nI 42 from rfl, nl0]
        show Option.bind (hX43_init G (some (zn α)) (nI 42) (nI 0) (nI a) (zmk (xaS c (xaS c α a) (a + 1)) 45 0 9)) _ = _
        rw [z1, gl_bs]
        show (if zis G β (some (g.oa t)) 45 = true then _ else _) = _
        rw [if_pos (of_eq_true (kis z2 (by decide)))]
        show Option.bind (hX43_add G (some (g.oa t)) (some (zn α)) β) _ = _
        rw [z3, gl_bs]
      · rw [y2, gl_bs, if_neg (by exact n1n)]
        show Option.bind (Option.bind (gX26_child (nI t) 42 0 (nI a) (maS (maS s a) (a + 1))) _) _ = _
        rw [show (42 : Int32) = nI 42 from rfl, nl0, z4, gl_bs, gl_bs]
    · refine .inr ⟨e, β2, s', 1, w, ?_, y2, ?_, y4⟩
      · rw [y1, zc_r, if_pos y2]
      · rw [y3, gl_bs, if_pos (show (nI 0, s').1 = 0 from rfl), gl_bs]
        obtain ⟨F0, rfl⟩ : ∃ x, F = x + 1 := ⟨F - 1, by omega⟩
        exact mS_bad y4.b1
  · rw [x1, gl_bs, if_neg (fun z => z rfl), e]
    show sS c a d b N g s K F 1 2 0 (if zis G α (some c.p) 41 = true then _ else _) (Option.bind (if ¬ nI (b2n false) = 0 then _ else Option.bind (gX26_list (nI t) s) _) _)
    rw [if_pos (of_eq_true (kis kp (by decide))), if_neg (fun z => z rfl), gu_id]
    have R := hli a d b N g α s K t F h hb h1 h2 hr h45 hK hF hf
    exact R.wrap (G := G) (FA := (rrX4_add G f).1) (FB := (rrX4_add G f).1) (FE := (rrX4_add G f).1) (FL := (rrX4_add G f).1) (FP := (rrX4_add G f).1) (FS := (rrX4_add G f).1)
theorem M_goB (hK : K < 100) (h46 : la s 46 K = nI 38) (h48 : la s 48 K = nI p) : gX26_goOn (nI K) v s = gX26_branch (nI K) v (nI p) (ua s 48 (upd (la s 48) K (nI (p + 1)))) := by
  unfold gX26_goOn gX26_goOn_144
  rw [pgld (by omega) (by decide), gl_bs, pgst (by omega) (by decide), gl_bs, pgld (by omega) (by decide), gl_bs, h48, pI_1, show la (ua s 48 (upd (la s 48) K (nI (p + 1)))) 46 K = nI 38 from h46]
  rw [if_neg (by decide), if_neg (by decide), if_pos (by decide), gu_id]
/-- IF -/
theorem st_38 (hli : cLi c G f) (h : pR c a d b N 0 g α s) (hb : pB c b a 20) (h1 : c.N0 ≤ t) (h2 : t < N) (hr : rS d < g.r t + 5) (hr0 : 1100 < g.r t) (hk : la s 9 t ≠ nI 53) (h45 : ls s 45 = nI K) (hK : K ≤ 2 * d + 1) (hF : 10 * (c.n - a) + 22 ≤ F) (hf : 3 * (40 - d) + 1 ≤ f) : sS c a d b N g s K F 0 0 4 (xVf c G (f + 1) 38 (g.oa t) α) ((mVb (nI 38) (nI t) s).bind fun p => mS F p.2) := by
  obtain ⟨F, rfl⟩ : ∃ x, F = x + 1 := ⟨F - 1, by omega⟩
  have kp := h.kp
  have nl := h.nl
  have al := h.al
  have hN := h.N8 hb
  rw [xV_38, mV_38, if_pos (of_eq_true (kis kp (by decide)))]
  rcases h.condOf (G := G) (t := t) hb h1 h2 hr0 with ⟨β, γ, t2, s1, a1, b1, N1, g1, x1, x2, x3, x4, x5, x6, x7, x8, x9⟩ | ⟨e, β, s', wh, w, x1, x2, x3, x4, x5⟩
  · have kp5 := x5.kp
    have am5 := x5.am
    have a55 := x5.a5
    have o1 := x6.oa t h2
    have r1 := x6.r t h2
    have n1 := x6.n
    have o1' : g1.oa t = g.oa t := by rw [add_oa] at o1; exact o1
    have r1' : g.r t = g1.r t := by rw [add_r] at r1; exact r1.symm
    -- behind THEN
    have fin : ∀ {a2 : Nat} {α2 : zS} {s2 : zM}, pR c a2 d b1 N1 0 (g1.add t t2) α2 s2 → pX N g s N1 (g1.add t t2) s2 → a1 ≤ a2 → sS c a d b N g s K (F + 1) 0 0 4 (if zis G α2 (some c.p) 41 = true then
            zcase ((rrX4_add G (f + 1)).2.1 (some c.p) (some (g.oa t)) α2) (fun p34 =>
              if zis G p34.2 (some c.p) 41 = true then
                (hX4_meets G (some c.p) (nI 53) p34.2).bind fun p35 =>
                if p35.1 = 0 then
                  xSc c G (nI 73) (some (g.oa t)) p35.2
                else
                  if zis G p35.2 (some c.p) 41 = true then
                    zcase ((rrX4_add G (f + 1)).2.1 (some c.p) (some (g.oa t)) p35.2) (fun p36 =>
                      xSc c G (nI 73) (some (g.oa t)) p36.2) (fun p37 =>
                      if zthr p37.2 p37.1 3 = true then
                        some (.inr p37.1, p37.2)
                      else none)
                  else none
              else none) (fun p38 =>
              if zthr p38.2 p38.1 3 = true then
                some (.inr p38.1, p38.2)
              else none)
          else none) (mS (F + 1) (mPl s2 K (nI 38) (nI t))) := by
      intro a2 α2 s2 h4 X4 ha
      have al4 := h4.al
      have p45 : ls s2 45 = nI K := X4.pl.1.trans h45
      have hb4 : pB c b1 a2 19 := by unfold pB at *; omega
      have hs := (h4.pl (v := nI 38) (v' := nI t) p45 (by omega)).p48 (k := K) (v := nI (0 + 1))
      have T1 := mS_go (F := F) (s := mPl s2 K (nI 38) (nI t)) mPl_45 (by omega) mPl_46 (by omega) (by omega) (show ls (mPl s2 K (nI 38) (nI t)) 43 = nI 0 from h4.bm)
      rw [mPl_47, M_goB (by omega) mPl_46 mPl_48] at T1
      have X0 : pX0 N g s N1 (g1.add t t2) (ua (mPl s2 K (nI 38) (nI t)) 48 (upd (la (mPl s2 K (nI 38) (nI t)) 48) K (nI (0 + 1)))) := (X4.x0.mm (s2 := mPl s2 K (nI 38) (nI t)) (mPl_la (by decide)) (mPl_la (by decide))).tr pX0.p48
      have L0 : pLo K s (ua (mPl s2 K (nI 38) (nI t)) 48 (upd (la (mPl s2 K (nI 38) (nI t)) 48) K (nI (0 + 1)))) := ((X4.pl.pv h45).lo.tr (fun i hi => mPl_lo p45 hi)).tr pLo.p48
      have q45 : ls (ua (mPl s2 K (nI 38) (nI t)) 48 (upd (la (mPl s2 K (nI 38) (nI t)) 48) K (nI (0 + 1)))) 45 = nI (K + 1) := rfl
      have q46 : la (ua (mPl s2 K (nI 38) (nI t)) 48 (upd (la (mPl s2 K (nI 38) (nI t)) 48) K (nI (0 + 1)))) 46 K = nI 38 := by rw [la_ua, if_neg (by decide)]; exact mPl_46
      have q47 : la (ua (mPl s2 K (nI 38) (nI t)) 48 (upd (la (mPl s2 K (nI 38) (nI t)) 48) K (nI (0 + 1)))) 47 K = nI t := by rw [la_ua, if_neg (by decide)]; exact mPl_47
      have q48 : la (ua (mPl s2 K (nI 38) (nI t)) 48 (upd (la (mPl s2 K (nI 38) (nI t)) 48) K (nI (0 + 1)))) 48 K = nI 1 := by rw [la_ua, if_pos rfl, upd_same]
      have qk : la (ua (mPl s2 K (nI 38) (nI t)) 48 (upd (la (mPl s2 K (nI 38) (nI t)) 48) K (nI (0 + 1)))) 9 t ≠ nI 53 := by rw [la_ua, if_neg (by decide), mPl_la (by decide), X4.kd t h2]; exact hk
      have B1 : gX26_branch (nI K) (nI t) (nI 0) (ua (mPl s2 K (nI 38) (nI t)) 48 (upd (la (mPl s2 K (nI 38) (nI t)) 48) K (nI (0 + 1)))) = gX26_branch_28 (nI t) (ua (mPl s2 K (nI 38) (nI t)) 48 (upd (la (mPl s2 K (nI 38) (nI t)) 48) K (nI (0 + 1)))) := by
        unfold gX26_branch
        rw [if_neg (by decide), if_pos (by decide)]
      rw [T1, B1, if_pos (of_eq_true (kis h4.kp (by decide)))]
      generalize ua (mPl s2 K (nI 38) (nI t)) 48 (upd (la (mPl s2 K (nI 38) (nI t)) 48) K (nI (0 + 1))) = s3 at *
      -- the end of the statement, behind one or two branches
      have fin2 : ∀ {a5 b5 N5 F5 p5 : Nat} {g5 : pG} {α5 : zS} {s5 : zM}, pR c a5 d b5 N5 0 g5 α5 s5 → pX0 N g s N5 g5 s5 → pLo K s s5 → ls s5 45 = nI (K + 1) → la s5 46 K = nI 38 → la s5 47 K = nI t → la s5 48 K = nI p5 → (p5 = 2 ∨ (p5 = 1 ∧ wW c a5 53 = false)) → a ≤ a5 → b5 + 10 * a ≤ b + 10 * a5 → F5 + 10 * a5 + 3 ≥ F + 10 * a + 2 → 1 ≤ F5 → N5 ≤ 8000 → sS c a d b N g s K (F + 1) 0 0 4 (xSc c G (nI 73) (some (g.oa t)) α5) (mS F5 s5) := by
        intro a5 b5 N5 F5 p5 g5 α5 s5 h5 X5 L5 r45 r46 r47 r48 hp5 ha5 hb5 hF5 hF1 hN5
        obtain ⟨F6, rfl⟩ : ∃ x, F5 = x + 1 := ⟨F5 - 1, by omega⟩
        have n5 := X5.n
        have T2 := mS_go (F := F6) r45 (by omega) r46 (by omega) (by omega) h5.bm
        rw [r47, M_goB (by omega) r46 r48] at T2
        have h5' := h5.p48 (k := K) (v := nI (p5 + 1))
        have B2 : gX26_branch (nI K) (nI t) (nI p5) (ua s5 48 (upd (la s5 48) K (nI (p5 + 1)))) = gX26_scope (nI t) (nI 73) 0 (ua s5 48 (upd (la s5 48) K (nI (p5 + 1)))) := by
          unfold gX26_branch gX26_branch_19
          rcases hp5 with rfl | ⟨rfl, e53⟩
          · rw [if_pos (by decide), gu_id]; rfl
          · have mm := M_meets h5' (w := 53) (by decide)
            rw [if_neg (by rw [e53]; decide)] at mm
            rw [if_neg (by decide), if_neg (by decide), show (53 : Int32) = nI 53 from rfl, mm, gl_bs, if_neg (fun z => z rfl), gu_id]; rfl
        rw [T2, B2]
        have S := scS (G := G) (F := F6) (w := 73) h5' (t := t) h1 (by omega) hN5 (by rw [la_ua, if_neg (by decide), X5.kd t h2]; exact hk) (by decide) (K := K) r45 (by omega) (by rw [la_ua, if_neg (by decide), r46, ne_eq, pI_inj (by omega) (by decide)]; omega)
        rw [X5.oa t h2] at S
        rcases S with ⟨γ, F4, s4, a4, b4, N4, g4, y1, y2, y3⟩ | E
        · have y5 := y3.a1
          have y6 := y3.b1
          have y8 := y3.f1
          exact .inl ⟨γ, F4, s4, a4, b4, N4, g4, y1, y2, sQ.mk y3.R ((X5.tr pX0.p48).tr y3.X) ⟨y3.V.1, (L5.tr pLo.p48).tr y3.V.lo⟩ (by omega) (by omega) (by omega)⟩
        · exact .inr E
      rcases brS (G := G) (K := K + 1) (F := F) hli hs (hb4.le (by omega)) h1 (by omega) (by rw [add_r, ← r1']; exact hr) (by rw [add_r, ← r1']; omega) q45 (by omega) (by omega) hf with ⟨δ, F4, s4, a4, b4, N4, g4, y1, y2, y3⟩ | ⟨e, δ, s4, wh, w, y1, y2, y3, y4⟩
      · have R4 := y3.R
        have y5 := y3.a1
        have y6 := y3.b1
        have y8 := y3.f1
        have X5 := X0.tr y3.X
        have n5 := X5.n
        have V4 := y3.V
        have a4n := R4.al
        have hb5 : pB c b4 a4 20 := by unfold pB at *; omega
        have hN5 := R4.N8 hb5
        rw [add_oa, o1'] at y1
        have L5 := L0.tr (V4.lo.le (by omega))
        have VK := V4.2 K (by omega)
        rw [y1, zc_l, y2]
        show sS c a d b N g s K (F + 1) 0 0 4 (if zis G δ (some c.p) 41 = true then _ else _) _
        rw [if_pos (of_eq_true (kis R4.kp (by decide)))]
        rcases R4.meets (G := G) (w := 53) (by decide) with ⟨e53, z1, m1, h6⟩ | ⟨e53, z1, m1⟩
        · have h6' := h6.p48 (k := K) (v := nI (1 + 1))
          have a6 := h6.al
          obtain ⟨F6, rfl⟩ : ∃ x, F4 = x + 1 := ⟨F4 - 1, by omega⟩
          have T2 := mS_go (F := F6) V4.1 (by omega) (VK.1.trans q46) (by omega) (by omega) R4.bm
          rw [VK.2.1.trans q47, M_goB (by omega) (VK.1.trans q46) (VK.2.2.trans q48)] at T2
          have mm := M_meets (R4.p48 (k := K) (v := nI (1 + 1))) (w := 53) (by decide)
          rw [if_pos e53] at mm
          have B2 : gX26_branch (nI K) (nI t) (nI 1) (ua s4 48 (upd (la s4 48) K (nI (1 + 1)))) = gX26_branch_28 (nI t) (maS (ua s4 48 (upd (la s4 48) K (nI (1 + 1)))) a4) := by
            unfold gX26_branch
            rw [if_neg (by decide), if_neg (by decide), show (53 : Int32) = nI 53 from rfl, mm, gl_bs, if_pos (by exact n1n)]
          have h7 : pR c (a4 + 1) d b4 N4 0 g4 (xaS c δ a4) (maS (ua s4 48 (upd (la s4 48) K (nI (1 + 1)))) a4) := (R4.p48 (k := K) (v := nI (1 + 1))).adv (wW_i e53).1
          rw [z1, gl_bs, if_neg (by exact n1n), T2, B2]
          show sS c a d b N g s K (F + 1) 0 0 4 (if zis G (xaS c δ a4) (some c.p) 41 = true then zcase ((rrX4_add G (f + 1)).2.1 (some c.p) (some (g.oa t)) (xaS c δ a4)) _ _ else _) _
          rw [if_pos (of_eq_true (kis h7.kp (by decide)))]
          have hb7 : pB c b4 (a4 + 1) 18 := by unfold pB at *; omega
          have ot5 := X5.oa t h2
          have rt5 := X5.r t h2
          rcases brS (G := G) (K := K + 1) (F := F6) (t := t) hli h7 hb7 h1 (by omega) (by rw [rt5]; exact hr) (by rw [rt5]; omega) V4.1 (by omega) (by omega) hf with ⟨ε, F8, s8, a8, b8, N8, g8, w1, w2, w3⟩ | ⟨e, ε, s8, wh, w, w1, w2, w3, w4⟩
          · have R8 := w3.R
            have w5 := w3.a1
            have w6 := w3.b1
            have w7 := w3.f1
            have V8 := w3.V
            have a8n := R8.al
            have W8 := V8.2 K (by omega)
            have hb8 : pB c b8 a8 18 := by unfold pB at *; omega
            have hN8 := R8.N8 hb8
            rw [ot5] at w1
            rw [w1, zc_l, w2]
            have X8 : pX0 N g s N8 g8 s8 := (X5.tr pX0.p48).tr (pX0.mk w3.X.n w3.X.oa w3.X.r w3.X.kd w3.X.up w3.X.w10)
            exact fin2 (p5 := 2) R8 X8 ((L5.tr pLo.p48).tr (pLo.tr (s' := maS (ua s4 48 (upd (la s4 48) K (nI (1 + 1)))) a4) (fun _ _ => ⟨rfl, rfl, rfl⟩) (V8.lo.le (by omega)))) V8.1 (W8.1.trans (show la (ua s4 48 (upd (la s4 48) K (nI (1 + 1)))) 46 K = nI 38 from VK.1.trans q46)) (W8.2.1.trans (show la (ua s4 48 (upd (la s4 48) K (nI (1 + 1)))) 47 K = nI t from VK.2.1.trans q47)) (W8.2.2.trans (show la (ua s4 48 (upd (la s4 48) K (nI (1 + 1)))) 48 K = nI 2 by rw [la_ua, if_pos rfl, upd_same])) (.inl rfl) (by omega) (by omega) (by omega) (by omega) (by omega)
          · rw [ot5] at w1
            rw [w1, zc_r, if_pos w2]
            exact .inr ⟨e, ε, s8, wh, w, rfl, w2, w3, w4⟩
        · rw [z1, gl_bs, if_pos (show (nI 0, δ).1 = 0 from rfl)]
          exact fin2 (p5 := 1) R4 X5 L5 V4.1 (VK.1.trans q46) (VK.2.1.trans q47) (VK.2.2.trans q48) (.inr ⟨rfl, e53⟩) (by omega) (by omega) (by omega) (by omega) (by omega)
      · rw [add_oa, o1'] at y1
        rw [y1, zc_r, if_pos y2]
        exact .inr ⟨e, δ, s4, wh, w, rfl, y2, y3, y4⟩
    rw [x1, zc_l, if_pos (of_eq_true (kis x2 (by decide)))]
    show sS c a d b N g s K (F + 1) 0 0 4 (Option.bind (hX43_add G (some (g.oa t)) (some (g1.oa t2)) β) _) _
    rw [x3, gl_bs, x4, gl_bs]
    show sS c a d b N g s K (F + 1) 0 0 4 (if zis G γ (some c.p) 41 = true then _ else _) (Option.bind (xlet (ls s1 43) _) _)
    rw [if_pos (of_eq_true (kis kp5 (by decide))), gl_x, x5.bm, if_neg (fun z => z rfl), gl_x, am5, show (52 : Int32) = nI 52 from rfl, M_isW x5.k x5.mw (by omega) (by decide), gl_bs, show (53 : Int32) = nI 53 from rfl]
    have pile : ∀ {s2 : zM}, pX N g s N1 (g1.add t t2) s2 → gX26_statement_335 (nI 38) (nI t) s2 = some ((), mPl s2 K (nI 38) (nI t)) := by
      intro s2 X4
      unfold gX26_statement_335
      rw [M_pile (X4.pl.1.trans h45) (by omega), gl_bs, s521]
    rcases x5.meets (G := G) (w := 52) (by decide) with ⟨e, z1, m1, h3⟩ | ⟨e, z1, m1⟩
    · rw [z1, gl_bs, e]
      have X4 := x6.tr (pX.ma (a := a1))
      show sS c a d b N g s K (F + 1) 0 0 4 _ (Option.bind (if nI (b2n true) = 0 then _ else xlet (ls s1 41) _) _)
      rw [if_neg (show ¬ nI (b2n true) = 0 from bT), gl_x, am5, gl_x, pI_1]
      show sS c a d b N g s K (F + 1) 0 0 4 _ (Option.bind (gX26_statement_335 (nI 38) (nI t) (maS s1 a1)) _)
      rw [pile X4, gl_bs]
      exact fin h3 X4 (by omega)
    · rw [z1, gl_bs, e]
      show sS c a d b N g s K (F + 1) 0 0 4 _ (Option.bind (if nI (b2n false) = 0 then gX26_statement_335 (nI 38) (nI t) s1 else _) _)
      rw [if_pos (show nI (b2n false) = 0 from rfl), pile x6, gl_bs]
      exact fin x5 x6 (Nat.le_refl _)
  · rw [x1, zc_r, if_pos x2, x3, gl_bs]
    show sS c a d b N g s K (F + 1) 0 0 4 _ (Option.bind (xlet (ls s' 43) _) _)
    rw [gl_x, x4.b1, if_pos (by exact n1n)]
    unfold gX26_statement_335
    rw [M_pile (x5.1.trans h45) (by omega), gl_bs, s521, gl_bs]
    exact .inr ⟨e, β, mPl s' K (nI 38) (nI t), wh, w, rfl, x2, mS_bad x4.pl.b1, x4.pl⟩
end PAZF
