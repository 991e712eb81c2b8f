/-! THE PURE LAYER: the parser: what describes an item: pictures, values, tables, redefinitions, usages. -/
section PAZZP
variable {c : pC} {G : xQ} {α β γ : zS} {s s' s1 s2 : zM} {a a1 a2 a3 a' b b' d e f N N' k p q t to u w x y r : Nat} {g g' g2 : pG} {v v' kv : Int32} {P : Nat → Nat → pG → Prop}
theorem pO.pre (h : pO c a2 d b N 0 g s2 a3 β s' P) (hX : pX N g s N g s2) (ha : a ≤ a2) (h3 : a1 ≤ a3) : pO c a d b N 0 g s a1 β s' P := by
  obtain ⟨a', b', N', g', x1, x2, x3, x4, x5⟩ := h
  exact ⟨a', b', N', g', x1, hX.tr x2, by omega, by omega, x5⟩
theorem pJ.pre {ρ σ : Type} {f : zF (ρ ⊕ Nat)} {m : gF σ} (j : pJ c s2 f m (fun _ β _ s' => pO c a2 d b N 0 g s2 a3 β s' P)) (hX : pX N g s N g s2) (ha : a ≤ a2) (h3 : a1 ≤ a3) : pJ c s f m (fun _ β _ s' => pO c a d b N 0 g s a1 β s' P) := (j.im fun _ _ _ _ z => z.pre hX ha h3).tr hX.pl
theorem pR.meetsP (h : pR c a d b N y g α s) (hw : w < 100000) : ∃ x a2 β' s', hX4_meets G (some c.p) (nI w) α = some (nI x, β') ∧ gX26_meets (nI w) s = some (nI x, s') ∧ pR c a2 d b N y g β' s' ∧ (a2 = a ∨ a2 = a + 1) ∧ pX N g s N g s' ∧ (x = 0 ∨ x = 1) := by
  rcases h.meets (G := G) hw with ⟨_, x1, m1, h1⟩ | ⟨_, x1, m1⟩
  · exact ⟨1, a + 1, _, _, x1, m1, h1, .inr rfl, pX.ma, .inr rfl⟩
  · exact ⟨0, a, _, _, x1, m1, h, .inl rfl, pX.rf, .inl rfl⟩
/-- a word's value as a node below node t -/
theorem pR.tkc (h : pR c a d b N 0 g α s) (hk : k < 6) (hb : pB c b a 1) (h1 : c.N0 ≤ t) (h2 : t < N) (hr : 0 < g.r t) (hv : kv ≠ nI 53) : pJ c s ((znO α 44 9).bind fun p27 => if zis G p27.2 (some c.p) 41 = true then zcase (hX4_take G (some c.p) (nI k) p27.2) (fun p28 => if zis G p28.2 p27.1 45 = true then (hX43_init G p27.1 kv p28.1 v' p28.2).bind fun p29 => if zis G p29.2 (some (g.oa t)) 45 = true then (hX43_add G (some (g.oa t)) p27.1 p29.2).bind fun p30 => hX4_part_346 G p30.2 else none else none) (fun p31 => if zthr p31.2 p31.1 3 = true then some (.inr p31.1, p31.2) else none) else none) ((gX26_mustBe (nI k) s).bind fun p => if p.1 = 0 then gX26_described2_320 p.2 else (gX26_passed p.2).bind fun p11 => (gX26_child (nI t) kv p11.1 v' p11.2).bind fun p12 => gX26_described2_320 p12.2) (fun _ β _ s' => pO c a d b N 0 g s (a + 1) β s' (fun _ _ _ => True)) := by
  obtain ⟨R1, q1⟩ := h.cell
  have kp1 := R1.kp
  have N0 := h.N0
  have N1 := h.k.N1
  have b1 : pB c (b + 1) a 0 := by unfold pB at *; omega
  rw [znO_e, gl_bs]
  show pJ c s (if zis G (zmk α 45 0 9) (some c.p) 41 = true then _ else _) _ _
  rw [if_pos (of_eq_true (kis kp1 (by decide)))]
  show pJ c s (zcase (hX4_take G (some c.p) (nI k) (zmk α 45 0 9)) _ _) _ _
  rcases R1.takeZ (G := G) (k := k) hk b1 with ⟨e1, x1, m1, R2⟩ | ⟨e, β, s', w, x1, x2, m1, x3, x4⟩
  · have q2 := q1.adv R1.k (a := a)
    have ps := M_passed R2 (by omega)
    rw [Nat.add_sub_cancel] at ps
    obtain ⟨β, γ, g', c1, c2, c3, c4, c5, c6⟩ := R2.childA (G := G) (to := t) (kv := kv) (v := nI (c.vs a)) (v' := v') (b1.go (by omega)) h1 h2 hr (by omega) q2 hv
    refine .inl ⟨(), γ, (), _, ?_, ?_, a + 1, b + 1 + 2, N + 1, g', c5, (pX.ma (a := a)).tr c6, Nat.le_refl _, by omega, trivial⟩
    · rw [x1, zc_l]
      show (if zis G (xaS c (zmk α 45 0 9) a) (some (zn α)) 45 = true then _ else _) = _
      rw [if_pos (of_eq_true (kis q2.kd (by decide)))]
      show Option.bind (hX43_init G (some (zn α)) kv (nI (c.vs a)) v' (xaS c (zmk α 45 0 9) a)) _ = _
      rw [c1, gl_bs, if_pos (of_eq_true (kis c2 (by decide))), c3, gl_bs]
      rfl
    · rw [m1, gl_bs, if_neg (show ¬ nI 1 = 0 from n1n), ps, gl_bs, c4, gl_bs]
      rfl
  · refine .inr ⟨e, β, (), s', 1, w, ?_, x2, ?_, x3, x4⟩
    · rw [x1, zc_r, if_pos x2]
    · rw [m1, gl_bs, if_pos (show nI 0 = 0 from rfl)]
      rfl
/-- a new node below node to, of rank r -/
theorem pR.childR (h : pR c a d b N y g α s) (hb : pB c b a 0) (h1 : c.N0 ≤ to) (h2 : to < N) (hr : r < g.r to) (hy : y ≠ N) (hq : xNw c α q) (hk : kv ≠ nI 53) : ∃ β γ, hX43_init G (some q) kv v v' α = some ((), β) ∧ zkd β (g.oa to) = 45 ∧ hX43_add G (some (g.oa to)) (some q) β = some (some q, γ) ∧ gX26_make kv v v' s = some (nI N, mMk s N kv v v') ∧ gX26_attach (nI to) (nI N) (mMk s N kv v v') = some ((), mAtS (mMk s N kv v v') to (g.ch to) N) ∧ pR c a d (b + 2) (N + 1) y ((g.push N q r).add to N) γ (mAtS (mMk s N kv v v') to (g.ch to) N) ∧ pX N g s (N + 1) ((g.push N q r).add to N) (mAtS (mMk s N kv v v') to (g.ch to) N) ∧ ((g.push N q r).add to N).oa N = q ∧ ((g.push N q r).add to N).r N = r := by
  obtain ⟨β, x1, x2⟩ := h.new (G := G) (r := r) (v := v) (v' := v') hq hk
  have hN := h.N8 hb
  have N0 := h.N0
  have N1 := h.k.N1
  have e1 : (g.push N q r).oa to = g.oa to := by rw [push_oa, if_neg (by omega)]
  have e2 : (g.push N q r).oa N = q := by rw [push_oa, if_pos rfl]
  have e3 : (g.push N q r).ch to = g.ch to := by rw [push_ch, if_neg (by omega)]
  obtain ⟨γ, y1, y2, y3⟩ := x2.add (G := G) (to := to) (t := N) (by omega) h1 (by omega) N0 (by omega) (by rw [push_r, push_r, if_pos rfl, if_neg (by omega)]; exact hr) mMk_16 (by omega)
  rw [e1, e2] at y1
  rw [e3] at y2 y3
  refine ⟨β, γ, x1, ?_, y1, M_make h.Nm (by omega), y2, y3, pX.add pX.new (Nat.le_refl N), e2, by rw [add_r, push_r, if_pos rfl]⟩
  have := (x2.g.nd to h1 (by omega)).kn
  rw [e1] at this; exact this
/-- a literal below node to -/
theorem pR.lit (h : pR c a d b N y g α s) (hb : pB c b a 0) (h1 : c.N0 ≤ to) (h2 : to < N) (hr : 0 < g.r to) (hy : y ≠ N) : (∃ β γ s' N' g', hX4_operand G (some c.p) (nI 0) α = some (.inl (some (zn α)), β) ∧ zkd β (g.oa to) = 45 ∧ hX43_add G (some (g.oa to)) (some (zn α)) β = some (some (zn α), γ) ∧ gX26_literal (nI to) s = some ((), s') ∧ pR c (a + 1) d (b + 3) N' y g' γ s' ∧ pX N g s N' g' s') ∨ (∃ e β s' w, hX4_operand G (some c.p) (nI 0) α = some (.inr e, β) ∧ zthr β e 3 = true ∧ gX26_literal (nI to) s = some ((), s') ∧ pE c 1 w β s' ∧ pPl s s') := by
  have am := h.am
  have a5 := h.a5
  have M0 : gX26_literal (nI to) s = if wK c a 2 = true ∨ wK c a 3 = true then gX26_literal_37 (nI to) s else (gX26_fail (nI 1) (nI a) s).bind fun p7 => gX26_literal_42 p7.2 := by
    unfold gX26_literal
    rw [gl_x, am, show (2 : Int32) = nI 2 from rfl, M_isK h.k h.mw (by omega) (by decide), gl_bs]
    rcases e2 : wK c a 2 with _ | _
    · rw [if_neg (show ¬ ¬ nI (b2n false) = 0 from fun z => z rfl), gl_x, am]
      show Option.bind (gX26_isKind (nI a) (nI 3) s) _ = _
      rw [M_isK h.k h.mw (by omega) (by decide), gl_bs]
      rcases e3 : wK c a 3 with _ | _
      · rw [if_neg (show ¬ ¬ nI (b2n false) = 0 from fun z => z rfl), gl_x, am, if_neg (by simp)]
        rfl
      · rw [if_pos (show ¬ nI (b2n true) = 0 from bT), if_pos (.inr rfl)]
    · rw [if_pos (show ¬ nI (b2n true) = 0 from bT), if_pos (.inl rfl)]
  by_cases hk : wK c a 2 = true ∨ wK c a 3 = true
  · have hO : wO c a = true := wO_t (by
      rcases hk with z | z
      · exact ⟨(wK_i z).1, .inr (.inl (wK_i z).2)⟩
      · exact ⟨(wK_i z).1, .inr (.inr (wK_i z).2)⟩)
    have k1 : wK c a 1 = false := wK_f (by
      rcases hk with z | z
      · have := (wK_i z).2; omega
      · have := (wK_i z).2; omega)
    obtain ⟨β, x1, x2⟩ := h.op (G := G) (nm := false) hO (.inr k1)
    obtain ⟨γ, y1, y2, y3, y4⟩ := h.opAdd (G := G) hO hb h1 h2 hr hy x2
    refine .inl ⟨β, γ, _, _, _, x1, ?_, y1, ?_, y3, y4⟩
    · have := (x2.g.nd to h1 (by omega)).kn
      rw [push_oa, if_neg (by omega)] at this
      exact this
    · rw [M0, if_pos hk]
      unfold gX26_literal_37
      rw [y2, gl_bs]
      rfl
  · have k2 : wK c a 2 = false := by rw [← Bool.not_eq_true]; exact fun z => hk (.inl z)
    have k3 : wK c a 3 = false := by rw [← Bool.not_eq_true]; exact fun z => hk (.inr z)
    obtain ⟨q, β, s', v, z2, z3, m2, z4, z5⟩ := h.opno (G := G) (nm := false) hb k2 k3 (.inl rfl)
    refine .inr ⟨q, β, s', v, z2, z3, ?_, z4, z5⟩
    rw [M0, if_neg hk, m2, gl_bs]
    rfl
/-- M's failure one word behind -/
theorem pR.noM (h : pR c a d b N y g α s) (hb : pB c b a 0) : ∃ e β s', hX4_must G (some c.p) (nI 0) α = some (.inr e, β) ∧ zthr β e 3 = true ∧ gX26_fail (nI 1) (nI a) (us s 41 v) = some (nI 0, s') ∧ pE c 1 a β s' ∧ pPl s s' := by
  obtain ⟨e, β, x1, x2, x3, x4, x5, x6, x7⟩ := X_pfails (G := G) (w := a) (wh := 1) h.k h.x
  obtain ⟨F, f1, f2⟩ := h.k.fm
  have hm := h.m.us1 (k := 41) (v := v) (by omega)
  have f3 : ls (us s 41 v) 5 = nI F := by rw [hm.I 5 (by decide)]; exact f1
  have zcb := h.zcb
  have zwb := h.zwb
  have Nb := h.Nb
  have N0 := h.N0
  have hb' := hb
  unfold pB at hb'
  refine ⟨e, β, mFl (us s 41 v) F 1 a, by rw [X_must0 h, x1, zc_r, if_pos x2], x2, M_fail h.bm f3 f2, pE.mk x3 x4 x5 (fun k hk => ?_) (fun k t k1 k2 ht => ?_) (fun k hk => ?_) rfl rfl ⟨F, f1, f2, rfl, ?_, ?_⟩ h.al h.a0 (.inl rfl) ⟨N, h.Nm, N0, by omega⟩ (by omega) (by omega), ⟨rfl, rfl, rfl, rfl⟩⟩
  · rw [← hm.I k (by omega)]
    unfold mFl
    rw [ls_us, if_neg (by omega), ls_us, if_neg (by omega), ls_us, if_neg (by omega)]
    rfl
  · rw [← hm.A k t k1 k2 ht]
    unfold mFl
    rw [la_us, la_us, la_us, la_ua, if_neg (by omega), la_ua, if_neg (by omega)]
  · rw [← hm.B k (by omega)]
    unfold mFl
    rw [la_us, la_us, la_us, la_ua, if_neg (by omega), la_ua, if_neg (by omega)]
  · show upd (la s 6) F (nI 1) = _
    rw [← hm.B 6 (by decide)]
    rfl
  · show upd (la s 7) F (nI a) = _
    rw [← hm.B 7 (by decide)]
    rfl
/-- VALUE: behind IS -/
theorem pR.val (h : pR c a d b N 0 g α s) (hb : pB c b a 4) (h1 : c.N0 ≤ t) (h2 : t < N) (hr : 1 < g.r t) : pJ c s ((znO α 44 9).bind fun p53 =>
            if zis G p53.2 p53.1 45 = true then
              (hX43_init G p53.1 (nI 14) (nI 0) v' p53.2).bind fun p54 =>
              if zis G p54.2 (some (g.oa t)) 45 = true then
                (hX43_add G (some (g.oa t)) p53.1 p54.2).bind fun p55 =>
                if zis G p55.2 (some c.p) 41 = true then
                  zcase (hX4_operand G (some c.p) (nI 0) p55.2) (fun p56 =>
                    if zis G p56.2 p55.1 45 = true then
                      (hX43_add G p55.1 p56.1 p56.2).bind fun p57 =>
                      if zis G p57.2 (some c.p) 41 = true then
                        (hX4_meets G (some c.p) (nI 21) p57.2).bind fun p58 =>
                        if p58.1 = 0 then
                          hX4_part_105 G  p58.2
                        else
                          if zis G p58.2 (some c.p) 41 = true then
                            zcase (hX4_operand G (some c.p) (nI 0) p58.2) (fun p59 =>
                              if zis G p59.2 p55.1 45 = true then
                                (hX43_add G p55.1 p59.1 p59.2).bind fun p60 =>
                                hX4_part_105 G  p60.2
                              else none) (fun p61 =>
                              if zthr p61.2 p61.1 3 = true then
                                some (.inr p61.1, p61.2)
                              else none)
                          else none
                      else none
                    else none) (fun p62 =>
                    if zthr p62.2 p62.1 3 = true then
                      some (.inr p62.1, p62.2)
                    else none)
                else none
              else none
            else none) ((gX26_make (nI 14) (nI 0) v' s).bind fun p13 =>
        (gX26_attach (nI t) p13.1 p13.2).bind fun p14 =>
        (gX26_literal p13.1 p14.2).bind fun p15 =>
        (gX26_meets (nI 21) p15.2).bind fun p16 =>
        if p16.1 = 0 then
          gX26_described2_320 p16.2
        else
          (gX26_literal p13.1 p16.2).bind fun p17 =>
          gX26_described2_320 p17.2) (fun _ β _ s' => pO c a d b N 0 g s (a + 1) β s' (fun _ _ _ => True)) := by
  obtain ⟨R1, q1⟩ := h.cell
  have N0 := h.N0
  have N1 := h.k.N1
  have b1 : pB c (b + 1) a 0 := by unfold pB at *; omega
  obtain ⟨β, γ, c1, c2, c3, c4, c5, c6, c7, c8, c9⟩ := R1.childR (G := G) (to := t) (r := 1) (kv := nI 14) (v := nI 0) (v' := v') b1 h1 h2 hr (by omega) q1 (by decide)
  have kpγ := c6.kp
  generalize (g.push N (zn α) 1).add t N = g1 at c6 c7 c8 c9
  rw [znO_e, gl_bs]
  show pJ c s (if zis G (zmk α 45 0 9) (some (zn α)) 45 = true then _ else _) _ _
  rw [if_pos (of_eq_true (kis q1.kd (by decide)))]
  show pJ c s (Option.bind (hX43_init G (some (zn α)) (nI 14) (nI 0) v' (zmk α 45 0 9)) _) _ _
  rw [c1, gl_bs, if_pos (of_eq_true (kis c2 (by decide))), c3, gl_bs, if_pos (of_eq_true (kis kpγ (by decide))), c4, gl_bs, c5, gl_bs]
  generalize mAtS (mMk s N (nI 14) (nI 0) v') t (g.ch t) N = s1 at c6 c7
  have b2 : pB c (b + 1 + 2) a 0 := by unfold pB at *; omega
  rcases c6.lit (G := G) (to := N) b2 N0 (Nat.lt_succ_self _) (by rw [c9]; decide) (by omega) with ⟨β2, γ2, s2, N2, g2, x1, x2, x3, x4, R2, X2⟩ | ⟨e, β2, s2, w, x1, x2, x3, x4, x5⟩
  · have kp2 := R2.kp
    have o2 := (X2.oa N (Nat.lt_succ_self _)).trans c8
    have r2 := (X2.r N (Nat.lt_succ_self _)).trans c9
    have n2 := X2.n
    rw [c8] at x2 x3
    have b3 : pB c (b + 1 + 2 + 3) (a + 1) 0 := by unfold pB at *; omega
    rw [x1, zc_l, if_pos (of_eq_true (kis x2 (by decide)))]
    show pJ c s (Option.bind (hX43_add G (some (zn α)) (some (zn γ)) β2) _) _ _
    rw [x3, gl_bs, if_pos (of_eq_true (kis kp2 (by decide))), x4, gl_bs]
    rcases R2.meets (G := G) (w := 21) (by decide) with ⟨ew, z1, m1, R3⟩ | ⟨ew, z1, m1⟩
    · have kp3 := R3.kp
      have b4 : pB c (b + 1 + 2 + 3) (a + 1 + 1) 0 := by unfold pB at *; omega
      rw [z1, gl_bs, if_neg (show ¬ nI 1 = 0 from n1n), if_pos (of_eq_true (kis kp3 (by decide))), m1, gl_bs, if_neg (show ¬ nI 1 = 0 from n1n)]
      rcases R3.lit (G := G) (to := N) b4 N0 (by omega) (by rw [r2]; decide) (by omega) with ⟨β5, γ5, s5, N5, g5, w1, w2, w3, w4, R5, X5⟩ | ⟨e, β5, s5, w, w1, w2, w3, w4, w5⟩
      · rw [o2] at w2 w3
        refine .inl ⟨(), γ5, (), s5, ?_, ?_, _, _, _, _, R5, (c7.tr X2).tr ((pX.ma (a := a + 1)).tr X5), by omega, by omega, trivial⟩
        · rw [w1, zc_l, if_pos (of_eq_true (kis w2 (by decide)))]
          show Option.bind (hX43_add G (some (zn α)) (some (zn (xaS c γ2 (a + 1)))) β5) _ = _
          rw [w3, gl_bs]
          rfl
        · rw [w4, gl_bs]
          rfl
      · refine .inr ⟨e, β5, (), s5, 1, w, ?_, w2, ?_, w4, ((c7.tr X2).pl.tr maS_pl).tr w5⟩
        · rw [w1, zc_r, if_pos w2]
        · rw [w3, gl_bs]
          rfl
    · rw [z1, gl_bs, if_pos (show nI 0 = 0 from rfl), m1, gl_bs, if_pos (show nI 0 = 0 from rfl)]
      exact .inl ⟨(), γ2, (), s2, rfl, rfl, _, _, _, _, R2, c7.tr X2, Nat.le_refl _, by omega, trivial⟩
  · refine .inr ⟨e, β2, (), s2, 1, w, ?_, x2, ?_, x4, c7.pl.tr x5⟩
    · rw [x1, zc_r, if_pos x2]
    · rw [x3, gl_bs, Bd_meets x4.b1, gl_bs, if_pos (show nI 0 = 0 from rfl)]
      rfl
end PAZZP
