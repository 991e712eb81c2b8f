/-! THE PURE LAYER: the parser: conditions: brackets, whole conditions. -/
section PAW
variable {c : pC} {G : xQ} {α β γ αs : zS} {s s' s2 ss : zM} {a a1 a' d b b' N N' N2 Ns as bs k t t2 u w wh q r F F1 F' Fs f y to m n jn o : Nat} {g g' g2 gs : pG} {v v' kv : Int32} {l ts : List Nat}
/-- a bracket's condition is whole: it ends, or it fails -/
theorem M_gE1 (h : pR c a d b N y g α s) (h54 : ls s 54 = nI (m + 1)) (hm : m < 60) (h44 : ls s 44 = nI (k + 1)) (h57 : ls s 57 = nI (jn + 1)) (hw : wS c a 1 = true) : gE v s = some (.inl v, us (us (us (us (maS s a) 54 (nI m)) 44 (nI k)) 57 (nI jn)) 55 (nI 0)) := by
  have a5 := h.a5
  unfold gE
  rw [gl_x, h54, if_pos (by rw [nl0, pI_inj (by omega) (by decide)]; omega), gl_x, h.am, nl1, M_isS h.k h.mw (by omega) (by decide), gl_bs, hw, if_pos (by first | decide | exact bF | exact bT | exact n1n)]
  show (xlet (ls s 41) _) = _
  rw [gl_x, h.am, gl_x, pI_add, gl_x]
  show (xlet (us (us s 41 (nI (a + 1))) 54 (ls s 54 - nI 1)) _) = _
  rw [h54, pI_sub (by omega), Nat.add_sub_cancel, gl_x, gl_x]
  show (xlet (us _ 44 (ls s 44 - nI 1)) _) = _
  rw [h44, pI_sub (by omega), Nat.add_sub_cancel, gl_x, gl_x]
  show (xlet (us _ 57 (ls s 57 - nI 1)) _) = _
  rw [h57, pI_sub (by omega), Nat.add_sub_cancel, gl_x, gl_x]
  rfl
theorem M_gE0 (h : pR c a d b N y g α s) (h54 : ls s 54 = nI (m + 1)) (hm : m < 60) (hw : wS c a 1 = false) (hf : gX26_fail (nI 1) (nI a) s = some (nI 0, s')) : gE v s = some (.inr (nI 0), s') := by
  have a5 := h.a5
  unfold gE
  rw [gl_x, h54, if_pos (by rw [nl0, pI_inj (by omega) (by decide)]; omega), gl_x, h.am, nl1, M_isS h.k h.mw (by omega) (by decide), gl_bs, hw, if_neg (fun z => z rfl)]
  show ginr (xlet (ls s 41) _) = _
  rw [gl_x, h.am, hf, gl_bs]
  rfl
theorem M_gEd (h54 : ls s 54 = nI 0) : gE v s = some (.inr v, s) := by
  unfold gE
  rw [gl_x, h54, if_neg (fun z => z rfl)]
  rfl
/-- a factor in brackets -/
theorem fac_B (ih : cG c G 2 f) (h : pR c a d b N y g α s) (hb : pB c b a 20) (hS : cSb c N g α s) (h54 : ls s 54 = nI m) (h57 : ls s 57 = nI (jn + 1)) (hmd : m ≤ d) (hjm : jn ≤ m) (hF : c.n - a + 5 ≤ F) (hf : 3 * (40 - d) + 1 ≤ f + 1) (e1 : ¬ (wW c a 64 = true ∧ wR c (a + 1) = false)) (e2 : wS c a 0 = true) : qG c a d b N y g α s F ((rrX4_factor G (f + 1)).1 (some c.p) α) (mC F (nI 0) s) (fun F1' F' a' t s' => mC F (nI 0) s = mB F1' F' (nI t) s' ∧ qT m (jn + 1) s s' ∧ xLim + a + 1 ≤ F1' + a') := by
  have kp := h.kp
  have ax := h.ax
  have am := h.am
  have bm := h.bm
  have nm := h.nmv hb (by decide)
  have a5 := h.a5
  have al := h.al
  have nl := h.nl
  have hp := h.k.p
  have N0 := h.N0
  have hb0 := hb.le (t := 0) (by omega)
  have ha := (wS_i e2).1
  have Mf := M_factor h
  rw [if_neg e1, M_f36b h e2] at Mf
  have Xf := X_fac78 (G := G) (f := f) h e1
  rw [X_facB h e2] at Xf
  obtain ⟨F0, rfl⟩ : ∃ x, F = x + 1 := ⟨F - 1, by omega⟩
  by_cases e4 : d = 40
  · subst e4
    obtain ⟨e, β, s', w, z1, z2, z3, z4, z5, z6, z7⟩ := X_deep40 (G := G) h hb0
    have q57 : ls s' 57 = nI (jn + 1) := by rw [z6 57 (by decide)]; exact h57
    rw [M_deep40 nm am z3, gl_bs, M_joint q57 (by omega), gl_bs] at Mf
    have z4' : pE c 3 w β (mJn s' (jn + 1)) := z4.tmp (fun i hi => by
      unfold mJn
      rw [ls_us, if_neg (by omega), ls_us, if_neg (by omega)]
      rfl) (fun i hi => by
      unfold mJn
      rw [la_us, la_us, la_ua, if_neg (by omega), la_ua, if_neg (by omega)])
    obtain ⟨u, z8⟩ := mC_fail (F := F0) bm Mf z4'.b1 (by omega)
    refine .inr ⟨e, β, u, _, 3, w, ?_, z2, z8, z4', z5.tr ⟨rfl, rfl, rfl, rfl⟩⟩
    rw [Xf, z1, zc_r, if_pos z2]
  have hd : d < 40 := by omega
  have q57 : ls (mDp s d a m (- 1)) 57 = nI (jn + 1) := h57
  rw [M_deep nm hd h54 (by omega) am, gl_bs, M_joint q57 (by omega), gl_bs] at Mf
  have M1 := mC_none (F := F0) bm Mf
  have h1 := h.dep (d' := d + 1) (by omega)
  have h2 := (h1.adv ha).sub (r := none)
  have h3 : pR c (a + 1) (d + 1) b N y g (zwA (xaS c (zwI α 40 4 c.p (nI (d + 1))) a) 40 15 c.p none) (mJn (mDp s d a m (- 1)) (jn + 1)) := h2.tmp (fun i hi => by
    show (if i = 55 then nI 0 else if i = 57 then nI (jn + 1 + 1) else if i = 41 then nI (a + 1) else if i = 54 then nI (m + 1) else ls (us s 44 (nI (d + 1))) i) = (if i = 41 then nI (a + 1) else ls (us s 44 (nI (d + 1))) i)
    by_cases e : i = 41
    · rw [if_neg (by omega), if_neg (by omega), if_pos e, if_pos e]
    · rw [if_neg (by omega), if_neg (by omega), if_neg e, if_neg e, if_neg (by omega)]) (fun i hi => by
    unfold mJn mDp
    rw [la_us, la_us, la_ua, if_neg (by omega), la_ua, if_neg (by omega), la_us, la_us, la_ua, if_neg (by omega)]
    rfl)
  have kp1 := h1.kp
  have ax1 := h1.ax
  have kp2 := (h1.adv ha).kp
  have kp3 := h3.kp
  have X0 : ∀ R, xFo c G 2 f (zwA (xaS c (zwI α 40 4 c.p (nI (d + 1))) a) 40 15 c.p none) = R → (rrX4_factor G (f + 1)).1 (some c.p) α = zcase R (fun p7 =>
              if zis G p7.2 (some c.p) 41 = true then
                zcase (hX4_close G (some c.p) p7.2) (fun p8 =>
                  (zpA p8.2 (some c.p) 40 15 none).bind fun σ9 =>
                  some (.inl (p7.1), σ9)) (fun p10 =>
                  if zthr p10.2 p10.1 3 = true then
                    some (.inr p10.1, p10.2)
                  else none)
              else none) (fun p11 =>
              if zthr p11.2 p11.1 3 = true then
                some (.inr p11.1, p11.2)
              else none) := fun R hR => by
    rw [Xf, X_deep h hd, zc_l]
    show ((zfI (zwI α 40 4 c.p (nI (d + 1))) (some c.p) 40 3).bind _) = _
    rw [kfI kp1, ax1, gl_bs]
    show ((zpI (zwI α 40 4 c.p (nI (d + 1))) (some c.p) 40 3 (nI a + 1)).bind _) = _
    rw [kpI kp1, gl_bs, pI_1]
    show ((zpA (xaS c (zwI α 40 4 c.p (nI (d + 1))) a) (some c.p) 40 15 none).bind _) = _
    rw [kpA kp2, gl_bs, if_pos (of_eq_true (kis kp3 (by decide))), ← hR]
    rfl
  have hb' : pB c b (a + 1) 20 := by unfold pB at *; omega
  have pl0 : pPl s (mJn (mDp s d a m (- 1)) (jn + 1)) := ⟨rfl, rfl, rfl, rfl⟩
  have fx0 : ∀ x, x ≠ c.p → (zwA (xaS c (zwI α 40 4 c.p (nI (d + 1))) a) 40 15 c.p none).2 x = α.2 x := fun x z2 => by
    rw [zwA_ne z2]
    show (zwI (zwI α 40 4 c.p (nI (d + 1))) 40 3 c.p (nI (a + 1))).2 x = _
    rw [zwI_ne z2, zwI_ne z2]
  have Y0 : pY c N g α s N g (zwA (xaS c (zwI α 40 4 c.p (nI (d + 1))) a) 40 15 c.p none) (mJn (mDp s d a m (- 1)) (jn + 1)) := (pY.rf.m (fun j h1 h2 => by
    unfold mJn mDp
    rw [la_us, la_us, la_ua, if_neg (by omega), la_ua, if_neg (by omega), la_us, la_us, la_ua, if_neg (by omega)]
    rfl) pl0).xp fx0 (Nat.le_refl _)
  have S0 : cSb c N g (zwA (xaS c (zwI α 40 4 c.p (nI (d + 1))) a) 40 15 c.p none) (mJn (mDp s d a m (- 1)) (jn + 1)) := .inl ⟨rfl, by rw [zA_zwA, if_pos ⟨rfl, rfl, rfl⟩]⟩
  have r61 : la (mJn (mDp s d a m (- 1)) (jn + 1)) 61 (jn + 1) = nI 0 := by
    unfold mJn
    rw [la_us, la_us, la_ua, if_neg (by first | decide | exact bT | exact n1n), la_ua, if_pos rfl, upd_same]
  have r64 : la (mJn (mDp s d a m (- 1)) (jn + 1)) 64 (jn + 1) = nI 0 := by
    unfold mJn
    rw [la_us, la_us, la_ua, if_pos rfl, upd_same]
  have r58 : la (mJn (mDp s d a m (- 1)) (jn + 1)) 58 m = (- 1 : Int32) := by
    rw [mJn_row (by omega)]
    show upd (la s 58) m (- 1) m = _
    rw [upd_same]
  rcases ih (a + 1) (d + 1) b N y g _ (mJn (mDp s d a m (- 1)) (jn + 1)) (m + 1) (jn + 1) F0 h3 hb' S0 rfl rfl (by omega) (by omega) (.inr r58) (fun _ => r61) (fun _ => r64) (by omega) (by omega) with ⟨β, t, F1', F2, s2, a', b', N', g', y1, ⟨y2, y3⟩, y5, y6, y7⟩ | ⟨e, β, u, s2, wh, w, y1, y2, y3, y4, y5⟩
  · have hR := y5.R
    have YY := Y0.tr y5.Y
    have a1' := y5.a1
    have b1 := y5.b1
    have r1 := y5.t4
    have tN := y5.t1
    have t2N := y5.t2
    have t20 := y5.t3
    have hbR : pB c b' a' 20 := hb'.go (by omega)
    have kpR := hR.kp
    have alR := hR.al
    have l54 : ls s2 54 = nI (m + 1) := y3.1
    have l57 : ls s2 57 = nI (jn + 1 + 1) := y3.2.1
    rcases e5 : wS c a' 1 with _ | _
    · obtain ⟨e, γ, s3, w, z1, z2, z3, z4, z5⟩ := X_close0 (G := G) hR (hbR.le (by omega)) e5
      have M2 := M_gE0 (v := nI t) hR l54 (by omega) e5 z3
      obtain ⟨u, z6⟩ := mC_bad (v := nI 0) (F := F2) z4.b1 (by omega)
      refine .inr ⟨e, γ, u, s3, 1, w, ?_, z2, ?_, z4, YY.x.pl.tr z5⟩
      · rw [X0 _ y1, zc_l, if_pos (of_eq_true (kis kpR (by decide))), z1, zc_r, if_pos z2]
      · rw [M1, y2]
        show mBk F1' F2 (gE (nI t) s2) = _
        rw [M2]
        exact z6
    · have ha' := (wS_i e5).1
      have M2 := M_gE1 (v := nI t) hR l54 (by omega) (hR.nmv hb (by decide)) l57 e5
      have h6 := ((hR.adv ha').dep (d' := d) (by omega)).sub (r := none)
      have h7 : pR c (a' + 1) d b' N' y g' (zwA (zwI (xaS c β a') 40 4 c.p (nI d)) 40 15 c.p none) (us (us (us (us (maS s2 a') 54 (nI m)) 44 (nI d)) 57 (nI (jn + 1))) 55 (nI 0)) := h6.tmp (fun i hi => by
        show (if i = 55 then nI 0 else if i = 57 then nI (jn + 1) else if i = 44 then nI d else if i = 54 then nI m else ls (maS s2 a') i) = (if i = 44 then nI d else ls (maS s2 a') i)
        by_cases e : i = 44
        · rw [if_neg (by omega), if_neg (by omega), if_pos e, if_pos e]
        · rw [if_neg (by omega), if_neg (by omega), if_neg e, if_neg e, if_neg (by omega)]) (fun _ _ => rfl)
      have kp7 : zkd (zwI (xaS c β a') 40 4 c.p (nI d)) c.p = 41 := ((hR.adv ha').dep (d' := d) (by omega)).kp
      refine .inl ⟨_, t, F1', F2, _, a' + 1, b', N', g', ?_, ⟨?_, ?_, by omega⟩, pQ.mk h7 ((YY.m (fun _ _ _ => rfl) ⟨rfl, rfl, rfl, rfl⟩).xp (fun q hq => ?_) (Nat.le_refl _)) (.inl ⟨rfl, by rw [zA_zwA, if_pos ⟨rfl, rfl, rfl⟩]⟩) tN t2N t20 (by omega) (by omega) (by omega), by omega, by omega⟩
      · rw [X0 _ y1, zc_l, if_pos (of_eq_true (kis kpR (by decide))), X_close1 hR (by omega) e5, zc_l]
        show ((zpA (zwI (xaS c β a') 40 4 c.p (nI (d + 1 - 1))) (some c.p) 40 15 none).bind _) = _
        rw [Nat.add_sub_cancel, kpA kp7, gl_bs]
      · rw [M1, y2]
        show mBk F1' F2 (gE (nI t) s2) = _
        rw [M2]
        rfl
      · refine ⟨by rw [h54]; rfl, by rw [h57]; rfl, fun i hi => ?_, fun i j i1 i2 i3 => ?_⟩
        · show la s2 58 i = _
          rw [y3.2.2.1 i (by omega), mJn_row (by omega), mDp_row (by omega)]
        · show la s2 i j = _
          rw [y3.2.2.2.1 i j i1 i2 i3, mJn_row (by omega), mDp_row (by omega)]
      · rw [zwA_ne hq, zwI_ne hq]
        exact zwI_ne hq
  · refine .inr ⟨e, β, u, s2, wh, w, ?_, y2, by rw [M1]; exact y3, y4, pl0.tr y5⟩
    rw [X0 _ y1, zc_r, if_pos y2]
/-- a factor that is a relation -/
theorem fac_R (h : pR c a d b N y g α s) (hb : pB c b a 20) (hS : cSb c N g α s) (hF : c.n - a + 5 ≤ F) (e1 : ¬ (wW c a 64 = true ∧ wR c (a + 1) = false)) (e2 : wS c a 0 = false) : qG c a d b N y g α s F ((rrX4_factor G (f + 1)).1 (some c.p) α) (mC F (nI 0) s) (fun F1' F' a' t s' => mC F (nI 0) s = mB F1' F' (nI t) s' ∧ qT m (jn + 1) s s' ∧ xLim + a + 1 ≤ F1' + a') := by
  have Mf := M_factor h
  rw [if_neg e1] at Mf
  have Xf := X_fac78 (G := G) (f := f) h e1
  rw [X_facR h e2] at Xf
  have bm := h.bm
  have N1 := h.k.N1
  have N0 := h.N0
  obtain ⟨F0, rfl⟩ : ∃ x, F = x + 1 := ⟨F - 1, by omega⟩
  rcases h.relation (G := G) hb hS e2 with ⟨β, t, s', a', b', N', g', x1, x2, x3, x4⟩ | ⟨e, β, u, s', wh, w, x1, x2, x3, x4, x5⟩
  · have t1 := x3.t1
    have t2 := x3.t2
    have a1 := x3.a1
    have hN := x3.R.N8 (k := 0) ((hb.go x3.b1).le (by omega))
    refine .inl ⟨β, t, xLim, F0, s', a', b', N', g', ?_, ⟨mC_node bm (by rw [Mf, x2]) x3.R.bm (by omega) (by omega), x4 _ _, by omega⟩, x3, by omega, by omega⟩
    rw [Xf, x1, zc_l]
  · obtain ⟨u', z⟩ := mC_fail (F := F0) bm (by rw [Mf, x3]) x4.b1 (by omega)
    refine .inr ⟨e, β, u', s', wh, w, ?_, x2, z, x4, x5⟩
    rw [Xf, x1, zc_r, if_pos x2]
/-- all of them -/
theorem fac_of (i1 : cF c G f) (i2 : cG c G 2 f) : cF c G (f + 1) := by
  intro a d b N y g α s m jn F h hb hS h54 h57 hmd hjm hF hf
  by_cases e1 : wW c a 64 = true ∧ wR c (a + 1) = false
  · exact fac_N i1 h hb hS h54 h57 hmd hjm hF hf e1.1 e1.2
  · rcases e2 : wS c a 0 with _ | _
    · exact fac_R h hb hS hF e1 e2
    · exact fac_B i2 h hb hS h54 h57 hmd hjm hF hf e1 e2
theorem conds_all : ∀ f, cF c G f ∧ cG c G 1 f ∧ cG c G 2 f := by
  have key : ∀ f, (∀ f', f' < f → cF c G f' ∧ cG c G 1 f' ∧ cG c G 2 f') → cF c G f ∧ cG c G 1 f ∧ cG c G 2 f := fun f ih => by
    refine ⟨?_, ?_, ?_⟩
    · by_cases e : f = 0
      · intro a d b N y g α s m jn F h hb hS h54 h57 hmd hjm hF hf
        omega
      · obtain ⟨x, rfl⟩ : ∃ x, f = x + 1 := ⟨f - 1, by omega⟩
        exact fac_of (ih x (by omega)).1 (ih x (by omega)).2.2
    · by_cases e : f = 0
      · intro a d b N y g α s m jn F h hb hS h54 h57 hmd hjm htop h1 h2 hF hf
        omega
      · obtain ⟨x, rfl⟩ : ∃ x, f = x + 1 := ⟨f - 1, by omega⟩
        exact row_of (by decide) (cG_0 (ih x (by omega)).1)
    · by_cases e : f = 0
      · intro a d b N y g α s m jn F h hb hS h54 h57 hmd hjm htop h1 h2 hF hf
        omega
      · obtain ⟨x, rfl⟩ : ∃ x, f = x + 1 := ⟨f - 1, by omega⟩
        exact row_of (by decide) (ih x (by omega)).2.1
  intro f
  exact Nat.strongRecOn f key
/-- X's condition and M's -/
theorem pR.condition (h : pR c a d b N y g α s) (hb : pB c b a 20) : (∃ β t s' a' b' N' g', hX4_condition G (some c.p) α = some (.inl (some (g'.oa t)), β) ∧ gX26_condition s = some (nI t, s') ∧ pR c a' d b' N' y g' β s' ∧ pY c N g α s N' g' β s' ∧ N ≤ t ∧ t < N' ∧ la s' 16 t = nI 0 ∧ g'.r t < 2 * (a' - a) ∧ a < a' ∧ b' + 10 * a ≤ b + 10 * a') ∨ pFl c s (hX4_condition G (some c.p) α) (gX26_condition s) := by
  have n5 := h.k.n
  have N1 := h.k.N1
  have N0 := h.N0
  have al := h.al
  have nl := h.nl
  have kp := h.kp
  have xl : xLim = 1000000000 := rfl
  have M0 : gX26_condition s = mC xLim (nI 0) (mJn (us (us s 54 (nI 0)) 57 (nI 0)) 0) := by
    unfold gX26_condition gX26_condition_16
    rw [gl_x, gl_x, nl0, M_joint (k := 0) rfl (by decide), gl_bs]
    rfl
  have h1 : pR c a d b N y g (zwA α 40 15 c.p none) (mJn (us (us s 54 (nI 0)) 57 (nI 0)) 0) := (h.sub (r := none)).tmp (fun i hi => by
    unfold mJn
    rw [ls_us, if_neg (by omega), ls_us, if_neg (by omega), ls_ua, ls_ua, ls_us, if_neg (by omega), ls_us, if_neg (by omega)]) (fun i hi => by
    unfold mJn
    rw [la_us, la_us, la_ua, if_neg (by omega), la_ua, if_neg (by omega)]
    rfl)
  have pl0 : pPl s (mJn (us (us s 54 (nI 0)) 57 (nI 0)) 0) := ⟨rfl, rfl, rfl, rfl⟩
  have Y0 : pY c N g α s N g (zwA α 40 15 c.p none) (mJn (us (us s 54 (nI 0)) 57 (nI 0)) 0) := (pY.rf.m (fun j h1 h2 => by
    unfold mJn
    rw [la_us, la_us, la_ua, if_neg (by omega), la_ua, if_neg (by omega)]
    rfl) pl0).xp (fun x hx => zwA_ne hx) (Nat.le_refl _)
  have S0 : cSb c N g (zwA α 40 15 c.p none) (mJn (us (us s 54 (nI 0)) 57 (nI 0)) 0) := .inl ⟨rfl, by rw [zA_zwA, if_pos ⟨rfl, rfl, rfl⟩]⟩
  have kp1 := h1.kp
  have X0 : ∀ R, xFo c G 2 xRec (zwA α 40 15 c.p none) = R → hX4_condition G (some c.p) α = zcase R (fun p2 => some (.inl (p2.1), p2.2)) (fun p3 => if zthr p3.2 p3.1 3 = true then some (.inr p3.1, p3.2) else none) := fun R hR => by
    unfold hX4_condition
    rw [kpA kp, gl_bs, if_pos (of_eq_true (kis kp1 (by decide))), ← hR]
    rfl
  rcases (conds_all (c := c) (G := G) xRec).2.2 a d b N y g (zwA α 40 15 c.p none) (mJn (us (us s 54 (nI 0)) 57 (nI 0)) 0) 0 0 xLim h1 hb S0 rfl rfl (by omega) (by omega) (.inl rfl) (fun _ => by
    unfold mJn
    rw [la_us, la_us, la_ua, if_neg (by first | decide | exact bT | exact n1n), la_ua, if_pos rfl, upd_same]) (fun _ => by
    unfold mJn
    rw [la_us, la_us, la_ua, if_pos rfl, upd_same]) (by omega) (by have : xRec = 300 := rfl; omega) with ⟨β, t, F1', F2, s2, a', b', N', g', y1, ⟨y2, y3⟩, y5, y6, y7⟩ | ⟨e, β, u, s2, wh, w, y1, y2, y3, y4, y5⟩
  · have t1 := y5.t1
    have t2 := y5.t2
    have alR := y5.R.al
    have hN := y5.R.N8 (k := 0) ((hb.go y5.b1).le (by omega))
    obtain ⟨F3, rfl⟩ : ∃ x, F2 = x + 1 := ⟨F2 - 1, by omega⟩
    refine .inl ⟨β, t, s2, a', b', N', g', ?_, ?_, y5.R, Y0.tr y5.Y, t1, t2, y5.t3, y5.t4, y5.a1, y5.b1⟩
    · rw [X0 _ y1, zc_l]
    · rw [M0, y2]
      show mBk F1' (F3 + 1) (gE (nI t) s2) = _
      rw [M_gEd (by rw [y3.1]; rfl)]
      show mC (F3 + 1) (nI t) s2 = _
      rw [mC_done (by rw [ne_eq, pI_inj (by omega) (by decide)]; omega)]
  · refine .inr ⟨e, β, u, s2, wh, w, ?_, y2, by rw [M0]; exact y3, y4, pl0.tr y5⟩
    rw [X0 _ y1, zc_r, if_pos y2]
end PAW
