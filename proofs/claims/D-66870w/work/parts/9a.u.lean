/-! THE PURE LAYER: the parser: conditions: a row whole, a factor. -/
/-- M behind a factor t, with what is above it -/
def cF (c : pC) (G : xQ) (f : Nat) : Prop := ∀ (a d b N y : Nat) (g : pG) (α : zS) (s : zM) (m jn F : Nat), pR c a d b N y g α s → pB c b a 20 → cSb c N g α s → ls s 54 = nI m → ls s 57 = nI (jn + 1) → m ≤ d → jn ≤ m → c.n - a + 5 ≤ F → 3 * (40 - d) + 1 ≤ f → qG c a d b N y g α s F ((rrX4_factor G f).1 (some c.p) α) (mC F (nI 0) s) (fun F1' F' a' t s' => mC F (nI 0) s = mB F1' F' (nI t) s' ∧ qT m (jn + 1) s s' ∧ xLim + a + 1 ≤ F1' + a')
section PAU
variable {c : pC} {G : xQ} {α β γ αs : zS} {s s' s2 ss : zM} {a a1 a' d b b' N N' N2 Ns as bs k t t2 u w wh q r F F1 F' Fs f y to m n jn o : Nat} {g g' g2 gs : pG} {v v' kv : Int32} {l ts : List Nat}
/-- M behind a factor, with no NOT above it -/
theorem M_72 (h54 : ls s 54 = nI m) (hm : m ≤ 40) (h : m = 0 ∨ la s 58 (m - 1) = (- 1 : Int32)) : gX26_behindFactor_2b v s = gX26_behindFactor_72 v s := by
  unfold gX26_behindFactor_2b
  rw [gl_x, h54]
  by_cases e : m = 0
  · rw [e, if_pos (by first | decide | exact bF | exact bT | exact n1n)]
  · rcases h with h | h
    · exact absurd h e
    · rw [if_neg (by rw [nl0, pI_le (by omega) (by decide)]; omega), gl_x, nl1, pI_sub (by omega), pgld (by omega) (by decide), gl_bs, h, if_pos (show (-1 : Int32) = -nI 1 from rfl)]
theorem cG_0 (hc : cF c G f) : cG c G 0 f := by
  intro a d b N y g α s m jn F h hb hS h54 h57 hmd hjm htop _ _ hF hf
  have nl := h.nl
  rcases hc a d b N y g α s m jn F h hb hS h54 h57 hmd hjm hF (by omega) with ⟨β, t, F1', F2, s2, a', b', N', g', y1, ⟨y2, y3, y4⟩, y5, y6, y7⟩ | ⟨e, β, u, s2, wh, w, y1, y2, y3, y4, y5⟩
  · have al := y5.R.al
    have n5 := h.k.n
    have xl : xLim = 1000000000 := rfl
    obtain ⟨F3, rfl⟩ : ∃ x, F1' = x + 1 := ⟨F1' - 1, by omega⟩
    have e72 := M_72 (v := nI t) (s := s2) (m := m) (y3.1.trans h54) (by omega) (by
      by_cases m0 : m = 0
      · exact .inl m0
      · refine .inr ?_
        rw [y3.2.2.1 (m - 1) (by omega)]
        exact htop.resolve_left m0)
    exact .inl ⟨β, t, F3, F2, s2, a', b', N', g', y1, ⟨by rw [y2, mB_s, e72]; rfl, y3.qo⟩, y5, y6, by omega⟩
  · exact .inr ⟨e, β, u, s2, wh, w, y1, y2, y3, y4, y5⟩
/-- X's row -/
theorem X_row (ho : o ≤ 1) (h : pR c a d b N y g α s) : xFo c G (o + 1) (f + 1) α = zcase (xFo c G o f α) (fun p => hX4_row_28 G (rrX4_factor G f).1 (rrX4_factor G f).2 (some c.p) (nI o) p.1 (nI (65 + o)) p.2) (fun p => if zthr p.2 p.1 3 = true then some (.inr p.1, p.2) else none) := by
  have kp := h.kp
  have : o = 0 ∨ o = 1 := by omega
  rcases this with rfl | rfl
  · show hX4_row_r G (rrX4_factor G f).1 (rrX4_factor G f).2 (some c.p) (nI 0) α = _
    unfold hX4_row_r hX4_row_16
    rw [if_pos (by first | decide | exact bF | exact bT | exact n1n), if_pos (of_eq_true (kis kp (by decide)))]
    rfl
  · show hX4_row_r G (rrX4_factor G f).1 (rrX4_factor G f).2 (some c.p) (nI 1) α = _
    unfold hX4_row_r hX4_row_16
    rw [if_neg (by first | decide | exact bT | exact n1n), if_pos (of_eq_true (kis kp (by decide)))]
    rfl
/-- X makes a row's node, with the first part below it -/
theorem X_row28 (ho : o ≤ 1) (h : pR c a d b N y g α s) (hb : pB c b a 8) (h1 : c.N0 ≤ t) (h2 : t < N) (h0 : la s 16 t = nI 0) (ew : wW c a (65 + o) = true) : ∃ γ, hX4_row_28 G (rrX4_factor G f).1 (rrX4_factor G f).2 (some c.p) (nI o) (some (g.oa t)) (nI (65 + o)) α = hX4_row_75 G (rrX4_factor G f).1 (rrX4_factor G f).2 (some c.p) (nI o) (nI (65 + o)) (some (zn α)) γ ∧ pR c a d (b + 3) N y g γ s ∧ pxL c γ (zn α) (nI (51 - o)) (nI 0) (la s 11 t) [g.oa t] ∧ (∀ x, x < zn α → x ≠ g.oa t → γ.2 x = α.2 x) ∧ zn α < zn γ := by
  have kp := h.kp
  have ax := h.ax
  have a5 := h.a5
  have hN := h.N8 hb
  obtain ⟨h4, hq⟩ := h.cell
  have ot := h4.g.nd t h1 h2
  have wd := ot.wd
  have kn := ot.kn
  have hi := (h.g.nd t h1 h2).hi
  have lo := (h.g.nd t h1 h2).lo
  have hp := h.k.p
  have hn := h.x.n
  obtain ⟨β, x1, x2, x3, x4, x5⟩ := h4.lone (G := G) (kv := nI (51 - o)) (v := nI 0) (v' := la s 11 t) hq
  have oq : ∀ t, c.N0 ≤ t → t < N → g.oa t ≠ zn α := fun t h1 h2 => by
    have := (h.g.nd t h1 h2).hi
    omega
  obtain ⟨γ, y1, y2, y3, y4, y5⟩ := x2.ladd (G := G) x3 (by simp) h1 h2 (by omega) h0 oq (by simp)
  have zm : zn (zmk α 45 0 9) = zn α + 1 := rfl
  refine ⟨γ, ?_, y2, y3, fun x z1 z2 => ?_, by omega⟩
  · have kd4 := hq.kd
    have kn3 := x3.kn
    have key : hX4_row_58 G (rrX4_factor G f).1 (rrX4_factor G f).2 (some c.p) (nI o) (some (g.oa t)) (nI (65 + o)) (nI (51 - o)) (some (zn α)) (some (zn α)) (zmk α 45 0 9) = hX4_row_75 G (rrX4_factor G f).1 (rrX4_factor G f).2 (some c.p) (nI o) (nI (65 + o)) (some (zn α)) γ := by
      unfold hX4_row_58
      rw [kfI kn, wd, gl_bs, if_pos (of_eq_true (kis kd4 (by decide))), nl0, x1, gl_bs]
      show (if zis G β (some (zn α)) 45 = true then _ else _) = _
      rw [if_pos (of_eq_true (kis kn3 (by decide)))]
      show ((hX43_add G (some (zn α)) (some (g.oa t)) β).bind _) = _
      rw [y1, gl_bs]
    unfold hX4_row_28
    rw [kfI kp, ax, gl_bs, if_pos (of_eq_true (kis kp (by decide))), X_isW h.k h.xw (by omega) (by omega), gl_bs, ew, if_pos (by first | decide | exact bF | exact bT | exact n1n), znO_e, gl_bs]
    have : o = 0 ∨ o = 1 := by omega
    rcases this with rfl | rfl
    · rw [if_pos (by first | decide | exact bF | exact bT | exact n1n), nl51]
      exact key
    · rw [if_neg (by first | decide | exact bT | exact n1n), nl50]
      exact key
  · rw [y5 x (by omega) z2, x4 x (by omega) (by omega)]
    exact zmk_ne (by omega)
/-- X's row has one part alone -/
theorem X_row28n (ho : o ≤ 1) (h : pR c a d b N y g α s) (ew : wW c a (65 + o) = false) {r : Option Nat} : hX4_row_28 G (rrX4_factor G f).1 (rrX4_factor G f).2 (some c.p) (nI o) r (nI (65 + o)) α = some (.inl r, α) := by
  have kp := h.kp
  have ax := h.ax
  have a5 := h.a5
  unfold hX4_row_28
  rw [kfI kp, ax, gl_bs, if_pos (of_eq_true (kis kp (by decide))), X_isW h.k h.xw (by omega) (by omega), gl_bs, ew, if_neg (fun z => z rfl)]
/-- a row -/
theorem row_of (ho : o ≤ 1) (hc : cG c G o f) : cG c G (o + 1) (f + 1) := by
  intro a d b N y g α s m jn F h hb hS h54 h57 hmd hjm htop h61 h64 hF hf
  have nl := h.nl
  have hp := h.k.p
  have N0 := h.N0
  have X0 : ∀ R, xFo c G o f α = R → xFo c G (o + 1) (f + 1) α = zcase R (fun p => hX4_row_28 G (rrX4_factor G f).1 (rrX4_factor G f).2 (some c.p) (nI o) p.1 (nI (65 + o)) p.2) (fun p => if zthr p.2 p.1 3 = true then some (.inr p.1, p.2) else none) := fun R hR => by
    rw [X_row ho h, hR]
  rcases hc a d b N y g α s m jn F h hb hS h54 h57 hmd hjm htop (fun z => h61 (by omega)) (fun z => h64 (by omega)) hF (by omega) with ⟨β, t, F1', F2, s2, a', b', N', g', y1, ⟨y2, y3⟩, y5, y6, y7⟩ | ⟨e, β, u, s2, wh, w, y1, y2, y3, y4, y5⟩
  · have hR := y5.R
    have a1 := y5.a1
    have b1 := y5.b1
    have tN := y5.t1
    have t2N := y5.t2
    have t20 := y5.t3
    have r1 := y5.t4
    have t5 := y5.Y.nw t tN t2N
    have hbR : pB c b' a' 20 := hb.go b1
    have hN' := hR.N8 hbR
    have l57 : ls s2 57 = nI (jn + 1) := y3.2.1.trans h57
    have l54 : ls s2 54 = nI m := y3.1.trans h54
    have l61 : la s2 (61 + 3 * o) jn = nI 0 := by
      rw [y3.2.2.2.2 (61 + 3 * o) (by omega) (by omega)]
      have : o = 0 ∨ o = 1 := by omega
      rcases this with rfl | rfl
      · exact h61 (by decide)
      · exact h64 (by decide)
    obtain ⟨s3, m1, m2⟩ := M_link (s := s2) (t := t) (l := []) ho (by omega) l57 (by omega) (fun z => absurd rfl z) (by decide) (fun z => absurd rfl z) l61
    have hR3 := hR.link (by omega) m2 (by omega) t2N t20 (fun u hu => by simp at hu)
    have Y3 := y5.Y.link m2 tN (fun u hu => by simp at hu)
    have S3 := y5.S.ln m2
    have up3 : la s3 16 t = nI 0 := by rw [m2.nla 16 (by decide) (by decide)]; exact t20
    have q3 : qO (o + 1) m jn s s3 := (y3.le (by omega)).tr (m2.qo ho)
    rcases ew : wW c a' (65 + o) with _ | _
    · have E := M_end (jn := jn) ho (by omega) hR3 (by rw [m2.nls]; exact l57) ew
      rw [m2.hd, if_pos rfl, m2.ln] at E
      refine .inl ⟨β, t, F1', F2, s3, a', b', N', g', ?_, ⟨?_, q3⟩, pQ.mk hR3 Y3 S3 tN t2N up3 r1 a1 b1, y6, y7⟩
      · rw [X0 _ y1, zc_l, X_row28n ho hR ew]
      · rw [y2, m1, E]
        show mBk F1' F2 ((gX26_whole (nI (51 - o)) (nI t) _ (nI 1) s3).bind _) = _
        rw [M_whole1, gl_bs]
    · obtain ⟨γ, z1, z2, z3, z4, z5⟩ := X_row28 (G := G) (f := f) ho hR3 (hbR.le (by omega)) (by omega) t2N up3 ew
      have nn := y5.Y.nn
      have hbb : pB c (b' + 3) a' 11 := by unfold pB at *; omega
      have R := rowLoop (G := G) (Ns := N) (gs := g) (αs := α) (ss := s) (bs := b) (as := a) (Fs := F) (F1 := F1') (F := F2) (Fx := xLim) (q := zn β) (ts := [t]) (v := la s3 11 t) ho hc N0 (by omega) hmd hjm h.yN 505 (by have := h.k.n; omega) (by have : xLim = 1000000000 := rfl; omega) z2 (S3.go (Nat.le_refl _) (fun _ _ => rfl) (xOt.eq (z4 _ (by have := hR.x.n; omega) (fun z => by have := hR.old (t := t) (by omega) t2N; omega))) rfl rfl) (Y3.xs (fun x x1 x2 => z4 x (by omega) (by omega)) (by omega)) z3 (fun x x1 x2 => by have := (hR.g.nd x x1 x2).hi; omega) nn (by simp) (by simp) (fun x hx => by
          rw [List.mem_singleton] at hx
          subst hx
          exact ⟨tN, t2N, up3, r1⟩) rfl (by
          show la s3 15 t = nI 0
          rw [m2.r15, if_pos rfl, upd_same]) (by rw [m2.hd, if_pos rfl]; rfl) (by rw [m2.lt]; rfl) (by rw [m2.ln]; rfl) m2.z a1 (.inl ⟨ew, by omega, hbb⟩) (by rw [m2.nls]; exact l54) (by rw [m2.nls]; exact l57) (by
          rcases htop with z | z
          · exact .inl z
          · by_cases m0 : m = 0
            · exact .inl m0
            · refine .inr ?_
              rw [m2.nla 58 (by decide) (by decide), y3.2.2.1 (m - 1) (by omega)]; exact z) q3 (by have := hR.al; omega) y6 y7
      rw [X0 _ y1, zc_l, z1, y2, m1]
      exact R
  · refine .inr ⟨e, β, u, s2, wh, w, ?_, y2, y3, y4, y5⟩
    rw [X0 _ y1, zc_r, if_pos y2]
end PAU
