/-! THE PURE LAYER: the parser: IDENTIFICATION DIVISION. -/
section PAZZK
variable {L L2 : Nat → Prop} {c : pC} {D D' : pD} {G : xQ} {α β : zS} {s s' s1 : zM} {B at' a a1 b d f N N' F F' p q t to u x y k i j w wh lv m S r : Nat} {g g' g2 : pG} {v v' : Int32}
theorem mAtS_ua {l : List Nat} {h : Nat → Int32} (hk : ¬ (13 ≤ k ∧ k ≤ 16)) : mAtS (ua s k h) to l t = ua (mAtS s to l t) k h := by
  have e : ∀ j, 13 ≤ j → j ≤ 16 → la (ua s k h) j = la s j := fun j h1 h2 => by rw [la_ua, if_neg (by omega)]
  unfold mAtS
  rw [e 16 (by decide) (by decide), e 15 (by decide) (by decide), e 13 (by decide) (by decide), e 14 (by decide) (by decide)]
  by_cases el : l = []
  · simp only [if_pos el]
    rw [ua_comm (k := k) (k' := 16) (by omega), ua_comm (k := k) (k' := 15) (by omega), ua_comm (k := k) (k' := 13) (by omega), ua_comm (k := k) (k' := 14) (by omega)]
  · simp only [if_neg el]
    rw [ua_comm (k := k) (k' := 16) (by omega), ua_comm (k := k) (k' := 15) (by omega), la_ua (k := k), if_neg (by omega), ua_comm (k := k) (k' := 15) (by omega), ua_comm (k := k) (k' := 14) (by omega)]
/-- whether a unit may begin here -/
def pBg (D : pD) : Prop := D.dp = 0 ∨ (D.fu (D.dp - 1) = 0 ∧ 1 ≤ D.st (D.dp - 1) ∧ D.st (D.dp - 1) ≠ 9)
theorem X_beg' (h : pV c D L B at' N F g α s) (kp : zkd β c.p = 41) (fr : ∀ x, x ≠ c.p → β.2 x = α.2 x) (cu : zA β 40 11 c.p = zA α 40 11 c.p) : ∃ x : Bool, (x = true ↔ pBg D) ∧ hX4_begin G (some c.p) β = if x = true then hX4_begin_28 G (some c.p) (some c.p) β else hX4_begin_32 G (some c.p) (some c.p) β := by
  have p := h.o.p
  have hcu := h.cu
  by_cases z : D.dp = 0
  · refine ⟨true, ⟨fun _ => .inl z, fun _ => rfl⟩, ?_⟩
    unfold hX4_begin
    rw [kfA kp, gl_bs, cu, hcu, if_pos z, if_pos rfl, if_pos rfl]
  · have o := h.op (D.dp - 1) (by omega)
    have U := h.u _ o.u
    have W := h.g.nd _ U.lu
    have ulo := U.lo
    have wlo := W.lo
    have e1 := fr (D.ou (D.os (D.dp - 1))) (by omega)
    have e2 := fr (g.oa (D.un (D.os (D.dp - 1)))) (by omega)
    have ku : zkd β (D.ou (D.os (D.dp - 1))) = 44 := by rw [zkd_eq e1]; exact U.kn
    have kw : zkd β (g.oa (D.un (D.os (D.dp - 1)))) = 45 := by rw [zkd_eq e2]; exact W.kn
    have f1 := o.f1
    have s12 := o.s12
    have kd : zI β 44 0 (g.oa (D.un (D.os (D.dp - 1)))) = nI (1 + D.fu (D.dp - 1)) := by rw [zI_eq e2, W.kd, o.kd]
    have xs : zI β 43 3 (D.ou (D.os (D.dp - 1))) = nI (D.st (D.dp - 1)) := by rw [zI_eq e1, o.xs]
    have Fn : hX42_isFunction G (some (D.ou (D.os (D.dp - 1)))) β = some (nI (D.fu (D.dp - 1)), β) := by
      unfold hX42_isFunction
      rw [kfA ku, gl_bs, zA_eq e1, U.xu, kfI kw, gl_bs, kd]
      rcases (show D.fu (D.dp - 1) = 0 ∨ D.fu (D.dp - 1) = 1 by omega) with y | y
      · rw [y, if_pos (by decide)]; rfl
      · rw [y, if_neg (by decide)]; rfl
    have Cn : hX42_canEnd G (some (D.ou (D.os (D.dp - 1)))) β = some (nI (b2n (decide (1 ≤ D.st (D.dp - 1) ∧ D.st (D.dp - 1) ≠ 9))), β) := by
      unfold hX42_canEnd hX42_canEnd_20
      rw [kfI ku, gl_bs, xs]
      by_cases y : D.st (D.dp - 1) = 0
      · rw [y, if_pos (by decide), decide_eq_false (by omega)]; rfl
      · rw [if_neg (by rw [nl0, pI_le (by omega) (by decide)]; omega), gl_bs]
        by_cases y9 : D.st (D.dp - 1) = 9
        · rw [y9, if_pos (by decide)]; rfl
        · rw [if_neg (by rw [nl9, pI_inj (by omega) (by decide)]; exact y9), decide_eq_true (by omega)]; rfl
    have b : pBg D ↔ (D.fu (D.dp - 1) = 0 ∧ 1 ≤ D.st (D.dp - 1) ∧ D.st (D.dp - 1) ≠ 9) := ⟨fun y => y.resolve_left z, .inr⟩
    have E : hX4_begin G (some c.p) β = if ¬ nI (D.fu (D.dp - 1)) = 0 then hX4_begin_32 G (some c.p) (some c.p) β else if nI (b2n (decide (1 ≤ D.st (D.dp - 1) ∧ D.st (D.dp - 1) ≠ 9))) = 0 then hX4_begin_32 G (some c.p) (some c.p) β else hX4_begin_28 G (some c.p) (some c.p) β := by
      unfold hX4_begin
      rw [kfA kp, gl_bs, cu, hcu, if_neg z, if_neg (by simp), gl_bs, if_pos (of_eq_true (kis ku (by decide))), Fn, gl_bs]
      by_cases y : ¬ nI (D.fu (D.dp - 1)) = 0
      · rw [if_pos y, if_pos y]
      · rw [if_neg y, if_neg y]
        show Option.bind (zfA β (some c.p) 40 11) _ = _
        rw [kfA kp, gl_bs, cu, hcu, if_neg z, if_pos (of_eq_true (kis ku (by decide)))]
        show Option.bind (hX42_canEnd G (some (D.ou (D.os (D.dp - 1)))) β) _ = _
        rw [Cn, gl_bs]
    rcases (show D.fu (D.dp - 1) = 0 ∨ D.fu (D.dp - 1) = 1 by omega) with y | y
    · refine ⟨decide (1 ≤ D.st (D.dp - 1) ∧ D.st (D.dp - 1) ≠ 9), ?_, ?_⟩
      · rw [b, decide_eq_true_eq]
        exact ⟨fun q => ⟨y, q⟩, fun q => q.2⟩
      · rw [E, y, if_neg (show ¬ ¬ nI 0 = 0 from fun z => z rfl)]
        rcases decide (1 ≤ D.st (D.dp - 1) ∧ D.st (D.dp - 1) ≠ 9) with _ | _
        · rw [if_pos (show nI (b2n false) = 0 from rfl), if_neg (by decide)]
        · rw [if_neg (show ¬ nI (b2n true) = 0 from bT), if_pos rfl]
    · refine ⟨false, ?_, ?_⟩
      · rw [b]
        exact ⟨fun q => absurd q (by decide), fun q => by omega⟩
      · rw [E, y, if_pos (show ¬ nI 1 = 0 from n1n), if_neg (by decide)]
theorem X_beg (h : pV c D L B at' N F g α s) (kp : zkd β c.p = 41) (fr : ∀ x, x ≠ c.p → β.2 x = α.2 x) (cu : zA β 40 11 c.p = zA α 40 11 c.p) : (pBg D → hX4_begin G (some c.p) β = hX4_begin_28 G (some c.p) (some c.p) β) ∧ (¬ pBg D → hX4_begin G (some c.p) β = hX4_begin_32 G (some c.p) (some c.p) β) := by
  obtain ⟨x, hx, E⟩ := X_beg' (G := G) h kp fr cu
  exact ⟨fun z => by rw [E, if_pos (hx.mpr z)], fun z => by rw [E, if_neg (fun y => z (hx.mp y))]⟩
theorem M_beg (h : pV c D L B at' N F g α s) (e26 : ls s' 26 = ls s 26) (e30 : la s' 30 = la s 30) (hv : ∀ i, D.dp = i + 1 → v = nI (D.st i)) : (pBg D → gX26_identified v s' = gX26_identified_47 (nI 1) s') ∧ (¬ pBg D → gX26_identified v s' = gX26_identified_47 (nI 0) s') := by
  have dm := h.dm
  have d10 := h.d10
  suffices H : ∃ x : Bool, (x = true ↔ pBg D) ∧ gX26_identified v s' = gX26_identified_47 (nI (b2n x)) s' by
    obtain ⟨x, hx, E⟩ := H
    refine ⟨fun z => by rw [E, hx.mpr z]; rfl, fun z => ?_⟩
    have : x = false := by
      rw [← Bool.not_eq_true]
      exact fun y => z (hx.mp y)
    rw [E, this]; rfl
  by_cases z : D.dp = 0
  · refine ⟨true, ⟨fun _ => .inl z, fun _ => rfl⟩, ?_⟩
    unfold gX26_identified gX26_identified_42
    rw [gl_x, e26, dm, z, if_pos (show nI 0 = 0 from rfl)]
    rfl
  · have o := h.op (D.dp - 1) (by omega)
    have f1 := o.f1
    have s12 := o.s12
    have b : pBg D ↔ (D.fu (D.dp - 1) = 0 ∧ 1 ≤ D.st (D.dp - 1) ∧ D.st (D.dp - 1) ≠ 9) := ⟨fun y => y.resolve_left z, .inr⟩
    have E : gX26_identified v s' = if ¬ nI (D.fu (D.dp - 1)) = 0 then gX26_identified_47 (nI 0) s' else if decide (1 ≤ D.st (D.dp - 1) ∧ D.st (D.dp - 1) ≤ 8) = true then gX26_identified_47 (nI 1) s' else if decide (10 ≤ D.st (D.dp - 1) ∧ D.st (D.dp - 1) ≤ 12) = true then gX26_identified_47 (nI 1) s' else gX26_identified_47 (nI 0) s' := by
      unfold gX26_identified gX26_identified_42 gX26_identified_46
      rw [gl_x, e26, dm, if_neg (by rw [nl0, pI_inj (by omega) (by decide)]; exact z), gl_x, nl1, pI_sub (by omega), pgld (by omega) (by decide), gl_bs, e30, o.mf, hv (D.dp - 1) (by omega)]
      by_cases y : ¬ nI (D.fu (D.dp - 1)) = 0
      · rw [if_pos y, if_pos y]; rfl
      · rw [if_neg y, if_neg y]
        show Option.bind (gX26_in (nI (D.st (D.dp - 1))) (nI 1) (nI 8) s') _ = _
        rw [M_in (by omega) (by decide) (by decide), gl_bs]
        rcases decide (1 ≤ D.st (D.dp - 1) ∧ D.st (D.dp - 1) ≤ 8) with _ | _
        · rw [if_neg (show ¬ ¬ nI (b2n false) = 0 from fun z => z rfl), if_neg (by decide)]
          show Option.bind (gX26_in (nI (D.st (D.dp - 1))) (nI 10) (nI 12) s') _ = _
          rw [M_in (by omega) (by decide) (by decide), gl_bs]
          rcases decide (10 ≤ D.st (D.dp - 1) ∧ D.st (D.dp - 1) ≤ 12) with _ | _
          · rw [if_pos (show nI (b2n false) = 0 from rfl), if_neg (by decide)]; rfl
          · rw [if_neg (show ¬ nI (b2n true) = 0 from bT), if_pos rfl]
        · rw [if_pos (show ¬ nI (b2n true) = 0 from bT), if_pos rfl]
    rcases (show D.fu (D.dp - 1) = 0 ∨ D.fu (D.dp - 1) = 1 by omega) with y | y
    · rw [y, if_neg (show ¬ ¬ nI 0 = 0 from fun z => z rfl)] at E
      by_cases y1 : 1 ≤ D.st (D.dp - 1) ∧ D.st (D.dp - 1) ≤ 8
      · refine ⟨true, ⟨fun _ => b.mpr ⟨y, by omega, by omega⟩, fun _ => rfl⟩, ?_⟩
        rw [E, if_pos (decide_eq_true y1)]; rfl
      · rw [if_neg (by rw [decide_eq_true_eq]; exact y1)] at E
        by_cases y2 : 10 ≤ D.st (D.dp - 1) ∧ D.st (D.dp - 1) ≤ 12
        · refine ⟨true, ⟨fun _ => b.mpr ⟨y, by omega, by omega⟩, fun _ => rfl⟩, ?_⟩
          rw [E, if_pos (decide_eq_true y2)]; rfl
        · refine ⟨false, ⟨fun q => absurd q (by decide), fun q => ?_⟩, ?_⟩
          · have := b.mp q
            omega
          · rw [E, if_neg (by rw [decide_eq_true_eq]; exact y2)]; rfl
    · refine ⟨false, ⟨fun q => absurd q (by decide), fun q => ?_⟩, ?_⟩
      · have := b.mp q
        omega
      · rw [E, y, if_pos (show ¬ nI 1 = 0 from n1n)]; rfl
/-- a unit may not begin, or not one more -/
theorem cl_begF (h : pV c D L B at' N F g α s) (ha : at' < c.n) (hF : F < 20) (hv : ∀ i, D.dp = i + 1 → v = nI (D.st i)) (hb : ¬ pBg D ∨ D.dp = 10) : cQ c D B at' N F α s (hX4_begin G (some c.p) (zwI α 40 4 c.p (nI 0))) (gX26_identified v (us s 43 (nI 0))) := by
  have h0 := h.o
  have R0 := h0.start (s' := us s 43 (nI 0)) (lv := 0) ha hF (fun k hk => by
    rw [ls_us] at hk
    split at hk
    · omega
    · exact absurd rfl hk) (fun _ => rfl) rfl (fun z => absurd z (by decide))
  have kp : zkd (zwI α 40 4 c.p (nI 0)) c.p = 41 := R0.kp
  have ax' : zI (zwI α 40 4 c.p (nI 0)) 40 3 c.p = nI at' := R0.ax
  have am' : ls (us s 43 (nI 0)) 41 = nI at' := R0.am
  have hb0 : pB (c.on (zwI α 40 4 c.p (nI 0)) (us s 43 (nI 0)) N at' 0) N at' 0 := (on_pB (k := 4) (by decide) (.inl (by decide))).le (by decide)
  obtain ⟨X1, X2⟩ := X_beg (G := G) (β := zwI α 40 4 c.p (nI 0)) h kp (fun x hx => zwI_ne hx) (by rw [zA_zwI])
  obtain ⟨M1, M2⟩ := M_beg (s' := us s 43 (nI 0)) h rfl rfl hv
  by_cases z : pBg D
  · have d10 : D.dp = 10 := hb.resolve_left fun y => y z
    obtain ⟨e, β, s', x1, x2, m1, x3⟩ := R0.fail (G := G) (w := at') (wh := 3) hb0 (show at' ≤ c.n by omega) (Nat.le_refl _) (Nat.le_succ _) (.inr rfl)
    refine .inr ⟨e, β, s', 3, at', ?_, x2, ?_, x3⟩
    · rw [X1 z]
      unfold hX4_begin_28 hX4_begin_33
      rw [if_pos (of_eq_true (kis kp (by decide)))]
      show zcase (hX4_must G (some c.p) (nI 1) (zwI α 40 4 c.p (nI 0))) _ _ = _
      rw [X_must1, zc_l, kfI kp, gl_bs, zI_zwI, if_neg (show ¬ ((40 : Nat) = 40 ∧ (8 : Nat) = 4 ∧ c.p = c.p) from fun z => absurd z.2.1 (by decide)), h.dx, d10, if_neg (by decide), kfI kp, gl_bs, ax', if_pos (of_eq_true (kis kp (by decide)))]
      show zcase (hX4_fails G (some c.p) (nI at') (nI 3) (zwI α 40 4 c.p (nI 0))) _ _ = _
      rw [show hX4_fails G (some c.p) (nI at') (nI 3) (zwI α 40 4 c.p (nI 0)) = some (.inr e, β) from x1, zc_r, if_pos x2]
    · rw [M1 z]
      unfold gX26_identified_47 gX26_identified_61 gX26_identified_71
      rw [if_neg (show ¬ nI 1 = 0 from n1n), gl_x, show ls (us s 43 (nI 0)) 26 = nI D.dp from h.dm, d10, if_neg (by decide), if_neg (show ¬ nI 1 = 0 from n1n), gl_x, am']
      show Option.bind (gX26_fail (nI 3) (nI at') (us s 43 (nI 0))) _ = _
      rw [m1, gl_bs]
  · obtain ⟨e, β, s', w, x1, x2, m1, x3⟩ := R0.no (G := G) hb0
    refine .inr ⟨e, β, s', 1, w, ?_, x2, ?_, x3⟩
    · rw [X2 z]
      unfold hX4_begin_32 hX4_begin_33
      rw [if_pos (of_eq_true (kis kp (by decide)))]
      show zcase (hX4_must G (some c.p) (nI 0) (zwI α 40 4 c.p (nI 0))) _ _ = _
      rw [show hX4_must G (some c.p) (nI 0) (zwI α 40 4 c.p (nI 0)) = some (.inr e, β) from x1, zc_r, if_pos x2]
    · rw [M2 z]
      unfold gX26_identified_47 gX26_identified_61 gX26_identified_71
      rw [if_pos (show nI 0 = 0 from rfl), if_pos (show nI 0 = 0 from rfl), gl_x, am']
      show Option.bind (gX26_fail (nI 1) (nI at') (us s 43 (nI 0))) _ = _
      rw [m1, gl_bs]
end PAZZK
