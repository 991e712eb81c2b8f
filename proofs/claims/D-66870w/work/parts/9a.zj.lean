/-! THE PURE LAYER: the parser: PERFORM. -/
section PAZJ
variable {c : pC} {G : xQ} {α β γ αs δ ε : zS} {s s' s2 ss : zM} {a a1 a' d b b' N N' N2 Ns as bs k t t2 u w wh q r F F1 F' Fs f y to n jn o K p Rk : Nat} {g g' g2 gs : pG} {v v' kv : Int32} {l ts : List Nat}
/-- M lays a value ahead of X and piles the statement -/
theorem pR.early (h : pR c a d b N y g α s) (h1 : c.N0 ≤ t) (h2 : t < N) (hk : la s 9 t = nI 29) (h45 : ls s 45 = nI K) (hK : K < 100) (hv : c.lv = 1 := by unfold pB at *; omega) : pR c a d b N y g α (mPl (ua s 10 (upd (la s 10) t (nI 1))) K (nI 39) (nI t)) := by
  have q45 : ls (ua s 10 (upd (la s 10) t (nI 1))) 45 = nI K := h45
  have r : ∀ k, ¬ (46 ≤ k ∧ k ≤ 48) → k ≠ 10 → la (mPl (ua s 10 (upd (la s 10) t (nI 1))) K (nI 39) (nI t)) k = la s k := fun k k1 k2 => by rw [mPl_la k1, la_ua, if_neg k2]
  have r10 : la (mPl (ua s 10 (upd (la s 10) t (nI 1))) K (nI 39) (nI t)) 10 = upd (la s 10) t (nI 1) := by rw [mPl_la (by decide)]; rfl
  have lsk : ∀ k, k ≠ 45 → ls (mPl (ua s 10 (upd (la s 10) t (nI 1))) K (nI 39) (nI t)) k = ls s k := fun k hk => by
    show (if k = 45 then nI (K + 1) else ls s k) = _
    rw [if_neg hk]
  refine pR.mk h.k h.x (mKp.mk (fun k hk => ?_) (fun k x k1 k2 hx => ?_) (fun k hk => ?_)) h.ax h.nx ?_ ?_ ?_ ?_ h.al h.a0 h.nl h.N0 h.Nb h.zcb h.zwb h.yN (pgO.mk (fun x x1 x2 => ?_) h.g.inj)
  · rw [lsk k (by omega)]; exact h.m.I k hk
  · by_cases e : k = 10
    · subst e
      rw [r10, upd_other (by omega)]; exact h.m.A 10 x k1 k2 hx
    · rw [r k (by omega) e]; exact h.m.A k x k1 k2 hx
  · rw [r k (by omega) (by omega)]; exact h.m.B k hk
  · rw [lsk 41 (by decide)]; exact h.am
  · intro z; rw [lsk 44 (by decide)]; exact h.nm z
  · rw [lsk 43 (by decide)]; exact h.bm
  · rw [lsk 8 (by decide)]; exact h.Nm
  · have o := h.g.nd x x1 x2
    have pd : ∀ x, pPd s x → pPd (mPl (ua s 10 (upd (la s 10) t (nI 1))) K (nI 39) (nI t)) x := fun x z => (show pPd (ua s 10 (upd (la s 10) t (nI 1))) x from z).pl q45 hK
    refine nOk.mk o.lo o.hi o.kn o.fl o.kl ?_ ?_ ?_ ?_ o.ls o.nd (fun u hu => ?_) ?_ ?_ ?_
    · rw [r 9 (by decide) (by decide)]; exact o.kd
    · rw [r 9 (by decide) (by decide), r10]
      by_cases e : x = t
      · refine .inr ⟨by rw [e]; exact hk, ⟨by rw [e, upd_same], hv⟩, ?_⟩
        rw [e]
        exact ⟨K + 1, K, rfl, Nat.lt_succ_self K, by omega, mPl_46, mPl_47⟩
      · rw [upd_other e]
        exact o.vl.imp id (fun z => ⟨z.1, z.2.1, pd _ z.2.2⟩)
    · rw [r 11 (by decide) (by decide)]; exact o.wd
    · rw [r 9 (by decide) (by decide), r 12 (by decide) (by decide)]; exact o.ex
    · rw [r 16 (by decide) (by decide)]; exact o.mem u hu
    · rw [r 13 (by decide) (by decide)]; exact o.hd
    · rw [r 14 (by decide) (by decide)]; exact o.lt
    · rw [r 15 (by decide) (by decide)]; exact o.nx
/-- X lays the value that M holds -/
theorem pR.valX (h : pR c a d b N y g α s) (h1 : c.N0 ≤ t) (h2 : t < N) (hv : la s 10 t = v) : pR c a d b N y g (zwI α 44 1 (g.oa t) v) s := by
  have lo := (h.g.nd t h1 h2).lo
  have hp := h.k.p
  have ep : (zwI α 44 1 (g.oa t) v).2 c.p = α.2 c.p := zwI_ne (by omega)
  have hi := (h.g.nd t h1 h2).hi
  refine pR.mk h.k (h.x.nw h.k (Nat.le_refl _) (fun x hx => zwI_ne (by have : zn (zwI α 44 1 (g.oa t) v) = zn α := rfl; omega))) h.m ?_ ?_ h.am h.nm h.bm h.Nm h.al h.a0 h.nl h.N0 h.Nb h.zcb h.zwb h.yN (pgO.mk (fun x x1 x2 => ?_) h.g.inj)
  · rw [zI_eq ep]; exact h.ax
  · rw [zI_eq ep]; exact h.nx
  · have o := h.g.nd x x1 x2
    have I : ∀ k, zI (zwI α 44 1 (g.oa t) v) 44 k (g.oa x) = if k = 1 ∧ x = t then v else zI α 44 k (g.oa x) := fun k => by
      rw [zI_zwI]
      by_cases e : k = 1 ∧ x = t
      · rw [if_pos e, if_pos ⟨rfl, e.1, by rw [e.2]⟩]
      · rw [if_neg e, if_neg (fun z => e ⟨z.2.1, h.g.inj x t x1 x2 h1 h2 z.2.2⟩)]
    refine nOk.mk o.lo o.hi ?_ ?_ ?_ ?_ ?_ ?_ ?_ ?_ o.nd (fun u hu => ?_) o.hd o.lt o.nx
    · rw [zkd_zwI]; exact o.kn
    · rw [zA_zwI]; exact o.fl
    · rw [zkd_zwI]; exact o.kl
    · rw [I, if_neg (by omega)]; exact o.kd
    · rw [I]
      by_cases e : x = t
      · rw [if_pos ⟨rfl, e⟩, e]; exact .inl hv.symm
      · rw [if_neg (fun z => e z.2)]; exact o.vl
    · rw [I, if_neg (by omega)]; exact o.wd
    · rw [I, if_neg (by omega), zA_zwI]; exact o.ex
    · rw [zL_zwI]; exact o.ls
    · rw [zA_zwI]; exact o.mem u hu
/-- a PERFORM's list is at its end -/
theorem pR.late (h : pR c a d b N y g α s) (h1 : c.N0 ≤ t) (h2 : t < N) (hN : N ≤ 8000) (hk : la s 9 t = nI 29) (hv : la s 10 t = nI 1) (h45 : ls s 45 = nI (K + 1)) (hK : K < 100) (h46 : la s 46 K = nI 39) (h47 : la s 47 K = nI t) : pR c a d b N y g (zwI (zwI α 44 1 (g.oa t) (nI 1)) 44 2 (g.oa t) (nI 1)) (us (ua s 12 (upd (la s 12) t (nI 1))) 45 (nI K)) := by
  have hA := (h.valX h1 h2 hv).nodeI (v := nI 1) (j := 2) (i := 12) h1 h2 (.inr ⟨rfl, rfl, by rw [hk, ne_eq, pI_inj (by decide) (by decide)]; decide⟩)
  refine hA.tmpP (fun i hi => by rw [ls_us, if_neg hi]) (fun _ _ => rfl) (fun u u1 u2 hu z => ?_)
  obtain ⟨k', i, e1, e2, e3, e4, e5⟩ := z
  replace e1 : ls s 45 = nI k' := e1
  replace e4 : la s 46 i = nI 39 := e4
  replace e5 : la s 47 i = nI u := e5
  rw [h45, pI_inj (by omega) (by omega)] at e1
  by_cases e : i = K
  · refine .inr ?_
    rw [e, h47, pI_inj (by omega) (by omega)] at e5
    subst e5
    rw [zI_zwI, if_neg (by omega), zI_zwI, if_pos ⟨rfl, rfl, rfl⟩]
    exact hv.symm
  · exact .inl ⟨K, i, rfl, by omega, by omega, e4, e5⟩
theorem M_goP (hK : K < 100) (h46 : la s 46 K = nI 39) (h48 : la s 48 K = nI p) : gX26_goOn (nI K) v s = if p = 0 then gX26_list v (ua s 48 (upd (la s 48) K (nI (p + 1)))) else if nI p = nI 0 then gX26_list v (ua s 48 (upd (la s 48) K (nI (p + 1)))) else gX26_scope v (nI 74) 1 (ua s 48 (upd (la s 48) K (nI (p + 1)))) := by
  unfold gX26_goOn gX26_goOn_144
  rw [pgld (by omega) (by decide), gl_bs, pgst (by omega) (by decide), gl_bs, pgld (by omega) (by decide), gl_bs, h48, pI_1, show la (ua s 48 (upd (la s 48) K (nI (p + 1)))) 46 K = nI 39 from h46]
  rw [if_neg (by decide), if_neg (by decide), if_neg (by decide), if_pos (by decide)]
  by_cases e : p = 0
  · rw [if_pos e, e, if_neg (show ¬ ¬ nI 0 = 0 from fun z => z rfl), gu_id]
  · rw [if_neg e]
    by_cases e2 : nI p = nI 0
    · rw [if_pos e2, if_neg (show ¬ ¬ nI p = 0 from fun z => z e2), gu_id]
    · rw [if_neg e2, if_pos (show ¬ nI p = 0 from e2), gu_id]
      rfl
/-- a PERFORM with a list of its own, from its list on -/
theorem pfL (hli : cLi c G f) (h : pR c a d b N 0 g α s) (hb : pB c b a 18) (h1 : c.N0 ≤ t) (h2 : t < N) (hr : rS d < g.r t + 5) (hk : la s 9 t = nI 29) (h45 : ls s 45 = nI K) (hK : K ≤ 2 * d + 1) (hF : 10 * (c.n - a) + 22 ≤ F) (hf : 3 * (40 - d) + 1 ≤ f) : sS c a d b t g s K F 0 0 2 (hX4_perform_94 G (rrX4_add G f).1 (rrX4_add G f).2.1 (rrX4_add G f).2.2.1 (rrX4_add G f).2.2.2.1 (rrX4_add G f).2.2.2.2.1 (rrX4_add G f).2.2.2.2.2 (some c.p) (some (g.oa t)) α) (mS F (mPl (ua s 10 (upd (la s 10) t (nI 1))) K (nI 39) (nI t))) := by
  obtain ⟨F, rfl⟩ : ∃ x, F = x + 1 := ⟨F - 1, by omega⟩
  have nl := h.nl
  have al := h.al
  have hN := h.N8 hb
  have hE := (h.early h1 h2 hk h45 (by omega)).p48 (k := K) (v := nI (0 + 1))
  have T1 := mS_go (F := F) (s := mPl (ua s 10 (upd (la s 10) t (nI 1))) K (nI 39) (nI t)) mPl_45 (by omega) mPl_46 (by omega) (by omega) (show ls (mPl (ua s 10 (upd (la s 10) t (nI 1))) K (nI 39) (nI t)) 43 = nI 0 from h.bm)
  rw [mPl_47, M_goP (by omega) mPl_46 mPl_48, if_pos rfl] at T1
  have L0 : pLo K s (ua (mPl (ua s 10 (upd (la s 10) t (nI 1))) K (nI 39) (nI t)) 48 (upd (la (mPl (ua s 10 (upd (la s 10) t (nI 1))) K (nI 39) (nI t)) 48) K (nI (0 + 1)))) := pLo.tr (s' := ua s 10 (upd (la s 10) t (nI 1))) (fun _ _ => ⟨rfl, rfl, rfl⟩) (pLo.tr (fun i hi => mPl_lo h45 hi) pLo.p48)
  have q45 : ls (ua (mPl (ua s 10 (upd (la s 10) t (nI 1))) K (nI 39) (nI t)) 48 (upd (la (mPl (ua s 10 (upd (la s 10) t (nI 1))) K (nI 39) (nI t)) 48) K (nI (0 + 1)))) 45 = nI (K + 1) := rfl
  have q46 : la (ua (mPl (ua s 10 (upd (la s 10) t (nI 1))) K (nI 39) (nI t)) 48 (upd (la (mPl (ua s 10 (upd (la s 10) t (nI 1))) K (nI 39) (nI t)) 48) K (nI (0 + 1)))) 46 K = nI 39 := by rw [la_ua, if_neg (by decide)]; exact mPl_46
  have q47 : la (ua (mPl (ua s 10 (upd (la s 10) t (nI 1))) K (nI 39) (nI t)) 48 (upd (la (mPl (ua s 10 (upd (la s 10) t (nI 1))) K (nI 39) (nI t)) 48) K (nI (0 + 1)))) 47 K = nI t := by rw [la_ua, if_neg (by decide)]; exact mPl_47
  have q48 : la (ua (mPl (ua s 10 (upd (la s 10) t (nI 1))) K (nI 39) (nI t)) 48 (upd (la (mPl (ua s 10 (upd (la s 10) t (nI 1))) K (nI 39) (nI t)) 48) K (nI (0 + 1)))) 48 K = nI 1 := by rw [la_ua, if_pos rfl, upd_same]
  have q9 : ∀ j, j ≠ 10 → ¬ (46 ≤ j ∧ j ≤ 48) → la (ua (mPl (ua s 10 (upd (la s 10) t (nI 1))) K (nI 39) (nI t)) 48 (upd (la (mPl (ua s 10 (upd (la s 10) t (nI 1))) K (nI 39) (nI t)) 48) K (nI (0 + 1)))) j = la s j := fun j j1 j2 => by rw [la_ua, if_neg (by omega), mPl_la j2, la_ua, if_neg j1]
  have q10 : la (ua (mPl (ua s 10 (upd (la s 10) t (nI 1))) K (nI 39) (nI t)) 48 (upd (la (mPl (ua s 10 (upd (la s 10) t (nI 1))) K (nI 39) (nI t)) 48) K (nI (0 + 1)))) 10 = upd (la s 10) t (nI 1) := by rw [la_ua, if_neg (by decide), mPl_la (by decide)]; rfl
  rw [T1]
  generalize ua (mPl (ua s 10 (upd (la s 10) t (nI 1))) K (nI 39) (nI t)) 48 (upd (la (mPl (ua s 10 (upd (la s 10) t (nI 1))) K (nI 39) (nI t)) 48) K (nI (0 + 1))) = s1 at *
  have X0 : ∀ R, (rrX4_add G f).2.2.2.1 (some c.p) (some (g.oa t)) α = R → hX4_perform_94 G (rrX4_add G f).1 (rrX4_add G f).2.1 (rrX4_add G f).2.2.1 (rrX4_add G f).2.2.2.1 (rrX4_add G f).2.2.2.2.1 (rrX4_add G f).2.2.2.2.2 (some c.p) (some (g.oa t)) α = zcase R (fun p1 =>
      if zis G p1.2 (some c.p) 41 = true then
        zcase (hX4_need G (some c.p) (nI 74) p1.2) (fun p2 =>
          (zpI p2.2 (some (g.oa t)) 44 1 (nI 1)).bind fun σ3 =>
          (zpI σ3 (some (g.oa t)) 44 2 (nI 1)).bind fun σ4 =>
          some (.inl (()), σ4)) (fun p5 =>
          if zthr p5.2 p5.1 3 = true then
            some (.inr p5.1, p5.2)
          else none)
      else none) (fun p6 =>
      if zthr p6.2 p6.1 3 = true then
        some (.inr p6.1, p6.2)
      else none) := fun R hR => by
    unfold hX4_perform_94
    rw [if_pos (of_eq_true (kis h.kp (by decide))), hR]
    rfl
  rcases hli a d b N g α s1 (K + 1) t F hE hb h1 h2 hr q45 (by omega) (by omega) hf with ⟨β, F', s', a', b', N', g', x1, x2, x3⟩ | ⟨e, β, s', wh, w, x1, x2, x3, x4⟩
  · have hR := x3.R
    have X := x3.X
    have V := x3.V
    have e1 := x3.a1
    have e2 := x3.b1
    have e3 := x3.f1
    have n1 := X.n
    have aR := hR.al
    have o1 := X.oa t h2
    have hbR : pB c b' a' 18 := hb.go (by omega)
    have hN' := hR.N8 hbR
    have VK := V.2 K (by omega)
    obtain ⟨F3, rfl⟩ : ∃ x, F' = x + 1 := ⟨F' - 1, by omega⟩
    have T2 := mS_go (F := F3) V.1 (by omega) (VK.1.trans q46) (by omega) (by omega) hR.bm
    rw [VK.2.1.trans q47, M_goP (p := 1) (by omega) (VK.1.trans q46) (VK.2.2.trans q48), if_neg (by decide), if_neg (by rw [pI_inj (by decide) (by decide)]; decide)] at T2
    have h5 := hR.p48 (k := K) (v := nI (1 + 1))
    have r45 : ls (ua s' 48 (upd (la s' 48) K (nI (1 + 1)))) 45 = nI (K + 1) := V.1
    have r9 : la (ua s' 48 (upd (la s' 48) K (nI (1 + 1)))) 9 t = nI 29 := by
      show la s' 9 t = _
      rw [X.kd t h2, q9 9 (by decide) (by decide)]; exact hk
    have r10 : la (ua s' 48 (upd (la s' 48) K (nI (1 + 1)))) 10 t = nI 1 := by
      show la s' 10 t = _
      rw [X.w10 t h2 (by rw [q9 9 (by decide) (by decide)]; exact hk), q10, upd_same]
    have r46 : la (ua s' 48 (upd (la s' 48) K (nI (1 + 1)))) 46 K = nI 39 := VK.1.trans q46
    have r47 : la (ua s' 48 (upd (la s' 48) K (nI (1 + 1)))) 47 K = nI t := VK.2.1.trans q47
    have L5 : pLo K s (ua s' 48 (upd (la s' 48) K (nI (1 + 1)))) := (L0.tr (V.lo.le (by omega))).tr pLo.p48
    have X5 : pX0 t g s N' g' (ua s' 48 (upd (la s' 48) K (nI (1 + 1)))) := by
      refine pX0.mk (by omega) (fun u hu => X.oa u (by omega)) (fun u hu => X.r u (by omega)) (fun u hu => ?_) (fun u hu => ?_) (fun u hu e => ?_)
      · show la s' 9 u = _
        rw [X.kd u (by omega), q9 9 (by decide) (by decide)]
      · show la s' 16 u = _
        rw [X.up u (by omega), q9 16 (by decide) (by decide)]
      · show la s' 10 u = _
        rw [X.w10 u (by omega) (by rw [q9 9 (by decide) (by decide)]; exact e), q10, upd_other (by omega)]
    generalize ua s' 48 (upd (la s' 48) K (nI (1 + 1))) = s5 at *
    rw [x2, T2]
    have h5' := h5
    unfold gX26_scope gX26_scope_17 gX26_scope_34
    rcases h5.needZ (G := G) (w := 74) (by decide) (hbR.le (by omega)) with ⟨y3, y1, y2, y7⟩ | ⟨e, β2, s6, w', y1, y2, y3, y4, y5⟩
    · have hL := y7.late (t := t) (K := K) h1 (by omega) (by omega) r9 r10 r45 (by omega) r46 r47
      have kn := (y7.g.nd t h1 (by omega)).kn
      rw [o1] at hL kn
      have kn2 : zkd (zwI (xaS c β a') 44 1 (g.oa t) (nI 1)) (g.oa t) = 45 := by rw [zkd_zwI]; exact kn
      refine .inl ⟨_, F3, _, a' + 1, b', N', g', ?_, ?_, sQ.mk hL (X5.mm (s2 := us (ua (maS s5 a') 12 (upd (la (maS s5 a') 12) t (nI 1))) 45 (nI K)) rfl rfl) ⟨rfl, L5.tr (fun _ _ => ⟨rfl, rfl, rfl⟩)⟩ (by omega) (by omega) (by omega)⟩
      · rw [X0 _ x1, zc_l]
        show (if zis G β (some c.p) 41 = true then zcase (hX4_need G (some c.p) (nI 74) β) _ _ else _) = _
        rw [if_pos (of_eq_true (kis h5.kp (by decide))), y1, zc_l]
        show Option.bind (zpI (xaS c β a') (some (g.oa t)) 44 1 (nI 1)) _ = _
        rw [kpI kn, gl_bs, kpI kn2, gl_bs]
      · rw [if_neg (by decide), y2, gl_bs, if_neg (show ¬ nI 1 = 0 from n1n)]
        show Option.bind (Option.bind (gst (maS s5 a') 12 8000 (nI t) 1) _) _ = _
        rw [pgst (by omega) (by decide), gl_bs]
        show Option.bind (xlet (ls (maS s5 a') 45) _) _ = _
        rw [gl_x, show ls (maS s5 a') 45 = nI (K + 1) from r45, nl1, pI_sub (by omega), Nat.add_sub_cancel, gl_x, gl_bs]
    · have b6 : ls (us (ua s6 12 (upd (la s6 12) t (nI 0))) 45 (nI K)) 43 = nI 1 := y4.b1
      have E : pE c 1 w' β2 (us (ua s6 12 (upd (la s6 12) t (nI 0))) 45 (nI K)) := by
        refine (pE.mk (s := ua s6 12 (upd (la s6 12) t (nI 0))) y4.x y4.xb y4.xw y4.I (fun k x k1 k2 hx => ?_) (fun k hk => ?_) y4.b1 y4.b2 ?_ y4.w1 y4.w2 y4.wh y4.N y4.zcb y4.zwb).tmp (fun i hi => by rw [ls_us, if_neg (by omega)]) (fun _ _ => rfl)
        · rw [la_ua]
          split
          · rename_i e; subst e; rw [upd_other (by omega)]; exact y4.A _ x k1 k2 hx
          · exact y4.A k x k1 k2 hx
        · rw [la_ua, if_neg (by omega)]; exact y4.B k hk
        · obtain ⟨F, f1, f2, f3, f4, f5⟩ := y4.nt
          exact ⟨F, f1, f2, f3, by rw [la_ua, if_neg (by decide)]; exact f4, by rw [la_ua, if_neg (by decide)]; exact f5⟩
      refine .inr ⟨e, β2, us (ua s6 12 (upd (la s6 12) t (nI 0))) 45 (nI K), 1, w', ?_, y2, ?_, E⟩
      · rw [X0 _ x1, zc_l]
        show (if zis G β (some c.p) 41 = true then zcase (hX4_need G (some c.p) (nI 74) β) _ _ else _) = _
        rw [if_pos (of_eq_true (kis h5.kp (by decide))), y1, zc_r, if_pos y2]
      · obtain ⟨F4, rfl⟩ : ∃ x, F3 = x + 1 := ⟨F3 - 1, by omega⟩
        rw [if_neg (by decide), y3, gl_bs, if_pos (show (nI 0, s6).1 = 0 from rfl)]
        show Option.bind (Option.bind (gst s6 12 8000 (nI t) 0) _) _ = _
        rw [pgst (by omega) (by decide), gl_bs]
        show Option.bind (xlet (ls s6 45) _) _ = _
        rw [gl_x, show ls s6 45 = nI (K + 1) from y5.1.trans r45, nl1, pI_sub (by omega), Nat.add_sub_cancel, gl_x, gl_bs]
        exact mS_bad E.b1
  · refine .inr ⟨e, β, s', wh, w, ?_, x2, x3, x4⟩
    rw [X0 _ x1, zc_r, if_pos x2]
/-- frames of fewer nodes -/
theorem pX0.dn (h : pX0 N g s N' g' s') (hn : n ≤ N) : pX0 n g s N' g' s' := pX0.mk (by have := h.n; omega) (fun t ht => h.oa t (by omega)) (fun t ht => h.r t (by omega)) (fun t ht => h.kd t (by omega)) (fun t ht => h.up t (by omega)) (fun t ht => h.w10 t (by omega))
theorem sS.dn {e1 e2 e3 : Nat} {fX : zF (Unit ⊕ Nat)} {T : gF Unit} (h : sS c a d b N g s K F e1 e2 e3 fX T) (hn : n ≤ N) : sS c a d b n g s K F e1 e2 e3 fX T := by
  rcases h with ⟨γ, F4, s4, a4, b4, N4, g4, y1, y2, y3⟩ | E
  · exact .inl ⟨γ, F4, s4, a4, b4, N4, g4, y1, y2, sQ.mk y3.R (y3.X.dn hn) y3.V y3.a1 y3.b1 y3.f1⟩
  · exact .inr E
/-- a later start, with fewer nodes -/
theorem sS.from' {e1 e2 e3 : Nat} {fX : zF (Unit ⊕ Nat)} {T : gF Unit} (h : sS c a1 d b' n g' s' K F e1 e2 e3 fX T) (hX : pX0 N g s N' g' s') (hn : n ≤ N) (hL : pLo K s s') (ha : a ≤ a1) (hb : b' + 10 * a ≤ b + 10 * a1) : sS c a d b n g s K F e1 e2 e3 fX T := by
  rcases h with ⟨γ, F4, s4, a4, b4, N4, g4, y1, y2, y3⟩ | E
  · have y5 := y3.a1
    have y6 := y3.b1
    have y8 := y3.f1
    have z := y3.X
    have X := hX.dn hn
    have n1 := z.n
    refine .inl ⟨γ, F4, s4, a4, b4, N4, g4, y1, y2, sQ.mk y3.R (pX0.mk z.n (fun t ht => (z.oa t ht).trans (X.oa t ht)) (fun t ht => (z.r t ht).trans (X.r t ht)) (fun t ht => (z.kd t ht).trans (X.kd t ht)) (fun t ht => (z.up t ht).trans (X.up t ht)) (fun t ht e => (z.w10 t ht ((X.kd t ht).trans e)).trans (X.w10 t ht e))) ⟨y3.V.1, hL.tr y3.V.lo⟩ (by omega) (by omega) (by omega)⟩
  · exact .inr E
/-- PERFORM -/
theorem st_39 (hli : cLi c G f) (h : pR c a d b N 0 g α s) (hb : pB c b a 20) (h1 : c.N0 ≤ t) (h2 : t < N) (hr : rS d < g.r t + 1) (hk : la s 9 t = nI 29) (h45 : ls s 45 = nI K) (hK : K ≤ 2 * d + 1) (hF : 10 * (c.n - a) + 22 ≤ F) (hf : 3 * (40 - d) + 1 ≤ f) : sS c a d b t g s K F 0 0 3 (xVf c G (f + 1) 39 (g.oa t) α) ((mVb (nI 39) (nI t) s).bind fun p => mS F p.2) := by
  obtain ⟨F, rfl⟩ : ∃ x, F = x + 1 := ⟨F - 1, by omega⟩
  have kp := h.kp
  have ax := h.ax
  have am := h.am
  have a5 := h.a5
  have nl := h.nl
  have al := h.al
  have N0 := h.N0
  have hN := h.N8 hb
  have r13 : 1300 < g.r t := by unfold rS at hr; omega
  rw [xV_39, mV_39, if_pos (of_eq_true (kis kp (by decide)))]
  refine sS.wrap ?_
  have M0 : ((gX26_perform (nI t) s).bind fun p21 => gX26_statement_521 p21.2) = gX26_perform (nI t) s := gu_id
  have X0 : (rrX4_add G (f + 1)).2.2.2.2.1 (some c.p) (some (g.oa t)) α = hX4_perform_r G (rrX4_add G f).1 (rrX4_add G f).2.1 (rrX4_add G f).2.2.1 (rrX4_add G f).2.2.2.1 (rrX4_add G f).2.2.2.2.1 (rrX4_add G f).2.2.2.2.2 (some c.p) (some (g.oa t)) α := rfl
  rw [M0, X0]
  -- without a name: a list of its own
  have own : ∀ {a1 b1 N1 : Nat} {g1 : pG} {α1 : zS} {s1 : zM}, pR c a1 d b1 N1 0 g1 α1 s1 → pX N g s N1 g1 s1 → a ≤ a1 → b1 + 10 * a ≤ b + 10 * a1 → sS c a d b t g s K (F + 1) 0 0 2 (hX4_perform_94 G (rrX4_add G f).1 (rrX4_add G f).2.1 (rrX4_add G f).2.2.1 (rrX4_add G f).2.2.2.1 (rrX4_add G f).2.2.2.2.1 (rrX4_add G f).2.2.2.2.2 (some c.p) (some (g.oa t)) α1) (mS (F + 1) (mPl (ua s1 10 (upd (la s1 10) t (nI 1))) K (nI 39) (nI t))) := by
    intro a1 b1 N1 g1 α1 s1 h3 X3 ha hb3
    have n1 := X3.n
    have al3 := h3.al
    have R := pfL (G := G) (F := F + 1) hli h3 ((hb.go hb3).le (by omega)) h1 (by omega) (by rw [X3.r t h2]; omega) (by rw [X3.kd t h2]; exact hk) (X3.pl.1.trans h45) hK (by omega) hf
    rw [X3.oa t h2] at R
    exact R.from' X3.x0 (by omega) (X3.pl.pv h45).lo ha hb3
  have X78 : sS c a d b t g s K (F + 1) 0 0 3 (hX4_perform_78 G (rrX4_add G f).1 (rrX4_add G f).2.1 (rrX4_add G f).2.2.1 (rrX4_add G f).2.2.2.1 (rrX4_add G f).2.2.2.2.1 (rrX4_add G f).2.2.2.2.2 (some c.p) (some (g.oa t)) α) ((gX26_perform_79 (nI t) (nI 0) s).bind fun p => mS (F + 1) p.2) := by
    have M79 : ∀ {s1 : zM}, gX26_phrase (nI t) s = some ((), s1) → pPl s s1 → gX26_perform_79 (nI t) (nI 0) s = some ((), mPl (ua s1 10 (upd (la s1 10) t (nI 1))) K (nI 39) (nI t)) := fun {s1} e z => by
      unfold gX26_perform_79
      rw [e, gl_bs, if_pos (show nI 0 = 0 from rfl)]
      show Option.bind (gst s1 10 8000 (nI t) 1) _ = _
      rw [pgst (by omega) (by decide), gl_bs, show (39 : Int32) = nI 39 from rfl, M_pile (k := K) (s := ua s1 10 (upd (la s1 10) t 1)) (z.1.trans h45) (by omega), gl_bs]
      rfl
    unfold hX4_perform_78
    rw [if_pos (of_eq_true (kis kp (by decide))), X_isPh h.k h.xw ax (by omega), gl_bs]
    rcases ew : wP c a with _ | _
    · rw [if_pos (show nI (b2n false) = 0 from rfl), M79 (h.phrase0 ew) pPl.rf, gl_bs]
      exact (own h pX.rf (Nat.le_refl _) (Nat.le_refl _)).ef (by omega)
    · rw [if_neg (show ¬ nI (b2n true) = 0 from bT)]
      show sS c a d b t g s K (F + 1) 0 0 3 (if zis G α (some c.p) 41 = true then zcase (hX4_phrase G (some c.p) α) _ _ else none) _
      rw [if_pos (of_eq_true (kis kp (by decide)))]
      rcases h.phrase (G := G) (t := t) (hb.le (by omega)) h1 h2 r13 ew with ⟨q, β, γ, s1, a1, b1, N1, g1, x1, x2, x3, x4, x5, x6, x7, x8⟩ | ⟨e, β, s', wh, w, x1, x2, x3, x4, x5⟩
      · rw [x1, zc_l, if_pos (of_eq_true (kis x2 (by decide))), M79 x4 x6.pl, gl_bs]
        show sS c a d b t g s K (F + 1) 0 0 3 (Option.bind (hX43_add G (some (g.oa t)) (some q) β) _) _
        rw [x3, gl_bs]
        exact (own x5 x6 (by omega) x8).ef (by omega)
      · rw [x1, zc_r, if_pos x2, M79 x3 x5, gl_bs]
        have E : pE c wh w β (ua s' 10 (upd (la s' 10) t (nI 1))) := by
          refine pE.mk x4.x x4.xb x4.xw x4.I (fun k x k1 k2 hx => ?_) (fun k hk => ?_) x4.b1 x4.b2 ?_ x4.w1 x4.w2 x4.wh x4.N x4.zcb x4.zwb
          · rw [la_ua]
            split
            · rename_i e; subst e; rw [upd_other (by omega)]; exact x4.A _ x k1 k2 hx
            · exact x4.A k x k1 k2 hx
          · rw [la_ua, if_neg (by omega)]; exact x4.B k hk
          · obtain ⟨F, f1, f2, f3, f4, f5⟩ := x4.nt
            exact ⟨F, f1, f2, f3, by rw [la_ua, if_neg (by decide)]; exact f4, by rw [la_ua, if_neg (by decide)]; exact f5⟩
        exact .inr ⟨e, β, _, wh, w, rfl, x2, mS_bad E.pl.b1, E.pl⟩
  -- behind a name
  have X61 : ∀ {a1 b1 N1 : Nat} {g1 : pG} {α1 : zS} {s1 : zM}, pR c a1 d b1 N1 0 g1 α1 s1 → pB c b1 a1 14 → pX N g s N1 g1 s1 → a ≤ a1 → b1 + 10 * a ≤ b + 10 * a1 → sS c a d b t g s K (F + 1) 0 0 3 (hX4_perform_61 G (rrX4_add G f).1 (rrX4_add G f).2.1 (rrX4_add G f).2.2.1 (rrX4_add G f).2.2.2.1 (rrX4_add G f).2.2.2.2.1 (rrX4_add G f).2.2.2.2.2 (some c.p) (some (g.oa t)) α1) ((gX26_perform_79 (nI t) (nI 1) s1).bind fun p => mS (F + 1) p.2) := by
    intro a1 b1 N1 g1 α1 s1 h3 hbb X3 ha hb3
    have n1 := X3.n
    have kp3 := h3.kp
    have a53 := h3.a5
    have o1 := X3.oa t h2
    have M79 : ∀ {s2 : zM}, gX26_phrase (nI t) s1 = some ((), s2) → gX26_perform_79 (nI t) (nI 1) s1 = some ((), s2) := fun {s2} e => by
      unfold gX26_perform_79
      rw [e, gl_bs, if_neg (show ¬ nI 1 = 0 from n1n)]
    unfold hX4_perform_61 hX4_perform_77
    rw [if_pos (of_eq_true (kis kp3 (by decide))), X_isPh h3.k h3.xw h3.ax (by omega), gl_bs]
    rcases ew : wP c a1 with _ | _
    · rw [if_pos (show nI (b2n false) = 0 from rfl), M79 (h3.phrase0 ew), gl_bs]
      exact .inl ⟨α1, F + 1, s1, a1, b1, N1, g1, rfl, rfl, sQ.mk h3 (X3.x0.dn (by omega)) (X3.pl.pv h45) (by omega) (by omega) (by omega)⟩
    · rw [if_neg (show ¬ nI (b2n true) = 0 from bT)]
      show sS c a d b t g s K (F + 1) 0 0 3 (if zis G α1 (some c.p) 41 = true then zcase (hX4_phrase G (some c.p) α1) _ _ else none) _
      rw [if_pos (of_eq_true (kis kp3 (by decide)))]
      rcases h3.phrase (G := G) (t := t) hbb h1 (by omega) (by rw [X3.r t h2]; exact r13) ew with ⟨q, β, γ, s2, a2, b2, N2, g2, x1, x2, x3, x4, x5, x6, x7, x8⟩ | ⟨e, β, s', wh, w, x1, x2, x3, x4, x5⟩
      · rw [o1] at x2 x3
        rw [x1, zc_l, if_pos (of_eq_true (kis x2 (by decide))), M79 x4, gl_bs]
        show sS c a d b t g s K (F + 1) 0 0 3 (Option.bind (hX43_add G (some (g.oa t)) (some q) β) _) _
        rw [x3, gl_bs]
        exact .inl ⟨γ, F + 1, s2, a2, b2, N2, g2, rfl, rfl, sQ.mk x5 ((X3.tr x6).x0.dn (by omega)) ((X3.tr x6).pl.pv h45) (by omega) (by omega) (by omega)⟩
      · rw [x1, zc_r, if_pos x2, M79 x3, gl_bs]
        exact .inr ⟨e, β, s', wh, w, rfl, x2, mS_bad x4.b1, x4⟩
  unfold hX4_perform_r gX26_perform
  rw [kfI kp, ax, gl_bs, if_pos (of_eq_true (kis kp (by decide))), nl1, X_isK h.k h.xw (by omega) (by decide), gl_bs, gl_x, am, M_isK h.k h.mw (by omega) (by decide), gl_bs]
  rcases e1 : wK c a 1 with _ | _
  · rw [if_pos (show nI (b2n false) = 0 from rfl)]
    show sS c a d b t g s K (F + 1) 0 0 3 _ (Option.bind (if nI (b2n false) = 0 then gX26_perform_31 (nI t) s else _) _)
    rw [if_pos (show nI (b2n false) = 0 from rfl)]
    unfold gX26_perform_31 gX26_perform_32
    rw [if_pos (by decide)]
    exact X78
  · have k1 := wK_i e1
    have e2 : wK c a 2 = false := wK_f (fun z => by omega)
    have e6 : wW c a 56 = false := wW_f (fun z => by omega)
    have e7 : wW c a 57 = false := wW_f (fun z => by omega)
    have eP : wP c a = wW c (a + 1) 23 := by
      unfold wP
      rw [e1, e2, e6, e7]
      simp
    rw [if_neg (show ¬ nI (b2n true) = 0 from bT)]
    show sS c a d b t g s K (F + 1) 0 0 3 (if zis G α (some c.p) 41 = true then Option.bind (hX4_isPhrase G (some c.p) α) _ else none) (Option.bind (if nI (b2n true) = 0 then _ else xlet (ls s 41) _) _)
    rw [if_pos (of_eq_true (kis kp (by decide))), X_isPh h.k h.xw ax (by omega), gl_bs, if_neg (show ¬ nI (b2n true) = 0 from bT), gl_x, am, pI_add, show (23 : Int32) = nI 23 from rfl, eP]
    show sS c a d b t g s K (F + 1) 0 0 3 _ (Option.bind (Option.bind (gX26_isWord (nI (a + 1)) (nI 23) s) _) _)
    rw [M_isW h.k h.mw (by omega) (by decide), gl_bs]
    rcases e23 : wW c (a + 1) 23 with _ | _
    · rw [if_neg (show ¬ ¬ nI (b2n false) = 0 from fun z => z rfl)]
      show sS c a d b t g s K (F + 1) 0 0 3 (if zis G α (some c.p) 41 = true then zcase (hX4_operand G (some c.p) (nI 1) α) _ _ else none) (Option.bind (if ¬ nI (b2n false) = 0 then _ else gX26_perform_32 (nI t) (nI 1) s) _)
      rw [if_pos (of_eq_true (kis kp (by decide))), if_neg (show ¬ ¬ nI (b2n false) = 0 from fun z => z rfl)]
      unfold gX26_perform_32
      rw [if_neg (show ¬ nI 1 = 0 from n1n)]
      rcases h.operandOf (G := G) (to := t) (hb.le (by omega)) h1 h2 (by omega) (by omega) with ⟨hO, β, γ, s1, N1, g1, x1, x2, x3, x4, x5, x6⟩ | ⟨e, β, s', w, x1, x2, x3, x4, x5⟩
      · have kp5 := x5.kp
        have al5 := x5.al
        have a55 := x5.a5
        have o1 := x6.oa t h2
        have r1 := x6.r t h2
        have n1 := x6.n
        have hb5 : pB c (b + 3) (a + 1) 20 := by unfold pB at *; omega
        rw [x1, zc_l, if_pos (of_eq_true (kis x2 (by decide))), x4, gl_bs]
        show sS c a d b t g s K (F + 1) 0 0 3 (Option.bind (hX43_add G (some (g.oa t)) (some (zn α)) β) _) (Option.bind (Option.bind (gX26_meets 21 s1) _) _)
        rw [x3, gl_bs, show (21 : Int32) = nI 21 from rfl]
        show sS c a d b t g s K (F + 1) 0 0 3 (if zis G γ (some c.p) 41 = true then Option.bind (hX4_meets G (some c.p) (nI 21) γ) _ else none) _
        rw [if_pos (of_eq_true (kis kp5 (by decide)))]
        rcases x5.meets (G := G) (w := 21) (by decide) with ⟨e, y1, m1, h3⟩ | ⟨e, y1, m1⟩
        · have kp3 := h3.kp
          have al3 := h3.al
          have a53 := h3.a5
          have hb6 : pB c (b + 3) (a + 1 + 1) 20 := by unfold pB at *; omega
          have X4 := x6.tr (pX.ma (a := a + 1))
          rw [y1, gl_bs, m1, gl_bs, if_neg (show ¬ nI 1 = 0 from n1n)]
          show sS c a d b t g s K (F + 1) 0 0 3 (Option.bind (zfI (xaS c γ (a + 1)) (some c.p) 40 3) _) (Option.bind (if nI 1 = 0 then _ else Option.bind (gX26_mustBe (nI 1) (maS s1 (a + 1))) _) _)
          rw [kfI kp3, h3.ax, gl_bs, if_neg (show ¬ nI 1 = 0 from n1n)]
          show sS c a d b t g s K (F + 1) 0 0 3 (if zis G (xaS c γ (a + 1)) (some c.p) 41 = true then Option.bind (hX4_isKind G (some c.p) (nI (a + 1 + 1)) (nI 1) (xaS c γ (a + 1))) _ else none) _
          rw [if_pos (of_eq_true (kis kp3 (by decide))), X_isK h3.k h3.xw (by omega) (by decide), gl_bs]
          show sS c a d b t g s K (F + 1) 0 0 3 (if zis G (xaS c γ (a + 1)) (some c.p) 41 = true then zcase (hX4_must G (some c.p) (nI (b2n (wK c (a + 1 + 1) 1))) (xaS c γ (a + 1))) _ _ else none) _
          rw [if_pos (of_eq_true (kis kp3 (by decide)))]
          rcases ek : wK c (a + 1 + 1) 1 with _ | _
          · obtain ⟨e, β5, s', w, z1, z2, z3, z4, z5⟩ := h3.no' (G := G) (hb6.le (by omega))
            show sS c a d b t g s K (F + 1) 0 0 3 (zcase (hX4_must G (some c.p) (nI 0) (xaS c γ (a + 1))) _ _) _
            rw [z1, zc_r, if_pos z2, M_mbF h3 ek z3, gl_bs, if_pos (show (nI 0, s').1 = 0 from rfl)]
            have : gX26_perform_79 (nI t) (nI 1) s' = some ((), s') := by
              unfold gX26_perform_79
              rw [Bd_phrase z4.b1, gl_bs, if_neg (show ¬ nI 1 = 0 from n1n)]
            rw [this, gl_bs]
            exact .inr ⟨e, β5, s', 1, w, rfl, z2, mS_bad z4.b1, z4⟩
          · obtain ⟨β5, γ5, s5, g5, z1, z2, z3, z4, z5, z6, z7, z8⟩ := h3.nameOp (G := G) (to := t) (hb6.le (by omega)) h1 (by omega) (by rw [r1]; omega) (by omega) ek
            rw [o1] at z2 z3
            show sS c a d b t g s K (F + 1) 0 0 3 (zcase (hX4_must G (some c.p) (nI 1) (xaS c γ (a + 1))) _ _) _
            rw [X_must1, zc_l, z4, gl_bs]
            show sS c a d b t g s K (F + 1) 0 0 3 (if zis G (xaS c γ (a + 1)) (some c.p) 41 = true then zcase (hX4_operand G (some c.p) (nI 1) (xaS c γ (a + 1))) _ _ else none) (Option.bind (if nI 1 = 0 then _ else Option.bind (gX26_passed (maS (maS s1 (a + 1)) (a + 1 + 1))) _) _)
            rw [if_pos (of_eq_true (kis kp3 (by decide))), if_neg (show ¬ nI 1 = 0 from n1n), z1, zc_l, if_pos (of_eq_true (kis z2 (by decide))), z5, gl_bs]
            show sS c a d b t g s K (F + 1) 0 0 3 (Option.bind (hX43_add G (some (g.oa t)) (some (zn (xaS c γ (a + 1)))) β5) _) (Option.bind (xlet (ls (maS (maS s1 (a + 1)) (a + 1 + 1)) 41) _) _)
            rw [z3, gl_bs, gl_x, show ls (maS (maS s1 (a + 1)) (a + 1 + 1)) 41 = nI (a + 1 + 1 + 1) from rfl, nl100000, pI_add, nl1, pI_sub (by omega), Nat.add_sub_cancel, show (41 : Int32) = nI 41 from rfl]
            show sS c a d b t g s K (F + 1) 0 0 3 _ (Option.bind (Option.bind (gX26_child (nI t) (nI 41) (nI (100000 + c.vs (a + 1 + 1))) (nI (a + 1 + 1)) (maS (maS s1 (a + 1)) (a + 1 + 1))) _) _)
            rw [z6, gl_bs]
            exact X61 z7 (by unfold pB at *; omega) (X4.tr z8) (by omega) (by omega)
        · rw [y1, gl_bs, m1, gl_bs, if_pos (show (nI 0, γ).1 = 0 from rfl)]
          exact X61 x5 (by unfold pB at *; omega) x6 (by omega) (by omega)
      · have : gX26_perform_79 (nI t) (nI 1) s' = some ((), s') := by
          unfold gX26_perform_79
          rw [Bd_phrase x4.b1, gl_bs, if_neg (show ¬ nI 1 = 0 from n1n)]
        rw [x1, zc_r, if_pos x2, x3, gl_bs]
        show sS c a d b t g s K (F + 1) 0 0 3 _ (Option.bind (Option.bind (gX26_meets 21 s') _) _)
        rw [Bd_meets x4.b1, gl_bs, if_pos (show (nI 0, s').1 = 0 from rfl), this, gl_bs]
        exact .inr ⟨e, β, s', 1, w, rfl, x2, mS_bad x4.b1, x4⟩
    · rw [if_pos (show ¬ nI (b2n true) = 0 from bT)]
      show sS c a d b t g s K (F + 1) 0 0 3 _ (Option.bind (if ¬ nI (b2n true) = 0 then gX26_perform_31 (nI t) s else _) _)
      rw [if_pos (show ¬ nI (b2n true) = 0 from bT)]
      unfold gX26_perform_31 gX26_perform_32
      rw [if_pos (by decide)]
      exact X78
end PAZJ
