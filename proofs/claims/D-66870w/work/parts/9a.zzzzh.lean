/-! THE PURE LAYER: the parser: X's side alone: END. -/
section PAZZZZH
variable {ρ σ τ : Type} {c : pC} {G : xQ} {α β γ γ' δ ε α0 : zS} {a a' b k w q r t u n x x' T T' E f i j o lu lr lo hi : Nat} {v v' kv nm pr : Int32} {e e' : Int32 × Int32} {L L' op l : List Nat} {M M' N S S' U U' : Nat → Prop} {m K K' : List (Int32 × Int32)} {P : Int32 × Int32 → Prop} {p z : Option Nat}
theorem xaS7 : zI (xaS c γ a) 40 7 c.p = zI γ 40 7 c.p := by
  unfold xaS
  rw [zI_zwI, if_neg (fun z => absurd z.2.1 (by decide))]
theorem xaSq : xqN c γ (xaS c γ a) := ⟨fun x hx => zwI_ne hx, rfl⟩
theorem w_isFun : wp (hX42_isFunction G p γ) (fun _ β => β = γ) := by
  unfold hX42_isFunction hX42_isFunction_16
  exact wp_ob fun _ _ => wp_ob fun _ _ => wp_if (fun _ => wp_if (fun _ => wp_s rfl) (fun _ => wp_no)) (fun _ => wp_if (fun _ => wp_s rfl) (fun _ => wp_no))
theorem iast_p {o : Option Nat} {i : Int32} (kp : zkd γ c.p = 41) (h : ziast γ o i v = some δ) : δ.2 c.p = γ.2 c.p := by
  rcases o with _ | o
  · exact absurd h (by simp [ziast])
  · have h1 : (if zkd γ o = 1001 ∧ xin i (zln γ o) = true then some (zsI γ o (upd (zaI γ o) i.toNatClampNeg v)) else none) = some δ := h
    by_cases y : zkd γ o = 1001 ∧ xin i (zln γ o) = true
    · rw [if_pos y] at h1
      rw [← Option.some.inj h1]
      have k := y.1
      exact zsI_ne (fun z => by rw [← z, kp] at k; omega)
    · rw [if_neg y] at h1
      exact absurd h1 (by simp)
theorem w_note7 (kp : zkd γ c.p = 41) (h7 : zI γ 40 7 c.p = nI 0) : wp (hX4_note G (some c.p) v v' γ) (fun _ δ => zI δ 40 7 c.p = nI 1 ∧ zkd δ c.p = 41) := by
  unfold hX4_note
  rw [kfI kp, gl_bs, h7, if_pos (by decide)]
  refine wp_ob fun r2 _ => wp_ob fun x3 _ => wp_ob fun δ h1 => ?_
  have e1 := iast_p kp h1
  refine wp_ob fun r5 _ => wp_ob fun x6 _ => wp_ob fun ε h2 => ?_
  have k1 : zkd δ c.p = 41 := by rw [zkd_eq e1]; exact kp
  have e2 := iast_p k1 h2
  have k2 : zkd ε c.p = 41 := by rw [zkd_eq e2]; exact k1
  rw [kfI k2, gl_bs, zI_eq e2, zI_eq e1, h7, kpI k2, gl_bs]
  exact wp_s ⟨by rw [zI_zwI, if_pos ⟨rfl, rfl, rfl⟩]; decide, by rw [zkd_zwI]; exact k2⟩
/-- the innermost unit changes -/
theorem xp.scu (h : xp c a γ) : xp (cAt c (zwA γ 40 11 c.p p)) a (zwA γ 40 11 c.p p) := by
  have o := h.o
  have x := h.x
  have m := o.m
  have ne : ∀ x, x ≠ c.p → (zwA γ 40 11 c.p p).2 x = γ.2 x := fun x hx => zwA_ne hx
  have x1 : pxW c (zwA γ 40 11 c.p p) := x.wA (by decide) (by decide)
  have hx : pxW (cAt c (zwA γ 40 11 c.p p)) (zwA γ 40 11 c.p p) := pxW.mk x1.kp x1.fk x1.fv x1.fn x1.kk x1.kv x1.lk x1.lv x1.rk x1.rv
  exact xp.mk (pOk.mk o.n o.ks o.vs h.pz h.kz h.vz hx (mWd.mk m.fn m.rk m.rv) o.N1 o.N0 o.Nm o.fm) hx (by rw [zI_zwA]; exact h.ax) h.al h.pz h.kz h.vz (Nat.le_refl _) (fun _ _ _ => rfl)
theorem w_end101 (B : xBN c M U none lu lr u l x γ) (h : xp c a γ) (h2 : zA c.a0 40 12 c.p = some lu) (h3 : zA c.a0 40 13 c.p = some lr) : wx (hX4_end_101 G (some c.p) (some u) γ) (fun _ β => xTC c lu lr β) := by
  have kp := h.kp
  unfold hX4_end_101
  have k1 : zkd (zwA γ 40 11 c.p l.head?) c.p = 41 := by rw [zkd_zwA]; exact kp
  rw [kfA B.un.ku, gl_bs, B.op.2.1, kpA kp, gl_bs, kfI k1, gl_bs, kpI k1, gl_bs]
  refine wx_l ?_
  generalize hv : zI (zwA γ 40 11 c.p l.head?) 40 8 c.p - 1 = vv
  have hx := (h.scu (p := l.head?)).wI (k := 8) (v := vv) (by decide) (by decide)
  have q1 : xqN c γ (zwI (zwA γ 40 11 c.p l.head?) 40 8 c.p vv) := ⟨fun x hx => (zwI_ne hx).trans (zwA_ne hx), rfl⟩
  have S := B.ts.pw q1.1 q1.2 kp
  refine ⟨a, U, l, hx.cat, by rw [zA_zwI, zA_zwA, if_pos ⟨rfl, rfl, rfl⟩], ?_, ?_, ?_⟩
  · rw [zA_zwI, zA_zwA, if_neg (fun z => absurd z.2.1 (by decide)), h.cu 12 (by decide) (by decide)]; exact h2
  · rw [zA_zwI, zA_zwA, if_neg (fun z => absurd z.2.1 (by decide)), h.cu 13 (by decide) (by decide)]; exact h3
  · have op := B.op.2.2.2
    have st := B.op.2.2.1
    have hU : ∀ v, U v → (zwI (zwA γ 40 11 c.p l.head?) 40 8 c.p vv).2 v = γ.2 v := fun v hv => q1.1 v (fun y => by have := (B.ts.un v hv).ku; rw [y, kp] at this; omega)
    clear hx
    generalize zwI (zwA γ 40 11 c.p l.head?) 40 8 c.p vv = δ at *
    rcases l with _ | ⟨v, l'⟩
    · exact ⟨M, S⟩
    · have Uv := op.1
      obtain ⟨r, r1, r2, r3⟩ := (S.un v Uv).f1
      obtain ⟨e, L, b, cl, g⟩ := S.hp.1 r r2
      rw [b.e] at r3
      have g2 : grU (L.map (xkv δ)) := by
        rcases g with g | g
        · obtain ⟨k, k1, k2, k3⟩ := g
          obtain ⟨j, j1, j2, j3⟩ := r3
          rw [k2, pI_inj (by omega) (by omega)] at j3
          have : k = 1 ∨ k = 2 := by omega
          rcases this with w | w <;> subst w <;> exact k3.elim
        · exact g.2
      obtain ⟨i, j, k, n, g3, g4⟩ := g2
      refine ⟨M, none, 12, xBN.mk S (op.fr (fun w hw => zA_eq (hU w (op.mem w hw)) 43 0) (fun w hw => zI_eq (hU w (op.mem w (List.mem_of_mem_tail hw))) 43 3)) (xCuN.mk ?_ (by decide) ⟨r, e, L, i, j, k, n, r1, b, g3, g4, fun y => absurd y (by decide), fun y => absurd y (by decide), fun y => absurd y (by decide), fun y => absurd y (by decide)⟩ (fun y => absurd y (by decide))) (.inl ⟨rfl, by decide⟩)⟩
      rw [zI_eq (hU v Uv)]
      exact (st v (List.mem_cons_self ..)).2
theorem w_end66 (B : xBN c M U none lu lr u l x γ) (h : xp c a γ) (h2 : zA c.a0 40 12 c.p = some lu) (h3 : zA c.a0 40 13 c.p = some lr) (h7 : zI γ 40 7 c.p = nI 0) (hw : w < 100000) : wx (hX4_end_66 G (some c.p) (some u) (nI w) (some c.p) γ) (fun _ β => zI β 40 7 c.p = nI 0 → xTC c lu lr β) := by
  unfold hX4_end_66
  refine wx_zc (w_need h hw fun e1 => ?_)
  have h1 := h.adv (wW_i e1).1
  show wx (Option.bind (zfI (xaS c γ a) (some c.p) 40 3) _) _
  refine wx_ob fun x6 _ => wx_zc (w_take (k := 1) h1 (by decide) fun e2 => ?_)
  have h4 := h1.adv (wK_i e2).1
  refine wx_zc (w_period h4 fun e3 => ?_)
  have h5 := h4.adv (wK_i e3).1
  have q5 := ((xaSq (c := c) (γ := γ) (a := a)).tr (xaSq (a := a + 1))).tr (xaSq (a := a + 1 + 1))
  have B5 := B.pw q5 h.kp
  have s7 : zI (xaS c (xaS c (xaS c γ a) (a + 1)) (a + 1 + 1)) 40 7 c.p = nI 0 := by rw [xaS7, xaS7, xaS7]; exact h7
  generalize xaS c (xaS c (xaS c γ a) (a + 1)) (a + 1 + 1) = δ at *
  show wx (Option.bind (zfA δ (some u) 43 1) _) _
  refine wx_ob fun r9 _ => wx_ob fun x10 _ => wx_if (fun _ => wx_im (w_end101 B5 h5 h2 h3) fun _ β z _ => z) (fun _ => ?_)
  refine wx_zb (wp_im (w_note7 h5.kp s7) fun _ ε y => ?_)
  obtain ⟨y1, y2⟩ := y
  unfold hX4_end_101
  refine wx_ob fun r1 _ => ?_
  have k1 : zkd (zwA ε 40 11 c.p r1) c.p = 41 := by rw [zkd_zwA]; exact y2
  rw [kpA y2, gl_bs, kfI k1, gl_bs, kpI k1, gl_bs]
  refine wx_l fun y3 => ?_
  rw [zI_zwI, if_neg (fun z => absurd z.2.1 (by decide)), zI_zwA, y1] at y3
  exact absurd y3 (by decide)
/-- END: of the declaratives, of a unit -/
theorem w_end (s : xBg c M U none lu lr u l x a α) (h7 : zI α 40 7 c.p = nI 0) : wx (hX4_end G (some c.p) α) (fun _ β => zI β 40 7 c.p = nI 0 → xTC c lu lr β) := by
  have h := s.hh
  have h1 := h.adv s.nn
  have B1 := s.bb.pw (xaSq (a := a)) h.kp
  unfold hX4_end
  rw [kfA h.kp, gl_bs, s.cu, kfI h.kp, gl_bs, h.ax, kpI h.kp, gl_bs, show nI a + 1 = nI (a + 1) from pI_succ a, show zwI α 40 3 c.p (nI (a + 1)) = xaS c α a from rfl]
  have s7 : zI (xaS c α a) 40 7 c.p = nI 0 := by rw [xaS7]; exact h7
  have cx := B1.cu.x
  rw [kfI B1.un.ku, gl_bs, B1.cu.st]
  refine wx_if (fun _ => wx_zb (wp_im w_isFun fun _ β y => ?_)) (fun e9 => ?_)
  · subst y
    refine wx_if (fun _ => ?_) (fun _ => ?_)
    · show wx (hX4_end_66 G (some c.p) (some u) (nI 34) (some c.p) (xaS c α a)) _
      exact w_end66 (w := 34) B1 h1 s.h2 s.h3 s7 (by decide)
    · show wx (hX4_end_66 G (some c.p) (some u) (nI 35) (some c.p) (xaS c α a)) _
      exact w_end66 (w := 35) B1 h1 s.h2 s.h3 s7 (by decide)
  · have e9 : x = 9 := by
      have y : nI x = nI 9 := Decidable.of_not_not e9
      rw [pI_inj (by omega) (by decide)] at y
      exact y
    subst e9
    refine wx_zc (wx_im (Q_need (w := 32) h1 (by decide)) fun _ γ y => ?_)
    obtain ⟨h4, q4, _⟩ := y
    refine wx_zc (wx_im (Q_period h4) fun _ δ y => ?_)
    obtain ⟨h5, q5⟩ := y
    have B5 := B1.pw (q4.tr q5) h1.kp
    have Uu := B5.op.1
    obtain ⟨y1, S1, f1⟩ := T_wA (k := 10) (p := none) B5.ts Uu (by decide) (by decide) (by decide) (fun q hq => absurd hq (by simp))
    obtain ⟨y2, S2, f2⟩ := T_wA (k := 11) (p := none) S1 Uu (by decide) (by decide) (by decide) (fun q hq => absurd hq (by simp))
    have fr : ∀ y, y ≠ u → (zwA (zwA δ 43 10 u none) 43 11 u none).2 y = δ.2 y := fun y hy => (f2 y hy).trans (f1 y hy)
    have ku := B5.un.ku
    have zz : ∀ j, j < 10 → zA (zwA (zwA δ 43 10 u none) 43 11 u none) 43 j u = zA δ 43 j u := fun j hj => by
      rw [zA_zwA, if_neg (fun z => by have := z.2.1; omega), zA_zwA, if_neg (fun z => by have := z.2.1; omega)]
    obtain ⟨y3, W⟩ := B_st (x' := 10) B5 (fun v hv hvu => fr v hvu) (zz 0 (by decide)) (h5.uw fr rfl ku) S2 ((xRtN.up B5.cu.rt (by decide) (by decide)).fr (zz 1 (by decide)) fun t e L _ b => b.uw fr rfl ku) (by decide) (by decide) (by decide)
    show wx (Option.bind (zpA δ (some u) 43 10 none) _) _
    rw [y1, gl_bs, y2, gl_bs]
    show wx (Option.bind (zpI _ (some u) 43 3 (nI 10)) _) _
    rw [y3, gl_bs]
    exact wx_l fun _ => W.out s.h1 s.h2 s.h3
end PAZZZZH
