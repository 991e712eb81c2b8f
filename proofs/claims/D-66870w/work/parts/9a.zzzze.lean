/-! THE PURE LAYER: the parser: X's side alone: the divisions' headers. -/
/-- the outer units, the innermost first -/
def xTo (c : pC) (U : Nat → Prop) (lu lr : Nat) : List Nat → zS → Prop
  | [], β => ∃ M, xTs c M U none lu lr β
  | u :: l, β => ∃ M z x, xBN c M U z lu lr u l x β
/-- the words at hand, the state is the clause's start -/
def cAt (c : pC) (β : zS) : pC := (c.p, c.ka, c.va, c.n, c.ks, c.vs, β, c.s0, c.N0, c.at0, c.lv)
/-- between clauses -/
def xTC (c : pC) (lu lr : Nat) (β : zS) : Prop := ∃ a U op, xp (cAt c β) a β ∧ zA β 40 11 c.p = op.head? ∧ zA β 40 12 c.p = some lu ∧ zA β 40 13 c.p = some lr ∧ xTo c U lu lr op β
section PAZZZZE
variable {ρ σ τ : Type} {c : pC} {G : xQ} {α β γ γ' δ ε α0 : zS} {a a' b k w q r t u n x x' T T' E f i j o lu lr lo hi : Nat} {v v' kv nm pr : Int32} {e e' : Int32 × Int32} {L L' op l : List Nat} {M M' N S S' U U' : Nat → Prop} {m K K' : List (Int32 × Int32)} {P : Int32 × Int32 → Prop} {p z : Option Nat}
theorem xp.cat (h : xp c a α) : xp (cAt c α) a α := by
  have o := h.o
  have x := h.x
  have m := o.m
  have hx : pxW (cAt c α) α := pxW.mk x.kp x.fk x.fv x.fn x.kk x.kv x.lk x.lv x.rk x.rv
  exact xp.mk (pOk.mk o.n o.ks o.vs h.pz h.kz h.vz hx (mWd.mk m.fn m.rk m.rv) o.N1 o.N0 o.Nm o.fm) hx h.ax h.al h.pz h.kz h.vz (Nat.le_refl _) (fun _ _ _ => rfl)
theorem xWN.out (W : xWN c U lu lr u l β) (h1 : zA c.a0 40 11 c.p = some u) (h2 : zA c.a0 40 12 c.p = some lu) (h3 : zA c.a0 40 13 c.p = some lr) : xTC c lu lr β := by
  obtain ⟨a, M, z, x, h, B⟩ := W
  exact ⟨a, U, u :: l, h.cat, (h.cu 11 (by decide) (by decide)).trans h1, (h.cu 12 (by decide) (by decide)).trans h2, (h.cu 13 (by decide) (by decide)).trans h3, M, z, x, B⟩
/-- what a clause starts from -/
def xBg (c : pC) (M U : Nat → Prop) (z : Option Nat) (lu lr u : Nat) (l : List Nat) (x a : Nat) (α : zS) : Prop := (xBN c M U z lu lr u l x α) ∧ (xp c a α) ∧ (a < c.n) ∧ (zA c.a0 40 11 c.p = some u) ∧ (zA c.a0 40 12 c.p = some lu) ∧ (zA c.a0 40 13 c.p = some lr)
theorem xBg.bb {c : pC} {M U : Nat → Prop} {z : Option Nat} {lu lr u : Nat} {l : List Nat} {x a : Nat} {α : zS} (h : xBg c M U z lu lr u l x a α) : xBN c M U z lu lr u l x α := by
  unfold xBg at h
  exact h.1
theorem xBg.hh {c : pC} {M U : Nat → Prop} {z : Option Nat} {lu lr u : Nat} {l : List Nat} {x a : Nat} {α : zS} (h : xBg c M U z lu lr u l x a α) : xp c a α := by
  unfold xBg at h
  exact h.2.1
theorem xBg.nn {c : pC} {M U : Nat → Prop} {z : Option Nat} {lu lr u : Nat} {l : List Nat} {x a : Nat} {α : zS} (h : xBg c M U z lu lr u l x a α) : a < c.n := by
  unfold xBg at h
  exact h.2.2.1
theorem xBg.h1 {c : pC} {M U : Nat → Prop} {z : Option Nat} {lu lr u : Nat} {l : List Nat} {x a : Nat} {α : zS} (h : xBg c M U z lu lr u l x a α) : zA c.a0 40 11 c.p = some u := by
  unfold xBg at h
  exact h.2.2.2.1
theorem xBg.h2 {c : pC} {M U : Nat → Prop} {z : Option Nat} {lu lr u : Nat} {l : List Nat} {x a : Nat} {α : zS} (h : xBg c M U z lu lr u l x a α) : zA c.a0 40 12 c.p = some lu := by
  unfold xBg at h
  exact h.2.2.2.2.1
theorem xBg.h3 {c : pC} {M U : Nat → Prop} {z : Option Nat} {lu lr u : Nat} {l : List Nat} {x a : Nat} {α : zS} (h : xBg c M U z lu lr u l x a α) : zA c.a0 40 13 c.p = some lr := by
  unfold xBg at h
  exact h.2.2.2.2.2
theorem xBg.mk {c : pC} {M U : Nat → Prop} {z : Option Nat} {lu lr u : Nat} {l : List Nat} {x a : Nat} {α : zS} (x0 : xBN c M U z lu lr u l x α) (x1 : xp c a α) (x2 : a < c.n) (x3 : zA c.a0 40 11 c.p = some u) (x4 : zA c.a0 40 12 c.p = some lu) (x5 : zA c.a0 40 13 c.p = some lr) : xBg c M U z lu lr u l x a α := by
  unfold xBg
  exact ⟨x0, x1, x2, x3, x4, x5⟩
theorem xBg.cu (s : xBg c M U z lu lr u l x a α) : zA α 40 11 c.p = some u := (s.hh.cu 11 (by decide) (by decide)).trans s.h1
theorem xBN.z1 (B : xBN c M U z lu lr u l x α) (h : 1 ≤ x) : z = none := by
  rcases B.z0 with y | y
  · exact y.1
  · omega
/-- ENVIRONMENT DIVISION -/
theorem h_env (s : xBg c M U z lu lr u l x a α) {v38 : Int32} : wx (zcase (hX4_state G (some c.p) 1 1 α) (fun p39 =>
        if zis G p39.2 (some c.p) 41 = true then
          zcase (hX4_second G (some c.p) 1 p39.2) (fun p40 =>
            (zfA p40.2 (some u) 43 1).bind fun r41 =>
            (znO p40.2 44 9).bind fun p42 =>
            if zis G p42.2 p42.1 45 = true then
              (hX43_init G p42.1 3 0 v38 p42.2).bind fun p43 =>
              if zis G p43.2 r41 45 = true then
                (hX43_add G r41 p42.1 p43.2).bind fun p44 =>
                (zpA p44.2 (some u) 43 4 p44.1).bind fun σ45 =>
                (zpI σ45 (some u) 43 3 (2 : Int32)).bind fun σ46 =>
                hX4_header_666 G σ46
              else none
            else none) (fun p47 =>
            if zthr p47.2 p47.1 3 = true then
              some (.inr p47.1, p47.2)
            else none)
        else none) (fun p48 =>
        if zthr p48.2 p48.1 3 = true then
          some (.inr p48.1, p48.2)
        else none)) (fun _ β => xWN c U lu lr u l β) := by
  have B := s.bb
  refine wx_c (w_state (i := 1) (j := 1) B.cu s.hh s.cu B.un.ku (by decide) (by decide) fun g1 g2 => ?_)
  refine wx_zc (wx_im (Q_second (w := 1) s.hh s.nn (by decide)) fun _ γ y => ?_)
  obtain ⟨a1, h1, q1⟩ := y
  have B1 := B.pw q1 s.hh.kp
  have z0 := B1.z1 g1
  subst z0
  obtain ⟨r, r1, r2, r3⟩ := B1.un.f1
  show wx (Option.bind (zfA γ (some u) 43 1) _) _
  rw [kfA B1.un.ku, gl_bs, r1]
  refine wx_nw (T := c.p) h1 (by rw [h1.kp]; decide) h1.pz (by decide) fun β s1 _ _ => ?_
  obtain ⟨d, ek⟩ := s1.cl (grS_i (k := 3) ⟨rfl, fun _ h => absurd h (by simp)⟩ (by decide))
  refine wx_zb (wp_im (B_root (x' := 2) B1 h1.kp d r1 fun i j k n y1 y2 y3 y4 y5 => ⟨true, false, false, [], ?_, fun _ h => absurd h (by simp), fun _ => rfl, fun y => absurd y (by decide), fun _ => rfl, fun _ => rfl⟩) fun r' ε y => ?_)
  · rw [y1 (by omega), y2 g2, y3 (by omega), y4 (by omega), ek]
    rfl
  · obtain ⟨rfl, h2, M', S2, m2, _, e2, hE, R, _⟩ := y
    obtain ⟨y1, y2, W⟩ := B_set (k := 4) (p := some (zn γ)) B1 hE h2 S2 R (by decide) (by decide) (by decide) (by decide) (fun q hq => by
      rw [← Option.some.inj hq]
      exact ⟨m2, 3, by decide, by decide, by rw [e2, ek]; rfl⟩) (by decide) (by decide) (fun y => absurd y (by decide))
    show wx (Option.bind (zpA ε (some u) 43 4 (some (zn γ))) _) _
    rw [y1, gl_bs]
    show wx (Option.bind (zpI (zwA ε 43 4 u (some (zn γ))) (some u) 43 3 (nI 2)) _) _
    rw [y2, gl_bs]
    unfold hX4_header_666
    exact wx_l W
end PAZZZZE
