/-! THE PURE LAYER: the parser: X's side alone: the clauses of an item. -/
section PAZZZZN
variable {ρ σ τ : Type} {c : pC} {G : xQ} {α β γ γ' δ ε α0 : zS} {a a' a1 b k w q r t u n x x' T T' E f i j o lu lr lo hi y : Nat} {v v' v0 kv nm pr : Int32} {e e' e1 : Int32 × Int32} {L L' op l : List Nat} {M M' N S S' U U' : Nat → Prop} {m K K' K1 : List (Int32 × Int32)} {P : Int32 × Int32 → Prop} {p z : Option Nat}
/-- a node that has come is laid below the node at hand, then grows itself -/
theorem S_kid (s : xnS c T E α0 a e K γ) (s' : xnS c (E + 1) t γ a1 e1 [] β) (fr : ∀ x, x < zn γ → β.2 x = γ.2 x) (hn : zn γ ≤ zn β) : wp (hX43_add G (some E) (some t) β) (fun r ε => r = some t ∧ xnS c (E + 1) t γ a1 e1 [] ε ∧ ∃ L, xnB γ E e L ∧ xnB ε E e (L ++ [t])) := by
  obtain ⟨_, L, M, h, b, H, m, lo, _⟩ := id s
  obtain ⟨b2, _⟩ := b.st (β := β) hn (fr E lo.2) (fr (E + 1) b.hi) (fun r hr => fr r (b.ok r hr).2)
  refine wp_im (s'.att b2 lo.2) fun r ε z => ?_
  obtain ⟨z1, z2, z3⟩ := z
  exact ⟨z1, z2, L, b, z3⟩
theorem S_kidE (s : xnS c T E α0 a e K γ) (s' : xnS c (E + 1) t γ a1 e1 K1 ε) (g : grS c e1 K1) (b : xnB γ E e L) (b' : xnB ε E e (L ++ [t])) : xnS c T E α0 a1 e (K ++ [e1]) ε := by
  obtain ⟨⟨N, h1, H1, nq, sj1, cq⟩, ek⟩ := s'.cl g
  obtain ⟨s1, _⟩ := s.lst h1 H1 nq sj1 cq (fun L' b'' => by rw [b''.uq b]; exact b')
  rw [ek] at s1
  exact s1
theorem S_ne (s : xnS c T E α0 a e K γ) (s' : xnS c T' t γ a1 e1 K1 ε) : E ≠ t := by
  obtain ⟨_, _, _, _, _, _, _, lo, _⟩ := s
  obtain ⟨_, _, _, _, _, _, _, lo', _⟩ := s'
  omega
theorem S_T (s : xnS c T E α0 a e K γ) : zkd γ (E + 1) ≠ 45 ∧ E + 1 < zn γ := by
  obtain ⟨_, L, M, h, b, _⟩ := s
  exact ⟨by rw [b.kl]; decide, b.hi⟩
theorem w_occurs (s : xnS c T E α0 a e K γ) {v15 : Int32} : wx (if zis G γ (some c.p) 41 = true then (hX4_meets G (some c.p) 67 γ).bind fun p52 =>
            (znO p52.2 44 9).bind fun p53 =>
            if zis G p53.2 p53.1 45 = true then
            (hX43_init G p53.1 14 0 v15 p53.2).bind fun p54 =>
              if zis G p54.2 (some E) 45 = true then
              (hX43_add G (some E) p53.1 p54.2).bind fun p55 =>
                if zis G p55.2 (some c.p) 41 = true then
                zcase (hX4_operand G (some c.p) 0 p55.2) (fun p56 =>
                    if zis G p56.2 p55.1 45 = true then
                    (hX43_add G p55.1 p56.1 p56.2).bind fun p57 =>
                      if zis G p57.2 (some c.p) 41 = true then
                      (hX4_meets G (some c.p) 21 p57.2).bind fun p58 =>
                        if p58.1 = 0 then
                          hX4_part_105 G p58.2
                        else
                          if zis G p58.2 (some c.p) 41 = true then
                          zcase (hX4_operand G (some c.p) 0 p58.2) (fun p59 =>
                              if zis G p59.2 p55.1 45 = true then
                              (hX43_add G p55.1 p59.1 p59.2).bind fun p60 =>
                                hX4_part_105 G p60.2
                              else none) (fun p61 =>
                              if zthr p61.2 p61.1 3 = true then
                                some (.inr p61.1, p61.2)
                              else none)
                          else none
                      else none
                    else none) (fun p62 =>
                    if zthr p62.2 p62.1 3 = true then
                      some (.inr p62.1, p62.2)
                    else none)
                else none
              else none
            else none
          else none) (fun _ β => ∃ a' ev, (grK 13 15 ev ∨ grK 18 19 ev) ∧ xnS c T E α0 a' e (K ++ [ev]) β) := by
  refine wx_zb (wp_im (S_meets (w := 67) s (by decide)) fun r2 γ2 z => ?_)
  obtain ⟨a2, s2, _, _⟩ := z
  have h2 := s2.hp
  obtain ⟨T1, T2⟩ := S_T s2
  refine wx_nw (T := E + 1) h2 T1 T2 (by decide) fun β s' fr hn => ?_
  refine wx_zb (wp_im (S_kid s2 s' fr (show zn γ2 ≤ zn β from by have hn' : zn β = zn γ2 + 3 := hn; omega)) fun r' ε z => ?_)
  obtain ⟨rfl, s3, L, b, b3⟩ := z
  have ne := S_ne s2 s3
  have opd : ∀ {a ev}, grA c a ev → wK c a 1 = false → grJ c (fun j => j = 2 ∨ j = 3) ev := fun {a ev} g h => by
    obtain ⟨j, hj, e1, e3⟩ := g
    refine ⟨j, c.vs a, ?_, ⟨a, (wK_i e1).1, (wK_i e1).2, rfl⟩, e3⟩
    rcases hj with z | z | z
    · rw [z, h] at e1
      exact absurd e1 (by decide)
    · exact .inl z
    · exact .inr z
  refine wx_zc (wx_im (S_op s3) fun r δ z => wx_zb (wp_im z fun r' ζ y => ?_))
  obtain ⟨ev, g4, n4, s4, o4⟩ := y
  have b4 := o4.2 E _ _ b3 ne
  refine wx_zb (wp_im (S_meets (w := 21) s4 (by decide)) fun r5 γ5 z => ?_)
  obtain ⟨a5, s5, o5, _⟩ := z
  have b5 := o5.2 E _ _ b4 ne
  refine wx_if (fun _ => ?_) (fun _ => ?_)
  · unfold hX4_part_105 hX4_part_346
    refine wx_l ⟨_, _, .inl ?_, S_kidE s2 s5 (grS_i (k := 14) ⟨rfl, ev, [], rfl, opd g4 (n4 rfl), .inl rfl⟩ (by decide)) b b5⟩
    exact ⟨14, by decide, by decide, rfl⟩
  · refine wx_zc (wx_im (S_op s5) fun r δ z => wx_zb (wp_im z fun r' ζ y => ?_))
    obtain ⟨ev2, g6, n6, s6, o6⟩ := y
    have b6 := o6.2 E _ _ b5 ne
    unfold hX4_part_105 hX4_part_346
    refine wx_l ⟨_, _, .inl ?_, S_kidE s2 s6 (grS_i (k := 14) ⟨rfl, ev, [ev2], rfl, opd g4 (n4 rfl), .inr ⟨ev2, rfl, opd g6 (n6 rfl)⟩⟩ (by decide)) b b6⟩
    exact ⟨14, by decide, by decide, rfl⟩
theorem w_p203 (s : xnS c T E α0 a e K γ) (s' : xnS c (E + 1) t γ a1 (nI 15, v) K1 ε) (b : xnB γ E e L) (b' : xnB ε E e (L ++ [t])) (gv : grV c 2 v) (g1 : K1 = [] ∨ ∃ f, K1 = [f] ∧ grK 16 16 f) : wx (hX4_part_203 G (some c.p) (some t) ε) (fun _ β => ∃ a' ev, (grK 13 15 ev ∨ grK 18 19 ev) ∧ xnS c T E α0 a' e (K ++ [ev]) β) := by
  have ne := S_ne s s'
  unfold hX4_part_203
  refine wx_zb (wp_im (S_meets (w := 10) s' (by decide)) fun r2 γ2 z => ?_)
  obtain ⟨a2, s2, o2, _⟩ := z
  have b2 := o2.2 E _ _ b' ne
  refine wx_if (fun _ => ?_) (fun _ => ?_)
  · unfold hX4_part_226 hX4_part_346
    refine wx_l ⟨_, _, .inl ?_, S_kidE s s2 (grS_i (k := 15) ⟨gv, K1, [], by simp, g1, fun _ h => absurd h (by simp)⟩ (by decide)) b b2⟩
    exact ⟨15, by decide, by decide, rfl⟩
  · refine wx_zb (wp_im (S_meets (w := 25) s2 (by decide)) fun r3 γ3 z => ?_)
    obtain ⟨a3, s3, o3, _⟩ := z
    have b3 := o3.2 E _ _ b2 ne
    refine wx_zc (wx_im (w_names (k := 17) (.inl rfl) s3) fun _ γ4 z => ?_)
    obtain ⟨a4, K', s4, _, g4, o4⟩ := z
    have b4 := o4.2 E _ _ b3 ne
    unfold hX4_part_226 hX4_part_346
    refine wx_l ⟨_, _, .inl ?_, S_kidE s s4 (grS_i (k := 15) ⟨gv, K1, K', rfl, g1, fun f hf => ⟨17, by decide, by decide, (g4 f hf).1⟩⟩ (by decide)) b b4⟩
    exact ⟨15, by decide, by decide, rfl⟩
theorem w_p306 (s : xnS c T E α0 a e K γ) (ha : a < c.n) (h28 : c.vs a = 28 ∨ c.vs a = 29) {x2 x0 : Int32} : wx (hX4_part_306 G (some c.p) (some E) x2 x0 (some c.p) γ) (fun _ β => ∃ a' ev, (grK 13 15 ev ∨ grK 18 19 ev) ∧ xnS c T E α0 a' e (K ++ [ev]) β) := by
  have h := s.hp
  have a5 := h.a5
  unfold hX4_part_306
  refine wx_zc (w_must h fun _ => ?_)
  have h2 := h.mk0.1
  rw [znO_e, gl_bs]
  show wx (Option.bind (zfA (zmk γ 45 0 9) (some c.p) 40 1) _) _
  rw [kfA h2.kp, gl_bs, h2.x.fv, kfI h2.kp, gl_bs, h2.ax, kald h2.x.kv (by rw [h2.x.lv]; omega) (by rw [h2.x.lv]; decide), gl_bs, h2.x.rv a ha]
  refine wx_z ?_
  rw [show (28 : Int32) = nI 28 from rfl, pI_sub (by omega)]
  obtain ⟨β, y1, d, ek, _⟩ := w_leaf (G := G) (kv := nI 19) (v := nI (c.vs a - 28)) (v' := x2) h (by decide) (grS_i (k := 19) ⟨rfl, c.vs a - 28, by omega, rfl⟩ (by decide))
  show wx (Option.bind (hX43_init G (some (zn γ)) (nI 19) (nI (c.vs a - 28)) x2 (zmk γ 45 0 9)) _) _
  rw [y1, gl_bs]
  refine wx_zb (wp_im (s.res (G := G) d).2 fun r' ε y => ?_)
  obtain ⟨_, s5, _⟩ := y
  have h5 := s5.hp
  show wx (Option.bind (zfI ε (some c.p) 40 3) _) _
  rw [kfI h5.kp, gl_bs, h5.ax, kpI h5.kp, gl_bs, show nI a + 1 = nI (a + 1) from pI_succ a, show zwI ε 40 3 c.p (nI (a + 1)) = xaS c ε a from rfl]
  obtain ⟨s6, _⟩ := s5.adv ha
  unfold hX4_part_346
  refine wx_l ⟨_, _, .inr ?_, s6⟩
  rw [ek]
  exact ⟨19, by decide, by decide, rfl⟩
/-- a clause of an item -/
theorem w_part (s : xnS c T E α0 a e K γ) : wx (hX4_part G (some c.p) (some E) γ) (fun _ β => ∃ a' ev, (grK 13 15 ev ∨ grK 18 19 ev) ∧ xnS c T E α0 a' e (K ++ [ev]) β) := by
  unfold hX4_part
  refine wx_ob fun x15 _ => wx_z ?_
  rw [show (19 : Int32) = nI 19 from rfl, w_meets s.hp (by decide)]
  rcases e19 : wW c a 19 with _ | _
  · rw [if_neg (by decide), gl_bs, if_pos (show nI 0 = 0 from rfl)]
    refine wx_zb (wp_im (S_meets (w := 20) s (by decide)) fun r2 γ2 z => ?_)
    obtain ⟨a2, s2, _, _⟩ := z
    refine wx_if (fun _ => ?_) (fun _ => w_occurs s2)
    refine wx_zb (wp_im (S_meets (w := 22) s2 (by decide)) fun r3 γ3 z => ?_)
    obtain ⟨a3, s3, _, _⟩ := z
    refine wx_if (fun _ => ?_) (fun _ => ?_)
    · refine wx_zb (wp_im (S_meets (w := 26) s3 (by decide)) fun r4 γ4 z => ?_)
      obtain ⟨a4, s4, _, _⟩ := z
      refine wx_if (fun _ => ?_) (fun _ => ?_)
      · refine wx_zc (wx_im (S_need (w := 27) s4 (by decide)) fun _ γ5 z => ?_)
        obtain ⟨s5, _⟩ := z
        refine wx_zb (wp_im (S_meets (w := 67) s5 (by decide)) fun r6 γ6 z => ?_)
        obtain ⟨a6, s6, _, _⟩ := z
        have h6 := s6.hp
        have b5 := h6.a5
        show wx (Option.bind (zfI γ6 (some c.p) 40 3) _) _
        rw [kfI h6.kp, gl_bs, h6.ax]
        refine wx_z ?_
        rw [show (28 : Int32) = nI 28 from rfl, X_isW h6.o h6.x (by omega) (by decide), gl_bs]
        refine wx_if (fun e28 => ?_) (fun _ => ?_)
        · obtain ⟨i1, _, i3⟩ := wW_i (b2nT e28)
          unfold hX4_part_301
          exact w_p306 s6 i1 (.inl i3)
        · show wx (Option.bind (zfI γ6 (some c.p) 40 3) _) _
          rw [kfI h6.kp, gl_bs, h6.ax]
          refine wx_z ?_
          rw [show (29 : Int32) = nI 29 from rfl, X_isW h6.o h6.x (by omega) (by decide), gl_bs]
          refine wx_if (fun _ => ?_) (fun e29 => ?_)
          · unfold hX4_part_306
            exact wx_zc (w_must h6 fun z => absurd rfl z)
          · obtain ⟨i1, _, i3⟩ := wW_i (b2nT e29)
            unfold hX4_part_301
            exact w_p306 s6 i1 (.inr i3)
      · have h4 := s4.hp
        refine wx_nwt (k := 1) (T := c.p) h4 (by decide) (by rw [h4.kp]; decide) h4.pz (by unfold xaS; rw [zkd_zwI]) (by decide) fun e1 β s' _ _ y z hy => ?_
        obtain ⟨i1, i2⟩ := wK_i e1
        obtain ⟨s5, _⟩ := s4.adv i1
        obtain ⟨d, ek⟩ := s'.cl (grS_i (k := 18) ⟨rfl, c.vs a4, ⟨a4, i1, i2, rfl⟩, rfl⟩ (by decide))
        rw [hy]
        refine wx_zb (wp_im (s5.res (G := G) d).2 fun r' ε y => ?_)
        obtain ⟨_, s6, _⟩ := y
        unfold hX4_part_346
        refine wx_l ⟨_, _, .inr ?_, s6⟩
        rw [ek]
        exact ⟨18, by decide, by decide, rfl⟩
    · have h3 := s3.hp
      obtain ⟨T1, T2⟩ := S_T s3
      have nep : E + 1 ≠ c.p := fun y => by
        obtain ⟨_, L, M, h, b, _⟩ := s3
        have := b.kl
        rw [y, h3.kp] at this
        omega
      refine wx_nwt (k := 2) (T := E + 1) h3 (by decide) T1 T2 (by unfold xaS; rw [zkd_zwI]) (by decide) fun e2 β s' fr hn y z hy => ?_
      obtain ⟨i1, i2⟩ := wK_i e2
      have gv : grV c 2 (nI (c.vs a3)) := ⟨c.vs a3, ⟨a3, i1, i2, rfl⟩, rfl⟩
      obtain ⟨s4, _⟩ := s3.adv i1
      rw [hy]
      refine wx_zb (wp_im (S_kid s4 s' (fun x hx => fr x hx) (show zn γ3 ≤ zn β from by have hn' : zn β = zn γ3 + 3 := hn; omega)) fun r' ε z => ?_)
      obtain ⟨rfl, s5, L, b, b5⟩ := z
      have ne := S_ne s4 s5
      refine wx_zb (wp_im (S_meets (w := 23) s5 (by decide)) fun r6 γ6 z => ?_)
      obtain ⟨a6, s6, o6, _⟩ := z
      have b6 := o6.2 E _ _ b5 ne
      refine wx_zb (wp_im (S_meets (w := 24) s6 (by decide)) fun r7 γ7 z => ?_)
      obtain ⟨a7, s7, o7, _⟩ := z
      have b7 := o7.2 E _ _ b6 ne
      refine wx_if (fun _ => w_p203 s4 s7 b b7 gv (.inl rfl)) (fun _ => ?_)
      have h7 := s7.hp
      have b5' := h7.a5
      show wx (Option.bind (zfI γ7 (some c.p) 40 3) _) _
      rw [kfI h7.kp, gl_bs, h7.ax]
      refine wx_z ?_
      rw [nl1, X_isK h7.o h7.x (by omega) (by decide), gl_bs]
      refine wx_zc (w_must h7 fun e1 => ?_)
      obtain ⟨j1, j2⟩ := wK_i (b2nT e1)
      have h8 := h7.mk0.1
      have rv := h8.x.rv a7 j1
      rw [znO_e, gl_bs]
      show wx (Option.bind (zfA (zmk γ7 45 0 9) (some c.p) 40 1) _) _
      rw [kfA h8.kp, gl_bs, h8.x.fv, kfI h8.kp, gl_bs, h8.ax, kald h8.x.kv (by rw [h8.x.lv]; omega) (by rw [h8.x.lv]; decide), gl_bs, rv, gl_bs]
      refine wx_z ?_
      obtain ⟨β', y1, d, ek, _⟩ := w_leaf (G := G) (kv := nI 16) (v := nI (c.vs a7)) (v' := nI a7) h7 (by decide) (grS_i (k := 16) ⟨rfl, c.vs a7, ⟨a7, j1, j2, rfl⟩, rfl⟩ (by decide))
      show wx (Option.bind (hX43_init G (some (zn γ7)) (nI 16) (nI (c.vs a7)) (nI a7) (zmk γ7 45 0 9)) _) _
      rw [y1, gl_bs]
      refine wx_zb (wp_im (s7.res (G := G) d).2 fun r' ε' y => ?_)
      obtain ⟨_, s8, o8⟩ := y
      have b8 := o8.ob.2 E _ _ b7 ne
      have h9 := s8.hp
      show wx (Option.bind (zfI ε' (some c.p) 40 3) _) _
      rw [kfI h9.kp, gl_bs, h9.ax, kpI h9.kp, gl_bs, show nI a7 + nI 1 = nI (a7 + 1) from pI_succ a7, show zwI ε' 40 3 c.p (nI (a7 + 1)) = xaS c ε' a7 from rfl]
      obtain ⟨s9, o9⟩ := s8.adv j1
      have b9 := o9.ob.2 E _ _ b8 ne
      exact w_p203 s4 s9 b b9 gv (.inr ⟨_, rfl, 16, by decide, by decide, by rw [ek]⟩)
  · rw [if_pos rfl, gl_bs, if_neg (show ¬ nI 1 = 0 from by decide)]
    obtain ⟨i19, _⟩ := wW_i e19
    obtain ⟨s1, _⟩ := s.adv i19
    have F : ∀ {a3 γ3}, xnS c T E α0 a3 e K γ3 → ((1 ≤ a3 ∧ wW c (a3 - 1) 19 = true) ∨ (2 ≤ a3 ∧ wW c (a3 - 1) 67 = true ∧ wW c (a3 - 2) 19 = true)) → wx ((znO γ3 44 9).bind fun p64 => if zis G p64.2 (some c.p) 41 = true then zcase (hX4_take G (some c.p) 3 p64.2) (fun p65 => if zis G p65.2 p64.1 45 = true then (hX43_init G p64.1 13 p65.1 x15 p65.2).bind fun p66 => if zis G p66.2 (some E) 45 = true then (hX43_add G (some E) p64.1 p66.2).bind fun p67 => hX4_part_346 G p67.2 else none else none) (fun p => if zthr p.2 p.1 3 = true then some (.inr p.1, p.2) else none) else none) (fun _ β => ∃ a' ev, (grK 13 15 ev ∨ grK 18 19 ev) ∧ xnS c T E α0 a' e (K ++ [ev]) β) := fun {a3 γ3} s3 hp => by
      have h3 := s3.hp
      refine wx_nwt (k := 3) (T := c.p) h3 (by decide) (by rw [h3.kp]; decide) h3.pz (by unfold xaS; rw [zkd_zwI]) (by decide) fun e1 β s' _ _ y z hy => ?_
      obtain ⟨i1, i2⟩ := wK_i e1
      obtain ⟨s5, _⟩ := s3.adv i1
      obtain ⟨d, ek⟩ := s'.cl (grS_i (k := 13) ⟨rfl, c.vs a3, ⟨a3, i1, i2, rfl, hp⟩, rfl⟩ (by decide))
      rw [hy]
      refine wx_zb (wp_im (s5.res (G := G) d).2 fun r' ε y => ?_)
      obtain ⟨_, s6, _⟩ := y
      unfold hX4_part_346
      refine wx_l ⟨_, _, .inl ?_, s6⟩
      rw [ek]
      exact ⟨13, by decide, by decide, rfl⟩
    refine wx_z ?_
    show wx (Option.bind (hX4_meets G (some c.p) (nI 67) (xaS c γ a)) _) _
    rw [w_meets s1.hp (by decide)]
    rcases e67 : wW c (a + 1) 67 with _ | _
    · rw [if_neg (by decide), gl_bs]
      exact F s1 (.inl ⟨by omega, by rw [Nat.add_sub_cancel]; exact e19⟩)
    · rw [if_pos rfl, gl_bs]
      obtain ⟨s2, _⟩ := s1.adv (wW_i e67).1
      exact F s2 (.inr ⟨by omega, by rw [Nat.add_sub_cancel]; exact e67, by rw [show a + 1 + 1 - 2 = a from by omega]; exact e19⟩)
end PAZZZZN
