/-! THE PURE LAYER: the parser: X's side alone: a factor. -/
section PAZZZS
variable {ρ σ : Type} {c : pC} {G : xQ} {α β γ α0 : zS} {a a' b k w q r t u n x T T' E f : Nat} {v v' kv nm pr : Int32} {e : Int32 × Int32} {L : List Nat} {M M' N S S' : Nat → Prop} {l m : List (Int32 × Int32)} {P : Int32 × Int32 → Prop} {p : Option Nat}
/-- what lies below nodes that have their shape -/
theorem xnF.cls (H : xnF c T E M α β) (ht : M t) (hE : t ≠ E) : (∀ r, some r ∈ zL β (t + 1) → M r ∧ r ≠ E) ∧ zkd β (t + 1) = 3 := by
  obtain ⟨e, L, b1, b2, b3⟩ := H.ok t ht hE
  refine ⟨fun r hr => ?_, b1.kl⟩
  rw [b1.ls] at hr
  obtain ⟨s, s1, s2⟩ := List.mem_map.mp hr
  rw [← Option.some.inj s2]
  exact b2 s s1
theorem xIn.pw (H : xnF c T c.p M α β) (kp : zkd β c.p = 41) (fr : ∀ x, x ≠ c.p → γ.2 x = β.2 x) (hq : M q) (h : xIn β q u) : xIn γ q u := by
  refine xIn.st (M := M) (fun t ht => ?_) hq h
  have tp : t ≠ c.p := fun z => by have := (H.nw t ht).2.2; rw [z, kp] at this; omega
  obtain ⟨c1, c2⟩ := H.cls ht tp
  exact ⟨fun r hr => (c1 r hr).1, zL_eq (fr _ (fun z => by rw [z, kp] at c2; omega))⟩
theorem sjP_no (h : zA β 40 15 c.p = none) : sjP c S β := fun u hu => by
  rw [h] at hu
  exact absurd hu (by simp)
theorem sjM_no : sjM c S (fun _ => False) β := fun _ z => z.elim
theorem w_factor78 {F1 : (Option Nat) → zS → zF ((Option Nat) ⊕ Nat)} {F2 : (Option Nat) → Int32 → zS → zF ((Option Nat) ⊕ Nat)} (hR : ∀ a α S o, (o = 0 ∨ o = 1) → xp c a α → sjP c S α → (∀ u, S u → u < zn α) → wx (F2 (some c.p) (nI o) α) (rC c α S)) (h : xp c a α) (sP : sjP c S α) (hS : ∀ u, S u → u < zn α) : wx (hX4_factor_78 G F1 F2 (some c.p) α) (rC c α S) := by
  have kp := h.kp
  have pz := h.pz
  have a5 := h.a5
  unfold hX4_factor_78
  rw [kfI kp, gl_bs, if_pos h.z41, h.ax, nl0, X_isS h.o h.x (by omega) (by decide), gl_bs]
  rcases e0 : wS c a 0 with _ | _
  · rw [if_neg (show ¬ ¬ nI (b2n false) = nI 0 from fun z => z rfl), if_pos h.z41]
    exact wx_c (wx_im (w_relation h sP hS) fun r β R => wx_l R)
  · rw [if_pos (show ¬ nI (b2n true) = nI 0 from by decide), if_pos h.z41]
    refine wx_c (w_deep h fun v => ?_)
    have h1 : xp c a (zwI α 40 4 c.p v) := h.wI (by decide) (by decide)
    have h2 := h1.adv (wS_i e0).1
    show wx (Option.bind (zfI (zwI α 40 4 c.p v) (some c.p) 40 3) _) _
    rw [kfI h1.kp, gl_bs, h1.ax, kpI h1.kp, gl_bs, pI_succ, show zwI (zwI α 40 4 c.p v) 40 3 c.p (nI (a + 1)) = xaS c (zwI α 40 4 c.p v) a from rfl, kpA h2.kp, gl_bs]
    have h3 : xp c (a + 1) (zwA (xaS c (zwI α 40 4 c.p v) a) 40 15 c.p none) := h2.wA (by decide) (by decide) (by decide)
    have fr3 : ∀ x, x ≠ c.p → (zwA (xaS c (zwI α 40 4 c.p v) a) 40 15 c.p none).2 x = α.2 x := fun x hx => (zwA_ne hx).trans ((zwI_ne hx).trans (zwI_ne hx))
    have H0 : xnF c c.p c.p (fun _ => False) α (zwA (xaS c (zwI α 40 4 c.p v) a) 40 15 c.p none) := xnF.rf.pw fr3 rfl kp h3.kp
    rw [if_pos h3.z41]
    refine wx_c (wx_im (hR _ _ (fun u => S u ∨ False) 1 (.inr rfl) h3 (sjP_no (by rw [zA_zwA, if_pos ⟨rfl, rfl, rfl⟩])) (fun u hu => hu.elim (hS u) False.elim)) fun r β R => ?_)
    obtain ⟨a', q, N, rfl, z1, z2, z3, z4, z5, z6, z7, z8, z9, z10, z11, z12⟩ := rC.use (M := fun _ => False) R H0 h3 (by rw [kp]; decide) pz (.inl rfl) pz sjM_no
    rw [if_pos z1.z41]
    refine wx_c (w_close z1 fun v' ec => ?_)
    have h4 := z1.adv (wS_i ec).1
    have h5 : xp c (a' + 1) (zwI (xaS c β a') 40 4 c.p v') := h4.wI (by decide) (by decide)
    show wx (Option.bind (zpA (zwI (xaS c β a') 40 4 c.p v') (some c.p) 40 15 none) _) _
    rw [kpA h5.kp, gl_bs]
    have h6 : xp c (a' + 1) (zwA (zwI (xaS c β a') 40 4 c.p v') 40 15 c.p none) := h5.wA (by decide) (by decide) (by decide)
    have fr6 : ∀ x, x ≠ c.p → (zwA (zwI (xaS c β a') 40 4 c.p v') 40 15 c.p none).2 x = β.2 x := fun x hx => (zwA_ne hx).trans ((zwI_ne hx).trans (zwI_ne hx))
    have q6 : qN β (zwA (zwI (xaS c β a') 40 4 c.p v') 40 15 c.p none) := qN_pw fr6 rfl z1.kp
    refine wx_l ⟨a' + 1, q, _, rfl, h6, z2.pw fr6 rfl z1.kp h6.kp, .inr z3, by rw [q6.ke z9 z11]; exact z4, fun u hu => ?_, z6.st q6 (fun t ht => ⟨(z2.nw t ht).2.2, by have := (z2.nw t ht).2.1; omega⟩), sjP_no (by rw [zA_zwA, if_pos ⟨rfl, rfl, rfl⟩])⟩
    rcases hu with y | y
    · exact y.elim
    · exact xIn.pw z12 z1.kp fr6 z3 (z5 u y)
theorem w_factor (hF : iFa c G f) (hR : iRo c G f) : iFa c G (f + 1) := by
  intro a α S h sP hS
  have kp := h.kp
  have pz := h.pz
  have a5 := h.a5
  have r78 := w_factor78 (G := G) (F1 := (rrX4_factor G f).1) (F2 := (rrX4_factor G f).2) hR h sP hS
  show wx (hX4_factor_r G _ _ _ α) _
  unfold hX4_factor_r
  rw [kfI kp, gl_bs, gl_bs, if_pos h.z41, h.ax, show (64 : Int32) = nI 64 from rfl, X_isW h.o h.x (by omega) (by decide), gl_bs]
  rcases e0 : wW c a 64 with _ | _
  · rw [if_pos (show nI (b2n false) = 0 from rfl)]
    exact r78
  · rw [if_neg (show ¬ nI (b2n true) = 0 from by decide)]
    show wx (Option.bind (zfI α (some c.p) 40 3) _) _
    rw [kfI kp, gl_bs, if_pos h.z41, h.ax, pI_succ, X_isR h.o h.x (by omega), gl_bs]
    rcases e1 : wR c (a + 1) with _ | _
    · rw [if_neg (show ¬ ¬ nI (b2n false) = 0 from fun z => z rfl), if_pos h.z41]
      refine wx_c (w_deep h fun v => ?_)
      have h1 : xp c a (zwI α 40 4 c.p v) := h.wI (by decide) (by decide)
      have h2 := h1.adv (wW_i e0).1
      show wx (Option.bind (zfI (zwI α 40 4 c.p v) (some c.p) 40 3) _) _
      rw [kfI h1.kp, gl_bs, h1.ax, kpI h1.kp, gl_bs, pI_succ, show zwI (zwI α 40 4 c.p v) 40 3 c.p (nI (a + 1)) = xaS c (zwI α 40 4 c.p v) a from rfl]
      have fr2 : ∀ x, x ≠ c.p → (xaS c (zwI α 40 4 c.p v) a).2 x = α.2 x := fun x hx => (zwI_ne hx).trans (zwI_ne hx)
      have e15 : zA (xaS c (zwI α 40 4 c.p v) a) 40 15 c.p = zA α 40 15 c.p := by
        unfold xaS
        rw [zA_zwI, zA_zwI]
      have e16 : zI (xaS c (zwI α 40 4 c.p v) a) 40 16 c.p = zI α 40 16 c.p := by
        unfold xaS
        rw [zI_zwI, if_neg (fun z => absurd z.2.1 (by decide)), zI_zwI, if_neg (fun z => absurd z.2.1 (by decide))]
      have sP2 := sP.st (qN_pw fr2 rfl kp) e15 e16
      have H0 : xnF c c.p c.p (fun _ => False) α (xaS c (zwI α 40 4 c.p v) a) := xnF.rf.pw fr2 rfl kp h2.kp
      have z0 : zn (xaS c (zwI α 40 4 c.p v) a) = zn α := rfl
      obtain ⟨δ, hδ⟩ : ∃ δ, δ = xaS c (zwI α 40 4 c.p v) a := ⟨_, rfl⟩
      rw [← hδ] at h2 fr2 sP2 H0 z0 e15 e16 ⊢
      obtain ⟨β, y1, y2, b0, H1, y4, y5⟩ := H0.push (G := G) (kv := nI 52) (v := nI 0) (v' := nI a) h2 (by rw [kp]; decide) pz
      have n45 : zkd (zmk δ 45 0 9) (zn δ) = 45 := by rw [zkd_zmk, if_pos rfl]
      rw [znO_e, gl_bs]
      show wx (if zis G (zmk δ 45 0 9) (some (zn δ)) 45 = true then _ else _) _
      rw [if_pos (of_eq_true (kis n45 (by decide)))]
      show wx (Option.bind (hX43_init G (some (zn δ)) (nI 52) (nI 0) (nI a) (zmk δ 45 0 9)) _) _
      rw [y1, gl_bs, if_pos y2.z41]
      have zb : zn β = zn α + 3 := by rw [y5, z0]
      have q1 : qN δ β := qN_lt (by omega) y4
      have ep : β.2 c.p = δ.2 c.p := y4 _ h2.pz
      have sP3 : sjP c (fun u => S u ∨ (False ∨ u = zn δ)) β := (sP2.st q1 (by rw [zA_eq ep]) (by rw [zI_eq ep])).up fun t ht => .inl ht
      refine wx_c (wx_im (hF _ _ (fun u => S u ∨ (False ∨ u = zn δ)) y2 sP3 (fun u hu => ?_)) fun r β' R => ?_)
      · show u < zn β
        rcases hu with z | z | z
        · have := hS u z
          omega
        · exact z.elim
        · omega
      · have R' : rC c β (fun u => S u ∨ (False ∨ u = zn δ)) r β' := R
        obtain ⟨a', q, N, rfl, z1, z2, z3, z4, z5, z6, z7, z8, z9, z10, z11, z12⟩ := rC.use (M := fun u => False ∨ u = zn δ) R' H1 y2 (by rw [kp]; decide) pz (.inr ⟨by omega, by omega⟩) pz (fun t ht h53 => by
          rcases ht with z | z
          · exact z.elim
          · have e1 : zI β 44 0 (zn δ) = nI 52 := congrArg Prod.fst b0.e
            rw [z, e1, pI_inj (by decide) (by decide)] at h53
            omega)
        obtain ⟨b1, _⟩ := b0.fr z12 y2.kp (by rw [y2.kp]; decide) (fun z => by have := b0.kl; rw [z, y2.kp] at this; omega)
        rw [if_pos (of_eq_true (kis b1.kn (by decide)))]
        refine wx_b (wp_im (w_add b1 z9) fun r ε z => ?_)
        obtain ⟨_, x1⟩ := z
        obtain ⟨b2, _⟩ := b1.add x1 z9 z11
        have H2 := z2.add x1 b1.kl pz (.inl ⟨rfl, by omega⟩) (.inr z3)
        have h4 := z1.at' x1 b1.kl z9
        have q2 : qN β' ε := x1.qn b1.kl
        show wx (Option.bind (zfI ε (some c.p) 40 4) _) _
        rw [kfI h4.kp, gl_bs, kpI h4.kp, gl_bs]
        have h5 : xp c a' (zwI ε 40 4 c.p (zI ε 40 4 c.p - 1)) := h4.wI (by decide) (by decide)
        have fr5 : ∀ x, x ≠ c.p → (zwI ε 40 4 c.p (zI ε 40 4 c.p - 1)).2 x = ε.2 x := fun x hx => zwI_ne hx
        have q3 : qN ε (zwI ε 40 4 c.p (zI ε 40 4 c.p - 1)) := qN_pw fr5 rfl h4.kp
        obtain ⟨b3, m3⟩ := b2.pw fr5 rfl h4.kp
        have q4 := q2.tr q3
        have gq : grK 50 54 (xkv (zwI ε 40 4 c.p (zI ε 40 4 c.p - 1)) q) := by rw [q4.ke z9 z11]; exact z4
        have kM : ∀ t, ((False ∨ t = zn δ) ∨ N t) → zkd β' t = 45 ∧ t < zn β' := fun t ht => by
          have := z2.nw t ht
          exact ⟨this.2.2, by omega⟩
        have ep2 : ε.2 c.p = β'.2 c.p := x1.fr c.p (fun z => by have := b1.kl; rw [← z, z1.kp] at this; omega) (fun z => by have := z9; rw [← z, z1.kp] at this; omega)
        refine wx_l ⟨a', zn δ, _, rfl, h5, (H2.pw fr5 rfl h4.kp h5.kp).cl h5.kp ⟨_, _, b3, fun r hr => ?_, grS_i (k := 52) ⟨rfl, _, rfl, gq⟩ (by decide)⟩, .inl (.inr rfl), ⟨52, by decide, by decide, by rw [b3.e]⟩, fun u hu => ?_, z6.st q4 kM, ?_⟩
        · rw [List.nil_append, List.mem_singleton] at hr
          rw [hr]; exact .inr z3
        · rcases hu with (y | y) | y
          · exact y.elim
          · rw [y]; exact xIn.rf
          · refine xIn.dn (r := q) (by rw [b3.ls]; simp) (xIn.st (M := N) (fun t ht => ?_) z3 (z5 u y))
            have tp : t ≠ c.p := fun z => by have := (z12.nw t ht).2.2; rw [z, z1.kp] at this; omega
            obtain ⟨c1, c2⟩ := z12.cls ht tp
            have tlo := (z12.nw t ht).1
            refine ⟨fun r hr => (c1 r hr).1, ?_⟩
            rw [zL_eq (fr5 _ (fun z => by rw [z, z1.kp] at c2; omega)), x1.L _ (by omega)]
        · refine (z7.st q4 ?_ ?_).up fun t ht => ht
          · rw [zA_zwI, zA_eq ep2]
          · rw [zI_zwI, if_neg (fun z => absurd z.2.1 (by decide)), zI_eq ep2]
    · rw [if_pos (show ¬ nI (b2n true) = 0 from by decide)]
      exact r78
end PAZZZS
