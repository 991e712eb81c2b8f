/-! THE PURE LAYER: the parser: X's side alone: SELECT. -/
section PAZZZZG
variable {ρ σ τ : Type} {c : pC} {G : xQ} {α β γ γ' δ ε α0 : zS} {a a' b k w q r t u n x x' T T' E f i j o lu lr lo hi : Nat} {v v' kv nm pr : Int32} {e e' : Int32 × Int32} {L L' op l : List Nat} {M M' N S S' U U' : Nat → Prop} {m K K' : List (Int32 × Int32)} {P : Int32 × Int32 → Prop} {p z : Option Nat}
/-- a node's cell comes, a word is taken, then it is made -/
theorem wx_nwt {F : Option Nat × zS → Int32 × zS → Unit × zS → zF (ρ ⊕ Nat)} {Q : ρ → zS → Prop} (h : xp c a γ) (hk : k < 6) (hT : zkd γ T ≠ 45) (hz : T < zn γ) (hTp : zkd (xaS c γ a) T = zkd γ T) (k53 : nkC kv) (H : wK c a k = true → ∀ β, xnS c T (zn γ) (xaS c γ a) (a + 1) (kv, nI (c.vs a)) [] β → (∀ x, x < zn γ → β.2 x = (xaS c γ a).2 x) → zn β = zn γ + 3 → ∀ y z, y.1 = some (zn γ) → wx (F y z ((), β)) Q) : wx ((znO γ 44 9).bind fun p => if zis G p.2 (some c.p) 41 = true then zcase (hX4_take G (some c.p) (nI k) p.2) (fun p2 => if zis G p2.2 p.1 45 = true then (hX43_init G p.1 kv p2.1 v' p2.2).bind (F p p2) else none) (fun p => if zthr p.2 p.1 3 = true then some (.inr p.1, p.2) else none) else none) Q := by
  rw [znO_e, gl_bs]
  refine wx_zc (w_take h.mk0.1 hk fun e => wx_z ?_)
  rw [zmk_xaS h.pz]
  have h1 := h.adv (wK_i e).1
  obtain ⟨β, y1, s, y4, y5⟩ := xnS_new (G := G) (T := T) (kv := kv) (v := nI (c.vs a)) (v' := v') h1 (by rw [hTp]; exact hT) hz k53
  show wx (Option.bind (hX43_init G (some (zn γ)) kv (nI (c.vs a)) v' (zmk (xaS c γ a) 45 0 9)) _) _
  rw [show zn (xaS c γ a) = zn γ from rfl] at y1 s y4 y5
  rw [y1, gl_bs]
  exact H e β s y4 y5 _ _ rfl
theorem w_sel221 (s : xnS c c.p E α0 a (nI 4, v) (e' :: K) γ) (gv : grV c 1 v) (g1 : grJ c (fun j => j = 1 ∨ j = 3) e') (g2 : ∀ f, f ∈ K → grK 5 6 f) : wx (hX4_select_221 G (some c.p) (some E) γ) (rD c α0 (grK 4 4)) := by
  unfold hX4_select_221
  refine wx_zc (w_period s.hp fun e => wx_l ?_)
  obtain ⟨s1, _⟩ := s.adv (wK_i e).1
  obtain ⟨d, ek⟩ := s1.cl (grS_i (k := 4) ⟨gv, e', K, rfl, g1, g2⟩ (by decide))
  exact ⟨_, E, rfl, d, 4, by decide, by decide, by rw [ek]⟩
theorem w_sel180 (s : xnS c c.p E α0 a (nI 4, v) (e' :: K) γ) (gv : grV c 1 v) (g1 : grJ c (fun j => j = 1 ∨ j = 3) e') (g2 : ∀ f, f ∈ K → grK 5 6 f) : wx (hX4_select_180 G (some c.p) (some E) γ) (rD c α0 (grK 4 4)) := by
  unfold hX4_select_180
  refine wx_ob fun x3 _ => wx_zb (wp_im (S_meets (w := 11) s (by decide)) fun r2 γ2 z => ?_)
  obtain ⟨a2, s2, _, _⟩ := z
  refine wx_if (fun _ => w_sel221 s2 gv g1 g2) (fun _ => ?_)
  refine wx_zb (wp_im (S_meets (w := 67) s2 (by decide)) fun r3 γ3 z => ?_)
  obtain ⟨a3, s3, _, _⟩ := z
  have h3 := s3.hp
  refine wx_nwt (k := 1) (T := c.p) h3 (by decide) (by rw [h3.kp]; decide) h3.pz (by unfold xaS; rw [zkd_zwI]) (by decide) fun e1 β s' _ _ y z hy => ?_
  obtain ⟨i1, i2⟩ := wK_i e1
  obtain ⟨s4, _⟩ := s3.adv i1
  obtain ⟨d, ek⟩ := s'.cl (grS_i (k := 6) ⟨rfl, c.vs a3, ⟨a3, i1, i2, rfl⟩, rfl⟩ (by decide))
  rw [hy]
  refine wx_zb (wp_im (s4.add ⟨_, _, rfl, d, (rfl : xkv β (zn γ3) = xkv β (zn γ3))⟩).2 fun r' ε y => ?_)
  obtain ⟨_, a5, ev, e5, s5, _⟩ := y
  refine w_sel221 s5 gv g1 fun f hf => ?_
  rcases List.mem_append.mp hf with w | w
  · exact g2 f w
  · rw [List.mem_singleton.mp w, ← e5]
    exact ⟨6, by decide, by decide, by rw [ek]; rfl⟩
theorem w_sel141 (s : xnS c c.p E α0 a (nI 4, v) [e'] γ) (gv : grV c 1 v) (g1 : grJ c (fun j => j = 1 ∨ j = 3) e') (ha : a < c.n) (h8 : 8 ≤ c.vs a) (h10 : c.vs a ≤ 10) {x3 x0 : Int32} : wx (hX4_select_141 G (some c.p) (some E) x3 x0 (some c.p) γ) (rD c α0 (grK 4 4)) := by
  have h := s.hp
  have a5 := h.a5
  unfold hX4_select_141
  refine wx_zc (w_must h fun _ => ?_)
  have h2 := h.mk0.1
  have n45 : zkd (zmk γ 45 0 9) (zn γ) = 45 := by rw [zkd_zmk, if_pos rfl]
  rw [znO_e, gl_bs]
  show wx (Option.bind (zfA (zmk γ 45 0 9) (some c.p) 40 1) _) _
  rw [kfA h2.kp, gl_bs, h2.x.fv, kfI h2.kp, gl_bs, h2.ax, kald h2.x.kv (by rw [h2.x.lv]; omega) (by rw [h2.x.lv]; decide), gl_bs, h2.x.rv a ha]
  refine wx_z ?_
  rw [show (8 : Int32) = nI 8 from rfl, pI_sub h8]
  obtain ⟨β, y1, d, ek, _⟩ := w_leaf (G := G) (kv := nI 5) (v := nI (c.vs a - 8)) (v' := x3) h (by decide) (grS_i (k := 5) ⟨rfl, c.vs a - 8, by omega, rfl⟩ (by decide))
  show wx (Option.bind (hX43_init G (some (zn γ)) (nI 5) (nI (c.vs a - 8)) x3 (zmk γ 45 0 9)) _) _
  rw [y1, gl_bs]
  refine wx_zb (wp_im (s.res (G := G) d).2 fun r' ε y => ?_)
  obtain ⟨_, s5, _⟩ := y
  have h5 := s5.hp
  show wx (Option.bind (zfI ε (some c.p) 40 3) _) _
  rw [kfI h5.kp, gl_bs, h5.ax, kpI h5.kp, gl_bs, show nI a + 1 = nI (a + 1) from pI_succ a, show zwI ε 40 3 c.p (nI (a + 1)) = xaS c ε a from rfl]
  obtain ⟨s6, _⟩ := s5.adv ha
  refine w_sel180 s6 gv g1 fun f hf => ?_
  rw [List.mem_singleton.mp hf, ek]
  exact ⟨5, by decide, by decide, rfl⟩
theorem w_sel61 (s : xnS c c.p E α0 a (nI 4, v) [] γ) (gv : grV c 1 v) (e2 : wK c a 2 = false) {x0 : Int32} : wx (hX4_select_61 G (some c.p) (some E) x0 (some c.p) γ) (rD c α0 (grK 4 4)) := by
  have h := s.hp
  unfold hX4_select_61
  refine wx_zc (w_must h fun _ => ?_)
  refine wx_zc (wx_im (S_op s) fun r δ z => wx_zb (wp_im z fun r' γ1 y => ?_))
  obtain ⟨ev, g1, _, s1, o1⟩ := y
  have g1 : grJ c (fun j => j = 1 ∨ j = 3) ev := by
    obtain ⟨j, hj, e1, e3⟩ := g1
    refine ⟨j, c.vs a, ?_, ⟨a, (wK_i e1).1, (wK_i e1).2, rfl⟩, e3⟩
    rcases hj with z | z | z
    · exact .inl z
    · rw [z, e2] at e1
      exact absurd e1 (by decide)
    · exact .inr z
  have nf : ∀ f, f ∈ ([] : List (Int32 × Int32)) → grK 5 6 f := fun f hf => absurd hf (by simp)
  show wx (Option.bind (zfI γ1 (some c.p) 40 3) _) _
  refine wx_ob fun x24 _ => wx_zb (wp_im (S_meets (w := 7) s1 (by decide)) fun r2 γ2 z => ?_)
  obtain ⟨a2, s2, _, _⟩ := z
  refine wx_if (fun _ => w_sel180 s2 gv g1 nf) (fun _ => ?_)
  refine wx_zb (wp_im (S_meets (w := 67) s2 (by decide)) fun r3 γ3 z => ?_)
  obtain ⟨a3, s3, _, _⟩ := z
  have h3 := s3.hp
  have b5 := h3.a5
  have no : ∀ {x3 : Int32}, wx (hX4_select_140 G (some c.p) (some E) x3 (some c.p) γ3) (rD c α0 (grK 4 4)) := fun {x3} => by
    unfold hX4_select_140 hX4_select_141
    exact wx_zc (w_must h3 fun z => absurd rfl z)
  show wx (Option.bind (zfI γ3 (some c.p) 40 3) _) _
  rw [kfI h3.kp, gl_bs, h3.ax]
  refine wx_z ?_
  rw [nl0, X_isK h3.o h3.x (by omega) (by decide), gl_bs]
  refine wx_if (fun _ => no) (fun e0 => ?_)
  obtain ⟨i1, i2⟩ := wK_i (b2nT e0)
  have rv := h3.x.rv a3 i1
  have vb := h3.o.vs a3 i1
  have kl : ziald γ3 (some c.va) (nI a3) = some (nI (c.vs a3)) := by
    rw [kald h3.x.kv (by rw [h3.x.lv]; omega) (by rw [h3.x.lv]; decide), rv]
  show wx (Option.bind (zfA γ3 (some c.p) 40 1) _) _
  rw [kfA h3.kp, gl_bs, h3.x.fv, kfI h3.kp, gl_bs, h3.ax, kl, gl_bs]
  refine wx_if (fun _ => no) (fun l8 => ?_)
  rw [gl_bs, gl_bs, show ziald (nI (b2n (wK c a3 0)), γ3).2 (some c.va) (nI a3) = some (nI (c.vs a3)) from kl, gl_bs]
  refine wx_if (fun _ => no) (fun l10 => ?_)
  rw [show (8 : Int32) = nI 8 from rfl, pI_lt (by omega) (by decide)] at l8
  rw [show (10 : Int32) = nI 10 from rfl, pI_lt (by decide) (by omega)] at l10
  exact w_sel141 s3 gv g1 i1 (by omega) (by omega)
/-- SELECT -/
theorem w_select (h : xp c a α) (ha : a < c.n) : wx (hX4_select G (some c.p) α) (rD c α (grK 4 4)) := by
  unfold hX4_select
  have h1 := h.adv ha
  have q1 : xqN c α (xaS c α a) := ⟨fun x hx => zwI_ne hx, rfl⟩
  rw [kfI h.kp, gl_bs, gl_bs, h.ax, kpI h.kp, gl_bs, show nI a + 1 = nI (a + 1) from pI_succ a, show zwI α 40 3 c.p (nI (a + 1)) = xaS c α a from rfl]
  refine wx_nwt (k := 1) (T := c.p) h1 (by decide) (by rw [h1.kp]; decide) h1.pz (by unfold xaS; rw [zkd_zwI]) (by decide) fun e1 β s _ _ y z hy => ?_
  obtain ⟨i1, i2⟩ := wK_i e1
  have gv : grV c 1 (nI (c.vs (a + 1))) := ⟨c.vs (a + 1), ⟨a + 1, i1, i2, rfl⟩, rfl⟩
  rw [hy]
  refine wx_zc (wx_im (S_need (w := 6) s (by decide)) fun _ γ2 z => ?_)
  obtain ⟨s2, _⟩ := z
  refine wx_zb (wp_im (S_meets (w := 48) s2 (by decide)) fun r3 γ3 z => ?_)
  obtain ⟨a3, s3, _, _⟩ := z
  have h3 := s3.hp
  have b5 := h3.a5
  show wx (Option.bind (zfI γ3 (some c.p) 40 3) _) _
  rw [kfI h3.kp, gl_bs, h3.ax]
  refine wx_z ?_
  rw [show (2 : Int32) = nI 2 from rfl, X_isK h3.o h3.x (by omega) (by decide), gl_bs]
  have q3 : ∀ {r δ}, rD c (xaS c (xaS c α a) (a + 1)) (grK 4 4) r δ → rD c α (grK 4 4) r δ := fun {r δ} R => R.pre (fun x hx => (zwI_ne hx).trans (zwI_ne hx)) rfl (by unfold xaS; rw [zkd_zwI, zkd_zwI])
  refine wx_if (fun _ => ?_) (fun e2 => ?_)
  · unfold hX4_select_61
    exact wx_zc (w_must h3 fun z => absurd rfl z)
  · refine wx_im (w_sel61 s3 gv ?_) fun r δ R => q3 R
    rcases e : wK c a3 2 with _ | _
    · rfl
    · exact absurd (show nI (b2n true) = 0 from Decidable.of_not_not (by rw [e] at e2; exact e2)) (by decide)
end PAZZZZG
