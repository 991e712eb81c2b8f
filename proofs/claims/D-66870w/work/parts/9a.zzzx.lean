/-! THE PURE LAYER: the parser: X's side alone: rules of steps with a node at hand; phrases. -/
/-- a part is laid below an older node -/
def lsP (c : pC) (R : Nat → Prop) (f : Option Nat → Option Nat → zS → zF (Unit ⊕ Nat)) (P : Int32 × Int32 → Prop) : Prop := ∀ {t : Nat} {e : Int32 × Int32} {L : List Nat} {α : zS} {a : Nat}, R a → xp c a α → xnB α t e L → wx (f (some c.p) (some t) α) (fun _ β => ∃ a' q, xnD c (t + 1) α a' q β ∧ xnB β t e (L ++ [q]) ∧ P (xkv β q))
section PAZZZX
variable {ρ σ τ : Type} {c : pC} {G : xQ} {α β γ γ' δ ε α0 : zS} {a a' b k w q r t u n x T T' E f kd sg o : Nat} {v v' kv nm pr : Int32} {e e' : Int32 × Int32} {L L' : List Nat} {M M' N S S' : Nat → Prop} {l m K : List (Int32 × Int32)} {P : Int32 × Int32 → Prop} {p : Option Nat}
theorem wx_z {i : Bool} {m : zF (ρ ⊕ Nat)} {Q : ρ → zS → Prop} (h : wx m Q) : wx (if i = true then m else none) Q := wx_if (fun _ => h) (fun _ => wx_no)
theorem wx_zb {i : Bool} {m : zF σ} {f : σ × zS → zF (ρ ⊕ Nat)} {Q : ρ → zS → Prop} (h : wp m fun r γ => wx (f (r, γ)) Q) : wx (if i = true then m.bind f else none) Q := wx_z (wx_b h)
theorem wx_zc {i : Bool} {m : zF (σ ⊕ Nat)} {f : σ × zS → zF (ρ ⊕ Nat)} {Q : ρ → zS → Prop} (h : wx m fun r γ => wx (f (r, γ)) Q) : wx (if i = true then zcase m f (fun p => if zthr p.2 p.1 3 = true then some (.inr p.1, p.2) else none) else none) Q := wx_z (wx_c h)
theorem wl_z {i : Bool} {m : zF (ρ ⊕ (σ ⊕ Nat))} {I : ρ → zS → Prop} {Q : σ → zS → Prop} (h : wl m I Q) : wl (if i = true then m else none) I Q := wl_if (fun _ => h) (fun _ => wl_no)
theorem wl_ob {m : Option τ} {f : τ → zF (ρ ⊕ (σ ⊕ Nat))} {I : ρ → zS → Prop} {Q : σ → zS → Prop} (h : ∀ x, m = some x → wl (f x) I Q) : wl (m.bind f) I Q := fun r β e => by
  rcases hm : m with _ | x
  · rw [hm] at e
    exact absurd e (by simp)
  · rw [hm, gl_bs] at e
    exact h x hm r β e
theorem wp_no {Q : ρ → zS → Prop} : wp none Q := fun r γ h => absurd h (by simp)
theorem wp_s {v : ρ} {Q : ρ → zS → Prop} (h : Q v β) : wp (some (v, β)) Q := fun r γ e => by
  have e1 := Option.some.inj e
  rw [← (Prod.mk.inj e1).1, ← (Prod.mk.inj e1).2]
  exact h
theorem wp_if {p : Prop} [Decidable p] {m n : zF ρ} {Q : ρ → zS → Prop} (h1 : p → wp m Q) (h2 : ¬ p → wp n Q) : wp (if p then m else n) Q := by
  by_cases h : p
  · rw [if_pos h]; exact h1 h
  · rw [if_neg h]; exact h2 h
theorem wp_z {i : Bool} {m : zF ρ} {Q : ρ → zS → Prop} (h : wp m Q) : wp (if i = true then m else none) Q := wp_if (fun _ => h) (fun _ => wp_no)
theorem wp_b {m : zF σ} {f : σ × zS → zF ρ} {Q : ρ → zS → Prop} (h : wp m fun r γ => wp (f (r, γ)) Q) : wp (m.bind f) Q := fun r β e => by
  rcases hm : m with _ | ⟨x, γ⟩
  · rw [hm] at e
    exact absurd e (by simp)
  · rw [hm, gl_bs] at e
    exact h x γ hm r β e
theorem wp_ob {m : Option σ} {f : σ → zF ρ} {Q : ρ → zS → Prop} (h : ∀ x, m = some x → wp (f x) Q) : wp (m.bind f) Q := fun r β e => by
  rcases hm : m with _ | x
  · rw [hm] at e
    exact absurd e (by simp)
  · rw [hm, gl_bs] at e
    exact h x hm r β e
theorem wp_c {m : zF (σ ⊕ Nat)} {f : σ × zS → zF ρ} {th : Nat → ρ} {Q : ρ → zS → Prop} (h : wx m fun r γ => wp (f (r, γ)) Q) (ht : ∀ q γ, Q (th q) γ) : wp (zcase m f (fun p => if zthr p.2 p.1 3 = true then some (th p.1, p.2) else none)) Q := fun r β e => by
  rcases hm : m with _ | ⟨x | x, γ⟩
  · rw [hm] at e
    exact absurd e (by simp [zcase])
  · rw [hm, zc_l] at e
    exact h x γ hm r β e
  · rw [hm, zc_r] at e
    by_cases z : zthr γ x 3 = true
    · rw [if_pos z] at e
      exact wp_s (Q := Q) (ht x γ) r β e
    · rw [if_neg z] at e
      exact wp_no (Q := Q) r β e
/-- a loop, whatever it answers -/
theorem wp_lp {body : ρ → zS → zF (ρ ⊕ σ)} {I : ρ → zS → Prop} {Q : σ → zS → Prop} (h : ∀ a α, I a α → wp (body a α) (fun r γ => (∀ a, r = .inl a → I a γ) ∧ ∀ b, r = .inr b → Q b γ)) : ∀ {n : Nat} {a : ρ} {α : zS}, I a α → wp (zloop body n a α) Q
  | 0, a, α, _ => fun r β e => absurd e (by simp [zloop])
  | n + 1, a, α, hI => fun r β e => by
    rcases hb : body a α with _ | ⟨x | x, γ⟩
    · simp only [zloop, hb] at e
      exact absurd e (by simp)
    · simp only [zloop, hb] at e
      exact wp_lp h (n := n) ((h a α hI _ _ hb).1 x rfl) r β e
    · simp only [zloop, hb] at e
      have e1 := Option.some.inj e
      rw [← (Prod.mk.inj e1).2]
      exact (h a α hI _ _ hb).2 r (by rw [(Prod.mk.inj e1).1])
theorem wp_zi {m : zF σ} {Q : ρ ⊕ σ → zS → Prop} (h : wp m fun r γ => Q (.inr r) γ) : wp (zinr m) Q := fun r β e => by
  rcases m with _ | ⟨y, δ⟩
  · exact absurd e (by simp [zinr])
  · have e1 := Option.some.inj (show some ((.inr y : ρ ⊕ σ), δ) = some (r, β) from e)
    rw [← (Prod.mk.inj e1).1, ← (Prod.mk.inj e1).2]
    exact h y δ rfl
theorem wl_zi {m : zF (σ ⊕ Nat)} {I : ρ → zS → Prop} {Q : σ → zS → Prop} (h : wx m Q) : wl (zinr m) I Q := fun r β e => wp_zi (ρ := ρ) (σ := σ ⊕ Nat) (m := m) (Q := fun (r : ρ ⊕ (σ ⊕ Nat)) γ => (∀ a, r = .inl a → I a γ) ∧ ∀ b, r = .inr (.inl b) → Q b γ) (fun r γ e => ⟨fun a ha => absurd ha (by simp), fun b hb => h b γ (by rw [e, Sum.inr.inj hb])⟩) r β e
theorem mapsome_inj : ∀ {l m : List Nat}, l.map some = m.map some → l = m
  | [], [], _ => rfl
  | [], _ :: _, h => absurd h (by simp)
  | _ :: _, [], h => absurd h (by simp)
  | x :: l, y :: m, h => by
    have h1 := List.cons.inj h
    rw [Option.some.inj h1.1, mapsome_inj h1.2]
theorem xnB.uq (h : xnB α q e L) (h' : xnB α q e' L') : L = L' := mapsome_inj (h.ls.symm.trans h'.ls)
/-- the parser's own fields, ahead -/
theorem xnD.pre (d : xnD c T γ' a q δ) (fr : ∀ x, x ≠ c.p → γ'.2 x = γ.2 x) (hn : zn γ' = zn γ) (hT : zkd γ' T = zkd γ T) : xnD c T γ a q δ := by
  obtain ⟨M, h, H, m, sj, cq⟩ := d
  exact ⟨M, h, xnF.mk (by rw [← hn]; exact H.n) (fun q h1 h2 h3 => (H.fr q (by rw [hn]; exact h1) h2 h3).trans (fr q h2)) (fun q hq => by rw [← hn]; exact H.nw q hq) H.ok (H.kT.trans hT), m, sj, cq⟩
theorem rD.pre (d : rD c γ' P p δ) (fr : ∀ x, x ≠ c.p → γ'.2 x = γ.2 x) (hn : zn γ' = zn γ) (hT : zkd γ' c.p = zkd γ c.p) : rD c γ P p δ := by
  obtain ⟨a', q, e, z, y⟩ := d
  exact ⟨a', q, e, z.pre fr hn hT, y⟩
theorem P_meets (h : xp c a α) (hw : w < 100000) : wp (hX4_meets G (some c.p) (nI w) α) (fun r β => ∃ a', xp c a' β ∧ (∀ x, x ≠ c.p → β.2 x = α.2 x) ∧ zn β = zn α ∧ (r = 0 → β = α ∧ wW c a w = false)) := by
  rw [w_meets h hw]
  rcases e : wW c a w with _ | _
  · rw [if_neg (by decide)]
    exact wp_s ⟨a, h, fun _ _ => rfl, rfl, fun _ => ⟨rfl, rfl⟩⟩
  · rw [if_pos rfl]
    exact wp_s ⟨a + 1, h.adv (wW_i e).1, fun x hx => zwI_ne hx, rfl, fun z => absurd z (by decide)⟩
theorem S_need (s : xnS c T E α0 a e K γ) (hw : w < 100000) : wx (hX4_need G (some c.p) (nI w) γ) (fun _ β => xnS c T E α0 (a + 1) e K β ∧ oB E γ β) := w_need s.hp hw fun e => by
  obtain ⟨s1, o1⟩ := s.adv (wW_i e).1
  exact ⟨s1, o1.ob⟩
theorem S_meets (s : xnS c T E α0 a e K γ) (hw : w < 100000) : wp (hX4_meets G (some c.p) (nI w) γ) (fun r β => ∃ a', xnS c T E α0 a' e K β ∧ oB E γ β ∧ (r = 0 → a' = a ∧ wW c a w = false)) := by
  rw [w_meets s.hp hw]
  rcases e : wW c a w with _ | _
  · rw [if_neg (by decide)]
    exact wp_s ⟨a, s, oB.rf, fun _ => ⟨rfl, rfl⟩⟩
  · rw [if_pos rfl]
    obtain ⟨s1, o1⟩ := s.adv (wW_i e).1
    exact wp_s ⟨a + 1, s1, o1.ob, fun z => absurd z (by decide)⟩
theorem S_take (s : xnS c T E α0 a e K γ) (hk : k < 6) : wx (hX4_take G (some c.p) (nI k) γ) (fun v β => xnS c T E α0 (a + 1) e K β ∧ oB E γ β ∧ grV c k v) := w_take s.hp hk fun e => by
  obtain ⟨i1, i2⟩ := wK_i e
  obtain ⟨s1, o1⟩ := s.adv i1
  exact ⟨s1, o1.ob, c.vs a, ⟨a, i1, i2, rfl⟩, rfl⟩
theorem S_rD (s : xnS c T E α0 a e K γ) {m : zF (Option Nat ⊕ Nat)} (h : wx m (rD c γ P)) : wx m (fun r δ => wp (hX43_add G (some E) r δ) (fun _ ε => ∃ a' ev, P ev ∧ xnS c T E α0 a' e (K ++ [ev]) ε ∧ oB E γ ε)) := wx_im h fun r δ R => wp_im (s.add R).2 fun r' ε z => z.2
theorem S_cond (s : xnS c T E α0 a e K γ) : wx (hX4_condition G (some c.p) γ) (fun r δ => wp (hX43_add G (some E) r δ) (fun _ ε => ∃ a' ev, grK 50 54 ev ∧ xnS c T E α0 a' e (K ++ [ev]) ε ∧ oB E γ ε)) := S_rD s (w_condD s.hp)
theorem S_op (s : xnS c T E α0 a e K γ) : wx (hX4_operand G (some c.p) nm γ) (fun r δ => wp (hX43_add G (some E) r δ) (fun _ ε => ∃ ev, grA c a ev ∧ (nm = 0 → wK c a 1 = false) ∧ xnS c T E α0 (a + 1) e (K ++ [ev]) ε ∧ oB E γ ε)) := wx_im (w_opA s) fun r δ z => wp_im z.2 fun r' ε y => y.2
theorem S_lst {f : Option Nat → Option Nat → zS → zF (Unit ⊕ Nat)} {R : Nat → Prop} (hf : lsP c R f P) (s : xnS c T E α0 a e K γ) (hR : R a) : wx (f (some c.p) (some E) γ) (fun _ δ => ∃ a' ev, P ev ∧ xnS c T E α0 a' e (K ++ [ev]) δ ∧ oB E γ δ) := by
  obtain ⟨_, L, M, h, b, _⟩ := id s
  refine wx_im (hf hR h b) fun _ δ z => ?_
  obtain ⟨a', q, ⟨N, h1, H1, nq, sj1, cq⟩, b1, p⟩ := z
  obtain ⟨s1, o1⟩ := s.lst h1 H1 nq sj1 cq (fun L' b' => by rw [b'.uq b]; exact b1)
  exact ⟨a', _, p, s1, o1.ob⟩
theorem S_val (s : xnS c T E α0 a e K γ) : xnS c T E α0 a (e.1, v) K (zwI γ 44 1 E v) ∧ oB E γ (zwI γ 44 1 E v) ∧ zpI γ (some E) 44 1 v = some (zwI γ 44 1 E v) := by
  obtain ⟨z1, z2, _⟩ := s.val (v := v)
  exact ⟨z2, oB_E s.k45 (by decide), z1⟩
theorem S_flg (s : xnS c T E α0 a e K γ) (hk : k ≠ 0 ∧ k ≠ 1 ∧ k ≠ 8) : xnS c T E α0 a e K (zwI γ 44 k E v) ∧ oB E γ (zwI γ 44 k E v) ∧ zpI γ (some E) 44 k v = some (zwI γ 44 k E v) := by
  obtain ⟨z1, z2, _⟩ := s.flg (k := k) (v := v) ⟨hk.1, hk.2.1⟩
  exact ⟨z2, oB_E s.k45 hk.2.2, z1⟩
/-- a node comes to hand, then on -/
theorem wx_nw {F : Option Nat × zS → Unit × zS → zF (ρ ⊕ Nat)} {Q : ρ → zS → Prop} (h : xp c a γ) (hT : zkd γ T ≠ 45) (hz : T < zn γ) (k53 : nkC kv) (H : ∀ β, xnS c T (zn γ) γ a (kv, v) [] β → (∀ x, x < zn γ → β.2 x = γ.2 x) → zn β = zn γ + 3 → wx (F (some (zn γ), zmk γ 45 0 9) ((), β)) Q) : wx ((znO γ 44 9).bind fun p => if zis G p.2 p.1 45 = true then (hX43_init G p.1 kv v v' p.2).bind (F p) else none) Q := by
  rw [znO_e, gl_bs]
  refine wx_z ?_
  obtain ⟨β, y1, s, y4, y5⟩ := xnS_new (G := G) (T := T) (kv := kv) (v := v) (v' := v') h hT hz k53
  show wx (Option.bind (hX43_init G (some (zn γ)) kv v v' (zmk γ 45 0 9)) _) _
  rw [y1, gl_bs]
  exact H β s y4 y5
theorem w_phrase (h : xp c a γ) : wx (hX4_phrase G (some c.p) γ) (rD c γ (grK 43 45)) := by
  unfold hX4_phrase
  refine wx_ob fun x1 _ => wx_zb (wp_im (P_meets (w := 56) h (by decide)) fun r2 γ2 z => ?_)
  obtain ⟨a2, h2, f2, n2, _⟩ := z
  have k2 : zkd γ2 c.p = zkd γ c.p := h2.kp.trans h.kp.symm
  refine wx_if (fun _ => ?_) (fun _ => ?_)
  · refine wx_zb (wp_im (P_meets (w := 57) h2 (by decide)) fun r3 γ3 z => ?_)
    obtain ⟨a3, h3, f3, n3, _⟩ := z
    have k3 : zkd γ3 c.p = zkd γ2 c.p := h3.kp.trans h2.kp.symm
    refine wx_if (fun _ => ?_) (fun _ => ?_)
    · refine wx_nw (T := c.p) h3 (by rw [h3.kp]; decide) h3.pz (by decide) fun β s _ _ => ?_
      have hb := s.hp
      have b5 := hb.a5
      show wx (Option.bind (zfI β (some c.p) 40 3) _) _
      rw [kfI hb.kp, gl_bs, hb.ax]
      refine wx_z ?_
      rw [nl1, X_isK hb.o hb.x (by omega) (by decide), gl_bs]
      refine wx_zc (w_must hb fun e1 => ?_)
      have e1 : wK c a3 1 = true := by
        rcases e : wK c a3 1 with _ | _
        · exact absurd (by rw [e]; rfl) e1
        · rfl
      refine wx_zc (wx_im (S_op s) fun r δ z => wx_zb (wp_im z fun r' ε y => ?_))
      obtain ⟨ev, g1, _, s1, _⟩ := y
      refine wx_zc (wx_im (S_need (w := 58) s1 (by decide)) fun _ ε y => ?_)
      obtain ⟨s2, _⟩ := y
      refine wx_zc (wx_im (S_op s2) fun r δ z => wx_zb (wp_im z fun r' ε y => ?_))
      obtain ⟨ev2, g2, _, s3, _⟩ := y
      refine wx_zc (wx_im (S_need (w := 25) s3 (by decide)) fun _ ε y => ?_)
      obtain ⟨s4, _⟩ := y
      refine wx_zc (wx_im (S_op s4) fun r δ z => wx_zb (wp_im z fun r' ε y => ?_))
      obtain ⟨ev3, g3, _, s5, _⟩ := y
      refine wx_zc (wx_im (S_need (w := 56) s5 (by decide)) fun _ ε y => ?_)
      obtain ⟨s6, _⟩ := y
      refine wx_zc (wx_im (S_cond s6) fun r δ z => wx_zb (wp_im z fun r' ε y => wx_l ?_))
      obtain ⟨a7, ev4, g4, s7, _⟩ := y
      obtain ⟨d, ek⟩ := s7.cl (grS_i (k := 45) ⟨rfl, ev, ev2, ev3, ev4, rfl, grA_nm g1 e1, grA_op g2, grA_op g3, g4⟩ (by decide))
      exact rD.pre (rD.pre ⟨a7, _, rfl, d, 45, by decide, by decide, by rw [ek]; rfl⟩ f3 n3 k3) f2 n2 k2
    · refine wx_nw (T := c.p) h3 (by rw [h3.kp]; decide) h3.pz (by decide) fun β s _ _ => ?_
      refine wx_zc (wx_im (S_op s) fun r δ z => wx_zb (wp_im z fun r' ε y => ?_))
      obtain ⟨ev, g1, _, s1, _⟩ := y
      refine wx_zc (wx_im (S_need (w := 23) s1 (by decide)) fun _ ε y => wx_l ?_)
      obtain ⟨s2, _⟩ := y
      obtain ⟨d, ek⟩ := s2.cl (grS_i (k := 43) ⟨rfl, ev, rfl, grA_op g1⟩ (by decide))
      exact rD.pre (rD.pre ⟨_, _, rfl, d, 43, by decide, by decide, by rw [ek]; rfl⟩ f3 n3 k3) f2 n2 k2
  · refine wx_nw (T := c.p) h2 (by rw [h2.kp]; decide) h2.pz (by decide) fun β s _ _ => ?_
    refine wx_zc (wx_im (S_cond s) fun r δ z => wx_zb (wp_im z fun r' ε y => wx_l ?_))
    obtain ⟨a7, ev4, g4, s7, _⟩ := y
    obtain ⟨d, ek⟩ := s7.cl (grS_i (k := 44) ⟨rfl, ev4, rfl, g4⟩ (by decide))
    exact rD.pre ⟨a7, _, rfl, d, 44, by decide, by decide, by rw [ek]; rfl⟩ f2 n2 k2
end PAZZZX
