/-! THE PURE LAYER: the parser: X's side alone: every statement. -/
section PAZZZZA
variable {ρ σ τ : Type} {c : pC} {G : xQ} {α β γ γ' δ ε α0 : zS} {a a' b k w q r t u n x T T' E f kd sg o : Nat} {v v' kv nm pr : Int32} {e e' : Int32 × Int32} {L L' : List Nat} {M M' N S S' : Nat → Prop} {l m K K' : List (Int32 × Int32)} {P : Int32 × Int32 → Prop} {p : Option Nat}
variable {fA fB fE fL fP fS : Option Nat → Option Nat → zS → zF (Unit ⊕ Nat)}
/-- a statement's node comes to hand -/
theorem wx_st {F : Option Nat × zS → zS → zF (ρ ⊕ Nat)} {Q : ρ → zS → Prop} (h : xp c a α) (b : xnB α t e L) (ha : a < c.n) (k53 : nkC kv) (H : ∀ σ, xnS c (t + 1) (zn α) α (a + 1) (kv, nI 0) [] σ → xnB σ t e (L ++ [zn α]) → ∀ y, y.1 = some (zn α) → wx (F y σ) Q) : wx ((zfI (zmk α 45 0 9) (some c.p) 40 3).bind fun x15 => if zis G (zmk α 45 0 9) (some (zn α)) 45 = true then (hX43_init G (some (zn α)) kv 0 x15 (zmk α 45 0 9)).bind fun p16 => if zis G p16.2 (some t) 45 = true then (hX43_add G (some t) (some (zn α)) p16.2).bind fun p17 => (zfI p17.2 (some c.p) 40 3).bind fun x18 => (zpI p17.2 (some c.p) 40 3 (x18 + (1 : Int32))).bind fun σ19 => F p17 σ19 else none else none) Q := by
  have bhi := b.hi
  refine wx_ob fun x15 _ => wx_z ?_
  obtain ⟨β, y1, s, y4, y5⟩ := xnS_new (G := G) (T := t + 1) (kv := kv) (v := nI 0) (v' := x15) h (by rw [b.kl]; decide) b.hi k53
  show wx (Option.bind (hX43_init G (some (zn α)) kv (nI 0) x15 (zmk α 45 0 9)) _) _
  rw [y1, gl_bs]
  obtain ⟨b2, _⟩ := b.st (β := β) (by omega) (y4 t (by omega)) (y4 (t + 1) bhi) (fun r hr => y4 r (b.ok r hr).2)
  refine wx_zb (wp_im (s.att b2 (show t < zn α by omega)) fun r' γ z => ?_)
  obtain ⟨rfl, s1, b3⟩ := z
  have h1 := s1.hp
  show wx (Option.bind (zfI γ (some c.p) 40 3) _) _
  rw [kfI h1.kp, gl_bs, h1.ax, kpI h1.kp, gl_bs, show nI a + 1 = nI (a + 1) from pI_succ a, show zwI γ 40 3 c.p (nI (a + 1)) = xaS c γ a from rfl]
  obtain ⟨s2, o2⟩ := s1.adv ha
  exact H _ s2 (o2.ob.2 t _ _ b3 (by omega)) _ rfl
/-- what a statement comes to -/
theorem S_end (s : xnS c (t + 1) q α a (nI k, v) K β) (o : oB q γ β) (b : xnB γ t e (L ++ [q])) (ht : t < zn α) (g : grN c k v K) (hk : 26 ≤ k ∧ k ≤ 38) : ∃ a' q, xnD c (t + 1) α a' q β ∧ xnB β t e (L ++ [q]) ∧ grK 26 38 (xkv β q) := by
  have hq : t ≠ q := by
    obtain ⟨_, L, M, h, b, H, m, lo, _⟩ := s
    omega
  obtain ⟨d, ek⟩ := s.cl (grS_i (k := k) g (by omega))
  exact ⟨a, q, d, o.2 t _ _ b hq, k, hk.1, hk.2, by rw [ek]⟩
theorem w_st335 (hL : stL c fL) (s : xnS c (t + 1) q α a (nI 32, nI 0) (e' :: m) γ) (b : xnB γ t e (L ++ [q])) (ht : t < zn α) (g1 : grJ c (fun j => j = 1 ∨ j = 3) e') (g2 : ∀ f, f ∈ m → grK 21 21 f) : wx (hX4_statement_335 G fA fB fE fL fP fS (some c.p) (some q) γ) (fun _ β => ∃ a' q, xnD c (t + 1) α a' q β ∧ xnB β t e (L ++ [q]) ∧ grK 26 38 (xkv β q)) := by
  have F : ∀ {a' o δ}, grL1 o → xnS c (t + 1) q α a' (nI 32, nI 0) (e' :: m ++ o) δ → oB q γ δ → wx (hX4_statement_349 G fA fB fE fL fP fS (some c.p) (some q) δ) (fun _ β => ∃ a' q, xnD c (t + 1) α a' q β ∧ xnB β t e (L ++ [q]) ∧ grK 26 38 (xkv β q)) := fun {a' o δ} ho s1 o1 => by
    unfold hX4_statement_349
    refine wx_zb (wp_im (w_scope (w := 77) s1 (by decide)) fun _ β z => ?_)
    obtain ⟨a3, s3, o3⟩ := z
    unfold hX4_statement_446
    exact wx_l (S_end s3 (o1.tr o3) b ht ⟨rfl, e', m, o, rfl, g1, g2, ho⟩ (by decide))
  unfold hX4_statement_335
  refine wx_zb (wp_im (S_meets (w := 62) s (by decide)) fun r2 γ2 z => ?_)
  obtain ⟨a2, s2, o2, _⟩ := z
  refine wx_if (fun _ => F (o := []) (.inl rfl) (by rw [List.append_nil]; exact s2) o2) (fun _ => ?_)
  refine wx_zc (wx_im (S_list hL s2) fun _ γ3 z => ?_)
  obtain ⟨a3, ev, rfl, s3, o3⟩ := z
  exact F (.inr rfl) s3 (o2.tr o3)
theorem w_stR (hA : stA c 27 fA) (hB : stB c fB) (hE : stA c 30 fE) (hL : stL c fL) (hP : stA c 29 fP) : stS c (hX4_statement_r G fA fB fE fL fP fS) := fun {t e L α a} hb h b => by
  have a5 := h.a5
  obtain ⟨ha, hk, hv⟩ := (of_decide_eq_true hb : a < c.n ∧ c.ks a = 0 ∧ (c.vs a = 29 ∨ 36 ≤ c.vs a ∧ c.vs a ≤ 47))
  have ht : t < zn α := by have := b.hi; omega
  unfold hX4_statement_r
  rw [kfA h.kp, gl_bs, h.x.fv, kfI h.kp, gl_bs, h.ax, kald h.x.kv (by rw [h.x.lv]; omega) (by rw [h.x.lv]; decide), gl_bs, h.x.rv a ha, znO_e, gl_bs]
  have hc : c.vs a = 29 ∨ c.vs a = 36 ∨ c.vs a = 37 ∨ c.vs a = 38 ∨ c.vs a = 39 ∨ c.vs a = 40 ∨ c.vs a = 41 ∨ c.vs a = 42 ∨ c.vs a = 43 ∨ c.vs a = 44 ∨ c.vs a = 45 ∨ c.vs a = 46 ∨ c.vs a = 47 := by omega
  rcases hc with z | z | z | z | z | z | z | z | z | z | z | z | z <;> rw [z]
  · rw [if_neg (by decide)]
    unfold hX4_statement_43
    refine wx_st (kv := nI 33) h b ha (by decide) fun σ s b1 y hy => ?_
    rw [if_neg (by decide), if_pos (by decide), hy]
    refine wx_zc (wx_im (w_operands s) fun _ β z => ?_)
    obtain ⟨a1, K', s1, k1, g1, o1⟩ := z
    unfold hX4_statement_446
    exact wx_l (S_end s1 o1 b1 ht ⟨rfl, k1, g1⟩ (by decide))
  · rw [if_pos (by decide), if_pos (by decide)]
    unfold hX4_statement_43
    refine wx_st (kv := nI 36 - 10) h b ha (by decide) fun σ s b1 y hy => ?_
    rw [show nI 36 - 10 = nI 26 from by decide] at s
    iterate 8 rw [if_neg (by decide)]
    rw [if_pos (by decide), hy]
    refine wx_zc (wx_im (S_op s) fun r δ z => wx_zb (wp_im z fun r' γ1 y => ?_))
    obtain ⟨ev, g1, _, s1, o1⟩ := y
    refine wx_zc (wx_im (S_need (w := 48) s1 (by decide)) fun _ γ2 z => ?_)
    obtain ⟨s2, o2⟩ := z
    refine wx_zc (wx_im (w_targets s2) fun _ β z => ?_)
    obtain ⟨a3, K', s3, k3, g3, o3⟩ := z
    unfold hX4_statement_446
    exact wx_l (S_end s3 (o1.tr (o2.tr o3)) b1 ht ⟨rfl, ev, K', rfl, grA_op g1, k3, g3⟩ (by decide))
  · rw [if_pos (by decide), if_pos (by decide)]
    unfold hX4_statement_43
    refine wx_st (kv := nI 37 - 10) h b ha (by decide) fun σ s b1 y hy => ?_
    rw [show nI 37 - 10 = nI 27 from by decide] at s
    iterate 9 rw [if_neg (by decide)]
    rw [if_pos (by decide), hy]
    refine wx_zc (wx_im (hA s) fun _ β z => ?_)
    obtain ⟨a3, v, K', s3, o3, g3⟩ := z
    unfold hX4_statement_446
    exact wx_l (S_end s3 o3 b1 ht g3 (by decide))
  · rw [if_pos (by decide), if_pos (by decide)]
    unfold hX4_statement_43
    refine wx_st (kv := nI 38 - 10) h b ha (by decide) fun σ s b1 y hy => ?_
    rw [show nI 38 - 10 = nI 28 from by decide] at s
    iterate 10 rw [if_neg (by decide)]
    rw [if_pos (by decide), hy]
    refine wx_zc (wx_im (S_cond s) fun r δ z => wx_zb (wp_im z fun r' γ1 y => ?_))
    obtain ⟨a1, ev, g1, s1, o1⟩ := y
    refine wx_zb (wp_im (S_meets (w := 52) s1 (by decide)) fun r2 γ2 z => ?_)
    obtain ⟨a2, s2, o2, _⟩ := z
    refine wx_zc (wx_im (hB s2) fun _ γ3 z => ?_)
    obtain ⟨a3, ev3, g3, s3, o3⟩ := z
    refine wx_zb (wp_im (S_meets (w := 53) s3 (by decide)) fun r4 γ4 z => ?_)
    obtain ⟨a4, s4, o4, _⟩ := z
    have F : ∀ {a' M δ}, (M = [] ∨ ∃ h, M = [h] ∧ grBr h) → xnS c (t + 1) (zn α) α a' (nI 28, nI 0) (ev :: ev3 :: M) δ → oB (zn α) γ4 δ → wx (hX4_statement_223 G fA fB fE fL fP fS (some c.p) (some (zn α)) δ) (fun _ β => ∃ a' q, xnD c (t + 1) α a' q β ∧ xnB β t e (L ++ [q]) ∧ grK 26 38 (xkv β q)) := fun {a' M δ} hm s5 o5 => by
      unfold hX4_statement_223
      refine wx_zb (wp_im (w_scope (w := 73) s5 (by decide)) fun _ β z => ?_)
      obtain ⟨a6, s6, o6⟩ := z
      unfold hX4_statement_446
      exact wx_l (S_end s6 (o1.tr (o2.tr (o3.tr (o4.tr (o5.tr o6))))) b1 ht ⟨rfl, ev, ev3, M, rfl, g1, g3, hm⟩ (by decide))
    refine wx_if (fun _ => F (.inl rfl) s4 oB.rf) (fun _ => ?_)
    refine wx_zc (wx_im (hB s4) fun _ γ5 z => ?_)
    obtain ⟨a5', ev5, g5, s5, o5⟩ := z
    exact F (.inr ⟨ev5, rfl, g5⟩) s5 o5
  · rw [if_pos (by decide), if_pos (by decide)]
    unfold hX4_statement_43
    refine wx_st (kv := nI 39 - 10) h b ha (by decide) fun σ s b1 y hy => ?_
    rw [show nI 39 - 10 = nI 29 from by decide] at s
    iterate 11 rw [if_neg (by decide)]
    rw [if_pos (by decide), hy]
    refine wx_zc (wx_im (hP s) fun _ β z => ?_)
    obtain ⟨a3, v, K', s3, o3, g3⟩ := z
    unfold hX4_statement_446
    exact wx_l (S_end s3 o3 b1 ht g3 (by decide))
  · rw [if_pos (by decide), if_pos (by decide)]
    unfold hX4_statement_43
    refine wx_st (kv := nI 40 - 10) h b ha (by decide) fun σ s b1 y hy => ?_
    rw [show nI 40 - 10 = nI 30 from by decide] at s
    iterate 12 rw [if_neg (by decide)]
    rw [if_pos (by decide), hy]
    refine wx_zc (wx_im (hE s) fun _ β z => ?_)
    obtain ⟨a3, v, K', s3, o3, g3⟩ := z
    unfold hX4_statement_446
    exact wx_l (S_end s3 o3 b1 ht g3 (by decide))
  · rw [if_pos (by decide), if_pos (by decide)]
    unfold hX4_statement_43
    refine wx_st (kv := nI 41 - 10) h b ha (by decide) fun σ s b1 y hy => ?_
    rw [show nI 41 - 10 = nI 31 from by decide] at s
    iterate 13 rw [if_neg (by decide)]
    rw [if_pos (by decide), hy]
    refine wx_zc (wx_im (S_take (k := 1) s (by decide)) fun v γ1 z => ?_)
    obtain ⟨s1, o1, g1⟩ := z
    obtain ⟨s2, o2, z2⟩ := S_val (v := v) s1
    show wx (Option.bind (zpI γ1 (some (zn α)) 44 1 v) _) _
    rw [z2, gl_bs]
    refine wx_zb (wp_im (S_meets (w := 61) s2 (by decide)) fun r3 γ3 z => ?_)
    obtain ⟨a3, s3, o3, _⟩ := z
    have F : ∀ {a' o δ}, grL1 o → xnS c (t + 1) (zn α) α a' (nI 31, v) o δ → oB (zn α) γ3 δ → wx (hX4_statement_278 G fA fB fE fL fP fS (some c.p) (some (zn α)) δ) (fun _ β => ∃ a' q, xnD c (t + 1) α a' q β ∧ xnB β t e (L ++ [q]) ∧ grK 26 38 (xkv β q)) := fun {a' o δ} ho s5 o5 => by
      unfold hX4_statement_278
      refine wx_zb (wp_im (w_scope (w := 76) s5 (by decide)) fun _ β z => ?_)
      obtain ⟨a6, s6, o6⟩ := z
      unfold hX4_statement_446
      exact wx_l (S_end s6 (o1.tr (o2.tr (o3.tr (o5.tr o6)))) b1 ht ⟨g1, ho⟩ (by decide))
    refine wx_if (fun _ => F (.inl rfl) s3 oB.rf) (fun _ => ?_)
    refine wx_zc (wx_im (S_need (w := 33) s3 (by decide)) fun _ γ4 z => ?_)
    obtain ⟨s4, o4⟩ := z
    refine wx_zc (wx_im (S_list hL s4) fun _ γ5 z => ?_)
    obtain ⟨a5', ev, rfl, s5, o5⟩ := z
    exact F (.inr rfl) s5 (o4.tr o5)
  · rw [if_pos (by decide), if_pos (by decide)]
    unfold hX4_statement_43
    refine wx_st (kv := nI 42 - 10) h b ha (by decide) fun σ s b1 y hy => ?_
    rw [show nI 42 - 10 = nI 32 from by decide] at s
    iterate 14 rw [if_neg (by decide)]
    rw [if_pos (by decide), hy]
    have h1 := s.hp
    have c5 := h1.a5
    rw [kfI h1.kp, gl_bs, h1.ax]
    refine wx_z ?_
    rw [show (2 : Int32) = nI 2 from rfl, X_isK h1.o h1.x (by omega) (by decide), gl_bs]
    refine wx_if (fun _ => ?_) (fun e2 => ?_)
    · unfold hX4_statement_306
      exact wx_zc (w_must h1 fun z => absurd rfl z)
    have e2 : wK c (a + 1) 2 = false := by
      rcases e : wK c (a + 1) 2 with _ | _
      · rfl
      · exact absurd (show nI (b2n true) = 0 from Decidable.of_not_not (by rw [e] at e2; exact e2)) (by decide)
    unfold hX4_statement_306
    refine wx_zc (w_must h1 fun _ => ?_)
    refine wx_zc (wx_im (S_op s) fun r δ z => wx_zb (wp_im z fun r' γ1 y => ?_))
    obtain ⟨ev, g1, _, s1, o1⟩ := y
    have g1 : grJ c (fun j => j = 1 ∨ j = 3) ev := by
      obtain ⟨j, hj, e1, e3⟩ := g1
      refine ⟨j, c.vs (a + 1), ?_, ⟨a + 1, (wK_i e1).1, (wK_i e1).2, rfl⟩, e3⟩
      rcases hj with z | z | z
      · exact .inl z
      · rw [z, e2] at e1
        exact absurd e1 (by decide)
      · exact .inr z
    refine wx_zb (wp_im (S_meets (w := 31) s1 (by decide)) fun r2 γ2 z => ?_)
    obtain ⟨a2, s2, o2, _⟩ := z
    refine wx_if (fun _ => w_st335 hL s2 ((o1.tr o2).2 t _ _ b1 (by omega)) ht g1 (fun f hf => absurd hf (by simp))) (fun _ => ?_)
    refine wx_zc (wx_im (w_names (k := 21) (.inr rfl) s2) fun _ γ3 z => ?_)
    obtain ⟨a3, K', s3, _, g3, o3⟩ := z
    exact w_st335 hL s3 ((o1.tr (o2.tr o3)).2 t _ _ b1 (by omega)) ht g1 (fun f hf => ⟨21, by decide, by decide, (g3 f hf).1⟩)
  · rw [if_pos (by decide), if_neg (by decide)]
    unfold hX4_statement_43
    refine wx_st (kv := nI 43 - 9) h b ha (by decide) fun σ s b1 y hy => ?_
    rw [show nI 43 - 9 = nI 34 from by decide] at s
    iterate 15 rw [if_neg (by decide)]
    rw [if_pos (by decide), hy]
    refine wx_zb (wp_im (S_meets (w := 48) s (by decide)) fun r2 γ2 z => ?_)
    obtain ⟨a2, s2, o2, _⟩ := z
    refine wx_zc (wx_im (S_take (k := 1) s2 (by decide)) fun v γ1 z => ?_)
    obtain ⟨s3, o3, g3⟩ := z
    obtain ⟨s4, o4, z4⟩ := S_val (v := v) s3
    show wx (Option.bind (zpI γ1 (some (zn α)) 44 1 v) _) _
    rw [z4, gl_bs]
    unfold hX4_statement_446
    exact wx_l (S_end s4 (o2.tr (o3.tr o4)) b1 ht ⟨rfl, g3⟩ (by decide))
  · rw [if_pos (by decide), if_neg (by decide)]
    unfold hX4_statement_43
    refine wx_st (kv := nI 44 - 9) h b ha (by decide) fun σ s b1 y hy => ?_
    rw [show nI 44 - 9 = nI 35 from by decide] at s
    iterate 16 rw [if_neg (by decide)]
    rw [if_pos (by decide)]
    refine wx_zc (wx_im (S_need (w := 63) s (by decide)) fun _ γ4 z => ?_)
    obtain ⟨s4, o4⟩ := z
    unfold hX4_statement_446
    exact wx_l (S_end s4 o4 b1 ht ⟨rfl, rfl⟩ (by decide))
  · rw [if_pos (by decide), if_neg (by decide)]
    unfold hX4_statement_43
    refine wx_st (kv := nI 45 - 9) h b ha (by decide) fun σ s b1 y hy => ?_
    rw [show nI 45 - 9 = nI 36 from by decide] at s
    iterate 17 rw [if_neg (by decide)]
    rw [if_pos (by decide)]
    unfold hX4_statement_446
    exact wx_l (S_end s oB.rf b1 ht ⟨rfl, rfl⟩ (by decide))
  · rw [if_pos (by decide), if_neg (by decide)]
    unfold hX4_statement_43
    refine wx_st (kv := nI 46 - 9) h b ha (by decide) fun σ s b1 y hy => ?_
    rw [show nI 46 - 9 = nI 37 from by decide] at s
    iterate 18 rw [if_neg (by decide)]
    rw [if_pos (by decide)]
    unfold hX4_statement_446
    exact wx_l (S_end s oB.rf b1 ht ⟨rfl, rfl⟩ (by decide))
  · rw [if_pos (by decide), if_neg (by decide)]
    unfold hX4_statement_43
    refine wx_st (kv := nI 47 - 9) h b ha (by decide) fun σ s b1 y hy => ?_
    rw [show nI 47 - 9 = nI 38 from by decide] at s
    iterate 19 rw [if_neg (by decide)]
    rw [if_pos (by decide), hy]
    refine wx_zc (wx_im (S_take (k := 1) s (by decide)) fun v γ1 z => ?_)
    obtain ⟨s1, o1, g1⟩ := z
    obtain ⟨s2, o2, z2⟩ := S_val (v := v) s1
    show wx (Option.bind (zpI γ1 (some (zn α)) 44 1 v) _) _
    rw [z2, gl_bs]
    generalize hγ : zwI γ1 44 1 (zn α) v = γ2 at s2 o2
    have h2 := s2.hp
    have c5 := h2.a5
    rw [kfI h2.kp, gl_bs, h2.ax]
    refine wx_z ?_
    rw [show (2 : Int32) = nI 2 from rfl, X_isS h2.o h2.x (by omega) (by decide), gl_bs]
    refine wx_zc (w_must h2 fun e2 => ?_)
    have i2 := wS_i (b2nT e2)
    obtain ⟨s3, o3⟩ := s2.adv i2.1
    show wx (Option.bind (zfI γ2 (some c.p) 40 3) _) _
    rw [kfI h2.kp, gl_bs, h2.ax, kpI h2.kp, gl_bs, show nI (a + 1 + 1) + 1 = nI (a + 1 + 1 + 1) from pI_succ _, show zwI γ2 40 3 c.p (nI (a + 1 + 1 + 1)) = xaS c γ2 (a + 1 + 1) from rfl]
    refine wx_zc (wx_im (S_rD s3 (w_sumD s3.hp)) fun r δ z => wx_zb (wp_im z fun r' γ4 y => ?_))
    obtain ⟨a4, ev, g4, s4, o4⟩ := y
    refine wx_zb (wp_im (w_scope (w := 78) s4 (by decide)) fun _ β z => ?_)
    obtain ⟨a6, s6, o6⟩ := z
    unfold hX4_statement_446
    exact wx_l (S_end s6 (o1.tr (o2.tr (o3.ob.tr (o4.tr o6)))) b1 ht ⟨g1, ev, rfl, g4⟩ (by decide))
/-- every statement, every list, at every depth -/
theorem st_all (G : xQ) (c : pC) : ∀ n, stA c 27 (rrX4_add G n).1 ∧ stB c (rrX4_add G n).2.1 ∧ stA c 30 (rrX4_add G n).2.2.1 ∧ stL c (rrX4_add G n).2.2.2.1 ∧ stA c 29 (rrX4_add G n).2.2.2.2.1 ∧ stS c (rrX4_add G n).2.2.2.2.2
  | 0 => ⟨fun _ => wx_no, fun _ => wx_no, fun _ => wx_no, fun _ _ _ => wx_no, fun _ => wx_no, fun _ _ _ => wx_no⟩
  | n + 1 => by
    obtain ⟨hA, hB, hE, hL, hP, hS⟩ := st_all G c n
    exact ⟨w_addR (fA := (rrX4_add G n).1) (fB := (rrX4_add G n).2.1) (fE := (rrX4_add G n).2.2.1) (fL := (rrX4_add G n).2.2.2.1) (fP := (rrX4_add G n).2.2.2.2.1) (fS := (rrX4_add G n).2.2.2.2.2) hL, w_branchR (fA := (rrX4_add G n).1) (fB := (rrX4_add G n).2.1) (fE := (rrX4_add G n).2.2.1) (fL := (rrX4_add G n).2.2.2.1) (fP := (rrX4_add G n).2.2.2.2.1) (fS := (rrX4_add G n).2.2.2.2.2) hL, w_evalR (fA := (rrX4_add G n).1) (fB := (rrX4_add G n).2.1) (fE := (rrX4_add G n).2.2.1) (fL := (rrX4_add G n).2.2.2.1) (fP := (rrX4_add G n).2.2.2.2.1) (fS := (rrX4_add G n).2.2.2.2.2) hL, w_listR (fA := (rrX4_add G n).1) (fB := (rrX4_add G n).2.1) (fE := (rrX4_add G n).2.2.1) (fL := (rrX4_add G n).2.2.2.1) (fP := (rrX4_add G n).2.2.2.2.1) (fS := (rrX4_add G n).2.2.2.2.2) hS, w_perfR (fA := (rrX4_add G n).1) (fB := (rrX4_add G n).2.1) (fE := (rrX4_add G n).2.2.1) (fL := (rrX4_add G n).2.2.2.1) (fP := (rrX4_add G n).2.2.2.2.1) (fS := (rrX4_add G n).2.2.2.2.2) hL, w_stR (fA := (rrX4_add G n).1) (fB := (rrX4_add G n).2.1) (fE := (rrX4_add G n).2.2.1) (fL := (rrX4_add G n).2.2.2.1) (fP := (rrX4_add G n).2.2.2.2.1) (fS := (rrX4_add G n).2.2.2.2.2) hA hB hE hL hP⟩
end PAZZZZA
