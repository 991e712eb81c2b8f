/-! THE PURE LAYER: the parser: X's side alone: EVALUATE, PERFORM. -/
section PAZZZZ
variable {ρ σ τ : Type} {c : pC} {G : xQ} {α β γ γ' δ ε α0 : zS} {a a' b k w q r t u n x T T' E f kd sg o : Nat} {v v' kv nm pr : Int32} {e e' : Int32 × Int32} {L L' : List Nat} {M M' N S S' : Nat → Prop} {l m K K' : List (Int32 × Int32)} {P : Int32 × Int32 → Prop} {p : Option Nat}
variable {fA fB fE fL fP fS : Option Nat → Option Nat → zS → zF (Unit ⊕ Nat)}
theorem b2nT {i : Bool} (h : ¬ nI (b2n i) = 0) : i = true := by
  rcases i with _ | _
  · exact absurd rfl h
  · rfl
theorem b2nF {i : Bool} (h : nI (b2n i) = 0) : i = false := by
  rcases i with _ | _
  · rfl
  · exact absurd h (by decide)
/-- one WHEN: what it asks, then its statements -/
theorem w_when (hL : stL c fL) (s : xnS c (t + 1) q α a (nI 46, nI 0) [] γ) (b : xnB γ t e (L ++ [q])) (ht : t < zn α) (hw : wW c a 59 = true) : wp (hX4_evaluate_56 G fA fB fE fL fP fS (some c.p) (some t) (some q) γ) (fun r β => (∀ x, r = .inl x → x = (some c.p, some t) ∧ ∃ a', xnD c (t + 1) α a' q β ∧ xnB β t e (L ++ [q]) ∧ xkv β q = (nI 46, nI 0)) ∧ ∀ y, r = .inr y → ∃ z, y = .inr z) := by
  have hq : t ≠ q := by
    obtain ⟨_, L, M, h, b, H, m, lo, _⟩ := s
    omega
  unfold hX4_evaluate_56
  refine wp_lp (I := fun x δ => x = (some c.p, some t, some q) ∧ ∃ a' K, xnS c (t + 1) q α a' (nI 46, nI 0) K δ ∧ xnB δ t e (L ++ [q]) ∧ (K ≠ [] ∨ wW c a' 59 = true) ∧ ∀ ev, ev ∈ K → grOp c ev ∨ ev = (nI 47, nI 0)) (fun x δ hI => ?_) ⟨rfl, a, [], s, b, .inr hw, fun ev hv => absurd hv (by simp)⟩
  obtain ⟨rfl, a2, K, s2, b2, k2, g2⟩ := hI
  show wp (hX4_evaluate_56b G fA fB fE fL fP fS (some c.p) (some t) (some q) δ) _
  unfold hX4_evaluate_56b
  refine wp_z (wp_b (wp_im (S_meets (w := 59) s2 (by decide)) fun r3 γ3 z => ?_))
  obtain ⟨a3, s3, o3, n3⟩ := z
  have b3 := o3.2 t _ _ b2 hq
  refine wp_if (fun h0 => ?_) (fun _ => ?_)
  · obtain ⟨e3, w3⟩ := n3 h0
    have k3 : K ≠ [] := k2.resolve_right (by rw [w3]; decide)
    refine wp_zi (wp_z (wp_c (th := fun q => (Sum.inr (Sum.inr q) : (Option Nat × Option Nat) ⊕ (Unit ⊕ Nat))) (wx_im (S_list hL s3) fun _ ε z => wp_s ?_) (fun q γ => ⟨fun x hx => absurd hx (by simp), fun y hy => ⟨fun x hx => absurd ((Sum.inr.inj hy).trans hx) (by simp), fun y' hy' => ⟨q, (Sum.inr.inj ((Sum.inr.inj hy).trans hy')).symm⟩⟩⟩)))
    obtain ⟨a4, ev, rfl, s4, o4⟩ := z
    obtain ⟨d, ek⟩ := s4.cl (grS_i (k := 46) ⟨rfl, K, rfl, k3, g2⟩ (by decide))
    refine ⟨fun x hx => absurd hx (by simp), fun y hy => ⟨fun x hx => ?_, fun y' hy' => absurd ((Sum.inr.inj hy).trans hy') (by simp)⟩⟩
    exact ⟨(Sum.inl.inj ((Sum.inr.inj hy).trans hx)).symm, a4, d, o4.2 t _ _ b3 hq, ek⟩
  · show wp (Option.bind (zfI γ3 (some c.p) 40 3) _) _
    refine wp_ob fun x5 _ => wp_z (wp_b (wp_im (S_meets (w := 60) s3 (by decide)) fun r4 γ4 z => ?_))
    obtain ⟨a4, s4, o4, _⟩ := z
    have b4 := o4.2 t _ _ b3 hq
    refine wp_if (fun _ => ?_) (fun _ => ?_)
    · refine wp_z (wp_c (th := fun q => (Sum.inr (Sum.inr (Sum.inr q)) : (Option Nat × Option Nat × Option Nat) ⊕ ((Option Nat × Option Nat) ⊕ (Unit ⊕ Nat)))) (wx_im (S_op s4) fun r δ z => ?_) (fun q γ => ⟨fun x hx => absurd hx (by simp), fun y hy => ⟨fun x hx => absurd ((Sum.inr.inj hy).trans hx) (by simp), fun y' hy' => ⟨q, ?_⟩⟩⟩))
      · unfold hX4_evaluate_99
        refine wp_z (wp_b (wp_im z fun r' ε y => wp_s ?_))
        obtain ⟨ev, g5, _, s5, o5⟩ := y
        refine ⟨fun x hx => ⟨(Sum.inl.inj hx).symm, a4 + 1, K ++ [ev], s5, o5.2 t _ _ b4 hq, .inl (by simp), fun ev' hv => ?_⟩, fun y hy => absurd hy (by simp)⟩
        rcases List.mem_append.mp hv with w | w
        · exact g2 ev' w
        · rw [List.mem_singleton.mp w]; exact .inl (grA_op g5)
      · exact (Sum.inr.inj ((Sum.inr.inj hy).trans hy')).symm
    · have h4 := s4.hp
      rw [znO_e, gl_bs]
      refine wp_z ?_
      obtain ⟨β, y1, d, ek, _⟩ := w_leaf (G := G) (kv := nI 47) (v := nI 0) (v' := x5) h4 (by decide) (grS_i (k := 47) ⟨rfl, rfl⟩ (by decide))
      show wp (Option.bind (hX43_init G (some (zn γ4)) (nI 47) (nI 0) x5 (zmk γ4 45 0 9)) _) _
      rw [y1, gl_bs]
      unfold hX4_evaluate_99
      refine wp_z (wp_b (wp_im (s4.add ⟨_, _, rfl, d, (rfl : xkv β (zn γ4) = xkv β (zn γ4))⟩).2 fun r' ε y => wp_s ?_))
      obtain ⟨_, a5, ev, e5, s5, o5⟩ := y
      refine ⟨fun x hx => ⟨(Sum.inl.inj hx).symm, a5, K ++ [ev], s5, o5.2 t _ _ b4 hq, .inl (by simp), fun ev' hv => ?_⟩, fun y hy => absurd hy (by simp)⟩
      rcases List.mem_append.mp hv with w | w
      · exact g2 ev' w
      · rw [List.mem_singleton.mp w, ← ek]; exact .inr e5.symm
theorem w_evalR (hL : stL c fL) : stA c 30 (hX4_evaluate_r G fA fB fE fL fP fS) := fun {T E α0 γ a} s => by
  unfold hX4_evaluate_r
  refine wx_zc (wx_im (S_op s) fun r δ z => wx_zb (wp_im z fun r' γ1 y => ?_))
  obtain ⟨ev, g1, _, s1, o1⟩ := y
  have h1 := s1.hp
  have a5 := h1.a5
  show wx (Option.bind (zfI γ1 (some c.p) 40 3) _) _
  rw [kfI h1.kp, gl_bs, h1.ax]
  refine wx_z ?_
  rw [show (59 : Int32) = nI 59 from rfl, X_isW h1.o h1.x (by omega) (by decide), gl_bs]
  refine wx_zc (w_must h1 fun e1 => ?_)
  have e1 := b2nT e1
  unfold hX4_evaluate_24
  refine wx_lp (I := fun x δ => x = (some c.p, some E) ∧ ∃ a' M, xnS c T E α0 a' (nI 30, nI 0) (ev :: M) δ ∧ (M ≠ [] ∨ wW c a' 59 = true) ∧ (∀ f, f ∈ M → grK 46 46 f) ∧ oB E γ δ) (fun x δ hI => ?_) ⟨rfl, _, [], s1, .inr e1, fun f hf => absurd hf (by simp), o1⟩
  obtain ⟨rfl, a2, M, s2, k2, g2, o2⟩ := hI
  have h2 := s2.hp
  have b5 := h2.a5
  show wl (hX4_evaluate_24b G fA fB fE fL fP fS (some c.p) (some E) δ) _ _
  unfold hX4_evaluate_24b
  rw [kfI h2.kp, gl_bs, h2.ax]
  refine wl_z ?_
  rw [show (59 : Int32) = nI 59 from rfl, X_isW h2.o h2.x (by omega) (by decide), gl_bs]
  refine wl_if (fun w0 => ?_) (fun w1 => ?_)
  · have k3 : M ≠ [] := k2.resolve_right (by rw [b2nF w0]; decide)
    refine wl_zi (wx_zb (wp_im (w_scope (w := 75) s2 (by decide)) fun _ β z => wx_l ?_))
    obtain ⟨a3, s3, o3⟩ := z
    exact ⟨a3, nI 0, _, s3, o2.tr o3, rfl, ev, M, rfl, grA_op g1, k3, g2⟩
  · obtain ⟨_, L, M', _, b, _, _, lo, _⟩ := id s2
    rw [znO_e, gl_bs]
    show wl (Option.bind (zfI (zmk δ 45 0 9) (some c.p) 40 3) _) _ _
    refine wl_ob fun x15 _ => wl_z ?_
    obtain ⟨β, y1, s', y4, y5⟩ := xnS_new (G := G) (T := E + 1) (kv := nI 46) (v := nI 0) (v' := x15) h2 (by rw [b.kl]; decide) b.hi (by decide)
    show wl (Option.bind (hX43_init G (some (zn δ)) (nI 46) (nI 0) x15 (zmk δ 45 0 9)) _) _ _
    rw [y1, gl_bs]
    obtain ⟨b2, _⟩ := b.st (β := β) (by omega) (y4 E lo.2) (y4 (E + 1) b.hi) (fun r hr => y4 r (b.ok r hr).2)
    refine wl_z (wl_b (wp_im (s'.att b2 lo.2) fun r' ε z => ?_))
    obtain ⟨rfl, s3, b3⟩ := z
    refine wp_im (w_when hL s3 b3 lo.2 (b2nT w1)) fun r η z => ⟨fun x hx => ?_, fun y hy => ?_⟩
    · obtain ⟨rfl, a4, d, b4, ek⟩ := z.1 x hx
      obtain ⟨N, h4, H4, nq, sj4, cq⟩ := d
      obtain ⟨s4, o4⟩ := s2.lst h4 H4 nq sj4 cq (fun L' b' => by rw [b'.uq b]; exact b4)
      refine ⟨rfl, a4, M ++ [xkv η (zn δ)], s4, .inl (by simp), fun f hf => ?_, o2.tr o4.ob⟩
      rcases List.mem_append.mp hf with w | w
      · exact g2 f w
      · rw [List.mem_singleton.mp w, ek]; exact ⟨46, by decide, by decide, rfl⟩
    · obtain ⟨z', hz⟩ := z.2 _ hy
      exact absurd hz (by simp)
/-- a phrase, perhaps -/
theorem w_perf94 (hL : stL c fL) (s : xnS c T E α0 a (nI 29, nI 0) K γ) (g : K = [] ∨ ∃ f, K = [f] ∧ grK 43 45 f) : wx (hX4_perform_94 G fA fB fE fL fP fS (some c.p) (some E) γ) (fun _ β => ∃ a' v K', xnS c T E α0 a' (nI 29, v) K' β ∧ oB E γ β ∧ grN c 29 v K') := by
  unfold hX4_perform_94
  refine wx_zc (wx_im (S_list hL s) fun _ γ1 z => ?_)
  obtain ⟨a1, ev, rfl, s1, o1⟩ := z
  refine wx_zc (wx_im (S_need (w := 74) s1 (by decide)) fun _ γ2 z => ?_)
  obtain ⟨s2, o2⟩ := z
  obtain ⟨s3, o3, z3⟩ := S_val (v := 1) s2
  show wx (Option.bind (zpI γ2 (some E) 44 1 1) _) _
  rw [z3, gl_bs]
  obtain ⟨s4, o4, z4⟩ := S_flg (k := 2) (v := 1) s3 (by decide)
  rw [z4, gl_bs]
  exact wx_l ⟨_, _, _, s4, o1.tr (o2.tr (o3.tr o4)), .inr ⟨rfl, K, rfl, g⟩⟩
theorem w_perf78 (hL : stL c fL) (s : xnS c T E α0 a (nI 29, nI 0) [] γ) : wx (hX4_perform_78 G fA fB fE fL fP fS (some c.p) (some E) γ) (fun _ β => ∃ a' v K', xnS c T E α0 a' (nI 29, v) K' β ∧ oB E γ β ∧ grN c 29 v K') := by
  have h := s.hp
  have a5 := h.a5
  unfold hX4_perform_78
  refine wx_z ?_
  rw [X_isPh h.o h.x h.ax (by omega), gl_bs]
  refine wx_if (fun _ => w_perf94 hL s (.inl rfl)) (fun _ => ?_)
  refine wx_zc (wx_im (S_rD s (w_phrase h)) fun r δ z => wx_zb (wp_im z fun r' γ1 y => ?_))
  obtain ⟨a1, ev, g1, s1, o1⟩ := y
  refine wx_im (w_perf94 hL s1 (.inr ⟨ev, rfl, g1⟩)) fun _ β z => ?_
  obtain ⟨a2, v, K', s2, o2, g2⟩ := z
  exact ⟨a2, v, K', s2, o1.tr o2, g2⟩
theorem w_perf61 (s : xnS c T E α0 a (nI 29, nI 0) (e' :: K) γ) (g : grNm c e') (gm : K = [] ∨ ∃ f, K = [f] ∧ grNm c f) : wx (hX4_perform_61 G fA fB fE fL fP fS (some c.p) (some E) γ) (fun _ β => ∃ a' v K', xnS c T E α0 a' (nI 29, v) K' β ∧ oB E γ β ∧ grN c 29 v K') := by
  have h := s.hp
  have a5 := h.a5
  unfold hX4_perform_61
  refine wx_z ?_
  rw [X_isPh h.o h.x h.ax (by omega), gl_bs]
  refine wx_if (fun _ => ?_) (fun _ => ?_)
  · unfold hX4_perform_77
    exact wx_l ⟨a, nI 0, _, s, oB.rf, .inl ⟨rfl, e', K, [], by rw [List.append_nil], g, gm, .inl rfl⟩⟩
  · refine wx_zc (wx_im (S_rD s (w_phrase h)) fun r δ z => wx_zb (wp_im z fun r' γ1 y => ?_))
    obtain ⟨a1, ev, g1, s1, o1⟩ := y
    unfold hX4_perform_77
    exact wx_l ⟨a1, nI 0, _, s1, o1, .inl ⟨rfl, e', K, [ev], rfl, g, gm, .inr ⟨ev, rfl, g1⟩⟩⟩
theorem w_perfR (hL : stL c fL) : stA c 29 (hX4_perform_r G fA fB fE fL fP fS) := fun {T E α0 γ a} s => by
  have h := s.hp
  have a5 := h.a5
  unfold hX4_perform_r
  rw [kfI h.kp, gl_bs, h.ax]
  refine wx_z ?_
  rw [nl1, X_isK h.o h.x (by omega) (by decide), gl_bs]
  refine wx_if (fun _ => w_perf78 hL s) (fun e1 => ?_)
  have e1 := b2nT e1
  refine wx_z ?_
  show wx (Option.bind (hX4_isPhrase G (some c.p) γ) _) _
  rw [X_isPh h.o h.x h.ax (by omega), gl_bs]
  refine wx_if (fun _ => w_perf78 hL s) (fun _ => ?_)
  refine wx_zc (wx_im (S_op s) fun r δ z => wx_zb (wp_im z fun r' γ1 y => ?_))
  obtain ⟨ev, g1, _, s1, o1⟩ := y
  have g1 := grA_nm g1 e1
  refine wx_zb (wp_im (S_meets (w := 21) s1 (by decide)) fun r2 γ2 z => ?_)
  obtain ⟨a2, s2, o2, _⟩ := z
  refine wx_if (fun _ => ?_) (fun _ => ?_)
  · refine wx_im (w_perf61 s2 g1 (.inl rfl)) fun _ β z => ?_
    obtain ⟨a3, v, K', s3, o3, g3⟩ := z
    exact ⟨a3, v, K', s3, o1.tr (o2.tr o3), g3⟩
  · have h2 := s2.hp
    have b5 := h2.a5
    show wx (Option.bind (zfI γ2 (some c.p) 40 3) _) _
    rw [kfI h2.kp, gl_bs, h2.ax]
    refine wx_z ?_
    rw [X_isK h2.o h2.x (by omega) (by decide), gl_bs]
    refine wx_zc (w_must h2 fun e2 => ?_)
    have e2 := b2nT e2
    refine wx_zc (wx_im (S_op s2) fun r δ z => wx_zb (wp_im z fun r' γ3 y => ?_))
    obtain ⟨ev2, g3, _, s3, o3⟩ := y
    refine wx_im (w_perf61 s3 g1 (.inr ⟨ev2, rfl, grA_nm g3 e2⟩)) fun _ β z => ?_
    obtain ⟨a4, v, K', s4, o4, g4⟩ := z
    exact ⟨a4, v, K', s4, o1.tr (o2.tr (o3.tr o4)), g4⟩
end PAZZZZ
