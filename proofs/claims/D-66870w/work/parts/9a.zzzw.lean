/-! THE PURE LAYER: the parser: X's side alone: names, the end of a scope, phrases. -/
section PAZZZW
variable {ρ σ : Type} {c : pC} {G : xQ} {α β γ δ ε α0 : zS} {a a' b k w q r t u n x T T' E f kd sg o : Nat} {v v' kv nm pr : Int32} {e e' : Int32 × Int32} {L : List Nat} {M M' N S S' : Nat → Prop} {l m K : List (Int32 × Int32)} {P : Int32 × Int32 → Prop} {p : Option Nat}
/-- a node without children comes -/
theorem w_leaf (h : xp c a γ) (k53 : nkC kv) (g : grS c (kv, v) []) : ∃ β, hX43_init G (some (zn γ)) kv v v' (zmk γ 45 0 9) = some ((), β) ∧ xnD c c.p γ a (zn γ) β ∧ xkv β (zn γ) = (kv, v) ∧ xp c a β := by
  obtain ⟨β, y1, s, y4, y5⟩ := xnS_new (G := G) (T := c.p) (kv := kv) (v := v) (v' := v') h (by rw [h.kp]; decide) h.pz k53
  obtain ⟨d, ev⟩ := s.cl g
  exact ⟨β, y1, d, ev, s.hp⟩
theorem w_names (hk : k = 17 ∨ k = 21) (s : xnS c T E α0 a e K γ) : wx (hX4_names G (some c.p) (some E) (nI k) γ) (fun _ β => ∃ a' K', xnS c T E α0 a' e (K ++ K') β ∧ K' ≠ [] ∧ (∀ ev, ev ∈ K' → ev.1 = nI k ∧ grV c 1 ev.2) ∧ oB E γ β) := by
  have h := s.hp
  have a5 := h.a5
  unfold hX4_names
  rw [kfI h.kp, gl_bs, if_pos h.z41, h.ax, nl1, X_isK h.o h.x (by omega) (by decide), gl_bs, if_pos h.z41]
  rcases eO : wK c a 1 with _ | _
  · exact wx_c (w_must h fun z => absurd rfl z)
  · refine wx_c (w_must h fun _ => ?_)
    unfold hX4_names_13
    refine wx_lp (I := fun x δ => x = (some c.p, some E, nI k) ∧ ∃ a' K', xnS c T E α0 a' e (K ++ K') δ ∧ (K' ≠ [] ∨ wK c a' 1 = true) ∧ (∀ ev, ev ∈ K' → ev.1 = nI k ∧ grV c 1 ev.2) ∧ oB E γ δ) (fun x δ hI => ?_) ⟨rfl, a, [], by rw [List.append_nil]; exact s, .inr eO, fun ev hv => absurd hv (by simp), oB.rf⟩
    obtain ⟨rfl, b, K', s1, k1, g1, o1⟩ := hI
    have h1 := s1.hp
    have b5 := h1.a5
    show wl (hX4_names_13b G (some c.p) (some E) (nI k) δ) _ _
    unfold hX4_names_13b
    rw [kfI h1.kp, gl_bs, if_pos h1.z41, h1.ax, show (1 : Int32) = nI 1 from rfl, X_isK h1.o h1.x (by omega) (by decide), gl_bs]
    rcases e1 : wK c b 1 with _ | _
    · rw [if_pos (show nI (b2n false) = 0 from rfl)]
      exact wl_out ⟨b, K', s1, k1.resolve_right (by rw [e1]; decide), g1, o1⟩
    · obtain ⟨i1, i2⟩ := wK_i e1
      have gv : grV c 1 (nI (c.vs b)) := ⟨c.vs b, ⟨b, i1, i2, rfl⟩, rfl⟩
      have gk : grS c (nI k, nI (c.vs b)) [] := by
        rcases hk with z | z <;> subst z <;> exact grS_i ⟨rfl, gv⟩ (by decide)
      obtain ⟨ε, y1, d, ev, h2⟩ := w_leaf (G := G) (v' := nI b) h1 (by rcases hk with z | z <;> subst z <;> decide) gk
      have h4 := h1.mk0.1
      have rv := h4.x.rv b i1
      have n5 := h1.o.n
      have n45 : zkd (zmk δ 45 0 9) (zn δ) = 45 := by rw [zkd_zmk, if_pos rfl]
      rw [if_neg (show ¬ nI (b2n true) = 0 from by decide)]
      show wl (Option.bind (znO δ 44 9) _) _ _
      rw [znO_e, gl_bs]
      show wl (Option.bind (zfA (zmk δ 45 0 9) (some c.p) 40 1) _) _ _
      rw [kfA h4.kp, gl_bs, h4.x.fv, kfI h4.kp, gl_bs, h4.ax, kald h4.x.kv (by rw [h4.x.lv]; omega) (by rw [h4.x.lv]; decide), gl_bs, rv, gl_bs]
      show wl (if zis G (zmk δ 45 0 9) (some (zn δ)) 45 = true then _ else _) _ _
      rw [if_pos (of_eq_true (kis n45 (by decide)))]
      show wl (Option.bind (hX43_init G (some (zn δ)) (nI k) (nI (c.vs b)) (nI b) (zmk δ 45 0 9)) _) _ _
      rw [y1, gl_bs]
      obtain ⟨z1, z2⟩ := s1.res (G := G) d
      show wl (if zis G ε (some E) 45 = true then _ else _) _ _
      rw [if_pos z1]
      refine wl_b (wp_im z2 fun r' η y => ?_)
      obtain ⟨_, s2, o2⟩ := y
      rw [ev] at s2
      have h3 := s2.hp
      show wl (Option.bind (zfI η (some c.p) 40 3) _) _ _
      rw [kfI h3.kp, gl_bs, h3.ax, kpI h3.kp, gl_bs, show nI b + nI 1 = nI (b + 1) from pI_succ b, show zwI η 40 3 c.p (nI (b + 1)) = xaS c η b from rfl]
      obtain ⟨s3, o3⟩ := s2.adv i1
      refine wl_in ⟨rfl, b + 1, K' ++ [(nI k, nI (c.vs b))], by rw [← List.append_assoc]; exact s3, .inl (by simp), fun ev' hv => ?_, o1.tr (o2.tr o3).ob⟩
      rcases List.mem_append.mp hv with w | w
      · exact g1 ev' w
      · rw [List.mem_singleton.mp w]; exact ⟨rfl, gv⟩
/-- the end of a scope -/
theorem w_scope (s : xnS c T E α0 a e K γ) (hw : w < 100000) : wp (hX4_scopeEnd G (some c.p) (some E) (nI w) γ) (fun _ β => ∃ a', xnS c T E α0 a' e K β ∧ oB E γ β) := by
  have h := s.hp
  have fl : ∀ {a' : Nat} {δ : zS} {v : Int32}, xnS c T E α0 a' e K δ → oB E γ δ → wp (hX4_scopeEnd_14 G v (some E) δ) (fun _ β => ∃ a', xnS c T E α0 a' e K β ∧ oB E γ β) := fun {a' δ v} s1 o1 => by
    obtain ⟨z1, z2, z3⟩ := s1.flg (k := 2) (v := v) ⟨by decide, by decide⟩
    intro r β hr
    unfold hX4_scopeEnd_14 at hr
    rw [z1, gl_bs] at hr
    have e1 := (Prod.mk.inj (Option.some.inj hr)).2
    rw [← e1]
    exact ⟨a', z2, o1.tr (oB_E s1.k45 (by decide))⟩
  intro r β hr
  unfold hX4_scopeEnd at hr
  rw [if_pos h.z41, w_meets h hw] at hr
  rcases ew : wW c a w with _ | _
  · rw [ew, if_neg (by decide), gl_bs] at hr
    by_cases z : (nI 0, γ).1 = 0
    · rw [if_pos z] at hr
      exact fl s oB.rf r β hr
    · rw [if_neg z] at hr
      exact fl s oB.rf r β hr
  · obtain ⟨s1, o1⟩ := s.adv (wW_i ew).1
    rw [ew, if_pos rfl, gl_bs] at hr
    by_cases z : (nI 1, xaS c γ a).1 = 0
    · rw [if_pos z] at hr
      exact fl s1 o1.ob r β hr
    · rw [if_neg z] at hr
      exact fl s1 o1.ob r β hr
end PAZZZW
