/-! THE PURE LAYER: the parser: X's side alone: sections, paragraphs, sentences. -/
section PAZZZZL
variable {ρ σ τ : Type} {c : pC} {G : xQ} {α β γ γ' δ ε α0 : zS} {a a' b k w q r t u n x x' T T' E f i j o lu lr lo hi y : Nat} {v v' v0 kv nm pr : Int32} {e e' : Int32 × Int32} {L L' op l : List Nat} {M M' N S S' U U' : Nat → Prop} {m K K' : List (Int32 × Int32)} {P : Int32 × Int32 → Prop} {p z : Option Nat}
/-- below procedures: one more of them -/
theorem gr20 (g : grN c 20 v m) (h : grK 23 25 e) : grN c 20 v (m ++ [e]) := by
  obtain ⟨h0, m1, n1, o1, e1, h1, h2, h3⟩ := g
  refine ⟨h0, m1, n1, o1 ++ [e], by rw [e1]; simp, h1, h2, fun f hf => ?_⟩
  rcases List.mem_append.mp hf with w | w
  · exact h3 f w
  · rw [List.mem_singleton.mp w]; exact h
theorem al_add {P : Int32 × Int32 → Prop} (h : ∀ f, f ∈ m → P f) (h' : P e) : ∀ f, f ∈ m ++ [e] → P f := fun f hf => by
  rcases List.mem_append.mp hf with w | w
  · exact h f w
  · rw [List.mem_singleton.mp w]; exact h'
theorem w_goOn (S : xTs c M U none lu lr ε) (hu : U u) (st : zI ε 43 3 u = nI x) (hx : x < 100) : hX42_goOn G (some u) ε = some ((), zwI ε 43 3 u (nI (if x = 9 then 9 else 11))) := X_goOn (S.un u hu).ku st hx
theorem w_n136 (B : xBN c M U none lu lr u l x γ) (h : xp c a γ) (mt : M t) (b : xnB γ t (nI k, v0) L) (hk : k = 20 ∨ k = 23) (g : grN c k v0 (L.map (xkv γ))) (gv : grV c 1 v) (x8 : 8 ≤ x) (x11 : x ≤ 11) : wx (hX4_named_136 G (some u) v' v (some t) (some u) γ) (fun _ β => xWN c U lu lr u l β) := by
  unfold hX4_named_136
  refine wx_nw (T := c.p) h (by rw [h.kp]; decide) h.pz (by decide) fun β s1 _ _ => ?_
  obtain ⟨d, ek⟩ := s1.cl (grS_i (k := 24) ⟨gv, fun _ h => absurd h (by simp)⟩ (by decide))
  have g24 : grK 24 24 (xkv β (zn γ)) := ⟨24, by decide, by decide, by rw [ek]; rfl⟩
  refine wx_zb (wp_im (B_add B h.kp d mt b (lo := k) (hi := k) ⟨k, by omega, by omega, rfl⟩ (by omega) (by omega) (grS_i (k := k) ?_ (by omega))) fun r' ε y => ?_)
  · rcases hk with y | y <;> subst y
    · exact gr20 g ⟨24, by decide, by decide, by rw [ek]; rfl⟩
    · exact ⟨g.1, al_add g.2 ⟨24, by decide, by decide, by rw [ek]; rfl⟩⟩
  obtain ⟨rfl, h2, M', S2, m2, _, e2, hE, R, _⟩ := y
  have Uu := B.op.1
  obtain ⟨y1, S3, f1⟩ := T_wA (k := 11) (p := some (zn γ)) S2 Uu (by decide) (by decide) (by decide) (fun q hq => by
    rw [← Option.some.inj hq, e2]; exact ⟨m2, g24⟩)
  have ku := (S2.un u Uu).ku
  have h3 := h2.uw (β := zwA ε 43 11 u (some (zn γ))) (u := u) f1 rfl ku
  have st : zI (zwA ε 43 11 u (some (zn γ))) 43 3 u = nI x := by rw [zI_zwA, zI_eq (hE u Uu)]; exact B.cu.st
  have hx' : x ≤ (if x = 9 then 9 else 11) ∧ (if x = 9 then 9 else 11) ≤ 11 ∧ (if x = 9 then 9 else 11) ≠ 8 := by
    by_cases y : x = 9
    · rw [if_pos y]; omega
    · rw [if_neg y]; omega
  obtain ⟨y3, W⟩ := B_st (x' := if x = 9 then 9 else 11) B (fun v hv hvu => (f1 v hvu).trans (hE v hv)) (by rw [zA_zwA, if_neg (fun z => absurd z.2.1 (by decide))]; exact zA_eq (hE u Uu) 43 0) h3 S3 ((R.up hx'.1 hx'.2.1).fr (by rw [zA_zwA, if_neg (fun z => absurd z.2.1 (by decide))]) fun t' e' L' _ b' => b'.uw f1 rfl ku) (by omega) (by omega) hx'.2.2
  show wx (Option.bind (zpA ε (some u) 43 11 (some (zn γ))) _) _
  rw [y1, gl_bs]
  unfold hX4_named_153
  refine wx_z ?_
  rw [w_goOn S3 Uu st (by omega), gl_bs]
  exact wx_l W
theorem w_n92 (B : xBN c M U none lu lr u l x γ) (h : xp c a γ) (mt : M t) (b : xnB γ t (nI k, v0) L) (hk : k = 20 ∨ k = 22) (g : grN c k v0 (L.map (xkv γ))) (gv : grV c 1 v) (x8 : 8 ≤ x) (x11 : x ≤ 11) : wx (hX4_named_92 G (some u) v' v (some t) (some u) γ) (fun _ β => xWN c U lu lr u l β) := by
  unfold hX4_named_92
  refine wx_nw (T := c.p) h (by rw [h.kp]; decide) h.pz (by decide) fun β s1 _ _ => ?_
  obtain ⟨d, ek⟩ := s1.cl (grS_i (k := 23) ⟨gv, fun _ h => absurd h (by simp)⟩ (by decide))
  have g23 : grK 23 23 (xkv β (zn γ)) := ⟨23, by decide, by decide, by rw [ek]; rfl⟩
  refine wx_zb (wp_im (B_add B h.kp d mt b (lo := k) (hi := k) ⟨k, by omega, by omega, rfl⟩ (by omega) (by omega) (grS_i (k := k) ?_ (by omega))) fun r' ε y => ?_)
  · rcases hk with y | y <;> subst y
    · exact gr20 g ⟨23, by decide, by decide, by rw [ek]; rfl⟩
    · exact ⟨g.1, al_add g.2 g23⟩
  obtain ⟨rfl, h2, M', S2, m2, _, e2, hE, R, _⟩ := y
  have Uu := B.op.1
  obtain ⟨y1, S3, f1⟩ := T_wA (k := 10) (p := some (zn γ)) S2 Uu (by decide) (by decide) (by decide) (fun q hq => by
    rw [← Option.some.inj hq, e2]; exact ⟨m2, g23⟩)
  obtain ⟨y2, S4, f2⟩ := T_wA (k := 11) (p := none) S3 Uu (by decide) (by decide) (by decide) (fun q hq => absurd hq (by simp))
  have ku := (S2.un u Uu).ku
  have fr : ∀ y, y ≠ u → (zwA (zwA ε 43 10 u (some (zn γ))) 43 11 u none).2 y = ε.2 y := fun y hy => (f2 y hy).trans (f1 y hy)
  have zz : ∀ j, j < 10 → zA (zwA (zwA ε 43 10 u (some (zn γ))) 43 11 u none) 43 j u = zA ε 43 j u := fun j hj => by
    rw [zA_zwA, if_neg (fun z => by have := z.2.1; omega), zA_zwA, if_neg (fun z => by have := z.2.1; omega)]
  have h3 := h2.uw (u := u) fr rfl ku
  have st : zI (zwA (zwA ε 43 10 u (some (zn γ))) 43 11 u none) 43 3 u = nI x := by rw [zI_zwA, zI_zwA, zI_eq (hE u Uu)]; exact B.cu.st
  have hx' : x ≤ (if x = 9 then 9 else 11) ∧ (if x = 9 then 9 else 11) ≤ 11 ∧ (if x = 9 then 9 else 11) ≠ 8 := by
    by_cases y : x = 9
    · rw [if_pos y]; omega
    · rw [if_neg y]; omega
  obtain ⟨y3, W⟩ := B_st (x' := if x = 9 then 9 else 11) B (fun v hv hvu => (fr v hvu).trans (hE v hv)) ((zz 0 (by decide)).trans (zA_eq (hE u Uu) 43 0)) h3 S4 ((R.up hx'.1 hx'.2.1).fr (zz 1 (by decide)) fun t' e' L' _ b' => b'.uw fr rfl ku) (by omega) (by omega) hx'.2.2
  show wx (Option.bind (zpA ε (some u) 43 10 (some (zn γ))) _) _
  rw [y1, gl_bs, y2, gl_bs]
  unfold hX4_named_153
  refine wx_z ?_
  rw [w_goOn S4 Uu st (by omega), gl_bs]
  exact wx_l W
theorem w_nwNo (h : xp c a γ) (hT : zkd γ c.p = 41) {v1 : Int32} {Q : Unit → zS → Prop} : wx (hX4_named_136 G (some u) v' v none (some u) γ) Q ∧ wx (hX4_named_92 G (some u) v' v none (some u) γ) Q := by
  refine ⟨?_, ?_⟩
  · unfold hX4_named_136
    rw [znO_e, gl_bs]
    refine wx_z (wx_b fun r β _ => wx_z ?_)
    rw [add_none]
    exact wx_no
  · unfold hX4_named_92
    rw [znO_e, gl_bs]
    refine wx_z (wx_b fun r β _ => wx_z ?_)
    rw [add_none]
    exact wx_no
theorem w_n59 (B : xBN c M U none lu lr u l x α) (h : xp c a α) (gv : grV c 1 v) (x8 : 8 ≤ x) (x11 : x ≤ 11) {x4 x0 : Int32} : wx (hX4_named_59 G (some c.p) (some u) v' v x4 x0 (some c.p) α) (fun _ β => xWN c U lu lr u l β) := by
  unfold hX4_named_59
  refine wx_zc (w_must h fun _ => wx_zc (wx_im (Q_period h) fun _ γ y => ?_))
  obtain ⟨h1, q1⟩ := y
  have B1 := B.pw q1 h.kp
  have ku := B1.un.ku
  have cx := B1.cu.x
  refine wx_if (fun _ => ?_) (fun _ => ?_)
  · show wx (Option.bind (zfA γ (some u) 43 10) _) _
    rw [kfA ku, gl_bs]
    refine wx_if (fun e0 => ?_) (fun _ => ?_)
    · show wx (Option.bind (zfA γ (some u) 43 8) _) _
      rw [kfA ku, gl_bs]
      rcases ht : zA γ 43 8 u with _ | t
      · exact (w_nwNo (v1 := v) h1 h1.kp).1
      · obtain ⟨mt, g5⟩ := B1.un.f8 t ht
        obtain ⟨v0, L, b, g⟩ := B1.ts.hp.nd mt g5 (by decide) (by decide)
        exact w_n136 B1 h1 mt b (.inl rfl) g gv x8 x11
    · rw [gl_bs]
      rcases ht : zA γ 43 10 u with _ | t
      · exact (w_nwNo (v1 := v) h1 h1.kp).1
      · obtain ⟨mt, g5⟩ := B1.un.fa t ht
        obtain ⟨v0, L, b, g⟩ := B1.ts.hp.nd mt g5 (by decide) (by decide)
        exact w_n136 B1 h1 mt b (.inr rfl) g gv x8 x11
  · show wx (Option.bind (zfI γ (some u) 43 3) _) _
    rw [kfI ku, gl_bs]
    refine wx_if (fun e0 => ?_) (fun _ => ?_)
    · show wx (Option.bind (zfA γ (some u) 43 8) _) _
      rw [kfA ku, gl_bs]
      rcases ht : zA γ 43 8 u with _ | t
      · exact (w_nwNo (v1 := v) h1 h1.kp).2
      · obtain ⟨mt, g5⟩ := B1.un.f8 t ht
        obtain ⟨v0, L, b, g⟩ := B1.ts.hp.nd mt g5 (by decide) (by decide)
        exact w_n92 B1 h1 mt b (.inl rfl) g gv x8 x11
    · show wx (Option.bind (zfA γ (some u) 43 9) _) _
      rw [kfA ku, gl_bs]
      rcases ht : zA γ 43 9 u with _ | t
      · exact (w_nwNo (v1 := v) h1 h1.kp).2
      · obtain ⟨mt, g5⟩ := B1.un.f9 t ht
        obtain ⟨v0, L, b, g⟩ := B1.ts.hp.nd mt g5 (by decide) (by decide)
        exact w_n92 B1 h1 mt b (.inr rfl) g gv x8 x11
/-- a section's or a paragraph's name -/
theorem w_named (s : xBg c M U z lu lr u l x a α) : wx (hX4_named G (some c.p) α) (fun _ β => xWN c U lu lr u l β) := by
  have h := s.hh
  have B := s.bb
  have ku := B.un.ku
  unfold hX4_named
  rw [kfA h.kp, gl_bs, s.cu]
  refine wx_zc (w_state (i := 8) (j := 11) B.cu h s.cu ku (by decide) (by decide) fun g1 g2 => ?_)
  have z0 := B.z1 (by omega)
  subst z0
  show wx (Option.bind (zfI α (some c.p) 40 3) _) _
  refine wx_ob fun x23 _ => wx_zc (wx_im (Q_take (k := 1) h (by decide)) fun w γ y => ?_)
  obtain ⟨h2, q2, e2, rfl⟩ := y
  have B2 := B.pw q2 h.kp
  obtain ⟨i1, i2⟩ := wK_i e2
  have gv : grV c 1 (nI (c.vs a)) := ⟨c.vs a, ⟨a, i1, i2, rfl⟩, rfl⟩
  refine wx_zb (wp_im (Q_meets (w := 16) h2 (by decide)) fun r3 δ y => ?_)
  obtain ⟨a3, h3, q3, _⟩ := y
  have B3 := B2.pw q3 h2.kp
  have go : wx (hX4_named_54 G (some c.p) (some u) x23 (nI (c.vs a)) r3 (some c.p) δ) (fun _ β => xWN c U lu lr u l β) := by
    unfold hX4_named_54
    exact w_n59 B3 h3 gv g1 g2
  refine wx_if (fun _ => go) (fun _ => ?_)
  show wx (Option.bind (zfI δ (some u) 43 3) _) _
  rw [kfI B3.un.ku, gl_bs]
  refine wx_if (fun _ => go) (fun _ => ?_)
  show wx (Option.bind (zfA δ (some u) 43 10) _) _
  rw [kfA B3.un.ku, gl_bs]
  exact wx_if (fun _ => w_n59 B3 h3 gv g1 g2) (fun _ => go)
end PAZZZZL
