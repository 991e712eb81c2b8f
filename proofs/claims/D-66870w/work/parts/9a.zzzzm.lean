/-! THE PURE LAYER: the parser: X's side alone: a sentence. -/
section PAZZZZM
variable {ρ σ τ : Type} {c : pC} {G : xQ} {α β γ γ' δ ε α0 : zS} {a a' b k w q r t u n x x' T T' E f i j o lu lr lo hi y : Nat} {v v' v0 kv nm pr : Int32} {e e' : Int32 × Int32} {L L' op l : List Nat} {M M' N S S' U U' : Nat → Prop} {m K K' : List (Int32 × Int32)} {P : Int32 × Int32 → Prop} {p z : Option Nat}
theorem w_sentEnd (B : xBN c M U none lu lr u l x α) (kp : zkd α c.p = 41) (s : xnS c c.p q α a (nI 25, nI 0) K δ) (g : ∀ f, f ∈ K → grK 26 38 f) (x8 : 8 ≤ x) (x11 : x ≤ 11) : wx (if zis G δ (some u) 44 = true then
            (hX42_sentences G (some u) δ).bind fun p3 =>
            if zis G p3.2 p3.1 45 = true then
              (hX43_add G p3.1 (some q) p3.2).bind fun p4 =>
              if zis G p4.2 (some u) 44 = true then
                (hX42_goOn G (some u) p4.2).bind fun p5 =>
                some ((.inl (()) : Unit ⊕ Nat), p5.2)
              else none
            else none
          else none) (fun _ β => xWN c U lu lr u l β) := by
  obtain ⟨d, ek⟩ := s.cl (grS_i (k := 25) ⟨rfl, g⟩ (by decide))
  have g25 : grK 25 25 (xkv δ q) := ⟨25, by decide, by decide, by rw [ek]⟩
  obtain ⟨up1, up2⟩ := B.up kp
  have eu := S_fr s up2 up1
  have ku : zkd δ u = 44 := by rw [zkd_eq eu]; exact B.un.ku
  have Uu := B.op.1
  have go : ∀ k t v0 L, M t → xnB α t (nI k, v0) L → grN c k v0 (L.map (xkv α)) → k = 20 ∨ k = 23 ∨ k = 24 → wx (if zis G δ (some t) 45 = true then
              (hX43_add G (some t) (some q) δ).bind fun p4 =>
              if zis G p4.2 (some u) 44 = true then
                (hX42_goOn G (some u) p4.2).bind fun p5 =>
                some ((.inl (()) : Unit ⊕ Nat), p5.2)
              else none
            else none) (fun _ β => xWN c U lu lr u l β) := fun k t v0 L mt b gn hk => by
    refine wx_zb (wp_im (B_add B kp d mt b (lo := k) (hi := k) ⟨k, by omega, by omega, rfl⟩ (by omega) (by omega) (grS_i (k := k) ?_ (by omega))) fun r' ε y => ?_)
    · rcases hk with y | y | y <;> subst y
      · exact gr20 gn ⟨25, by decide, by decide, by rw [ek]⟩
      · exact ⟨gn.1, al_add gn.2 ⟨25, by decide, by decide, by rw [ek]⟩⟩
      · exact ⟨gn.1, al_add gn.2 g25⟩
    obtain ⟨rfl, h2, M', S2, m2, _, e2, hE, R, _⟩ := y
    have st : zI ε 43 3 u = nI x := by rw [zI_eq (hE u Uu)]; exact B.cu.st
    have hx' : x ≤ (if x = 9 then 9 else 11) ∧ (if x = 9 then 9 else 11) ≤ 11 ∧ (if x = 9 then 9 else 11) ≠ 8 := by
      by_cases y : x = 9
      · rw [if_pos y]; omega
      · rw [if_neg y]; omega
    obtain ⟨y3, W⟩ := B_st (x' := if x = 9 then 9 else 11) B (fun v hv hvu => hE v hv) (zA_eq (hE u Uu) 43 0) h2 S2 (R.up hx'.1 hx'.2.1) (by omega) (by omega) hx'.2.2
    refine wx_z ?_
    rw [w_goOn S2 Uu st (by omega), gl_bs]
    exact wx_l W
  refine wx_z ?_
  unfold hX42_sentences hX42_sentences_32
  rw [kfA ku, gl_bs, zA_eq eu]
  rcases h11 : zA α 43 11 u with _ | t
  · rw [if_pos rfl, kfA ku, gl_bs, zA_eq eu]
    rcases h10 : zA α 43 10 u with _ | t
    · rw [if_pos rfl, kfA ku, gl_bs, zA_eq eu, gl_bs]
      rcases h8 : zA α 43 8 u with _ | t
      · refine wx_z ?_
        rw [add_none]
        exact wx_no
      · obtain ⟨mt, g5⟩ := B.un.f8 t h8
        obtain ⟨v0, L, b, g⟩ := B.ts.hp.nd mt g5 (by decide) (by decide)
        exact go 20 t v0 L mt b g (.inl rfl)
    · rw [if_neg (by simp), gl_bs, gl_bs]
      obtain ⟨mt, g5⟩ := B.un.fa t h10
      obtain ⟨v0, L, b, g⟩ := B.ts.hp.nd mt g5 (by decide) (by decide)
      exact go 23 t v0 L mt b g (.inr (.inl rfl))
  · rw [if_neg (by simp), gl_bs, gl_bs]
    obtain ⟨mt, g5⟩ := B.un.fb t h11
    obtain ⟨v0, L, b, g⟩ := B.ts.hp.nd mt g5 (by decide) (by decide)
    exact go 24 t v0 L mt b g (.inr (.inr rfl))
theorem w_sent35 (B : xBN c M U none lu lr u l x α) (h : xp c a α) (x8 : 8 ≤ x) (x11 : x ≤ 11) {x0 : Int32} : wx (hX4_sentence_35 G (some c.p) (some u) x0 (some c.p) α) (fun _ β => xWN c U lu lr u l β) := by
  unfold hX4_sentence_35
  refine wx_zc (w_must h fun _ => ?_)
  rw [znO_e, gl_bs]
  show wx (Option.bind (zfI (zmk α 45 0 9) (some c.p) 40 3) _) _
  refine wx_ob fun x11' _ => wx_z ?_
  obtain ⟨β, y1, s, y4, y5⟩ := xnS_new (G := G) (T := c.p) (kv := nI 25) (v := nI 0) (v' := x11') h (by rw [h.kp]; decide) h.pz (by decide)
  show wx (Option.bind (hX43_init G (some (zn α)) (nI 25) (nI 0) x11' (zmk α 45 0 9)) _) _
  rw [y1, gl_bs]
  unfold hX4_sentence_53
  refine wx_lp (I := fun y δ => y = (some c.p, some u, some (zn α)) ∧ ∃ a' K, xnS c c.p (zn α) α a' (nI 25, nI 0) K δ ∧ ∀ ev, ev ∈ K → grK 26 38 ev) (fun y δ hI => ?_) ⟨rfl, a, [], s, fun ev hv => absurd hv (by simp)⟩
  obtain ⟨rfl, a2, K, s2, g2⟩ := hI
  have h5 := s2.hp
  have c5 := h5.a5
  show wl (hX4_sentence_53b G (some c.p) (some u) (some (zn α)) δ) _ _
  unfold hX4_sentence_53b
  refine wl_z ?_
  rw [X_isB h5.o h5.x h5.ax (by omega), gl_bs]
  refine wl_if (fun _ => ?_) (fun hB => ?_)
  · refine wl_zi (wx_zc (w_period h5 fun e => ?_))
    obtain ⟨s3, _⟩ := s2.adv (wK_i e).1
    exact w_sentEnd B h.kp s3 g2 x8 x11
  · refine wl_z (wl_c (wx_im (S_stmt (st_all G c xRec).2.2.2.2.2 s2 (b2nT hB)) fun _ ε z => wl_in ?_))
    obtain ⟨a3, ev, g3, s3, _⟩ := z
    exact ⟨rfl, a3, K ++ [ev], s3, al_add g2 g3⟩
/-- a sentence -/
theorem w_sentence (s : xBg c M U z lu lr u l x a α) : wx (hX4_sentence G (some c.p) α) (fun _ β => xWN c U lu lr u l β) := by
  have h := s.hh
  have B := s.bb
  have ku := B.un.ku
  unfold hX4_sentence
  rw [kfA h.kp, gl_bs, s.cu]
  refine wx_zc (w_state (i := 8) (j := 11) B.cu h s.cu ku (by decide) (by decide) fun g1 g2 => ?_)
  have z0 := B.z1 (by omega)
  subst z0
  have go : wx (hX4_sentence_30 G (some c.p) (some u) (some c.p) α) (fun _ β => xWN c U lu lr u l β) := by
    unfold hX4_sentence_30
    exact w_sent35 B h g1 g2
  show wx (Option.bind (zfI α (some u) 43 3) _) _
  rw [kfI ku, gl_bs]
  refine wx_if (fun _ => go) (fun _ => ?_)
  show wx (Option.bind (zfA α (some u) 43 10) _) _
  rw [kfA ku, gl_bs]
  exact wx_if (fun _ => w_sent35 B h g1 g2) (fun _ => go)
end PAZZZZM
