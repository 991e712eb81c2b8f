/-! THE PURE LAYER: the parser: X's side alone: every header. -/
section PAZZZZJ
variable {ρ σ τ : Type} {c : pC} {G : xQ} {α β γ γ' δ ε α0 : zS} {a a' b k w q r t u n x x' T T' E f i j o lu lr lo hi y : Nat} {v v' kv nm pr : Int32} {e e' : Int32 × Int32} {L L' op l : List Nat} {M M' N S S' U U' : Nat → Prop} {m K K' : List (Int32 × Int32)} {P : Int32 × Int32 → Prop} {p z : Option Nat}
theorem xHpN.nd (H : xHpN c M γ) (mt : M t) (g : grK k k (xkv γ t)) (h3 : 3 ≤ k) (h100 : k < 100) : ∃ v L, xnB γ t (nI k, v) L ∧ grN c k v (L.map (xkv γ)) := by
  obtain ⟨e, L, b, _, c2⟩ := H.1 t mt
  obtain ⟨j, j1, j2, j3⟩ := g
  have ej : j = k := by omega
  subst ej
  rw [b.e] at j3
  have e0 : e = (nI j, e.2) := by rw [← j3]
  rw [e0] at b c2
  refine ⟨e.2, L, b, ?_⟩
  rcases c2 with c2 | c2
  · exact grS_e c2 h100
  · exact absurd c2.1 (nun (lo := j) (hi := j) ⟨j, by omega, by omega, rfl⟩ h3 (by omega))
theorem S_fr (s : xnS c c.p E α0 a e K γ) (hq : q < zn α0) (hp : q ≠ c.p) : γ.2 q = α0.2 q := by
  obtain ⟨_, L, M, h, b, H, _⟩ := s
  exact H.fr q hq hp hp
theorem xBN.up (B : xBN c M U z lu lr u l x α) (kp : zkd α c.p = 41) : u ≠ c.p ∧ u < zn α := by
  have ku := B.un.ku
  exact ⟨fun y => by rw [y, kp] at ku; omega, B.un.hi⟩
/-- a header that is none -/
theorem w_h640 (s : xBg c M U z lu lr u l x a α) (h7 : zI α 40 7 c.p = nI 0) : wx (hX4_header_640 G (some c.p) v (some u) α) (fun _ β => zI β 40 7 c.p = nI 0 → xTC c lu lr β) := by
  have h := s.hh
  have cx := s.bb.cu.x
  have no : wx (hX4_header_658 G (some c.p) (some c.p) α) (fun _ β => zI β 40 7 c.p = nI 0 → xTC c lu lr β) := by
    unfold hX4_header_658 hX4_header_659
    exact wx_zc (w_must h fun y => absurd rfl y)
  unfold hX4_header_640
  refine wx_if (fun _ => no) (fun _ => ?_)
  rw [kfI s.bb.un.ku, gl_bs, s.bb.cu.st]
  refine wx_if (fun _ => no) (fun e0 => ?_)
  have hx : 1 ≤ x := by
    rw [nl0, pI_le (by omega) (by decide)] at e0
    omega
  have z0 := s.bb.z1 hx
  subst z0
  unfold hX4_header_659
  refine wx_zc (w_must h fun _ => wx_zc (wx_im (w_end s h7) fun _ β y => ?_))
  unfold hX4_header_666
  exact wx_l y
/-- WORKING-STORAGE, LINKAGE: the section, then items -/
theorem w_sec (s : xBg c M U z lu lr u l x a α) (hj : j = 5 ∧ k = 9 ∧ x' = 6 ∧ v = 14 ∨ j = 6 ∧ k = 10 ∧ x' = 7 ∧ v = 15) {v38 : Int32} : wx (hX4_header_447 G (some c.p) v (some u) v38 (nI j) (nI 3) (some c.p) α) (fun _ β => xWN c U lu lr u l β) := by
  have h := s.hh
  have B := s.bb
  unfold hX4_header_447
  refine wx_zc (w_state B.cu h s.cu B.un.ku (by decide) (by omega) fun g1 g2 => ?_)
  refine wx_zc (wx_im (Q_second (w := 16) h s.nn (by decide)) fun _ γ y => ?_)
  obtain ⟨a1, h1, q1⟩ := y
  have B1 := B.pw q1 h.kp
  have z0 := B1.z1 (by omega)
  subst z0
  show wx (Option.bind (zfA γ (some u) 43 5) _) _
  rw [kfA B1.un.ku, gl_bs, znO_e, gl_bs]
  obtain ⟨β, y1, d, ek, _⟩ := w_leaf (G := G) (kv := nI k) (v := nI 0) (v' := v38) h1 (by rcases hj with y | y <;> (rw [y.2.1]; decide)) (by rcases hj with y | y <;> (rw [y.2.1]; exact grS_i ⟨rfl, fun _ h => absurd h (by simp)⟩ (by decide)))
  have F : ∀ kv, kv = nI k → wx (hX4_header_478 G v (some u) v38 kv (some (zn γ)) (some (zn γ)) (zA γ 43 5 u) (some u) (zmk γ 45 0 9)) (fun _ β => xWN c U lu lr u l β) := fun kv hkv => by
    subst hkv
    unfold hX4_header_478
    refine wx_z ?_
    show wx (Option.bind (hX43_init G (some (zn γ)) (nI k) (nI 0) v38 (zmk γ 45 0 9)) _) _
    rw [y1, gl_bs]
    rcases ht : zA γ 43 5 u with _ | t
    · refine wx_z ?_
      rw [add_none]
      exact wx_no
    obtain ⟨mt, g5⟩ := B1.un.f5 t ht
    obtain ⟨v0, L, b, v1, g7⟩ := B1.ts.hp.nd mt g5 (by decide) (by decide)
    refine wx_zb (wp_im (B_add B1 h1.kp d mt b (lo := 7) (hi := 7) ⟨7, by decide, by decide, rfl⟩ (by decide) (by decide) (grS_i ⟨v1, fun e he => ?_⟩ (by decide))) fun r' ε y => ?_)
    · rcases List.mem_append.mp he with w | w
      · exact g7 e w
      · rw [List.mem_singleton.mp w, ek]
        exact ⟨k, by omega, by omega, rfl⟩
    obtain ⟨rfl, h2, M', S2, m2, _, e2, hE, R, _⟩ := y
    have Uu := B1.op.1
    refine wx_zb (wp_im (T_items S2 Uu h2 m2 (by rw [e2, ek]; exact ⟨k, by omega, by omega, rfl⟩)) fun _ δ y => ?_)
    obtain ⟨h3, S3, w1, w2, w3, w4⟩ := y
    have fin : ∀ w, w = nI x' → wx (hX4_header_503 G w (some u) δ) (fun _ β => xWN c U lu lr u l β) := fun w hw => by
      subst hw
      have R1 : xRtN δ u x' := (R.up (by omega) (by omega)).fr w3 fun t' e' L' h1' b' => w4 t' e' L' (by
        obtain ⟨r, r1, r2, _⟩ := (S2.un u Uu).f1
        rw [Option.some.inj (h1'.symm.trans r1)]; exact r2) b'
      obtain ⟨y3, W⟩ := B_st (x' := x') B1 (fun v hv hvu => (w1 v hv hvu).trans (hE v hv)) (w2.trans (zA_eq (hE u Uu) 43 0)) h3 S3 R1 (by omega) (by omega) (by omega)
      unfold hX4_header_503
      rw [y3, gl_bs]
      unfold hX4_header_666
      exact wx_l W
    refine wx_if (fun e0 => fin 7 ?_) (fun e0 => fin 6 ?_)
    · rcases hj with y | y
      · exact absurd y.2.2.2 e0
      · rw [y.2.2.1]; rfl
    · rcases hj with y | y
      · rw [y.2.2.1]; rfl
      · exact absurd (y.2.2.2.symm.trans (Decidable.of_not_not e0)) (by decide)
  refine wx_if (fun e0 => F 10 ?_) (fun e0 => F 9 ?_)
  · rcases hj with y | y
    · exact absurd y.2.2.2 e0
    · rw [y.2.1]; rfl
  · rcases hj with y | y
    · rw [y.2.1]; rfl
    · exact absurd (y.2.2.2.symm.trans (Decidable.of_not_not e0)) (by decide)
theorem w_h561 (B : xBN c M U none lu lr u l x γ) (kp : zkd γ c.p = 41) (h7 : x ≤ 7) (h1 : 1 ≤ x) (s : xnS c c.p q γ a (nI 20, nI 0) K δ) (g : ∀ f, f ∈ K → grK 21 21 f) : wx (hX4_header_561 G (some c.p) (some u) (some q) δ) (fun _ β => xWN c U lu lr u l β) := by
  unfold hX4_header_561
  refine wx_zc (w_period s.hp fun e => ?_)
  obtain ⟨s1, _⟩ := s.adv (wK_i e).1
  obtain ⟨d, ek⟩ := s1.cl (grS_i (k := 20) ⟨rfl, K, [], [], by simp, g, .inl rfl, fun _ h => absurd h (by simp)⟩ (by decide))
  obtain ⟨r, r1, r2, r3⟩ := B.un.f1
  obtain ⟨up1, up2⟩ := B.up kp
  have eu := S_fr s1 up2 up1
  show wx (Option.bind (zfA (xaS c δ a) (some u) 43 1) _) _
  rw [kfA (by rw [zkd_eq eu]; exact B.un.ku), gl_bs, zA_eq eu, r1]
  refine wx_zb (wp_im (B_root (x' := 8) B kp d r1 fun i j k n y1 y2 y3 y4 y5 => ⟨i, j, true, [], ?_, fun _ h => absurd h (by simp), fun _ => rfl, fun y => absurd y (by decide), fun y => absurd y (by decide), fun y => absurd y (by decide)⟩) fun r' ε y => ?_)
  · rw [y1 (by omega), y4 h7, ek]
    rcases i with _ | _ <;> rcases j with _ | _ <;> rfl
  · obtain ⟨rfl, h2, M', S2, m2, _, e2, hE, R, w1⟩ := y
    obtain ⟨_, L, M0, _, b, _, _, lo, _, k, _⟩ := id s1
    obtain ⟨b1, b2⟩ := w1 q _ _ b (fun y => by have := B.ts.hp.md r2; omega)
    obtain ⟨y1, y2, W⟩ := B_set (k := 8) (p := some q) (x' := 8) B hE h2 S2 R (by decide) (by decide) (by decide) (by decide) (fun q' hq => by
      rw [← Option.some.inj hq]
      exact ⟨m2, 20, by decide, by decide, by rw [e2, ek]⟩) (by decide) (by decide) (fun _ => ⟨rfl, q, _, L, rfl, b1, fun f hf => g f (by rw [← k, ← b2]; exact hf)⟩)
    show wx (Option.bind (zpA ε (some u) 43 8 (some q)) _) _
    rw [y1, gl_bs]
    show wx (Option.bind (zpI _ (some u) 43 3 (nI 8)) _) _
    rw [y2, gl_bs]
    unfold hX4_header_666
    exact wx_l W
end PAZZZZJ
