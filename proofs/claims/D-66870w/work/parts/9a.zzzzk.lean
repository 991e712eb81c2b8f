/-! THE PURE LAYER: the parser: X's side alone: the header. -/
section PAZZZZK
variable {ρ σ τ : Type} {c : pC} {G : xQ} {α β γ γ' δ ε α0 : zS} {a a' b k w q r t u n x x' T T' E f i j o lu lr lo hi y : Nat} {v v' kv nm pr : Int32} {e e' : Int32 × Int32} {L L' op l : List Nat} {M M' N S S' U U' : Nat → Prop} {m K K' : List (Int32 × Int32)} {P : Int32 × Int32 → Prop} {p z : Option Nat}
theorem w_header (s : xBg c M U z lu lr u l x a α) (h7 : zI α 40 7 c.p = nI 0) : wx (hX4_header G (some c.p) v α) (fun _ β => zI β 40 7 c.p = nI 0 → xTC c lu lr β) := by
  have h := s.hh
  have B := s.bb
  have Uu := B.op.1
  have cx := B.cu.x
  have fin : ∀ {m : zF (Unit ⊕ Nat)}, wx m (fun _ β => xWN c U lu lr u l β) → wx m (fun _ β => zI β 40 7 c.p = nI 0 → xTC c lu lr β) := fun hm => wx_im hm fun _ β W _ => W.out s.h1 s.h2 s.h3
  have no : wx (hX4_header_640 G (some c.p) v (some u) α) (fun _ β => zI β 40 7 c.p = nI 0 → xTC c lu lr β) := w_h640 s h7
  unfold hX4_header
  rw [kfA h.kp, gl_bs, s.cu, kfI h.kp, gl_bs, h.ax]
  refine wx_if (fun _ => no) (fun _ => ?_)
  refine wx_if (fun e2 => fin (w_ident s (.inl e2))) (fun _ => ?_)
  refine wx_if (fun e3 => fin (w_ident s (.inr e3))) (fun _ => ?_)
  refine wx_if (fun e4 => ?_) (fun _ => ?_)
  · exact fin (wx_z (h_env s))
  refine wx_if (fun e5 => ?_) (fun _ => ?_)
  · refine wx_zc (w_state (i := 2) (j := 2) B.cu h s.cu B.un.ku (by decide) (by decide) fun g1 g2 => ?_)
    have z0 := B.z1 (by omega)
    subst z0
    rw [kfA B.un.ku, gl_bs]
    refine wx_zc (wx_im (w_select h s.nn) fun r δ y => ?_)
    obtain ⟨a1, q, rfl, d, g4⟩ := y
    rcases ht : zA α 43 4 u with _ | t
    · refine wx_z ?_
      rw [add_none]
      exact wx_no
    obtain ⟨mt, g5⟩ := B.un.f4 t ht
    obtain ⟨v0, L, b, v1, g7⟩ := B.ts.hp.nd mt g5 (by decide) (by decide)
    refine wx_zb (wp_im (B_add B h.kp d mt b (lo := 3) (hi := 3) ⟨3, by decide, by decide, rfl⟩ (by decide) (by decide) (grS_i ⟨v1, fun e he => ?_⟩ (by decide))) fun r' ε y => ?_)
    · rcases List.mem_append.mp he with w | w
      · exact g7 e w
      · rw [List.mem_singleton.mp w]; exact g4
    obtain ⟨rfl, h2, M', S2, m2, _, e2, hE, R, _⟩ := y
    unfold hX4_header_666
    refine wx_l fun _ => xWN.out (U := U) (l := l) ?_ s.h1 s.h2 s.h3
    exact B_end B (fun v hv _ => hE v hv) (zA_eq (hE u Uu) 43 0) R h2 S2 ((zI_eq (hE u Uu) 43 3).trans B.cu.st) (by omega) (by omega) (fun y => by omega)
  refine wx_if (fun _ => no) (fun _ => ?_)
  refine wx_if (fun _ => no) (fun _ => ?_)
  refine wx_if (fun _ => no) (fun _ => ?_)
  refine wx_if (fun _ => no) (fun _ => ?_)
  refine wx_if (fun _ => no) (fun _ => ?_)
  refine wx_if (fun _ => no) (fun _ => ?_)
  refine wx_if (fun e12 => ?_) (fun _ => ?_)
  · refine wx_zc (w_state (i := 1) (j := 2) B.cu h s.cu B.un.ku (by decide) (by decide) fun g1 g2 => ?_)
    refine wx_zc (wx_im (Q_second (w := 1) h s.nn (by decide)) fun _ γ y => ?_)
    obtain ⟨a1, h1, q1⟩ := y
    have B1 := B.pw q1 h.kp
    have z0 := B1.z1 (by omega)
    subst z0
    obtain ⟨r, r1, r2, r3⟩ := B1.un.f1
    show wx (Option.bind (zfA γ (some u) 43 1) _) _
    rw [kfA B1.un.ku, gl_bs, r1]
    refine wx_nw (T := c.p) h1 (by rw [h1.kp]; decide) h1.pz (by decide) fun β s1 _ _ => ?_
    obtain ⟨d, ek⟩ := s1.cl (grS_i (k := 7) ⟨rfl, fun _ h => absurd h (by simp)⟩ (by decide))
    refine wx_zb (wp_im (B_root (x' := 3) B1 h1.kp d r1 fun i j k n y1 y2 y3 y4 y5 => ⟨i, true, false, [], ?_, fun _ h => absurd h (by simp), fun _ => rfl, fun y => absurd y (by decide), fun y => absurd y (by decide), fun _ => rfl⟩) fun r' ε y => ?_)
    · rw [y1 (by omega), y3 (by omega), y4 (by omega), ek]
      rcases i with _ | _ <;> rfl
    obtain ⟨rfl, h2, M', S2, m2, _, e2, hE, R, _⟩ := y
    obtain ⟨y1, y2, W⟩ := B_set (k := 5) (p := some (zn γ)) B1 hE h2 S2 R (by decide) (by decide) (by decide) (by decide) (fun q hq => by
      rw [← Option.some.inj hq]
      exact ⟨m2, 7, by decide, by decide, by rw [e2, ek]; rfl⟩) (by decide) (by decide) (fun y => absurd y (by decide))
    show wx (Option.bind (zpA ε (some u) 43 5 (some (zn γ))) _) _
    rw [y1, gl_bs]
    show wx (Option.bind (zpI (zwA ε 43 5 u (some (zn γ))) (some u) 43 3 (nI 3)) _) _
    rw [y2, gl_bs]
    unfold hX4_header_666
    exact wx_l fun _ => W.out s.h1 s.h2 s.h3
  refine wx_if (fun e13 => ?_) (fun _ => ?_)
  · refine wx_zc (w_state (i := 3) (j := 3) B.cu h s.cu B.un.ku (by decide) (by decide) fun g1 g2 => ?_)
    refine wx_zc (wx_im (Q_second (w := 16) h s.nn (by decide)) fun _ γ y => ?_)
    obtain ⟨a1, h1, q1⟩ := y
    have B1 := B.pw q1 h.kp
    have z0 := B1.z1 (by omega)
    subst z0
    show wx (Option.bind (zfA γ (some u) 43 5) _) _
    rw [kfA B1.un.ku, gl_bs]
    refine wx_nw (T := c.p) h1 (by rw [h1.kp]; decide) h1.pz (by decide) fun β s1 _ _ => ?_
    obtain ⟨d, ek⟩ := s1.cl (grS_i (k := 8) ⟨rfl, fun _ h => absurd h (by simp)⟩ (by decide))
    rcases ht : zA γ 43 5 u with _ | t
    · refine wx_z ?_
      rw [add_none]
      exact wx_no
    obtain ⟨mt, g5⟩ := B1.un.f5 t ht
    obtain ⟨v0, L, b, v1, g7⟩ := B1.ts.hp.nd mt g5 (by decide) (by decide)
    refine wx_zb (wp_im (B_add B1 h1.kp d mt b (lo := 7) (hi := 7) ⟨7, by decide, by decide, rfl⟩ (by decide) (by decide) (grS_i ⟨v1, fun e he => ?_⟩ (by decide))) fun r' ε y => ?_)
    · rcases List.mem_append.mp he with w | w
      · exact g7 e w
      · rw [List.mem_singleton.mp w, ek]
        exact ⟨8, by decide, by decide, rfl⟩
    obtain ⟨rfl, h2, M', S2, m2, _, e2, hE, R, _⟩ := y
    obtain ⟨y1, y2, W⟩ := B_set (k := 6) (x' := 4) (p := some (zn γ)) B1 hE h2 S2 (R.up (by omega) (by decide)) (by decide) (by decide) (by decide) (by decide) (fun q hq => by
      rw [← Option.some.inj hq]
      exact ⟨m2, 8, by decide, by decide, by rw [e2, ek]; rfl⟩) (by decide) (by decide) (fun y => absurd y (by decide))
    show wx (Option.bind (zpA ε (some u) 43 6 (some (zn γ))) _) _
    rw [y1, gl_bs]
    show wx (Option.bind (zpI (zwA ε 43 6 u (some (zn γ))) (some u) 43 3 (nI 4)) _) _
    rw [y2, gl_bs]
    unfold hX4_header_666
    exact wx_l fun _ => W.out s.h1 s.h2 s.h3
  refine wx_if (fun e14 => ?_) (fun _ => ?_)
  · subst e14
    unfold hX4_header_433
    refine wx_if (fun y => absurd rfl y) (fun _ => fin ?_)
    exact w_sec (j := 5) (k := 9) (x' := 6) s (.inl ⟨rfl, rfl, rfl, rfl⟩)
  refine wx_if (fun e15 => ?_) (fun _ => ?_)
  · subst e15
    unfold hX4_header_433
    refine wx_if (fun _ => fin ?_) (fun y => absurd (Decidable.of_not_not y) (by decide))
    exact w_sec (j := 6) (k := 10) (x' := 7) s (.inr ⟨rfl, rfl, rfl, rfl⟩)
  refine wx_if (fun _ => no) (fun _ => ?_)
  refine wx_if (fun e17 => ?_) (fun _ => ?_)
  · refine wx_zc (w_state (i := 4) (j := 5) B.cu h s.cu B.un.ku (by decide) (by decide) fun g1 g2 => ?_)
    have h1 := h.adv s.nn
    have B1 := B.pw (xaSq (a := a)) h.kp
    have z0 := B1.z1 (by omega)
    subst z0
    show wx (Option.bind (zfI α (some c.p) 40 3) _) _
    rw [kfI h.kp, gl_bs, h.ax, kpI h.kp, gl_bs, show nI a + 1 = nI (a + 1) from pI_succ a, show zwI α 40 3 c.p (nI (a + 1)) = xaS c α a from rfl]
    refine wx_nwt (k := 1) (T := c.p) h1 (by decide) (by rw [h1.kp]; decide) h1.pz (by unfold xaS; rw [zkd_zwI]) (by decide) fun e1 β s1 _ _ y z hy => ?_
    obtain ⟨i1, i2⟩ := wK_i e1
    have gv : grV c 1 (nI (c.vs (a + 1))) := ⟨c.vs (a + 1), ⟨a + 1, i1, i2, rfl⟩, rfl⟩
    have B2 := B1.pw (xaSq (a := a + 1)) h1.kp
    have h2 := h1.adv i1
    rw [hy]
    refine wx_zc (w_period s1.hp fun e => ?_)
    obtain ⟨s2, _⟩ := s1.adv (wK_i e).1
    obtain ⟨d, ek⟩ := s2.cl (grS_i (k := 11) ⟨gv, fun _ h => absurd h (by simp)⟩ (by decide))
    obtain ⟨up1, up2⟩ := B2.up h2.kp
    have eu := S_fr s2 up2 up1
    show wx (Option.bind (zfA (xaS c β (a + 1 + 1)) (some u) 43 6) _) _
    rw [kfA (by rw [zkd_eq eu]; exact B2.un.ku), gl_bs, zA_eq eu]
    rcases ht : zA (xaS c (xaS c α a) (a + 1)) 43 6 u with _ | t
    · refine wx_z ?_
      rw [add_none]
      exact wx_no
    obtain ⟨mt, g5⟩ := B2.un.f6 t ht
    obtain ⟨v0, L, b, v1, g7⟩ := B2.ts.hp.nd mt g5 (by decide) (by decide)
    refine wx_zb (wp_im (B_add B2 h2.kp d mt b (lo := 8) (hi := 8) ⟨8, by decide, by decide, rfl⟩ (by decide) (by decide) (grS_i ⟨v1, fun e he => ?_⟩ (by decide))) fun r' ε y => ?_)
    · rcases List.mem_append.mp he with w | w
      · exact g7 e w
      · rw [List.mem_singleton.mp w, ek]
        exact ⟨11, by decide, by decide, rfl⟩
    obtain ⟨rfl, h3, M', S2, m2, _, e2, hE, R, _⟩ := y
    refine wx_zb (wp_im (T_items S2 Uu h3 m2 (by rw [e2, ek]; exact ⟨11, by decide, by decide, rfl⟩)) fun _ δ y => ?_)
    obtain ⟨h4, S3, w1, w2, w3, w4⟩ := y
    obtain ⟨y3, W⟩ := B_st (x' := 5) B2 (fun v hv hvu => (w1 v hv hvu).trans (hE v hv)) (w2.trans (zA_eq (hE u Uu) 43 0)) h4 S3 ((R.up (by omega) (by decide)).fr w3 fun t' e' L' h1' b' => w4 t' e' L' (by
      obtain ⟨r, r1, r2, _⟩ := (S2.un u Uu).f1
      rw [Option.some.inj (h1'.symm.trans r1)]; exact r2) b') (by decide) (by decide) (by decide)
    show wx (Option.bind (zpI _ (some u) 43 3 (nI 5)) _) _
    rw [y3, gl_bs]
    unfold hX4_header_666
    exact wx_l fun _ => W.out s.h1 s.h2 s.h3
  refine wx_if (fun _ => no) (fun _ => ?_)
  refine wx_if (fun _ => no) (fun _ => ?_)
  refine wx_if (fun _ => no) (fun _ => ?_)
  refine wx_if (fun _ => no) (fun _ => ?_)
  refine wx_if (fun _ => no) (fun _ => ?_)
  refine wx_if (fun _ => no) (fun _ => ?_)
  refine wx_if (fun _ => no) (fun _ => ?_)
  refine wx_if (fun _ => no) (fun _ => ?_)
  refine wx_if (fun _ => no) (fun _ => ?_)
  refine wx_if (fun _ => no) (fun _ => ?_)
  refine wx_if (fun _ => no) (fun _ => ?_)
  refine wx_if (fun _ => no) (fun _ => ?_)
  refine wx_if (fun e30 => ?_) (fun _ => ?_)
  · refine wx_zc (w_state (i := 1) (j := 7) B.cu h s.cu B.un.ku (by decide) (by decide) fun g1 g2 => ?_)
    have h1 := h.adv s.nn
    show wx (Option.bind (zfI α (some c.p) 40 3) _) _
    rw [kfI h.kp, gl_bs, h.ax, kpI h.kp, gl_bs, show nI a + 1 = nI (a + 1) from pI_succ a, show zwI α 40 3 c.p (nI (a + 1)) = xaS c α a from rfl]
    refine wx_zc (wx_im (Q_need (w := 1) h1 (by decide)) fun _ γ y => ?_)
    obtain ⟨h2, q2, _⟩ := y
    have B2 := (B.pw (xaSq (a := a)) h.kp).pw q2 h1.kp
    have z0 := B2.z1 (by omega)
    subst z0
    refine wx_nw (T := c.p) h2 (by rw [h2.kp]; decide) h2.pz (by decide) fun β s1 _ _ => ?_
    refine wx_zb (wp_im (S_meets (w := 31) s1 (by decide)) fun r3 γ3 y => ?_)
    obtain ⟨a3, s3, _, _⟩ := y
    refine wx_if (fun _ => fin (w_h561 B2 h2.kp g2 g1 s3 fun _ h => absurd h (by simp))) (fun _ => ?_)
    refine wx_zc (wx_im (w_names (k := 21) (.inr rfl) s3) fun _ γ4 y => ?_)
    obtain ⟨a4, K', s4, _, g4, _⟩ := y
    exact fin (w_h561 B2 h2.kp g2 g1 s4 fun f hf => ⟨21, by decide, by decide, (g4 f hf).1⟩)
  refine wx_if (fun _ => no) (fun _ => ?_)
  refine wx_if (fun e32 => ?_) (fun _ => wx_no)
  · refine wx_zc (w_state (i := 8) (j := 8) B.cu h s.cu B.un.ku (by decide) (by decide) fun g1 g2 => ?_)
    have h1 := h.adv s.nn
    show wx (Option.bind (zfI α (some c.p) 40 3) _) _
    rw [kfI h.kp, gl_bs, h.ax, kpI h.kp, gl_bs, show nI a + 1 = nI (a + 1) from pI_succ a, show zwI α 40 3 c.p (nI (a + 1)) = xaS c α a from rfl]
    refine wx_zc (wx_im (Q_period h1) fun _ γ y => ?_)
    obtain ⟨h2, q2⟩ := y
    have B2 := (B.pw (xaSq (a := a)) h.kp).pw q2 h1.kp
    have z0 := B2.z1 (by omega)
    subst z0
    have x8 : x = 8 := by omega
    obtain ⟨t, e8, L, ht, b, g8⟩ := B2.cu.p8 x8
    obtain ⟨mt, g5⟩ := B2.un.f8 t ht
    obtain ⟨v0, L', b', v1, g7⟩ := B2.ts.hp.nd mt g5 (by decide) (by decide)
    have eL : L' = L := mapsome_inj (b'.ls.symm.trans b.ls)
    subst eL
    show wx (Option.bind (zfA γ (some u) 43 8) _) _
    rw [kfA B2.un.ku, gl_bs, ht]
    refine wx_nw (T := c.p) h2 (by rw [h2.kp]; decide) h2.pz (by decide) fun β s1 _ _ => ?_
    obtain ⟨d, ek⟩ := s1.cl (grS_i (k := 22) ⟨rfl, fun _ h => absurd h (by simp)⟩ (by decide))
    refine wx_zb (wp_im (B_add B2 h2.kp d mt b' (lo := 20) (hi := 20) ⟨20, by decide, by decide, rfl⟩ (by decide) (by decide) (grS_i ⟨v1, L'.map (xkv γ), [(nI 22, nI 0)], [], by rw [ek]; rfl, g8, .inr rfl, fun _ h => absurd h (by simp)⟩ (by decide))) fun r' ε y => ?_)
    obtain ⟨rfl, h3, M', S2, m2, _, e2, hE, R, _⟩ := y
    obtain ⟨y1, y2, W⟩ := B_set (k := 9) (x' := 9) (p := some (zn γ)) B2 hE h3 S2 (R.up (by omega) (by decide)) (by decide) (by decide) (by decide) (by decide) (fun q hq => by
      rw [← Option.some.inj hq]
      exact ⟨m2, 22, by decide, by decide, by rw [e2, ek]; rfl⟩) (by decide) (by decide) (fun y => absurd y (by decide))
    show wx (Option.bind (zpA ε (some u) 43 9 (some (zn γ))) _) _
    rw [y1, gl_bs]
    show wx (Option.bind (zpI (zwA ε 43 9 u (some (zn γ))) (some u) 43 3 (nI 9)) _) _
    rw [y2, gl_bs]
    unfold hX4_header_666
    exact wx_l fun _ => W.out s.h1 s.h2 s.h3
end PAZZZZK
