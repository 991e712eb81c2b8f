/-! THE PURE LAYER: the parser: X's side alone: a relation. -/
section PAZZZQ
variable {ρ σ : Type} {c : pC} {G : xQ} {α β γ α0 : zS} {a a' b k w q r t u n x T T' E f : Nat} {v v' kv nm pr : Int32} {e : Int32 × Int32} {L : List Nat} {M M' N S S' : Nat → Prop} {l m : List (Int32 × Int32)} {P : Int32 × Int32 → Prop} {p : Option Nat}
/-- the last operand of a relation -/
theorem w_rel98 (h : xp c a γ) (pz : c.p < zn α) (kpa : zkd α c.p = 41) (b : xnB γ n (nI 53, nI x) L) (hx : x ≤ 5) (hL : L = [] ∨ ∃ t, L = [t] ∧ grOp c (xkv γ t)) (H : xnF c c.p n M α γ) (hn : M n) (lo : zn α ≤ n) (hM : ∀ u, M u → u = n ∨ u ∈ L) (hL2 : ∀ r, r ∈ L → M r ∧ zI γ 44 0 r ≠ nI 53) (sM : sjM c S M γ) (sP : sjP c (fun u => S u ∨ M u) γ) : wx (hX4_relation_98 G (some c.p) (some n) γ) (rC c α S) := by
  have kp := h.kp
  have hi := b.hi
  unfold hX4_relation_98
  rw [if_pos h.z41]
  refine wx_c (wx_im (w_oper h) fun r β z => ?_)
  obtain ⟨j, hj, ej, h1, rfl, H1, ev, b1, ep⟩ := z
  have q1 : qN γ β := H1.qn kp (by rw [kp]; decide)
  have H2 := H.tr H1 kp h1.kp (by rw [kpa]; decide) (by rw [kp]; decide) pz (.inr (.inr rfl)) (fun _ => lo) (.inr (by omega))
  obtain ⟨b2, m2⟩ := b.fr H1 kp (by rw [kp]; decide) (fun z => by have := b.kl; rw [z, kp] at this; omega)
  rw [if_pos (of_eq_true (kis b2.kn (by decide)))]
  refine wx_b (wp_im (w_add b2 b1.kn) fun r δ z => wx_l ?_)
  obtain ⟨_, x1⟩ := z
  have q2 : qN β δ := x1.qn b2.kl
  have nz := q1.1
  have hw : zn γ < zn β := by have := b1.hi; omega
  obtain ⟨b3, m3⟩ := b2.add x1 b1.kn hw
  have H3 := H2.add x1 b2.kl pz (.inl ⟨rfl, lo⟩) (.inr rfl)
  have h2 := h1.at' x1 b2.kl b1.kn
  have gw : grOp c (xkv δ (zn γ)) := by
    rw [x1.ke (b2.k3 b1.kn), ev]
    exact ⟨j, c.vs a, hj.imp And.left id, ⟨a, (wK_i ej).1, (wK_i ej).2, rfl⟩, rfl⟩
  have gl : ∀ t, t ∈ L → grOp c (xkv γ t) → grOp c (xkv δ t) := fun t ht g => by
    have o := b.ok t ht
    have o2 := b2.ok t ht
    rw [x1.ke (b2.k3 o2.1), q1.ke o.1 o.2]
    exact g
  have kM : ∀ t, M t → zkd γ t = 45 ∧ t < zn γ := fun t ht => by
    have := H.nw t ht
    exact ⟨this.2.2, by omega⟩
  refine ⟨a + 1, n, _, rfl, h2, H3.cl h2.kp ⟨_, _, b3, fun r hr => ?_, grS_i (k := 53) ⟨⟨x, hx, rfl⟩, ?_⟩ (by decide)⟩, .inl hn, ⟨53, by decide, by decide, by rw [b3.e]⟩, fun u hu => ?_, ?_, ?_⟩
  · rcases List.mem_append.mp hr with y | y
    · exact .inl (hL2 r y).1
    · exact .inr (List.mem_singleton.mp y)
  · rcases hL with y | ⟨t, y, g⟩
    · rw [y]
      exact ⟨xkv δ (zn γ), [], rfl, gw, .inl rfl⟩
    · rw [y]
      exact ⟨xkv δ t, [xkv δ (zn γ)], rfl, gl t (by rw [y]; simp) g, .inr ⟨_, rfl, gw⟩⟩
  · have mem : ∀ r, r ∈ L ++ [zn γ] → some r ∈ zL δ (n + 1) := fun r hr => by
      rw [b3.ls]
      exact List.mem_map.mpr ⟨r, hr, rfl⟩
    rcases hu with y | y
    · rcases hM u y with z | z
      · rw [z]; exact xIn.rf
      · exact xIn.dn (mem u (List.mem_append_left _ z)) xIn.rf
    · rw [y]
      exact xIn.dn (mem _ (List.mem_append_right _ (by simp))) xIn.rf
  · have s1 := (sM.st q1 kM).st q2 (fun t ht => ⟨(q1.2 t (kM t ht).1 (kM t ht).2).2.2, by have := (kM t ht).2; omega⟩)
    refine s1.up (fun t ht => .inl ht) (fun t ht => .inl ht) (fun t ht => ?_)
    rcases ht with y | y
    · exact .inl y
    · refine .inr ?_
      have e1 := congrArg Prod.fst ((x1.ke (b2.k3 b1.kn)).trans ev)
      rw [y]
      show zI δ 44 0 (zn γ) ≠ nI 53
      rw [show zI δ 44 0 (zn γ) = nI 41 from e1, ne_eq, pI_inj (by decide) (by decide)]
      decide
  · have e15 : zA δ 40 15 c.p = zA γ 40 15 c.p := by
      have f := x1.fr c.p (fun z => by have := b2.kl; rw [← z, h1.kp] at this; omega) (fun z => by have := b1.kn; rw [← z, h1.kp] at this; omega)
      rw [zA_eq f, zA_eq ep]
      unfold xaS
      rw [zA_zwI]
    have e16 : zI δ 40 16 c.p = zI γ 40 16 c.p := by
      have f := x1.fr c.p (fun z => by have := b2.kl; rw [← z, h1.kp] at this; omega) (fun z => by have := b1.kn; rw [← z, h1.kp] at this; omega)
      rw [zI_eq f, zI_eq ep]
      unfold xaS
      rw [zI_zwI, if_neg (fun z => absurd z.2.1 (by decide))]
    refine ((sP.st (γ := δ) ⟨by have := q2.1; omega, fun t h1 h2 => ?_⟩ e15 e16).up fun t ht => ht.imp id .inl)
    obtain ⟨i1, i2, i3⟩ := q1.2 t h1 h2
    obtain ⟨i4, i5, i6⟩ := q2.2 t i3 (by omega)
    exact ⟨fun k => (i4 k).trans (i1 k), i5.trans i2, i6⟩
theorem qN_lt (hn : zn β ≤ zn γ) (fr : ∀ x, x < zn β → γ.2 x = β.2 x) : qN β γ := ⟨hn, fun t hk ht => ⟨fun k => by rw [zI_eq (fr t ht)], by rw [zA_eq (fr t ht)], by rw [zkd_eq (fr t ht)]; exact hk⟩⟩
theorem qN.tr (h : qN α β) (h' : qN β γ) : qN α γ := ⟨by have := h.1; have := h'.1; omega, fun t hk ht => by
  obtain ⟨a1, a2, a3⟩ := h.2 t hk ht
  obtain ⟨b1, b2, b3⟩ := h'.2 t a3 (by have := h.1; omega)
  exact ⟨fun k => (b1 k).trans (a1 k), b2.trans a2, b3⟩⟩
/-- a relation is made -/
theorem w_rel65 {first : Option Nat} (h : xp c a γ) (pz : c.p < zn α) (kpa : zkd α c.p = 41) (H : xnF c c.p c.p M α γ) (hf : (first = none ∧ ∀ u, ¬ M u) ∨ ∃ t, first = some t ∧ (∀ u, M u ↔ u = t) ∧ grOp c (xkv γ t) ∧ zI γ 44 0 t ≠ nI 53) (sP : sjP c (fun u => S u ∨ M u) γ) (hu : zA γ 40 15 c.p = some u) : wx (hX4_relation_65 G (some c.p) v' first γ) (rC c α S) := by
  have kp := h.kp
  obtain ⟨u1, u2, u3, u4, x, x5, ex⟩ := sP u hu
  obtain ⟨β, y1, y2, b0, H1, y4, y5⟩ := H.push (G := G) (kv := nI 53) (v := nI x) (v' := v') h (by rw [kpa]; decide) pz
  have h4 := h.mk0.1
  have pzg := h.pz
  have n := H.n
  have n45 : zkd (zmk γ 45 0 9) (zn γ) = 45 := by rw [zkd_zmk, if_pos rfl]
  have ep4 : (zmk γ 45 0 9).2 c.p = γ.2 c.p := zmk_ne pzg
  unfold hX4_relation_65
  rw [znO_e, gl_bs]
  show wx (Option.bind (zfI (zmk γ 45 0 9) (some c.p) 40 16) _) _
  rw [kfI h4.kp, gl_bs, zI_eq ep4, ex]
  show wx (if zis G (zmk γ 45 0 9) (some (zn γ)) 45 = true then _ else _) _
  rw [if_pos (of_eq_true (kis n45 (by decide)))]
  show wx (Option.bind (hX43_init G (some (zn γ)) (nI 53) _ _ (zmk γ 45 0 9)) _) _
  rw [y1, gl_bs]
  show wx (Option.bind (zfA β (some c.p) 40 15) _) _
  rw [kfA y2.kp, gl_bs, zA_eq (y4 _ pzg), hu]
  show wx (Option.bind (zpA β (some (zn γ)) 44 7 (some u)) _) _
  rw [kpA b0.kn, gl_bs]
  obtain ⟨b1, _⟩ := b0.wA (k := 7) (p := some u) (by decide)
  have H2 := H1.wA (k := 7) (p := some u) b0.kn (by omega)
  have fr2 : ∀ x, x ≠ zn γ → (zwA β 44 7 (zn γ) (some u)).2 x = β.2 x := fun x hx => zwA_ne hx
  have h2 := y2.wN b0.kn fr2 rfl
  have fr3 : ∀ x, x < zn γ → (zwA β 44 7 (zn γ) (some u)).2 x = γ.2 x := fun x hx => (fr2 x (by omega)).trans (y4 x hx)
  have q1 : qN γ (zwA β 44 7 (zn γ) (some u)) := qN_lt (by show zn γ ≤ zn β; omega) fr3
  have ep : (zwA β 44 7 (zn γ) (some u)).2 c.p = γ.2 c.p := fr3 _ pzg
  have sP2 : sjP c (fun u => S u ∨ (M u ∨ u = zn γ)) (zwA β 44 7 (zn γ) (some u)) := (sP.st q1 (by rw [zA_eq ep]) (by rw [zI_eq ep])).up fun t ht => ht.imp id .inl
  have kM : ∀ t, M t → zkd γ t = 45 ∧ t < zn γ := fun t ht => by
    have := H.nw t ht
    exact ⟨this.2.2, by omega⟩
  have sM2 : sjM c S (fun u => M u ∨ u = zn γ) (zwA β 44 7 (zn γ) (some u)) := fun t ht h53 => by
    rcases ht with z | z
    · rcases hf with ⟨_, f2⟩ | ⟨t', f1, f2, f3, f4⟩
      · exact absurd z (f2 t)
      · have e := (f2 t).mp z
        refine absurd h53 ?_
        rw [(q1.2 t (kM t z).1 (kM t z).2).1, e]
        exact f4
    · rw [z]
      refine ⟨u, by rw [zA_zwA, if_pos ⟨rfl, rfl, rfl⟩], u1.imp id .inl, (q1.2 u u2 u3).2.2, ?_, ?_⟩
      · show u < zn β
        omega
      · rw [q1.ke u2 u3]; exact u4
  rcases hf with ⟨f1, f2⟩ | ⟨t, f1, f2, f3, f4⟩
  · rw [f1, if_pos rfl]
    exact w_rel98 h2 pz kpa b1 x5 (.inl rfl) H2 (.inr rfl) n (fun u hu => .inl (hu.resolve_left (f2 u))) (fun r hr => absurd hr (by simp)) sM2 sP2
  · have mt : M t := (f2 t).mpr rfl
    obtain ⟨t1, t2⟩ := kM t mt
    have kt := (q1.2 t t1 t2).2.2
    rw [f1, if_neg (by simp), if_pos (of_eq_true (kis b1.kn (by decide)))]
    refine wx_b (wp_im (w_add b1 kt) fun r δ z => ?_)
    obtain ⟨_, x1⟩ := z
    have q2 : qN _ δ := x1.qn b1.kl
    have nz : zn (zwA β 44 7 (zn γ) (some u)) = zn β := rfl
    obtain ⟨b2, m2⟩ := b1.add x1 kt (by omega)
    have H3 := H2.add x1 b1.kl pz (.inl ⟨rfl, n⟩) (.inl mt)
    have h3 := h2.at' x1 b1.kl kt
    have ep2 : δ.2 c.p = (zwA β 44 7 (zn γ) (some u)).2 c.p := x1.fr c.p (fun z => by have := b1.kl; rw [← z, h2.kp] at this; omega) (fun z => by have := kt; rw [← z, h2.kp] at this; omega)
    have kt2 := q1.tr q2
    refine w_rel98 (L := [t]) h3 pz kpa b2 x5 (.inr ⟨t, rfl, by rw [kt2.ke t1 t2]; exact f3⟩) H3 (.inr rfl) n (fun u hu => hu.elim (fun z => .inr (by rw [(f2 u).mp z]; simp)) .inl) (fun r hr => ?_) (sM2.st q2 (fun t' ht' => ?_)) (sP2.st q2 (by rw [zA_eq ep2]) (by rw [zI_eq ep2]))
    · rw [List.mem_singleton.mp hr]
      exact ⟨.inl mt, by rw [(kt2.2 t t1 t2).1]; exact f4⟩
    · rcases ht' with z | z
      · exact ⟨(q1.2 t' (kM t' z).1 (kM t' z).2).2.2, by have := (kM t' z).2; omega⟩
      · rw [z]; exact ⟨b1.kn, by omega⟩
theorem xnF.none' (H : xnF c T E M α γ) : xnF c T E (fun _ => False) α γ := xnF.mk H.n H.fr (fun _ z => z.elim) (fun _ z => z.elim) H.kT
/-- an operand that stands alone -/
theorem w_alone (h : xp c a γ) (pz : c.p < zn α) (kpa : zkd α c.p = 41) (H : xnF c c.p c.p M α γ) (mt : ∀ u, M u ↔ u = t) (gt : grOp c (xkv γ t)) (sP : sjP c S γ) (hS : ∀ u, S u → u < zn α) : wx (hX4_alone G (some c.p) (some t) γ) (rC c α S) := by
  have kp := h.kp
  have pzg := h.pz
  have n := H.n
  have h4 := h.mk0.1
  obtain ⟨t1, t2, t3⟩ := H.nw t ((mt t).mpr rfl)
  have n45 : zkd (zmk γ 45 0 9) (zn γ) = 45 := by rw [zkd_zmk, if_pos rfl]
  have ep4 : (zmk γ 45 0 9).2 c.p = γ.2 c.p := zmk_ne pzg
  have et4 : (zmk γ 45 0 9).2 t = γ.2 t := zmk_ne (by omega)
  have k4 : zkd (zmk γ 45 0 9) t = 45 := by rw [zkd_eq et4]; exact t3
  obtain ⟨j, y, hj, hy, ev⟩ := id gt
  have ev1 : zI γ 44 1 t = nI (100000 * j + y) := congrArg Prod.snd ev
  have y5 : y ≤ 99999 := by
    obtain ⟨i, i1, i2, i3⟩ := hy
    rw [← i3]; exact h.o.vs i i1
  have j3 : j = 1 ∨ j = 2 ∨ j = 3 := hj
  unfold hX4_alone
  rw [kfA kp, gl_bs]
  refine wx_if (fun _ => ?_) (fun hs => ?_)
  · rw [kfI t3, gl_bs, if_neg (by decide), ev1, show (100000 : Int32) = nI 100000 from rfl, pI_div (by omega) (by omega) (by decide)]
    have dj : (100000 * j + y) / 100000 = j := by omega
    rw [dj]
    refine wx_if (fun _ => ?_) (fun hj1 => ?_)
    · unfold hX4_alone_24
      rw [if_pos h.z41]
      exact wx_c (w_must h fun z => absurd rfl z)
    · have j1 : j = 1 := by
        have e := Decidable.not_not.mp hj1
        rw [show (1 : Int32) = nI 1 from rfl, pI_inj (by omega) (by decide)] at e
        exact e
      subst j1
      unfold hX4_alone_24
      rw [if_pos h.z41]
      refine wx_c (w_must h fun _ => ?_)
      show wx (Option.bind (znO γ 44 9) _) _
      rw [znO_e, gl_bs]
      show wx (Option.bind (zfI (zmk γ 45 0 9) (some t) 44 1) _) _
      rw [kfI k4, gl_bs, zI_eq et4, ev1, if_neg (by decide), kfI k4, gl_bs]
      show wx (if zis G (zmk γ 45 0 9) (some (zn γ)) 45 = true then _ else _) _
      rw [if_pos (of_eq_true (kis n45 (by decide))), show (100000 : Int32) = nI 100000 from rfl, pI_div (by omega) (by omega) (by decide), dj, pI_mul, pI_sub (by omega), show 100000 * 1 + y - 1 * 100000 = y from by omega]
      obtain ⟨β, y1, y2, b0, H1, y4, y5'⟩ := (H.none').push (G := G) (kv := nI 54) (v := nI y) (v' := zI (zmk γ 45 0 9) 44 5 t) h (by rw [kpa]; decide) pz
      show wx (Option.bind (hX43_init G (some (zn γ)) (nI 54) _ _ (zmk γ 45 0 9)) _) _
      rw [y1, gl_bs]
      refine wx_l ?_
      have q1 : qN γ β := qN_lt (by omega) y4
      have ep : β.2 c.p = γ.2 c.p := y4 _ pzg
      refine ⟨a, zn γ, _, rfl, y2, H1.cl y2.kp ⟨_, _, b0, fun r hr => absurd hr (by simp), grS_i (k := 54) ⟨rfl, y, hy, rfl⟩ (by decide)⟩, .inr rfl, ⟨54, by decide, by decide, by rw [b0.e]⟩, fun u hu => ?_, fun u hu h53 => ?_, ?_⟩
      · rcases hu with z | z
        · exact z.elim
        · rw [z]; exact xIn.rf
      · rcases hu with z | z
        · exact z.elim
        · have e1 : zI β 44 0 (zn γ) = nI 54 := congrArg Prod.fst b0.e
          rw [z, e1, pI_inj (by decide) (by decide)] at h53
          omega
      · exact (sP.st q1 (by rw [zA_eq ep]) (by rw [zI_eq ep])).up fun t ht => .inl ht
  · obtain ⟨u, hu⟩ := Option.ne_none_iff_exists'.mp hs
    obtain ⟨u1, u2, u3, u4, x, x5, ex⟩ := sP u hu
    obtain ⟨β, y1, y2, b0, H1, y4, y5'⟩ := H.push (G := G) (kv := nI 53) (v := nI x) (v' := zI (zmk γ 45 0 9) 44 5 t) h (by rw [kpa]; decide) pz
    rw [znO_e, gl_bs]
    show wx (Option.bind (zfI (zmk γ 45 0 9) (some c.p) 40 16) _) _
    rw [kfI h4.kp, gl_bs, zI_eq ep4, ex]
    show wx (Option.bind (zfI (zmk γ 45 0 9) (some t) 44 5) _) _
    rw [kfI k4, gl_bs]
    show wx (if zis G (zmk γ 45 0 9) (some (zn γ)) 45 = true then _ else _) _
    rw [if_pos (of_eq_true (kis n45 (by decide)))]
    show wx (Option.bind (hX43_init G (some (zn γ)) (nI 53) _ _ (zmk γ 45 0 9)) _) _
    rw [y1, gl_bs]
    show wx (Option.bind (zfA β (some c.p) 40 15) _) _
    rw [kfA y2.kp, gl_bs, zA_eq (y4 _ pzg), hu]
    show wx (Option.bind (zpA β (some (zn γ)) 44 7 (some u)) _) _
    rw [kpA b0.kn, gl_bs]
    obtain ⟨b1, _⟩ := b0.wA (k := 7) (p := some u) (by decide)
    have H2 := H1.wA (k := 7) (p := some u) b0.kn (by omega)
    have fr2 : ∀ x, x ≠ zn γ → (zwA β 44 7 (zn γ) (some u)).2 x = β.2 x := fun x hx => zwA_ne hx
    have h2 := y2.wN b0.kn fr2 rfl
    have fr3 : ∀ x, x < zn γ → (zwA β 44 7 (zn γ) (some u)).2 x = γ.2 x := fun x hx => (fr2 x (by omega)).trans (y4 x hx)
    have q1 : qN γ (zwA β 44 7 (zn γ) (some u)) := qN_lt (by show zn γ ≤ zn β; omega) fr3
    have ep : (zwA β 44 7 (zn γ) (some u)).2 c.p = γ.2 c.p := fr3 _ pzg
    have kt := (q1.2 t t3 (by omega)).2.2
    rw [if_pos (of_eq_true (kis b1.kn (by decide)))]
    refine wx_b (wp_im (w_add b1 kt) fun r δ z => wx_l ?_)
    obtain ⟨_, x1⟩ := z
    have q2 : qN _ δ := x1.qn b1.kl
    have nz : zn (zwA β 44 7 (zn γ) (some u)) = zn β := rfl
    obtain ⟨b2, m2⟩ := b1.add x1 kt (by omega)
    have H3 := H2.add x1 b1.kl pz (.inl ⟨rfl, n⟩) (.inl ((mt t).mpr rfl))
    have h3 := h2.at' x1 b1.kl kt
    have q3 := q1.tr q2
    have ep2 : δ.2 c.p = γ.2 c.p := (x1.fr c.p (fun z => by have := b1.kl; rw [← z, h2.kp] at this; omega) (fun z => by have := kt; rw [← z, h2.kp] at this; omega)).trans ep
    have gd : xkv δ t = xkv γ t := q3.ke t3 (by omega)
    refine ⟨a, zn γ, _, rfl, h3, H3.cl h3.kp ⟨_, _, b2, fun r hr => ?_, grS_i (k := 53) ⟨⟨x, x5, rfl⟩, xkv δ t, [], rfl, by rw [gd]; exact gt, .inl rfl⟩ (by decide)⟩, .inr rfl, ⟨53, by decide, by decide, by rw [b2.e]⟩, fun w hw => ?_, fun w hw h53 => ?_, ?_⟩
    · rw [List.mem_singleton.mp hr]
      exact .inl ((mt t).mpr rfl)
    · rcases hw with z | z
      · rw [(mt w).mp z]
        refine xIn.dn (r := t) ?_ xIn.rf
        rw [b2.ls]
        simp
      · rw [z]; exact xIn.rf
    · rcases hw with z | z
      · have e1 : zI δ 44 0 t = nI 41 := by
          rw [(q3.2 t t3 (by omega)).1]
          exact congrArg Prod.fst ev
        rw [(mt w).mp z, e1, pI_inj (by decide) (by decide)] at h53
        omega
      · rw [z]
        have e7 : zA δ 44 7 (zn γ) = some u := by
          rw [(q2.2 (zn γ) b1.kn (by omega)).2.1, zA_zwA, if_pos ⟨rfl, rfl, rfl⟩]
        exact ⟨u, e7, .inl u1, (q3.2 u u2 u3).2.2, Nat.lt_of_lt_of_le u3 q3.1, by rw [q3.ke u2 u3]; exact u4⟩
    · exact (sP.st q3 (by rw [zA_eq ep2]) (by rw [zI_eq ep2])).up fun t ht => .inl ht
end PAZZZQ
