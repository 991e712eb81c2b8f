/-! THE PURE LAYER: the parser: an item's name and its clauses. -/
/-- X's side behind the last clause of an item -/
def itE (G : xQ) (p : Nat) (r1 : Option Nat) (x3 x5 : Int32) (r6 r8 : Option Nat) (σ : zS) : zF (Unit ⊕ Nat) := if zis G σ (some p) 41 = true then zcase (hX4_period G (some p) σ) (fun p12 => if zis G p12.2 r6 45 = true then (hX43_add G r6 r8 p12.2).bind fun p13 => if ¬ x3 = (88 : Int32) then hX4_item_335 G r1 x5 r8 p13.2 else some (.inl (()), p13.2) else none) (fun p14 => if zthr p14.2 p14.1 3 = true then some (.inr p14.1, p14.2) else none) else none
section PAZZT
variable {c : pC} {G : xQ} {α β γ : zS} {s s' s1 s2 : zM} {a a1 a2 a3 a' b b' d e f l m N N' k o p q t to u w x y r : Nat} {g g' g2 : pG} {v v' kv x1 x2 x3 x5 xm xt : Int32} {P : Nat → Nat → pG → Prop} {r0 r1 r6 r8 : Option Nat} {it : List Nat} {oa : Nat → Nat}
/-- a level and perhaps a name -/
theorem itN (h : pR c a d b N y g α s) (ha : a < c.n) (hnm : ∀ i, i < c.n → c.ks i = 1 → c.vs i < 900) : ∃ a1 w α1 s1, hX4_item_206 G (some c.p) r1 x2 x3 x5 r6 α = hX4_item_275 G (some c.p) r1 x2 x3 x5 r6 (nI w) α1 ∧ gX26_item_78 x1 xm xt s = gX26_item_158 x1 xm xt (nI w) s1 ∧ pR c a1 d b N y g α1 s1 ∧ (a1 = a + 1 ∨ a1 = a + 2) ∧ w < 1000 := by
  have kp := h.kp
  have ax := h.ax
  have am := h.am
  have R1 := h.adv ha
  have kp1 := R1.kp
  have ax1 := R1.ax
  have am1 := R1.am
  have a5 := R1.a5
  have n5 := h.k.n
  have us1 : us s 41 (nI (a + 1)) = maS s a := rfl
  have xs1 : zwI α 40 3 c.p (nI (a + 1)) = xaS c α a := rfl
  have XA : hX4_item_206 G (some c.p) r1 x2 x3 x5 r6 α = if wK c (a + 1) 1 = true then hX4_item_245 G (some c.p) r1 x2 x3 x5 r6 (nI (c.vs (a + 1) + 1)) (xaS c α a) else hX4_item_245 G (some c.p) r1 x2 x3 x5 r6 (nI 0) (xaS c α a) := by
    unfold hX4_item_206
    rw [kfI kp, gl_bs, ax, kpI kp, gl_bs, pI_succ, xs1, kfI kp1, gl_bs, ax1, if_pos (of_eq_true (kis kp1 (by decide)))]
    show Option.bind (hX4_isKind G (some c.p) (nI (a + 1)) (nI 1) (xaS c α a)) _ = _
    rw [X_isK R1.k R1.xw (by omega) (by decide), gl_bs]
    rcases ek : wK c (a + 1) 1 with _ | _
    · rw [if_pos (show nI (b2n false) = 0 from rfl), if_neg (by decide)]
      rfl
    · have al := (wK_i ek).1
      obtain ⟨v1, v2⟩ := X_wv R1 al
      rw [if_neg (show ¬ nI (b2n true) = 0 from bT), if_pos rfl]
      show Option.bind (zfA (xaS c α a) (some c.p) 40 1) _ = _
      rw [v1, gl_bs]
      show Option.bind (zfI (xaS c α a) (some c.p) 40 3) _ = _
      rw [kfI kp1, gl_bs, ax1, v2, gl_bs, pI_succ]
  have MA : gX26_item_78 x1 xm xt s = if wK c (a + 1) 1 = true then gX26_item_115 x1 xm xt (nI (c.vs (a + 1) + 1)) (maS s a) else gX26_item_115 x1 xm xt (nI 0) (maS s a) := by
    unfold gX26_item_78
    rw [gl_x, am, gl_x, pI_succ, us1, gl_x, am1]
    show Option.bind (gX26_isKind (nI (a + 1)) (nI 1) (maS s a)) _ = _
    rw [M_isK R1.k R1.mw (by omega) (by decide), gl_bs]
    rcases ek : wK c (a + 1) 1 with _ | _
    · rw [if_pos (show nI (b2n false) = 0 from rfl), if_neg (by decide)]
      rfl
    · have al := (wK_i ek).1
      have rv := R1.mw.rv _ al
      rw [if_neg (show ¬ nI (b2n true) = 0 from bT), if_pos rfl, gl_x, am1, pgld (by omega) (by decide), gl_bs, rv, pI_succ]
  rcases ek : wK c (a + 1) 1 with _ | _
  · rw [XA, MA, ek, if_neg (by decide), if_neg (by decide)]
    unfold hX4_item_245 gX26_item_115
    rw [if_neg (show ¬ 0 < nI 0 from by decide), kfI kp1, gl_bs, ax1, if_pos (of_eq_true (kis kp1 (by decide))), if_pos (show nI 0 ≤ 0 from by decide), gl_x, am1]
    show ∃ a1 w α1 s1, Option.bind (hX4_isWord G (some c.p) (nI (a + 1)) (nI 18) (xaS c α a)) _ = _ ∧ Option.bind (gX26_isWord (nI (a + 1)) (nI 18) (maS s a)) _ = _ ∧ _ ∧ _ ∧ _
    rw [X_isW R1.k R1.xw (by omega) (by decide), gl_bs, M_isW R1.k R1.mw (by omega) (by decide), gl_bs]
    rcases ew : wW c (a + 1) 18 with _ | _
    · rw [if_pos (show nI (b2n false) = 0 from rfl), if_pos (show nI (b2n false) = 0 from rfl)]
      exact ⟨a + 1, 0, _, _, rfl, rfl, R1, .inl rfl, by decide⟩
    · have al := (wW_i ew).1
      rw [if_neg (show ¬ nI (b2n true) = 0 from bT), if_neg (show ¬ nI (b2n true) = 0 from bT)]
      unfold hX4_item_265
      show ∃ a1 w α1 s1, Option.bind (zfI (xaS c α a) (some c.p) 40 3) _ = _ ∧ (xlet (ls (maS s a) 41) _) = _ ∧ _ ∧ _ ∧ _
      rw [kfI kp1, gl_bs, ax1, kpI kp1, gl_bs, pI_succ, gl_x, am1, gl_x, pI_succ]
      exact ⟨a + 2, 0, _, _, rfl, rfl, R1.adv al, .inr rfl, by decide⟩
  · have al := (wK_i ek).1
    have v9 := hnm _ al (wK_i ek).2
    rw [XA, MA, ek, if_pos rfl, if_pos rfl]
    unfold hX4_item_245 gX26_item_115 hX4_item_265
    rw [if_pos (show 0 < nI (c.vs (a + 1) + 1) from by rw [nl0, pI_lt (by decide) (by omega)]; omega), kfI kp1, gl_bs, ax1, kpI kp1, gl_bs, pI_succ, if_neg (show ¬ nI (c.vs (a + 1) + 1) ≤ 0 from by rw [nl0, pI_le (by omega) (by decide)]; omega), gl_x, am1, gl_x, pI_succ]
    exact ⟨a + 2, c.vs (a + 1) + 1, _, _, rfl, rfl, R1.adv al, .inr rfl, by omega⟩
theorem itB_223 (h : ls s 43 = nI 1) : gX26_item_223 xm xt v s = some ((), s) := by
  unfold gX26_item_223
  rw [gl_x, h, if_neg (show ¬ nI 1 = 0 from n1n)]
/-- all clauses of an item -/
theorem itL (n : Nat) : ∀ {a b N : Nat} {g : pG} {α : zS} {s : zM} {Fx Fm : Nat}, c.n - a ≤ n → n < Fx → n + 2 < Fm → pR c a d b N 0 g α s → pB c b a 4 → c.N0 ≤ t → t < N → 1 < g.r t → (∃ β s' a' b' N' g', zloop (fun (a : ((Option Nat) × (Option Nat) × Int32 × Int32 × (Option Nat) × (Option Nat))) σ => hX4_item_295b G a.1 a.2.1 a.2.2.1 a.2.2.2.1 a.2.2.2.2.1 a.2.2.2.2.2 σ) Fx (some c.p, r1, x3, x5, r6, some (g.oa t)) α = itE G c.p r1 x3 x5 r6 (some (g.oa t)) β ∧ gloop (fun (a : (Int32 × Int32 × Int32 × Int32)) s => gX26_item_178b a.1 a.2.1 a.2.2.1 a.2.2.2 s) Fm (xm, xt, nI t, nI 1) s = gX26_item_223 xm xt (nI t) s' ∧ pR c a' d b' N' 0 g' β s' ∧ pX N g s N' g' s' ∧ wK c a' 4 = true ∧ a ≤ a' ∧ b' + 10 * a ≤ b + 10 * a') ∨ (∃ e β s' wh w, zloop (fun (a : ((Option Nat) × (Option Nat) × Int32 × Int32 × (Option Nat) × (Option Nat))) σ => hX4_item_295b G a.1 a.2.1 a.2.2.1 a.2.2.2.1 a.2.2.2.2.1 a.2.2.2.2.2 σ) Fx (some c.p, r1, x3, x5, r6, some (g.oa t)) α = some (.inr e, β) ∧ zthr β e 3 = true ∧ gloop (fun (a : (Int32 × Int32 × Int32 × Int32)) s => gX26_item_178b a.1 a.2.1 a.2.2.1 a.2.2.2 s) Fm (xm, xt, nI t, nI 1) s = some ((), s') ∧ pE c wh w β s') := by
  induction n with
  | zero =>
    intro a b N g α s Fx Fm hn hFx hFm h hb h1 h2 hr
    obtain ⟨fx, rfl⟩ : ∃ x, Fx = x + 1 := ⟨Fx - 1, by omega⟩
    obtain ⟨fm, rfl⟩ : ∃ x, Fm = x + 1 + 1 := ⟨Fm - 2, by omega⟩
    have kp := h.kp
    have ax := h.ax
    have am := h.am
    have bm := h.bm
    have a5 := h.a5
    have al := h.al
    have ek : wK c a 4 = false := by
      rw [← Bool.not_eq_true]
      exact fun z => by have := (wK_i z).1; omega
    rcases h.part (G := G) (t := t) hb h1 h2 hr with ⟨_, β, _, s', x1, x2, a', b', N', g', x3, x4, x5, x6, _⟩ | ⟨e, β, _, s', wh, w, x1, x2, x3, x4, x5⟩
    · have := x3.al
      omega
    · refine .inr ⟨e, β, s', wh, w, zloop_inr ?_, x2, ?_, x4⟩
      · unfold hX4_item_295b
        rw [kfI kp, gl_bs, ax, if_pos (of_eq_true (kis kp (by decide)))]
        show Option.bind (hX4_isKind G (some c.p) (nI a) (nI 4) α) _ = _
        rw [X_isK h.k h.xw (by omega) (by decide), gl_bs, ek, if_neg (show ¬ ¬ nI (b2n false) = 0 from fun z => z rfl)]
        show (if zis G α (some c.p) 41 = true then _ else _) = _
        rw [if_pos (of_eq_true (kis kp (by decide))), x1, zc_r, if_pos x2]
      · rw [gl_step (a' := (xm, xt, nI t, nI 1)) (s' := s')]
        · refine gl_inR ?_
          unfold gX26_item_178b
          rw [if_neg (show ¬ nI 1 = 0 from n1n), gl_x, x4.b1, if_pos (show ¬ nI 1 = 0 from n1n), itB_223 x4.b1]
        · unfold gX26_item_178b
          rw [if_neg (show ¬ nI 1 = 0 from n1n), gl_x, bm, if_neg (show ¬ ¬ nI 0 = 0 from fun z => z rfl), gl_x, am]
          show Option.bind (gX26_isKind (nI a) (nI 4) s) _ = _
          rw [M_isK h.k h.mw (by omega) (by decide), gl_bs, ek, if_neg (show ¬ ¬ nI (b2n false) = 0 from fun z => z rfl)]
          unfold gX26_item_207
          rw [if_neg (show ¬ (1 : Int32) = 0 from by decide), x3, gl_bs]
          rfl
  | succ n ih =>
    intro a b N g α s Fx Fm hn hFx hFm h hb h1 h2 hr
    obtain ⟨fx, rfl⟩ : ∃ x, Fx = x + 1 := ⟨Fx - 1, by omega⟩
    obtain ⟨fm, rfl⟩ : ∃ x, Fm = x + 1 + 1 := ⟨Fm - 2, by omega⟩
    have kp := h.kp
    have ax := h.ax
    have am := h.am
    have bm := h.bm
    have a5 := h.a5
    rcases ek : wK c a 4 with _ | _
    · have MS : ∀ s', gX26_described2 (nI t) s = some ((), s') → gX26_item_178b xm xt (nI t) (nI 1) s = some (.inl (xm, xt, nI t, nI 1), s') := fun s' hs => by
        unfold gX26_item_178b
        rw [if_neg (show ¬ nI 1 = 0 from n1n), gl_x, bm, if_neg (show ¬ ¬ nI 0 = 0 from fun z => z rfl), gl_x, am]
        show Option.bind (gX26_isKind (nI a) (nI 4) s) _ = _
        rw [M_isK h.k h.mw (by omega) (by decide), gl_bs, ek, if_neg (show ¬ ¬ nI (b2n false) = 0 from fun z => z rfl)]
        unfold gX26_item_207
        rw [if_neg (show ¬ (1 : Int32) = 0 from by decide), hs, gl_bs]
        rfl
      have XS : ∀ R, hX4_part G (some c.p) (some (g.oa t)) α = R → hX4_item_295b G (some c.p) r1 x3 x5 r6 (some (g.oa t)) α = zcase R (fun p15 => some (.inl (some c.p, r1, x3, x5, r6, some (g.oa t)), p15.2)) (fun p16 => if zthr p16.2 p16.1 3 = true then some (.inr (.inr p16.1), p16.2) else none) := fun R hR => by
        unfold hX4_item_295b
        rw [kfI kp, gl_bs, ax, if_pos (of_eq_true (kis kp (by decide)))]
        show Option.bind (hX4_isKind G (some c.p) (nI a) (nI 4) α) _ = _
        rw [X_isK h.k h.xw (by omega) (by decide), gl_bs, ek, if_neg (show ¬ ¬ nI (b2n false) = 0 from fun z => z rfl)]
        show (if zis G α (some c.p) 41 = true then _ else _) = _
        rw [if_pos (of_eq_true (kis kp (by decide))), hR]
      rcases h.part (G := G) (t := t) hb h1 h2 hr with ⟨_, β, _, s', y1, y2, a', b', N', g', y3, y4, y5, y6, _⟩ | ⟨e, β, _, s', wh, w, y1, y2, y3, y4, y5⟩
      · have al := y3.al
        have n4 := y4.n
        have o4 := y4.oa t h2
        have r4 := y4.r t h2
        have R := ih (Fx := fx) (Fm := fm + 1) (by omega) (by omega) (by omega) y3 (by unfold pB at *; omega) h1 (by omega) (by rw [r4]; exact hr)
        rw [o4] at R
        have X1 := XS _ y1
        rw [zc_l] at X1
        rw [zloop_step X1, gl_step (MS _ y2)]
        rcases R with ⟨δ, s6, a6, b6, N6, g6, z1, z2, z3, z4, z5, z6, z7⟩ | z
        · exact .inl ⟨δ, s6, a6, b6, N6, g6, z1, z2, z3, y4.tr z4, z5, by omega, by omega⟩
        · exact .inr z
      · refine .inr ⟨e, β, s', wh, w, zloop_inr ?_, y2, ?_, y4⟩
        · rw [XS _ y1, zc_r, if_pos y2]
        · rw [gl_step (MS _ y3)]
          refine gl_inR ?_
          unfold gX26_item_178b
          rw [if_neg (show ¬ nI 1 = 0 from n1n), gl_x, y4.b1, if_pos (show ¬ nI 1 = 0 from n1n), itB_223 y4.b1]
    · refine .inl ⟨α, s, a, b, N, g, zloop_in ?_, ?_, h, pX.rf, ek, Nat.le_refl _, Nat.le_refl _⟩
      · unfold hX4_item_295b
        rw [kfI kp, gl_bs, ax, if_pos (of_eq_true (kis kp (by decide)))]
        show Option.bind (hX4_isKind G (some c.p) (nI a) (nI 4) α) _ = _
        rw [X_isK h.k h.xw (by omega) (by decide), gl_bs, ek, if_pos (show ¬ nI (b2n true) = 0 from bT)]
        rfl
      · rw [gl_step (a' := (xm, xt, nI t, nI 0)) (s' := s)]
        · refine gl_inR ?_
          unfold gX26_item_178b
          rw [if_pos (show nI 0 = 0 from rfl)]
        · unfold gX26_item_178b
          rw [if_neg (show ¬ nI 1 = 0 from n1n), gl_x, bm, if_neg (show ¬ ¬ nI 0 = 0 from fun z => z rfl), gl_x, am]
          show Option.bind (gX26_isKind (nI a) (nI 4) s) _ = _
          rw [M_isK h.k h.mw (by omega) (by decide), gl_bs, ek, if_pos (show ¬ nI (b2n true) = 0 from bT)]
          rfl
end PAZZT
