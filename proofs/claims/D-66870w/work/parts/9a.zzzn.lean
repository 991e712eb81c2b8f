/-! THE PURE LAYER: the parser: X's side alone: sums. -/
/-- one round of a loop -/
def wl {ρ β : Type} (m : zF (ρ ⊕ (β ⊕ Nat))) (I : ρ → zS → Prop) (Q : β → zS → Prop) : Prop := ∀ r γ, m = some (r, γ) → (∀ a, r = .inl a → I a γ) ∧ ∀ b, r = .inr (.inl b) → Q b γ
/-- a node comes that is so, all that is new since α0 has its shape -/
def rsN (c : pC) (α0 : zS) (P : Int32 × Int32 → Prop) (r : Option Nat) (β : zS) : Prop := ∃ a q M, r = some q ∧ xp c a β ∧ xnF c c.p c.p M α0 β ∧ M q ∧ P (xkv β q) ∧ ∀ t, M t → zI β 44 0 t ≠ nI 53
section PAZZZN
variable {ρ σ : Type} {c : pC} {G : xQ} {α β γ α0 : zS} {a a' b k w q r t u T T' E f : Nat} {v v' kv nm pr : Int32} {e : Int32 × Int32} {L : List Nat} {M M' N : Nat → Prop} {l m : List (Int32 × Int32)} {P : Int32 × Int32 → Prop}
theorem wl_in {a : ρ} {I : ρ → zS → Prop} {Q : σ → zS → Prop} (h : I a β) : wl (some (.inl a, β)) I Q := fun r γ e => by
  have e1 := Option.some.inj e
  rw [← (Prod.mk.inj e1).1, ← (Prod.mk.inj e1).2]
  exact ⟨fun b hb => by rw [← Sum.inl.inj hb]; exact h, fun b hb => absurd hb (by simp)⟩
theorem wl_th {q : Nat} {I : ρ → zS → Prop} {Q : σ → zS → Prop} : wl (some (.inr (.inr q), β)) I Q := fun r γ e => by
  have e1 := Option.some.inj e
  rw [← (Prod.mk.inj e1).1]
  exact ⟨fun b hb => absurd hb (by simp), fun b hb => absurd hb (by simp)⟩
theorem wl_no {I : ρ → zS → Prop} {Q : σ → zS → Prop} : wl none I Q := fun r γ e => absurd e (by simp)
theorem wl_if {p : Prop} [Decidable p] {m n : zF (ρ ⊕ (σ ⊕ Nat))} {I : ρ → zS → Prop} {Q : σ → zS → Prop} (h1 : p → wl m I Q) (h2 : ¬ p → wl n I Q) : wl (if p then m else n) I Q := by
  by_cases h : p
  · rw [if_pos h]; exact h1 h
  · rw [if_neg h]; exact h2 h
theorem wl_b {τ : Type} {m : zF τ} {f : τ × zS → zF (ρ ⊕ (σ ⊕ Nat))} {I : ρ → zS → Prop} {Q : σ → zS → Prop} (h : wp m fun r γ => wl (f (r, γ)) I Q) : wl (m.bind f) I Q := fun r β e => by
  rcases hm : m with _ | ⟨x, γ⟩
  · rw [hm] at e
    exact absurd e (by simp)
  · rw [hm, gl_bs] at e
    exact h x γ hm r β e
theorem wl_c {τ : Type} {m : zF (τ ⊕ Nat)} {f : τ × zS → zF (ρ ⊕ (σ ⊕ Nat))} {I : ρ → zS → Prop} {Q : σ → zS → Prop} (h : wx m fun r γ => wl (f (r, γ)) I Q) : wl (zcase m f (fun p => if zthr p.2 p.1 3 = true then some (.inr (.inr p.1), p.2) else none)) I Q := fun r β e => by
  rcases hm : m with _ | ⟨x | x, γ⟩
  · rw [hm] at e
    exact absurd e (by simp [zcase])
  · rw [hm, zc_l] at e
    exact h x γ hm r β e
  · rw [hm, zc_r] at e
    by_cases z : zthr γ x 3 = true
    · rw [if_pos z] at e
      exact wl_th (I := I) (Q := Q) r β e
    · rw [if_neg z] at e
      exact wl_no (I := I) (Q := Q) r β e
theorem wl_out {b : σ} {I : ρ → zS → Prop} {Q : σ → zS → Prop} (h : Q b β) : wl (zinr (some (.inl b, β)) : zF (ρ ⊕ (σ ⊕ Nat))) I Q := fun r γ e => by
  have e1 : some ((Sum.inr (Sum.inl b) : ρ ⊕ (σ ⊕ Nat)), β) = some (r, γ) := e
  have e2 := Option.some.inj e1
  rw [← (Prod.mk.inj e2).1, ← (Prod.mk.inj e2).2]
  exact ⟨fun a ha => absurd ha (by simp), fun b' hb => by rw [← Sum.inl.inj (Sum.inr.inj hb)]; exact h⟩
/-- a loop whose rounds keep I and end with Q -/
theorem wx_lp {body : ρ → zS → zF (ρ ⊕ (σ ⊕ Nat))} {I : ρ → zS → Prop} {Q : σ → zS → Prop} (h : ∀ a α, I a α → wl (body a α) I Q) : ∀ {n : Nat} {a : ρ} {α : zS}, I a α → wx (zloop body n a α) Q
  | 0, a, α, _ => fun r β e => absurd e (by simp [zloop])
  | n + 1, a, α, hI => fun r β e => by
    rcases hb : body a α with _ | ⟨x | x, γ⟩
    · simp only [zloop, hb] at e
      exact absurd e (by simp)
    · simp only [zloop, hb] at e
      exact wx_lp h (n := n) ((h a α hI _ _ hb).1 x rfl) r β e
    · simp only [zloop, hb] at e
      have e1 := Option.some.inj e
      rw [← (Prod.mk.inj e1).2]
      exact (h a α hI _ _ hb).2 r (by rw [(Prod.mk.inj e1).1])
/-- a node more, nothing below it yet -/
theorem xnF.push (H : xnF c T c.p M α0 α) (h : xp c a α) (hT : zkd α0 T ≠ 45) (hz : T < zn α0) : ∃ β, hX43_init G (some (zn α)) kv v v' (zmk α 45 0 9) = some ((), β) ∧ xp c a β ∧ xnB β (zn α) (kv, v) [] ∧ xnF c T (zn α) (fun q => M q ∨ q = zn α) α0 β ∧ (∀ x, x < zn α → β.2 x = α.2 x) ∧ zn β = zn α + 3 := by
  obtain ⟨β, y1, y2, y3, y4, y5⟩ := w_new (G := G) (kv := kv) (v := v) (v' := v') h
  have n := H.n
  have pz := h.pz
  have kp := h.kp
  refine ⟨β, y1, y2, y3, H.trw (xnF.new y5 y4 y3 pz) kp hT (by rw [kp]; decide) hz y2.kp (.inr (.inr rfl)) (fun q hq _ => ⟨fun z => ?_, fun z => ?_⟩) (fun q hq z => absurd hq z) (fun q hq _ z => ?_) (fun q _ z => z), y4, y5⟩
  · have := (H.nw q hq).2.2
    rw [z, kp] at this
    omega
  · by_cases y : q = c.p
    · omega
    · obtain ⟨e, L, b1, _⟩ := H.ok q hq y
      have := b1.kl
      rw [z, kp] at this
      omega
  · have := (H.nw q hq).2.1
    omega
/-- a part comes behind -/
theorem rsN.use (R : rsN c α P (some r) β) (H : xnF c T E M α0 α) (h : xp c a α) (hT : zkd α0 T ≠ 45) (hz : T < zn α0) (hE : E = c.p ∨ zn α0 ≤ E ∧ E < zn α) (pz : c.p < zn α0) : ∃ a' N, xp c a' β ∧ xnF c T E (fun q => M q ∨ N q) α0 β ∧ N r ∧ P (xkv β r) ∧ (∀ t, M t → xkv β t = xkv α t) ∧ zkd β r = 45 ∧ zn α ≤ r ∧ r < zn β ∧ xnF c c.p c.p N α β ∧ ∀ t, N t → zI β 44 0 t ≠ nI 53 := by
  obtain ⟨a', q, N, y1, y2, y3, y4, y5, y6⟩ := R
  have y1 := Option.some.inj y1
  subst y1
  have kp := h.kp
  obtain ⟨q1, q2, q3⟩ := y3.nw _ y4
  refine ⟨a', N, y2, H.tr y3 kp y2.kp hT (by rw [kp]; decide) hz (.inr (.inr rfl)) (fun z => ?_) (hE.imp id And.right), y4, y5, fun t ht => ?_, q3, q1, by omega, y3, y6⟩
  · rcases hE with y | y
    · omega
    · exact y.1
  · obtain ⟨t1, t2, t3⟩ := H.nw t ht
    exact (xkv_fr y3 (by omega) t3 kp (by rw [kp]; decide)).1
/-- parts of sums at fuel f -/
def iUn (c : pC) (G : xQ) (f : Nat) : Prop := ∀ a α, xp c a α → wx ((rrX4_both G f).2.2.2 (some c.p) α) (rsN c α (grSu c))
def iPr (c : pC) (G : xQ) (f : Nat) : Prop := ∀ a α, xp c a α → wx ((rrX4_both G f).2.1 (some c.p) α) (rsN c α (grSu c))
def iSm (c : pC) (G : xQ) (f : Nat) : Prop := ∀ a α, xp c a α → wx ((rrX4_both G f).2.2.1 (some c.p) α) (rsN c α (grSu c))
def iBo (c : pC) (G : xQ) (f : Nat) : Prop := ∀ a α0 α M t pr, xp c a α → c.p < zn α0 → zkd α0 c.p = 41 → a < c.n → 5 ≤ c.vs a → c.vs a ≤ 8 → xnF c c.p c.p M α0 α → M t → grSu c (xkv α t) → (∀ t, M t → zI α 44 0 t ≠ nI 53) → wx ((rrX4_both G f).1 (some c.p) (some t) pr α) (rsN c α0 (grSu c))
theorem w_both (hu : iUn c G f) (hp : iPr c G f) : iBo c G (f + 1) := by
  intro a α0 α M t pr h pz0 kp0 ha v5 v8 H ht gt h53
  obtain ⟨β, y1, y2, b0, H1, y4, y5⟩ := H.push (G := G) (kv := nI 55) (v := nI (c.vs a)) (v' := zI α 44 5 t) h (by rw [kp0]; decide) pz0
  obtain ⟨t1, t2, t3⟩ := H.nw t ht
  have n := H.n
  have h4 := h.mk0.1
  have e4 : (zmk α 45 0 9).2 t = α.2 t := zmk_ne (by omega)
  have rv := h4.x.rv a ha
  have n5 := h.o.n
  have n45 : zkd (zmk α 45 0 9) (zn α) = 45 := by rw [zkd_zmk, if_pos rfl]
  show wx (hX4_both_r G _ _ _ _ _ _ _ α) _
  unfold hX4_both_r
  rw [znO_e, gl_bs]
  show wx (Option.bind (zfA (zmk α 45 0 9) (some c.p) 40 1) _) _
  rw [kfA h4.kp, gl_bs, h4.x.fv, kfI h4.kp, gl_bs, h4.ax, kald h4.x.kv (by rw [h4.x.lv]; omega) (by rw [h4.x.lv]; decide), gl_bs, rv]
  show wx (Option.bind (zfI (zmk α 45 0 9) (some t) 44 5) _) _
  rw [kfI (by rw [zkd_eq e4]; exact t3), gl_bs, zI_eq e4]
  show wx (if zis G (zmk α 45 0 9) (some (zn α)) 45 = true then _ else _) _
  rw [if_pos (of_eq_true (kis n45 (by decide)))]
  show wx (Option.bind (hX43_init G (some (zn α)) (nI 55) _ _ (zmk α 45 0 9)) _) _
  rw [y1, gl_bs]
  show wx (Option.bind (zfI β (some c.p) 40 3) _) _
  have h6 := y2.adv ha
  rw [kfI y2.kp, gl_bs, y2.ax, kpI y2.kp, gl_bs, pI_succ, show zwI β 40 3 c.p (nI (a + 1)) = xaS c β a from rfl]
  have fr6 : ∀ x, x ≠ c.p → (xaS c β a).2 x = β.2 x := fun x hx => zwI_ne hx
  have H2 := H1.pw fr6 rfl y2.kp h6.kp
  obtain ⟨b1, _⟩ := b0.pw fr6 rfl y2.kp
  have et : (xaS c β a).2 t = α.2 t := (fr6 t (fun z => by have := h.kp; rw [← z, t3] at this; omega)).trans (y4 t (by omega))
  have kt : zkd (xaS c β a) t = 45 := by rw [zkd_eq et]; exact t3
  have gt6 : grSu c (xkv (xaS c β a) t) := by
    unfold xkv
    rw [zI_eq et, zI_eq et]
    exact gt
  rw [if_pos (of_eq_true (kis b1.kn (by decide)))]
  refine wx_b (wp_im (w_add b1 kt) fun r γ z => ?_)
  obtain ⟨rfl, x⟩ := z
  have nz : zn (xaS c β a) = zn β := rfl
  obtain ⟨b2, m2⟩ := b1.add x kt (by omega)
  have H3 := H2.add x b1.kl pz0 (.inl ⟨rfl, by omega⟩) (.inl ht)
  have h7 := h6.at' x b1.kl kt
  have gt7 : grSu c (xkv γ t) := by rw [x.ke (b1.k3 kt)]; exact gt6
  have fin : ∀ r β', rsN c γ (grSu c) r β' → wx (hX4_both_55 G (rrX4_both G f).1 (rrX4_both G f).2.1 (rrX4_both G f).2.2.1 (rrX4_both G f).2.2.2 (some (zn α)) r (some (zn α)) β') (rsN c α0 (grSu c)) := fun r β' R => by
    obtain ⟨_, r', _, rfl, _⟩ := id R
    obtain ⟨a', N, z1, z2, z3, z4, z5, z6, z7, z8, z9, z53⟩ := R.use H3 h7 (by rw [kp0]; decide) pz0 (.inr ⟨by omega, by have := x.n; omega⟩) pz0
    obtain ⟨b3, m3⟩ := b2.fr z9 h7.kp (by rw [h7.kp]; decide) (fun z => by have := b2.kl; rw [z, h7.kp] at this; omega)
    unfold hX4_both_55
    rw [if_pos (of_eq_true (kis b3.kn (by decide)))]
    refine wx_b (wp_im (w_add b3 z6) fun r2 δ z => wx_l ?_)
    obtain ⟨_, x2⟩ := z
    obtain ⟨b4, m4⟩ := b3.add x2 z6 z8
    have H4 := z2.add x2 b3.kl pz0 (.inl ⟨rfl, by omega⟩) (.inr z3)
    have h8 := z1.at' x2 b3.kl z6
    refine ⟨a', zn α, _, rfl, h8, H4.cl h8.kp ⟨_, _, b4, fun r hr => ?_, grS_i (k := 55) ⟨⟨_, v5, v8, rfl⟩, xkv δ t, xkv δ r', rfl, ?_, ?_⟩ (by decide)⟩, .inl (.inr rfl), .inl ⟨55, Nat.le_refl _, Nat.le_refl _, by rw [b4.e]⟩, fun w hw => ?_⟩
    · rcases List.mem_append.mp hr with y | y
      · rw [List.nil_append, List.mem_singleton] at y
        rw [y]; exact .inl (.inl ht)
      · rw [List.mem_singleton] at y
        rw [y]; exact .inr z3
    · rw [x2.ke (b3.k3 (b3.ok t (by simp)).1), z5 t (.inl ht)]
      exact gt7
    · rw [x2.ke (b3.k3 z6)]
      exact z4
    · rcases hw with (y | y) | y
      · have k1 := H.nw w y
        have e1 : xkv δ w = xkv α w := by
          have m1 := H1.nw w (.inl y)
          have m2 := H2.nw w (.inl y)
          have m3 := H3.nw w (.inl y)
          have m4 := z2.nw w (.inl (.inl y))
          rw [x2.ke (b3.k3 m4.2.2), z5 w (.inl y), x.ke (b1.k3 m2.2.2)]
          unfold xkv
          rw [zI_eq (fr6 w (fun z => by have := m2.2.2; rw [z, h6.kp] at this; omega)), zI_eq (fr6 w (fun z => by have := m2.2.2; rw [z, h6.kp] at this; omega)), zI_eq (y4 w (by omega)), zI_eq (y4 w (by omega))]
        rw [show zI δ 44 0 w = zI α 44 0 w from congrArg Prod.fst e1]
        exact h53 w y
      · rw [y, show zI δ 44 0 (zn α) = nI 55 from congrArg Prod.fst b4.e, ne_eq, pI_inj (by decide) (by decide)]
        decide
      · have k1 := (z9.nw w y).2.2
        rw [show zI δ 44 0 w = zI β' 44 0 w from congrArg Prod.fst (x2.ke (b3.k3 k1))]
        exact z53 w y
  refine wx_if (fun _ => ?_) (fun _ => ?_)
  · rw [if_pos h7.z41]
    exact wx_c (wx_im (hu _ _ h7) fin)
  · rw [if_pos h7.z41]
    exact wx_c (wx_im (hp _ _ h7) fin)
theorem rsN.up {P' : Int32 × Int32 → Prop} {r : Option Nat} (R : rsN c α P r β) (h : ∀ e, P e → P' e) : rsN c α P' r β := by
  obtain ⟨a, q, M, y1, y2, y3, y4, y5, y6⟩ := R
  exact ⟨a, q, M, y1, y2, y3, y4, h _ y5, y6⟩
/-- an operand, as a result -/
theorem w_oper (h : xp c a α) : wx (hX4_operand G (some c.p) nm α) (fun r β => ∃ j, (j = 1 ∧ nm ≠ 0 ∨ j = 2 ∨ j = 3) ∧ wK c a j = true ∧ xp c (a + 1) β ∧ r = some (zn α) ∧ xnF c c.p c.p (fun q => q = zn α) α β ∧ xkv β (zn α) = (nI 41, nI (100000 * j + c.vs a)) ∧ xnB β (zn α) (nI 41, nI (100000 * j + c.vs a)) [] ∧ β.2 c.p = (xaS c α a).2 c.p) := by
  refine w_operand h fun j β hj e h' b fr ep hn => ⟨j, hj, e, h', rfl, ?_, b.e, b, ep⟩
  have kp := h.kp
  have g : grN c 41 (nI (100000 * j + c.vs a)) [] := ⟨rfl, j, c.vs a, hj.imp And.left id, ⟨a, (wK_i e).1, (wK_i e).2, rfl⟩, rfl⟩
  refine xnF.mk (by omega) (fun q h1 h2 _ => fr q h1 h2) (fun q hq => ?_) (fun q hq _ => ?_) (by rw [h'.kp, kp])
  · rw [hq]; exact ⟨Nat.le_refl _, by omega, b.kn⟩
  · rw [hq]; exact ⟨_, [], b, fun r hr => absurd hr (by simp), grS_i g (by decide)⟩
theorem w_unit (hs : iSm c G f) : iUn c G (f + 1) := by
  intro a α h
  have a5 := h.a5
  show wx (hX4_unit_r G _ _ _ _ _ α) _
  unfold hX4_unit_r
  rw [kfI h.kp, gl_bs, if_pos h.z41, h.ax, nl0, X_isS h.o h.x (by omega) (by decide), gl_bs]
  rcases e0 : wS c a 0 with _ | _
  · rw [if_neg (show ¬ ¬ nI (b2n false) = nI 0 from fun z => z rfl)]
    show wx (Option.bind (zfI α (some c.p) 40 3) _) _
    rw [kfI h.kp, gl_bs, if_pos h.z41, h.ax, show (3 : Int32) = nI 3 from rfl, X_isK h.o h.x (by omega) (by decide), gl_bs]
    rcases e3 : wK c a 3 with _ | _
    · rw [if_neg (show ¬ ¬ nI (b2n false) = nI 0 from fun z => z rfl)]
      unfold hX4_unit_30
      rw [if_pos h.z41]
      refine wx_c (w_must h fun _ => ?_)
      rw [if_pos h.z41]
      refine wx_c (wx_im (w_oper h) fun r β z => wx_l ?_)
      obtain ⟨j, hj, e, h', rfl, H, ev, _, _⟩ := z
      refine ⟨_, _, _, rfl, h', H, rfl, ?_, fun t ht => ?_⟩
      rotate_left
      · rw [ht, show zI β 44 0 (zn α) = nI 41 from congrArg Prod.fst ev, ne_eq, pI_inj (by decide) (by decide)]
        decide
      rw [ev]
      refine .inr ⟨j, c.vs a, ?_, ⟨a, (wK_i e).1, (wK_i e).2, rfl⟩, rfl⟩
      rcases hj with z | z | z
      · exact .inl z.1
      · exact .inr z
      · rw [z, e3] at e
        exact absurd e (by decide)
    · rw [if_pos (show ¬ nI (b2n true) = nI 0 from by decide)]
      unfold hX4_unit_30
      rw [if_pos h.z41]
      exact wx_c (w_must h fun z => absurd rfl z)
  · rw [if_pos (show ¬ nI (b2n true) = nI 0 from by decide), if_pos h.z41]
    refine wx_c (w_deep h fun v => ?_)
    have h1 : xp c a (zwI α 40 4 c.p v) := h.wI (by decide) (by decide)
    have h2 := h1.adv (wS_i e0).1
    show wx (Option.bind (zfI (zwI α 40 4 c.p v) (some c.p) 40 3) _) _
    rw [kfI h1.kp, gl_bs, h1.ax, kpI h1.kp, gl_bs, pI_succ, show zwI (zwI α 40 4 c.p v) 40 3 c.p (nI (a + 1)) = xaS c (zwI α 40 4 c.p v) a from rfl, if_pos h2.z41]
    have H0 : xnF c c.p c.p (fun _ => False) α (xaS c (zwI α 40 4 c.p v) a) := (xnF.rf.pw (fun x hx => zwI_ne hx) rfl h.kp h1.kp).pw (fun x hx => zwI_ne hx) rfl h1.kp h2.kp
    refine wx_c (wx_im (hs _ _ h2) fun r β R => ?_)
    obtain ⟨_, r', _, rfl, _⟩ := id R
    obtain ⟨a', N, z1, z2, z3, z4, z5, z6, z7, z8, z9, z53⟩ := R.use H0 h2 (by rw [h.kp]; decide) h.pz (.inl rfl) h.pz
    rw [if_pos z1.z41]
    refine wx_c (w_close z1 fun v' ec => wx_l ?_)
    have h3 := z1.adv (wS_i ec).1
    have h4 : xp c (a' + 1) (zwI (xaS c β a') 40 4 c.p v') := h3.wI (by decide) (by decide)
    have rp : r' ≠ c.p := fun z => by have := z1.kp; rw [← z, z6] at this; omega
    refine ⟨_, r', _, rfl, h4, (z2.pw (fun x hx => zwI_ne hx) rfl z1.kp h3.kp).pw (fun x hx => zwI_ne hx) rfl h3.kp h4.kp, .inr z3, ?_, fun t ht => ?_⟩
    rotate_left
    · have y := ht.resolve_left id
      have k1 := (z9.nw t y).2.2
      have tp : t ≠ c.p := fun z => by rw [z, z1.kp] at k1; omega
      show zI (zwI (xaS c β a') 40 4 c.p v') 44 0 t ≠ nI 53
      rw [zI_eq (show (zwI (xaS c β a') 40 4 c.p v').2 t = β.2 t from (zwI_ne tp).trans (zwI_ne tp))]
      exact z53 t y
    have er : (zwI (xaS c β a') 40 4 c.p v').2 r' = β.2 r' := (zwI_ne rp).trans (zwI_ne rp)
    unfold xkv
    rw [zI_eq er, zI_eq er]
    exact z4
theorem w_product (hb : iBo c G f) (hu : iUn c G f) : iPr c G (f + 1) := by
  intro a α h
  have pz := h.pz
  have kp := h.kp
  show wx (hX4_product_r G _ _ _ _ _ α) _
  unfold hX4_product_r
  rw [if_pos h.z41]
  refine wx_c (wx_im (hu _ _ h) fun r β R => ?_)
  unfold hX4_product_5
  refine wx_lp (I := fun x γ => x.1 = some c.p ∧ rsN c α (grSu c) x.2 γ) (fun x γ hI => ?_) ⟨rfl, R⟩
  obtain ⟨x1, x2⟩ := x
  obtain ⟨rfl, R⟩ := hI
  obtain ⟨b, t, M, rfl, z2, z3, z4, z5, z6⟩ := id R
  have a5 := z2.a5
  show wl (hX4_product_5b G (rrX4_both G f).1 (rrX4_both G f).2.1 (rrX4_both G f).2.2.1 (rrX4_both G f).2.2.2 (some c.p) (some t) γ) _ _
  have on : ∀ w, 5 ≤ w → w ≤ 8 → wS c b w = true → wl (hX4_product_31 G (rrX4_both G f).1 (rrX4_both G f).2.1 (rrX4_both G f).2.2.1 (rrX4_both G f).2.2.2 (some c.p) (some t) γ) (fun x γ => x.1 = some c.p ∧ rsN c α (grSu c) x.2 γ) (rsN c α (grSu c)) := fun w w1 w2 e => by
    obtain ⟨i1, _, i3⟩ := wS_i e
    unfold hX4_product_31
    rw [if_pos z2.z41]
    exact wl_c (wx_im (hb _ _ _ _ _ _ z2 pz kp i1 (by omega) (by omega) z3 z4 z5 z6) fun r δ R' => wl_in ⟨rfl, R'⟩)
  unfold hX4_product_5b
  rw [kfI z2.kp, gl_bs, if_pos z2.z41, z2.ax, show (7 : Int32) = nI 7 from rfl, X_isS z2.o z2.x (by omega) (by decide), gl_bs]
  rcases e1 : wS c b 7 with _ | _
  · rw [if_neg (show ¬ ¬ nI (b2n false) = 0 from fun z => z rfl)]
    show wl (Option.bind (zfI γ (some c.p) 40 3) _) _ _
    rw [kfI z2.kp, gl_bs, if_pos z2.z41, z2.ax, show (8 : Int32) = nI 8 from rfl, X_isS z2.o z2.x (by omega) (by decide), gl_bs]
    rcases e2 : wS c b 8 with _ | _
    · rw [if_pos (show nI (b2n false) = 0 from rfl)]
      exact wl_out R
    · rw [if_neg (show ¬ nI (b2n true) = 0 from by decide)]
      exact on _ (by decide) (by decide) e2
  · rw [if_pos (show ¬ nI (b2n true) = 0 from by decide)]
    exact on _ (by decide) (by decide) e1
theorem w_sum (hb : iBo c G f) (hu : iPr c G f) : iSm c G (f + 1) := by
  intro a α h
  have pz := h.pz
  have kp := h.kp
  show wx (hX4_sum_r G _ _ _ _ _ α) _
  unfold hX4_sum_r
  rw [if_pos h.z41]
  refine wx_c (wx_im (hu _ _ h) fun r β R => ?_)
  unfold hX4_sum_5
  refine wx_lp (I := fun x γ => x.1 = some c.p ∧ rsN c α (grSu c) x.2 γ) (fun x γ hI => ?_) ⟨rfl, R⟩
  obtain ⟨x1, x2⟩ := x
  obtain ⟨rfl, R⟩ := hI
  obtain ⟨b, t, M, rfl, z2, z3, z4, z5, z6⟩ := id R
  have a5 := z2.a5
  show wl (hX4_sum_5b G (rrX4_both G f).1 (rrX4_both G f).2.1 (rrX4_both G f).2.2.1 (rrX4_both G f).2.2.2 (some c.p) (some t) γ) _ _
  have on : ∀ w, 5 ≤ w → w ≤ 8 → wS c b w = true → wl (hX4_sum_30 G (rrX4_both G f).1 (rrX4_both G f).2.1 (rrX4_both G f).2.2.1 (rrX4_both G f).2.2.2 (some c.p) (some t) γ) (fun x γ => x.1 = some c.p ∧ rsN c α (grSu c) x.2 γ) (rsN c α (grSu c)) := fun w w1 w2 e => by
    obtain ⟨i1, _, i3⟩ := wS_i e
    unfold hX4_sum_30
    rw [if_pos z2.z41]
    exact wl_c (wx_im (hb _ _ _ _ _ _ z2 pz kp i1 (by omega) (by omega) z3 z4 z5 z6) fun r δ R' => wl_in ⟨rfl, R'⟩)
  unfold hX4_sum_5b
  rw [kfI z2.kp, gl_bs, if_pos z2.z41, z2.ax, show (5 : Int32) = nI 5 from rfl, X_isS z2.o z2.x (by omega) (by decide), gl_bs]
  rcases e1 : wS c b 5 with _ | _
  · rw [if_neg (show ¬ ¬ nI (b2n false) = 0 from fun z => z rfl)]
    show wl (Option.bind (zfI γ (some c.p) 40 3) _) _ _
    rw [kfI z2.kp, gl_bs, if_pos z2.z41, z2.ax, show (6 : Int32) = nI 6 from rfl, X_isS z2.o z2.x (by omega) (by decide), gl_bs]
    rcases e2 : wS c b 6 with _ | _
    · rw [if_pos (show nI (b2n false) = 0 from rfl)]
      exact wl_out R
    · rw [if_neg (show ¬ nI (b2n true) = 0 from by decide)]
      exact on _ (by decide) (by decide) e2
  · rw [if_pos (show ¬ nI (b2n true) = 0 from by decide)]
    exact on _ (by decide) (by decide) e1
theorem w_sums : ∀ f, iUn c G f ∧ iPr c G f ∧ iSm c G f ∧ iBo c G f := by
  intro f
  induction f with
  | zero => exact ⟨fun _ _ _ => wx_no, fun _ _ _ => wx_no, fun _ _ _ => wx_no, fun _ _ _ _ _ _ _ _ _ _ _ _ _ _ _ _ => wx_no⟩
  | succ f ih =>
    obtain ⟨i1, i2, i3, i4⟩ := ih
    exact ⟨w_unit i3, w_product i4 i1, w_sum i4 i2, w_both i1 i2⟩
end PAZZZN
