/-! THE PURE LAYER: the parser: X's side alone: conditions. -/
/-- node u can be reached from q downwards -/
def xDn (β : zS) : Nat → Nat → Nat → Prop
  | 0, q, u => u = q
  | n + 1, q, u => u = q ∨ ∃ r, some r ∈ zL β (q + 1) ∧ xDn β n r u
def xIn (β : zS) (q u : Nat) : Prop := ∃ n, xDn β n q u
/-- the subjects of relations M: out of S, or of M -/
def sjM (c : pC) (S M : Nat → Prop) (β : zS) : Prop := ∀ t, M t → zI β 44 0 t = nI 53 → ∃ u, zA β 44 7 t = some u ∧ (S u ∨ M u) ∧ zkd β u = 45 ∧ u < zn β ∧ grOp c (xkv β u)
/-- the subject at hand -/
def sjP (c : pC) (S : Nat → Prop) (β : zS) : Prop := ∀ u, zA β 40 15 c.p = some u → S u ∧ zkd β u = 45 ∧ u < zn β ∧ grOp c (xkv β u) ∧ ∃ x, x ≤ 5 ∧ zI β 40 16 c.p = nI x
/-- a condition comes -/
def rC (c : pC) (α : zS) (S : Nat → Prop) (r : Option Nat) (β : zS) : Prop := ∃ a q M, r = some q ∧ xp c a β ∧ xnF c c.p c.p M α β ∧ M q ∧ grK 50 54 (xkv β q) ∧ (∀ u, M u → xIn β q u) ∧ sjM c S M β ∧ sjP c (fun u => S u ∨ M u) β
section PAZZZO
variable {ρ σ : Type} {c : pC} {G : xQ} {α β γ α0 : zS} {a a' b k w q r t u n T T' E f : Nat} {v v' kv nm pr : Int32} {e : Int32 × Int32} {L : List Nat} {M M' N S S' : Nat → Prop} {l m : List (Int32 × Int32)} {P : Int32 × Int32 → Prop}
theorem xIn.rf : xIn β q q := ⟨0, rfl⟩
theorem xIn.dn (h : some r ∈ zL β (q + 1)) (hr : xIn β r u) : xIn β q u := by
  obtain ⟨n, hn⟩ := hr
  exact ⟨n + 1, .inr ⟨r, h, hn⟩⟩
/-- what is closed stays so -/
theorem xIn.st (hM : ∀ t, M t → (∀ r, some r ∈ zL β (t + 1) → M r) ∧ zL γ (t + 1) = zL β (t + 1)) (hq : M q) (h : xIn β q u) : xIn γ q u := by
  obtain ⟨n, hn⟩ := h
  refine ⟨n, ?_⟩
  induction n generalizing q with
  | zero => exact hn
  | succ n ih =>
    rcases hn with z | ⟨r, z1, z2⟩
    · exact .inl z
    · obtain ⟨y1, y2⟩ := hM q hq
      exact .inr ⟨r, by rw [y2]; exact z1, ih (y1 r z1) z2⟩
theorem w_compare128 (h : xp c a α) {Q : Unit → zS → Prop} (hq : Q () (zwI α 40 16 c.p (v + v'))) : wx (hX4_compare_128 G v' v (some c.p) α) Q := by
  unfold hX4_compare_128
  rw [kpI h.kp, gl_bs]
  exact wx_l hq
/-- a comparison: nothing but the parser's fields -/
theorem w_compare (h : xp c a α) : wx (hX4_compare G (some c.p) α) (fun _ β => ∃ a' x, xp c a' β ∧ (∀ y, y ≠ c.p → β.2 y = α.2 y) ∧ zn β = zn α ∧ zA β 40 15 c.p = zA α 40 15 c.p ∧ x ≤ 5 ∧ zI β 40 16 c.p = nI x) := by
  have m21 : ∀ o a γ, (o = 0 ∨ o = 3) → xp c a γ → (∀ y, y ≠ c.p → γ.2 y = α.2 y) → zn γ = zn α → zA γ 40 15 c.p = zA α 40 15 c.p → wx (hX4_compare_21 G (some c.p) (nI o) γ) (fun _ β => ∃ a' x, xp c a' β ∧ (∀ y, y ≠ c.p → β.2 y = α.2 y) ∧ zn β = zn α ∧ zA β 40 15 c.p = zA α 40 15 c.p ∧ x ≤ 5 ∧ zI β 40 16 c.p = nI x) := fun o a γ ho h fr hn eA => by
    have a5 := h.a5
    have e128 : ∀ a δ x, xp c a δ → x ≤ 2 → (∀ y, y ≠ c.p → δ.2 y = α.2 y) → zn δ = zn α → zA δ 40 15 c.p = zA α 40 15 c.p → wx (hX4_compare_128 G (nI x) (nI o) (some c.p) δ) (fun _ β => ∃ a' x, xp c a' β ∧ (∀ y, y ≠ c.p → β.2 y = α.2 y) ∧ zn β = zn α ∧ zA β 40 15 c.p = zA α 40 15 c.p ∧ x ≤ 5 ∧ zI β 40 16 c.p = nI x) := fun a δ x h hx fr hn eA => by
      refine w_compare128 h ⟨a, o + x, h.wI (by decide) (by decide), fun y hy => (zwI_ne hy).trans (fr y hy), hn, by rw [zA_zwI]; exact eA, by omega, ?_⟩
      rw [zI_zwI, if_pos ⟨rfl, rfl, rfl⟩, pI_add]
    have e95 : ∀ a δ y x2, xp c a δ → (x2 ≠ 0 → 2 ≤ y ∧ y ≤ 4) → (∀ y, y ≠ c.p → δ.2 y = α.2 y) → zn δ = zn α → zA δ 40 15 c.p = zA α 40 15 c.p → wx (hX4_compare_95 G (some c.p) (nI o) x2 (nI y) δ) (fun _ β => ∃ a' x, xp c a' β ∧ (∀ y, y ≠ c.p → β.2 y = α.2 y) ∧ zn β = zn α ∧ zA β 40 15 c.p = zA α 40 15 c.p ∧ x ≤ 5 ∧ zI β 40 16 c.p = nI x) := fun a δ y x2 h hy fr hn eA => by
      unfold hX4_compare_95
      refine wx_if (fun _ => wx_if (fun _ => wx_if (fun _ => e128 a δ 2 h (by decide) fr hn eA) (fun _ => e128 a δ 1 h (by decide) fr hn eA)) (fun _ => e128 a δ 0 h (by decide) fr hn eA)) (fun z => ?_)
      have := hy z
      rw [show (2 : Int32) = nI 2 from rfl, pI_sub (by omega)]
      exact e128 a δ (y - 2) h (by omega) fr hn eA
    unfold hX4_compare_21
    rw [kfI h.kp, gl_bs, if_pos h.z41, h.ax, X_isR h.o h.x (by omega), gl_bs, if_pos h.z41]
    rcases eR : wR c a with _ | _
    · exact wx_c (w_must h fun z => absurd rfl z)
    · obtain ⟨i1, i2⟩ := wR_i eR
      refine wx_c (w_must h fun _ => ?_)
      have rk := h.x.rk a i1
      have rv := h.x.rv a i1
      have n5 := h.o.n
      have h' := h.adv i1
      show wx (Option.bind (zfA γ (some c.p) 40 0) _) _
      rw [kfA h.kp, gl_bs, h.x.fk, kfI h.kp, gl_bs, h.ax, kald h.x.kk (by rw [h.x.lk]; omega) (by rw [h.x.lk]; decide), gl_bs, rk]
      have frA : ∀ y, y ≠ c.p → (xaS c γ a).2 y = α.2 y := fun y hy => (zwI_ne hy).trans (fr y hy)
      have eA' : zA (xaS c γ a) 40 15 c.p = zA α 40 15 c.p := by
        unfold xaS
        rw [zA_zwI]; exact eA
      have e91 : ∀ x2 w, (x2 ≠ 0 → 2 ≤ c.vs a ∧ c.vs a ≤ 4) → w < 100000 → wx (hX4_compare_91 G (some c.p) (nI o) x2 (nI (c.vs a)) (nI w) (some c.p) (xaS c γ a)) (fun _ β => ∃ a' x, xp c a' β ∧ (∀ y, y ≠ c.p → β.2 y = α.2 y) ∧ zn β = zn α ∧ zA β 40 15 c.p = zA α 40 15 c.p ∧ x ≤ 5 ∧ zI β 40 16 c.p = nI x) := fun x2 w hy hw => by
        unfold hX4_compare_91
        rw [if_pos h'.z41, w_meets h' hw]
        rcases ew : wW c (a + 1) w with _ | _
        · rw [if_neg (by decide), gl_bs]
          exact e95 _ _ _ _ h' hy frA hn eA'
        · rw [if_pos rfl, gl_bs]
          have h2 := h'.adv (wW_i ew).1
          exact e95 _ _ _ _ h2 hy (fun y hy => (zwI_ne hy).trans (frA y hy)) hn (by unfold xaS; rw [zA_zwI]; exact eA')
      have e52 : ∀ x2, (x2 ≠ 0 → 2 ≤ c.vs a ∧ c.vs a ≤ 4) → wx (hX4_compare_52 G (some c.p) (nI o) x2 γ) (fun _ β => ∃ a' x, xp c a' β ∧ (∀ y, y ≠ c.p → β.2 y = α.2 y) ∧ zn β = zn α ∧ zA β 40 15 c.p = zA α 40 15 c.p ∧ x ≤ 5 ∧ zI β 40 16 c.p = nI x) := fun x2 hy => by
        unfold hX4_compare_52
        rw [kfA h.kp, gl_bs, h.x.fv, kfI h.kp, gl_bs, h.ax, kald h.x.kv (by rw [h.x.lv]; omega) (by rw [h.x.lv]; decide), gl_bs, rv, gl_bs, kpI h.kp, gl_bs, pI_succ, show zwI γ 40 3 c.p (nI (a + 1)) = xaS c γ a from rfl]
        exact wx_if (fun _ => e95 _ _ _ _ h' hy frA hn eA') (fun _ => wx_if (fun _ => e91 x2 71 hy (by decide)) (fun _ => e91 x2 48 hy (by decide)))
      refine wx_if (fun _ => e52 0 (fun z => absurd rfl z)) (fun z => e52 1 (fun _ => ?_))
      rcases i2 with y | y
      · exact y.2
      · refine absurd ?_ z
        intro w
        rw [y.1] at w
        exact absurd w (by decide)
  unfold hX4_compare
  rw [if_pos h.z41, show (67 : Int32) = nI 67 from rfl, w_meets h (by decide)]
  have t64 : ∀ a γ, xp c a γ → (∀ y, y ≠ c.p → γ.2 y = α.2 y) → zn γ = zn α → zA γ 40 15 c.p = zA α 40 15 c.p → wx (if zis G γ (some c.p) 41 = true then (hX4_meets G (some c.p) 64 γ).bind fun p16 => if p16.1 = 0 then hX4_compare_21 G (some c.p) 0 p16.2 else hX4_compare_21 G (some c.p) 3 p16.2 else none) (fun _ β => ∃ a' x, xp c a' β ∧ (∀ y, y ≠ c.p → β.2 y = α.2 y) ∧ zn β = zn α ∧ zA β 40 15 c.p = zA α 40 15 c.p ∧ x ≤ 5 ∧ zI β 40 16 c.p = nI x) := fun a γ h fr hn eA => by
    rw [if_pos h.z41, show (64 : Int32) = nI 64 from rfl, w_meets h (by decide)]
    rcases ew : wW c a 64 with _ | _
    · rw [if_neg (by decide), gl_bs]
      exact wx_if (fun _ => m21 0 _ _ (.inl rfl) h fr hn eA) (fun _ => m21 3 _ _ (.inr rfl) h fr hn eA)
    · rw [if_pos rfl, gl_bs]
      have h2 := h.adv (wW_i ew).1
      have fr2 : ∀ y, y ≠ c.p → (xaS c γ a).2 y = α.2 y := fun y hy => (zwI_ne hy).trans (fr y hy)
      have eA2 : zA (xaS c γ a) 40 15 c.p = zA α 40 15 c.p := by
        unfold xaS
        rw [zA_zwI]; exact eA
      exact wx_if (fun _ => m21 0 _ _ (.inl rfl) h2 fr2 hn eA2) (fun _ => m21 3 _ _ (.inr rfl) h2 fr2 hn eA2)
  rcases ew : wW c a 67 with _ | _
  · rw [if_neg (by decide), gl_bs]
    exact t64 _ _ h (fun _ _ => rfl) rfl rfl
  · rw [if_pos rfl, gl_bs]
    exact t64 _ _ (h.adv (wW_i ew).1) (fun y hy => zwI_ne hy) rfl (by unfold xaS; rw [zA_zwI])
end PAZZZO
