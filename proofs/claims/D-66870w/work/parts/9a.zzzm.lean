/-! THE PURE LAYER: the parser: X's side alone: a node is made, one is laid below another; operands. -/
section PAZZZM
variable {ρ σ : Type} {c : pC} {G : xQ} {α β γ α0 : zS} {a a' b k w q r t u T T' E : Nat} {v v' kv nm : Int32} {e : Int32 × Int32} {L : List Nat} {M M' N : Nat → Prop} {l m : List (Int32 × Int32)}
theorem xp.mk0 (h : xp c a α) : xp c a (zmk α 45 0 9) ∧ xNw c (zmk α 45 0 9) (zn α) := by
  have h1 := h.pz
  have h2 := h.kz
  have h3 := h.vz
  refine ⟨h.fr (Nat.le_succ _) (zmk_ne h1) (zmk_ne h2) (zmk_ne h3), xNw.mk rfl h.a0 (by rw [zkd_zmk, if_pos rfl]) (fun k => ?_) (fun k => ?_)⟩
  · rw [zI_mk, if_pos rfl]; rfl
  · rw [zA_mk, if_pos rfl]
/-- a node is made -/
theorem w_new (h : xp c a α) : ∃ β, hX43_init G (some (zn α)) kv v v' (zmk α 45 0 9) = some ((), β) ∧ xp c a β ∧ xnB β (zn α) (kv, v) [] ∧ (∀ x, x < zn α → β.2 x = α.2 x) ∧ zn β = zn α + 3 := by
  obtain ⟨h0, hq⟩ := h.mk0
  obtain ⟨β, x1, x2, x3, x4, x5, x6, x7, x8, x9, x10, x11, x12, x13⟩ := X_init (G := G) (kv := kv) (v := v) (v' := v') hq
  have h1 := h.pz
  have h2 := h.kz
  have h3 := h.vz
  have zz : zn (zmk α 45 0 9) = zn α + 1 := rfl
  have fr : ∀ x, x < zn α → β.2 x = α.2 x := fun x hx => (x10 x (by omega) (by omega)).trans (zmk_ne hx)
  refine ⟨β, x1, h.fr (by omega) (fr _ h1) (fr _ h2) (fr _ h3), xnB.mk x2 (by omega) x3 x4 x5 (fun r hr => absurd hr (by simp)) ?_, fr, x11⟩
  unfold xkv
  rw [x6, x7]
theorem xnF.new (hn : zn β = zn α + 3) (fr : ∀ x, x < zn α → β.2 x = α.2 x) (b : xnB β (zn α) e []) (kp : c.p < zn α) : xnF c c.p (zn α) (fun q => q = zn α) α β := by
  refine xnF.mk (by omega) (fun q h1 _ _ => fr q h1) (fun q hq => ?_) (fun q hq z => absurd hq z) (by rw [zkd_eq (fr _ kp)])
  rw [hq]
  exact ⟨Nat.le_refl _, by omega, b.kn⟩
/-- the node at hand has its shape -/
theorem xnF.cl (h : xnF c T E M α β) (kp : zkd β c.p = 41) (hE : ∃ e L, xnB β E e L ∧ (∀ r, r ∈ L → M r) ∧ grS c e (L.map (xkv β))) : xnF c T c.p M α β := xnF.mk h.n h.fr h.nw (fun q hq _ => by
  by_cases z : q = E
  · obtain ⟨e, L, b1, b2, b3⟩ := hE
    rw [z]
    exact ⟨e, L, b1, fun r hr => ⟨b2 r hr, fun y => by have := (b1.ok r hr).1; rw [y, kp] at this; omega⟩, b3⟩
  · obtain ⟨e, L, b1, b2, b3⟩ := h.ok q hq z
    exact ⟨e, L, b1, fun r hr => ⟨(b2 r hr).1, fun y => by have := (b1.ok r hr).1; rw [y, kp] at this; omega⟩, b3⟩) h.kT
theorem xnF.leaf (hn : zn β = zn α + 3) (fr : ∀ x, x < zn α → β.2 x = α.2 x) (b : xnB β (zn α) e []) (kp : c.p < zn α) (k41 : zkd β c.p = 41) (g : grS c e []) : xnF c c.p c.p (fun q => q = zn α) α β := (xnF.new hn fr b kp).cl k41 ⟨e, [], b, fun r hr => absurd hr (by simp), g⟩
theorem w_add (b : xnB α q e L) (hw : zkd α w = 45) : wp (hX43_add G (some q) (some w) α) (fun r β => r = some w ∧ xAt α q w β) := fun r β h => by
  by_cases ln : (zL α (q + 1)).length < 1000000
  · obtain ⟨γ, z1, z2, _⟩ := X_addC (G := G) b.kn b.fl b.kl hw ln
    rw [z1] at h
    have h1 := Option.some.inj h
    rw [← (Prod.mk.inj h1).1, ← (Prod.mk.inj h1).2]
    exact ⟨rfl, z2⟩
  · unfold hX43_add at h
    rw [kfA b.kn, b.fl, gl_bs] at h
    have : zLadd α (some (q + 1)) (some w) = none := if_neg (fun z => ln z.2)
    rw [this] at h
    exact absurd h (by simp)
theorem xAt.ke (h : xAt α q w β) (hx : t ≠ q + 1) : xkv β t = xkv α t := by
  unfold xkv
  by_cases z : t = w
  · rw [z, h.I, h.I]
  · rw [zI_eq (h.fr t hx z), zI_eq (h.fr t hx z)]
theorem xnB.k3 (h : xnB α q e L) (hr : zkd α r = 45) : r ≠ q + 1 := fun z => by
  have := h.kl
  rw [← z, hr] at this
  omega
/-- another node stays as it was -/
theorem xnB.at' (h : xnB α t e L) (x : xAt α q w β) (kl : zkd α (q + 1) = 3) (ht : t ≠ q) : xnB β t e L ∧ L.map (xkv β) = L.map (xkv α) := by
  have kn := h.kn
  have n := x.n
  have hi := h.hi
  have r3 : ∀ r, zkd α r = 45 → r ≠ q + 1 := fun r hr z => by rw [z, kl] at hr; omega
  refine ⟨xnB.mk ((x.kd _).trans kn) (by omega) ?_ ((x.kd _).trans h.kl) ((x.L _ (by omega)).trans h.ls) (fun r hr => ?_) ((x.ke (r3 _ kn)).trans h.e), List.map_congr_left fun r hr => x.ke (r3 _ (h.ok r hr).1)⟩
  · by_cases z : t = w
    · rw [z, x.A _ _ (fun z => absurd z.2 (by decide)), ← z]; exact h.fl
    · rw [zA_eq (x.fr t (r3 _ kn) z)]; exact h.fl
  · have := h.ok r hr
    rw [x.kd]
    omega
/-- the one that grows -/
theorem xnB.add (h : xnB α q e L) (x : xAt α q w β) (hw : zkd α w = 45) (hz : w < zn α) : xnB β q e (L ++ [w]) ∧ (L ++ [w]).map (xkv β) = (L ++ [w]).map (xkv α) := by
  have kn := h.kn
  have kl := h.kl
  have n := x.n
  have hi := h.hi
  have r3 : ∀ r, zkd α r = 45 → r ≠ q + 1 := fun r hr z => by rw [z, kl] at hr; omega
  have mem : ∀ r, r ∈ L ++ [w] → zkd α r = 45 ∧ r < zn α := fun r hr => by
    rcases List.mem_append.mp hr with z | z
    · exact h.ok r z
    · rw [List.mem_singleton] at z
      rw [z]; exact ⟨hw, hz⟩
  refine ⟨xnB.mk ((x.kd _).trans kn) (by omega) ?_ ((x.kd _).trans kl) ?_ (fun r hr => ?_) ((x.ke (r3 _ kn)).trans h.e), List.map_congr_left fun r hr => x.ke (r3 _ (mem r hr).1)⟩
  · by_cases z : q = w
    · have := x.A 44 8 (fun z => absurd z.2 (by decide))
      rw [← z] at this
      rw [this]; exact h.fl
    · rw [zA_eq (x.fr q (by omega) z)]; exact h.fl
  · rw [x.ls, h.ls, List.map_append]
    rfl
  · have := mem r hr
    rw [x.kd]
    omega
theorem xp.at' (h : xp c a α) (x : xAt α q w β) (kl : zkd α (q + 1) = 3) (hw : zkd α w = 45) : xp c a β := by
  have kp := h.x.kp
  have kk := h.x.kk
  have kv := h.x.kv
  exact h.fr x.n (x.fr _ (fun z => by rw [z, kl] at kp; omega) (fun z => by rw [z, hw] at kp; omega)) (x.fr _ (fun z => by rw [z, kl] at kk; omega) (fun z => by rw [z, hw] at kk; omega)) (x.fr _ (fun z => by rw [z, kl] at kv; omega) (fun z => by rw [z, hw] at kv; omega))
theorem xnF.add (h : xnF c T E M α0 α) (x : xAt α q w β) (kl : zkd α (q + 1) = 3) (hz : T < zn α0) (hq : (q = E ∧ zn α0 ≤ E) ∨ q + 1 = T) (hw : M w) : xnF c T E M α0 β := by
  have n := h.n
  have n' := x.n
  obtain ⟨w1, w2, w3⟩ := h.nw w hw
  refine xnF.mk (by omega) (fun t h1 h2 h3 => ?_) (fun t ht => ?_) (fun t ht hE => ?_) ((x.kd _).trans h.kT)
  · rw [x.fr t (by rcases hq with z | z <;> omega) (by omega)]
    exact h.fr t h1 h2 h3
  · obtain ⟨t1, t2, t3⟩ := h.nw t ht
    exact ⟨t1, by omega, (x.kd _).trans t3⟩
  · obtain ⟨e, L, b1, b2, b3⟩ := h.ok t ht hE
    obtain ⟨t1, t2, t3⟩ := h.nw t ht
    obtain ⟨b4, b5⟩ := b1.at' x kl (by rcases hq with z | z <;> omega)
    exact ⟨e, L, b4, b2, by rw [b5]; exact b3⟩
/-- an operand comes -/
theorem w_operand (h : xp c a α) {Q : Option Nat → zS → Prop} (hq : ∀ j β, (j = 1 ∧ nm ≠ 0 ∨ j = 2 ∨ j = 3) → wK c a j = true → xp c (a + 1) β → xnB β (zn α) (nI 41, nI (100000 * j + c.vs a)) [] → (∀ x, x < zn α → x ≠ c.p → β.2 x = α.2 x) → β.2 c.p = (xaS c α a).2 c.p → zn β = zn α + 3 → Q (some (zn α)) β) : wx (hX4_operand G (some c.p) nm α) Q := by
  have a5 := h.a5
  have m0 : wx (hX4_operand_46 G (some c.p) 0 (some c.p) α) Q := by
    unfold hX4_operand_46
    rw [if_pos h.z41]
    exact wx_c (w_must h fun z => absurd rfl z)
  have m1 : ∀ j, (j = 1 ∧ nm ≠ 0 ∨ j = 2 ∨ j = 3) → wK c a j = true → wx (hX4_operand_46 G (some c.p) 1 (some c.p) α) Q := fun j hj e => by
    obtain ⟨ha, hk⟩ := wK_i e
    have h' := h.adv ha
    obtain ⟨β, y1, y2, y3, y4, y5⟩ := w_new (G := G) (kv := nI 41) (v := nI (100000 * c.ks a + c.vs a)) (v' := nI a) h'
    have h4 := h'.mk0.1
    have zz : zn (xaS c α a) = zn α := rfl
    have rk := h4.x.rk a ha
    have rv := h4.x.rv a ha
    have n45 : zkd (zmk (xaS c α a) 45 0 9) (zn α) = 45 := by rw [zkd_zmk, if_pos zz.symm]
    unfold hX4_operand_46
    rw [if_pos h.z41]
    refine wx_c (w_must h fun _ => ?_)
    show wx (Option.bind (zfI α (some c.p) 40 3) _) Q
    rw [kfI h.kp, gl_bs, h.ax, kpI h.kp, gl_bs, pI_succ, show zwI α 40 3 c.p (nI (a + 1)) = xaS c α a from rfl, znO_e, gl_bs]
    show wx (Option.bind (zfA (zmk (xaS c α a) 45 0 9) (some c.p) 40 0) _) Q
    have sb : nI (a + 1) - 1 = nI a := by rw [nl1, pI_sub (by omega)]; rfl
    rw [kfA h4.kp, gl_bs, h4.x.fk, kfI h4.kp, gl_bs, h4.ax, sb, kald h4.x.kk (by rw [h4.x.lk]; omega) (by rw [h4.x.lk]; decide), gl_bs, rk, kfA h4.kp, gl_bs, h4.x.fv, gl_bs, sb, kald h4.x.kv (by rw [h4.x.lv]; omega) (by rw [h4.x.lv]; decide), gl_bs, rv, gl_bs, sb]
    show wx (if zis G (zmk (xaS c α a) 45 0 9) (some (zn α)) 45 = true then _ else _) Q
    rw [if_pos (of_eq_true (kis n45 (by decide))), show ((100000 : Int32) * nI (c.ks a) + nI (c.vs a)) = nI (100000 * c.ks a + c.vs a) from by rw [show (100000 : Int32) = nI 100000 from rfl, pI_mul, pI_add]]
    rw [zz] at y1 y3 y4 y5
    show wx (Option.bind (hX43_init G (some (zn α)) (nI 41) _ _ _) _) Q
    rw [y1, gl_bs]
    refine wx_l ?_
    have hp := h.pz
    rw [hk] at y3
    exact hq j β hj e y2 y3 (fun x hx hxp => (y4 x hx).trans (zwI_ne hxp)) (y4 _ hp) y5
  unfold hX4_operand hX4_operand_45 hX4_operand_41
  rw [kfI h.kp, gl_bs, if_pos h.z41, h.ax, show (2 : Int32) = nI 2 from rfl, X_isK h.o h.x (by omega) (by decide), gl_bs]
  rcases e2 : wK c a 2 with _ | _
  · rw [if_neg (show ¬ ¬ nI (b2n false) = 0 from fun z => z rfl)]
    show wx (Option.bind (zfI α (some c.p) 40 3) _) Q
    rw [kfI h.kp, gl_bs, if_pos h.z41, h.ax, show (3 : Int32) = nI 3 from rfl, X_isK h.o h.x (by omega) (by decide), gl_bs]
    rcases e3 : wK c a 3 with _ | _
    · rw [if_neg (show ¬ ¬ nI (b2n false) = 0 from fun z => z rfl)]
      refine wx_if (fun _ => m0) (fun hm => ?_)
      show wx (Option.bind (zfI α (some c.p) 40 3) _) Q
      rw [kfI h.kp, gl_bs, if_pos h.z41, h.ax, nl1, X_isK h.o h.x (by omega) (by decide), gl_bs]
      rcases e1 : wK c a 1 with _ | _
      · rw [if_pos (show nI (b2n false) = 0 from rfl)]
        exact m0
      · rw [if_neg (show ¬ nI (b2n true) = 0 from by decide)]
        exact m1 1 (.inl ⟨rfl, hm⟩) e1
    · rw [if_pos (show ¬ nI (b2n true) = 0 from by decide)]
      exact m1 3 (.inr (.inr rfl)) e3
  · rw [if_pos (show ¬ nI (b2n true) = 0 from by decide)]
    exact m1 2 (.inr (.inl rfl)) e2
end PAZZZM
