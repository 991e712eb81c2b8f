/-! THE PURE LAYER: the parser: X's side alone: relations. -/
/-- nodes keep their fields -/
def qN (β γ : zS) : Prop := zn β ≤ zn γ ∧ ∀ t, zkd β t = 45 → t < zn β → (∀ k, zI γ 44 k t = zI β 44 k t) ∧ zA γ 44 7 t = zA β 44 7 t ∧ zkd γ t = 45
section PAZZZP
variable {ρ σ : Type} {c : pC} {G : xQ} {α β γ α0 : zS} {a a' b k w q r t u n x T T' E f : Nat} {v v' kv nm pr : Int32} {e : Int32 × Int32} {L : List Nat} {M M' N S S' : Nat → Prop} {l m : List (Int32 × Int32)} {P : Int32 × Int32 → Prop} {p : Option Nat}
theorem qN.ke (h : qN β γ) (hk : zkd β t = 45) (ht : t < zn β) : xkv γ t = xkv β t := by
  unfold xkv
  rw [(h.2 t hk ht).1, (h.2 t hk ht).1]
theorem xnF.qn (h : xnF c T E M β γ) (kp : zkd β c.p = 41) (hT : zkd β T ≠ 45) : qN β γ := ⟨h.n, fun t hk ht => by
  have e := h.fr t ht (fun z => by rw [z, kp] at hk; omega) (fun z => hT (by rw [← z]; exact hk))
  exact ⟨fun k => by rw [zI_eq e], by rw [zA_eq e], by rw [zkd_eq e]; exact hk⟩⟩
theorem qN_pw (fr : ∀ x, x ≠ c.p → γ.2 x = β.2 x) (hn : zn γ = zn β) (kp : zkd β c.p = 41) : qN β γ := ⟨by omega, fun t hk ht => by
  have e := fr t (fun z => by rw [z, kp] at hk; omega)
  exact ⟨fun k => by rw [zI_eq e], by rw [zA_eq e], by rw [zkd_eq e]; exact hk⟩⟩
theorem xAt.qn (h : xAt β q w γ) (kl : zkd β (q + 1) = 3) : qN β γ := ⟨h.n, fun t hk ht => by
  have t1 : t ≠ q + 1 := fun z => by rw [z, kl] at hk; omega
  by_cases z : t = w
  · rw [z]
    exact ⟨fun k => h.I 44 k, h.A 44 7 (fun y => absurd y.2 (by decide)), by rw [h.kd, ← z]; exact hk⟩
  · have e := h.fr t t1 z
    exact ⟨fun k => by rw [zI_eq e], by rw [zA_eq e], by rw [zkd_eq e]; exact hk⟩⟩
theorem sjM.st (h : sjM c S M β) (e : qN β γ) (hM : ∀ t, M t → zkd β t = 45 ∧ t < zn β) : sjM c S M γ := fun t ht h53 => by
  obtain ⟨m1, m2⟩ := hM t ht
  obtain ⟨e1, e2, e3⟩ := e.2 t m1 m2
  obtain ⟨u, u1, u2, u3, u4, u5⟩ := h t ht (by rw [← e1]; exact h53)
  exact ⟨u, e2.trans u1, u2, (e.2 u u3 u4).2.2, by have := e.1; omega, by rw [e.ke u3 u4]; exact u5⟩
theorem sjM.up (h : sjM c S M β) (h1 : ∀ t, S t → S' t ∨ M' t) (h2 : ∀ t, M t → M' t) (h3 : ∀ t, M' t → M t ∨ zI β 44 0 t ≠ nI 53) : sjM c S' M' β := fun t ht h53 => by
  rcases h3 t ht with z | z
  · obtain ⟨u, u1, u2, u3⟩ := h t z h53
    exact ⟨u, u1, u2.elim (h1 u) (fun y => .inr (h2 u y)), u3⟩
  · exact absurd h53 z
theorem sjM.or (h : sjM c S M β) (h' : sjM c (fun u => S u ∨ M u) N β) : sjM c S (fun q => M q ∨ N q) β := fun t ht h53 => by
  rcases ht with z | z
  · obtain ⟨u, u1, u2, u3⟩ := h t z h53
    exact ⟨u, u1, u2.imp id .inl, u3⟩
  · obtain ⟨u, u1, u2, u3⟩ := h' t z h53
    exact ⟨u, u1, u2.elim (fun y => y.imp id .inl) (fun y => .inr (.inr y)), u3⟩
theorem sjP.st (h : sjP c S β) (e : qN β γ) (e15 : zA γ 40 15 c.p = zA β 40 15 c.p) (e16 : zI γ 40 16 c.p = zI β 40 16 c.p) : sjP c S γ := fun u hu => by
  obtain ⟨u1, u2, u3, u4, u5⟩ := h u (by rw [← e15]; exact hu)
  exact ⟨u1, (e.2 u u2 u3).2.2, by have := e.1; omega, by rw [e.ke u2 u3]; exact u4, by rw [e16]; exact u5⟩
theorem sjP.up (h : sjP c S β) (h1 : ∀ t, S t → S' t) : sjP c S' β := fun u hu => by
  obtain ⟨u1, u2⟩ := h u hu
  exact ⟨h1 u u1, u2⟩
/-! the node at hand gets a field -/
theorem xnB.wA (b : xnB β q e L) (hk : k ≠ 8) : xnB (zwA β 44 k q p) q e L ∧ L.map (xkv (zwA β 44 k q p)) = L.map (xkv β) := by
  have kv' : ∀ t, xkv (zwA β 44 k q p) t = xkv β t := fun t => by
    unfold xkv
    rw [zI_zwA, zI_zwA]
  refine ⟨xnB.mk (by rw [zkd_zwA]; exact b.kn) b.hi (by rw [zA_zwA, if_neg (fun z => hk z.2.1.symm)]; exact b.fl) (by rw [zkd_zwA]; exact b.kl) (by rw [zL_zwA]; exact b.ls) (fun r hr => by rw [zkd_zwA]; exact b.ok r hr) ((kv' q).trans b.e), List.map_congr_left fun r _ => kv' r⟩
theorem xnF.wA (H : xnF c T q M α β) (kq : zkd β q = 45) (hq : zn α ≤ q) : xnF c T q M α (zwA β 44 k q p) := by
  have fr : ∀ x, x ≠ q → (zwA β 44 k q p).2 x = β.2 x := fun x hx => zwA_ne hx
  refine xnF.mk H.n (fun t h1 h2 h3 => (fr t (by omega)).trans (H.fr t h1 h2 h3)) (fun t ht => ?_) (fun t ht hE => ?_) (by rw [zkd_zwA]; exact H.kT)
  · obtain ⟨t1, t2, t3⟩ := H.nw t ht
    exact ⟨t1, t2, by rw [zkd_zwA]; exact t3⟩
  · obtain ⟨e, L, b1, b2, b3⟩ := H.ok t ht hE
    obtain ⟨b4, b5⟩ := b1.st (β := zwA β 44 k q p) (Nat.le_refl _) (fr t hE) (fr _ (fun z => by have := b1.kl; rw [z, kq] at this; omega)) (fun r hr => fr r (b2 r hr).2)
    exact ⟨e, L, b4, b2, by rw [b5]; exact b3⟩
theorem xnB.wV (b : xnB β q e L) (hL : ∀ r, r ∈ L → r ≠ q) : xnB (zwI β 44 1 q v) q (e.1, v) L ∧ L.map (xkv (zwI β 44 1 q v)) = L.map (xkv β) := by
  have fr : ∀ x, x ≠ q → (zwI β 44 1 q v).2 x = β.2 x := fun x hx => zwI_ne hx
  refine ⟨xnB.mk (by rw [zkd_zwI]; exact b.kn) b.hi (by rw [zA_zwI]; exact b.fl) (by rw [zkd_zwI]; exact b.kl) (by rw [zL_zwI]; exact b.ls) (fun r hr => by rw [zkd_zwI]; exact b.ok r hr) ?_, List.map_congr_left fun r hr => ?_⟩
  · have := b.e
    unfold xkv at this ⊢
    rw [← this, zI_zwI, if_neg (fun z => absurd z.2.1 (by decide)), zI_zwI, if_pos ⟨rfl, rfl, rfl⟩]
  · unfold xkv
    rw [zI_eq (fr r (hL r hr)), zI_eq (fr r (hL r hr))]
theorem xnF.wI (H : xnF c T q M α β) (kq : zkd β q = 45) (hq : zn α ≤ q) : xnF c T q M α (zwI β 44 k q v) := by
  have fr : ∀ x, x ≠ q → (zwI β 44 k q v).2 x = β.2 x := fun x hx => zwI_ne hx
  refine xnF.mk H.n (fun t h1 h2 h3 => (fr t (by omega)).trans (H.fr t h1 h2 h3)) (fun t ht => ?_) (fun t ht hE => ?_) (by rw [zkd_zwI]; exact H.kT)
  · obtain ⟨t1, t2, t3⟩ := H.nw t ht
    exact ⟨t1, t2, by rw [zkd_zwI]; exact t3⟩
  · obtain ⟨e, L, b1, b2, b3⟩ := H.ok t ht hE
    obtain ⟨b4, b5⟩ := b1.st (β := zwI β 44 k q v) (Nat.le_refl _) (fr t hE) (fr _ (fun z => by have := b1.kl; rw [z, kq] at this; omega)) (fun r hr => fr r (b2 r hr).2)
    exact ⟨e, L, b4, b2, by rw [b5]; exact b3⟩
theorem xp.wN (h : xp c a β) (kq : zkd β q = 45) (fr : ∀ x, x ≠ q → γ.2 x = β.2 x) (hn : zn γ = zn β) : xp c a γ := by
  have kp := h.x.kp
  have kk := h.x.kk
  have kv := h.x.kv
  exact h.fr (by omega) (fr _ (fun z => by rw [z, kq] at kp; omega)) (fr _ (fun z => by rw [z, kq] at kk; omega)) (fr _ (fun z => by rw [z, kq] at kv; omega))
end PAZZZP
