/-! THE PURE LAYER: the parser: X's side alone: nodes that are made. -/
/-- a node with what lies below it -/
def xnB (α : zS) (q : Nat) (e : Int32 × Int32) (L : List Nat) : Prop := (zkd α q = 45) ∧ (q + 1 < zn α) ∧ (zA α 44 8 q = some (q + 1)) ∧ (zkd α (q + 1) = 3) ∧ (zL α (q + 1) = L.map some) ∧ (∀ r, r ∈ L → zkd α r = 45 ∧ r < zn α) ∧ (xkv α q = e)
theorem xnB.kn {α : zS} {q : Nat} {e : Int32 × Int32} {L : List Nat} (h : xnB α q e L) : zkd α q = 45 := by
  unfold xnB at h
  exact h.1
theorem xnB.hi {α : zS} {q : Nat} {e : Int32 × Int32} {L : List Nat} (h : xnB α q e L) : q + 1 < zn α := by
  unfold xnB at h
  exact h.2.1
theorem xnB.fl {α : zS} {q : Nat} {e : Int32 × Int32} {L : List Nat} (h : xnB α q e L) : zA α 44 8 q = some (q + 1) := by
  unfold xnB at h
  exact h.2.2.1
theorem xnB.kl {α : zS} {q : Nat} {e : Int32 × Int32} {L : List Nat} (h : xnB α q e L) : zkd α (q + 1) = 3 := by
  unfold xnB at h
  exact h.2.2.2.1
theorem xnB.ls {α : zS} {q : Nat} {e : Int32 × Int32} {L : List Nat} (h : xnB α q e L) : zL α (q + 1) = L.map some := by
  unfold xnB at h
  exact h.2.2.2.2.1
theorem xnB.ok {α : zS} {q : Nat} {e : Int32 × Int32} {L : List Nat} (h : xnB α q e L) : ∀ r, r ∈ L → zkd α r = 45 ∧ r < zn α := by
  unfold xnB at h
  exact h.2.2.2.2.2.1
theorem xnB.e {α : zS} {q : Nat} {e : Int32 × Int32} {L : List Nat} (h : xnB α q e L) : xkv α q = e := by
  unfold xnB at h
  exact h.2.2.2.2.2.2
theorem xnB.mk {α : zS} {q : Nat} {e : Int32 × Int32} {L : List Nat} (x0 : zkd α q = 45) (x1 : q + 1 < zn α) (x2 : zA α 44 8 q = some (q + 1)) (x3 : zkd α (q + 1) = 3) (x4 : zL α (q + 1) = L.map some) (x5 : ∀ r, r ∈ L → zkd α r = 45 ∧ r < zn α) (x6 : xkv α q = e) : xnB α q e L := by
  unfold xnB
  exact ⟨x0, x1, x2, x3, x4, x5, x6⟩
/-- a node of M that has its shape -/
def xnN (c : pC) (M : Nat → Prop) (E : Nat) (α : zS) (q : Nat) : Prop := ∃ e L, xnB α q e L ∧ (∀ r, r ∈ L → M r ∧ r ≠ E) ∧ grS c e (L.map (xkv α))
/-- from α to β nodes M are new, all but E have their shape; of older cells only the parser and T have changed -/
def xnF (c : pC) (T E : Nat) (M : Nat → Prop) (α β : zS) : Prop := (zn α ≤ zn β) ∧ (∀ q, q < zn α → q ≠ c.p → q ≠ T → β.2 q = α.2 q) ∧ (∀ q, M q → zn α ≤ q ∧ q + 1 < zn β ∧ zkd β q = 45) ∧ (∀ q, M q → q ≠ E → xnN c M E β q) ∧ (zkd β T = zkd α T)
theorem xnF.n {c : pC} {T E : Nat} {M : Nat → Prop} {α β : zS} (h : xnF c T E M α β) : zn α ≤ zn β := by
  unfold xnF at h
  exact h.1
theorem xnF.fr {c : pC} {T E : Nat} {M : Nat → Prop} {α β : zS} (h : xnF c T E M α β) : ∀ q, q < zn α → q ≠ c.p → q ≠ T → β.2 q = α.2 q := by
  unfold xnF at h
  exact h.2.1
theorem xnF.nw {c : pC} {T E : Nat} {M : Nat → Prop} {α β : zS} (h : xnF c T E M α β) : ∀ q, M q → zn α ≤ q ∧ q + 1 < zn β ∧ zkd β q = 45 := by
  unfold xnF at h
  exact h.2.2.1
theorem xnF.ok {c : pC} {T E : Nat} {M : Nat → Prop} {α β : zS} (h : xnF c T E M α β) : ∀ q, M q → q ≠ E → xnN c M E β q := by
  unfold xnF at h
  exact h.2.2.2.1
theorem xnF.kT {c : pC} {T E : Nat} {M : Nat → Prop} {α β : zS} (h : xnF c T E M α β) : zkd β T = zkd α T := by
  unfold xnF at h
  exact h.2.2.2.2
theorem xnF.mk {c : pC} {T E : Nat} {M : Nat → Prop} {α β : zS} (x0 : zn α ≤ zn β) (x1 : ∀ q, q < zn α → q ≠ c.p → q ≠ T → β.2 q = α.2 q) (x2 : ∀ q, M q → zn α ≤ q ∧ q + 1 < zn β ∧ zkd β q = 45) (x3 : ∀ q, M q → q ≠ E → xnN c M E β q) (x4 : zkd β T = zkd α T) : xnF c T E M α β := by
  unfold xnF
  exact ⟨x0, x1, x2, x3, x4⟩
section PAZZZL
variable {ρ σ : Type} {c : pC} {G : xQ} {α β γ α0 : zS} {a a' b k w q r t u T T' E : Nat} {v v' kv : Int32} {e : Int32 × Int32} {L : List Nat} {M M' N : Nat → Prop} {l m : List (Int32 × Int32)}
theorem xnB.st (h : xnB α q e L) (hn : zn α ≤ zn β) (h1 : β.2 q = α.2 q) (h2 : β.2 (q + 1) = α.2 (q + 1)) (h3 : ∀ r, r ∈ L → β.2 r = α.2 r) : xnB β q e L ∧ L.map (xkv β) = L.map (xkv α) := by
  have hi := h.hi
  refine ⟨xnB.mk (by rw [zkd_eq h1]; exact h.kn) (by omega) (by rw [zA_eq h1]; exact h.fl) (by rw [zkd_eq h2]; exact h.kl) (by rw [zL_eq h2]; exact h.ls) (fun r hr => ?_) ?_, List.map_congr_left fun r hr => ?_⟩
  · have := h.ok r hr
    rw [zkd_eq (h3 r hr)]
    omega
  · unfold xkv
    rw [zI_eq h1, zI_eq h1]; exact h.e
  · unfold xkv
    rw [zI_eq (h3 r hr), zI_eq (h3 r hr)]
theorem xnB.fr (h : xnB α q e L) (x : xnF c T E M α β) (kp : zkd α c.p = 41) (hT : zkd α T ≠ 45) (hq : q + 1 ≠ T) : xnB β q e L ∧ L.map (xkv β) = L.map (xkv α) := by
  have kn := h.kn
  have kl := h.kl
  have hi := h.hi
  exact h.st x.n (x.fr _ (by omega) (fun z => by rw [z, kp] at kn; omega) (fun z => hT (by rw [← z]; exact kn))) (x.fr _ hi (fun z => by rw [z, kp] at kl; omega) hq) (fun r hr => by
    have o := h.ok r hr
    exact x.fr _ o.2 (fun z => by have := o.1; rw [z, kp] at this; omega) (fun z => hT (by rw [← z]; exact o.1)))
theorem xnF.rf : xnF c T E (fun _ => False) α α := xnF.mk (Nat.le_refl _) (fun _ _ _ _ => rfl) (fun _ z => z.elim) (fun _ z => z.elim) rfl
/-- on with a part that makes N; W is at hand then -/
theorem xnF.trw {E' W : Nat} (h : xnF c T E M α β) (h' : xnF c T' E' N β γ) (kp : zkd β c.p = 41) (hT : zkd α T ≠ 45) (hT' : zkd β T' ≠ 45) (hz : T < zn α) (kp' : zkd γ c.p = 41) (ht : T' = T ∨ zn α ≤ T' ∨ T' = c.p) (e1 : ∀ q, M q → q ≠ W → q ≠ E ∧ q + 1 ≠ T') (e2 : ∀ q, N q → q ≠ W → q ≠ E') (e3 : ∀ q, M q → q ≠ E → q ≠ W) (e4 : ∀ q, N q → q ≠ E' → q ≠ W) : xnF c T W (fun q => M q ∨ N q) α γ := by
  have n1 := h.n
  have n2 := h'.n
  have kn : ∀ q, M q → q ≠ c.p := fun q hq z => by
    have := (h.nw q hq).2.2
    rw [z, kp] at this
    omega
  have sq : ∀ q, M q → γ.2 q = β.2 q := fun q hq => by
    obtain ⟨q1, q2, q3⟩ := h.nw q hq
    exact h'.fr q (by omega) (kn q hq) (fun z => hT' (by rw [← z]; exact q3))
  refine xnF.mk (by omega) (fun q h1 h2 h3 => ?_) (fun q hq => ?_) (fun q hq hqE => ?_) ?_
  · rw [h'.fr q (by omega) h2 (fun z => ?_)]
    · exact h.fr q h1 h2 h3
    · rcases ht with t | t | t
      · exact h3 (z.trans t)
      · omega
      · exact h2 (z.trans t)
  · rcases hq with hq | hq
    · obtain ⟨q1, q2, q3⟩ := h.nw q hq
      exact ⟨q1, by omega, by rw [zkd_eq (sq q hq)]; exact q3⟩
    · obtain ⟨q1, q2, q3⟩ := h'.nw q hq
      exact ⟨by omega, q2, q3⟩
  · rcases hq with hq | hq
    · obtain ⟨y1, y2⟩ := e1 q hq hqE
      obtain ⟨e, L, b1, b2, b3⟩ := h.ok q hq y1
      obtain ⟨b4, b5⟩ := b1.fr h' kp hT' y2
      exact ⟨e, L, b4, fun r hr => ⟨.inl (b2 r hr).1, e3 r (b2 r hr).1 (b2 r hr).2⟩, by rw [b5]; exact b3⟩
    · obtain ⟨e, L, b1, b2, b3⟩ := h'.ok q hq (e2 q hq hqE)
      exact ⟨e, L, b1, fun r hr => ⟨.inr (b2 r hr).1, e4 r (b2 r hr).1 (b2 r hr).2⟩, b3⟩
  · by_cases z : T = T'
    · rw [z, h'.kT, ← z]; exact h.kT
    · by_cases y : T = c.p
      · rw [← h.kT, y, kp, kp']
      · rw [zkd_eq (h'.fr T (by omega) y z)]; exact h.kT
/-- a part with nothing at hand -/
theorem xnF.tr (h : xnF c T E M α β) (h' : xnF c T' c.p N β γ) (kp : zkd β c.p = 41) (kp' : zkd γ c.p = 41) (hT : zkd α T ≠ 45) (hT' : zkd β T' ≠ 45) (hz : T < zn α) (ht : T' = T ∨ T' = E + 1 ∨ T' = c.p) (hE : T' = E + 1 → zn α ≤ E) (hE2 : E = c.p ∨ E < zn β) : xnF c T E (fun q => M q ∨ N q) α γ := by
  have n1 := h.n
  refine h.trw h' kp hT hT' hz kp' (by rcases ht with t | t | t; exact .inl t; exact .inr (.inl (by have := hE t; omega)); exact .inr (.inr t)) (fun q hq hqE => ⟨hqE, fun z => ?_⟩) (fun q hq _ z => ?_) (fun _ _ z => z) (fun q hq _ z => ?_)
  · rcases ht with t | t | t
    · have := (h.nw q hq).1
      omega
    · omega
    · obtain ⟨e, L, b1, b2, b3⟩ := h.ok q hq hqE
      have := b1.kl
      rw [z, t, kp] at this
      omega
  · have := (h'.nw q hq).2.2
    rw [z, kp'] at this
    omega
  · obtain ⟨q1, q2, q3⟩ := h'.nw q hq
    rcases hE2 with y | y
    · rw [z, y, kp'] at q3
      omega
    · omega
/-- the parser's own fields -/
theorem xnF.pw (h : xnF c T E M α β) (fr : ∀ x, x ≠ c.p → γ.2 x = β.2 x) (hn : zn γ = zn β) (kp : zkd β c.p = 41) (kp' : zkd γ c.p = 41) : xnF c T E M α γ := by
  have n := h.n
  refine xnF.mk (by omega) (fun q h1 h2 h3 => (fr q h2).trans (h.fr q h1 h2 h3)) (fun q hq => ?_) (fun q hq hE => ?_) ?_
  · obtain ⟨q1, q2, q3⟩ := h.nw q hq
    exact ⟨q1, by omega, by rw [zkd_eq (fr q (fun z => by rw [z, kp] at q3; omega))]; exact q3⟩
  · obtain ⟨e, L, b1, b2, b3⟩ := h.ok q hq hE
    have kn := b1.kn
    have kl := b1.kl
    obtain ⟨b4, b5⟩ := b1.st (β := γ) (by omega) (fr q (fun z => by rw [z, kp] at kn; omega)) (fr _ (fun z => by rw [z, kp] at kl; omega)) (fun r hr => fr r (fun z => by have := (b1.ok r hr).1; rw [z, kp] at this; omega))
    exact ⟨e, L, b4, b2, by rw [b5]; exact b3⟩
  · by_cases z : T = c.p
    · rw [z, kp', ← kp, ← z]; exact h.kT
    · rw [zkd_eq (fr T z)]; exact h.kT
theorem xnB.pw (b : xnB β q e L) (fr : ∀ x, x ≠ c.p → γ.2 x = β.2 x) (hn : zn γ = zn β) (kp : zkd β c.p = 41) : xnB γ q e L ∧ L.map (xkv γ) = L.map (xkv β) := by
  have kn := b.kn
  have kl := b.kl
  exact b.st (by omega) (fr q (fun z => by rw [z, kp] at kn; omega)) (fr _ (fun z => by rw [z, kp] at kl; omega)) (fun r hr => fr r (fun z => by have := (b.ok r hr).1; rw [z, kp] at this; omega))
theorem xkv_fr (h : xnF c T E M α β) (hq : q < zn α) (kq : zkd α q = 45) (kp : zkd α c.p = 41) (hT : zkd α T ≠ 45) : xkv β q = xkv α q ∧ zkd β q = 45 := by
  have e := h.fr q hq (fun z => by rw [z, kp] at kq; omega) (fun z => hT (by rw [← z]; exact kq))
  unfold xkv
  rw [zI_eq e, zI_eq e, zkd_eq e]
  exact ⟨rfl, kq⟩
end PAZZZL
