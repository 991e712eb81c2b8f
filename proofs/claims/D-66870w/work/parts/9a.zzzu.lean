/-! THE PURE LAYER: the parser: X's side alone: a node at hand. -/
/-- what stands in a condition -/
def grCo (e : Int32 × Int32) : Prop := grK 41 41 e ∨ grK 50 54 e
/-- below the condition q every relation's subject lies below q; E aside -/
def cPn (c : pC) (M : Nat → Prop) (E : Nat) (β : zS) (q : Nat) : Prop := ∃ N : Nat → Prop, N q ∧ (∀ x, N x → ((M x ∧ x ≠ E) ∧ zkd β (x + 1) = 3 ∧ ∀ r, some r ∈ zL β (x + 1) → N r) ∧ grCo (xkv β x) ∧ xIn β q x) ∧ ∀ t, N t → zI β 44 0 t = nI 53 → ∃ u, zA β 44 7 t = some u ∧ N u ∧ grOp c (xkv β u)
/-- what is below M is of M; the conditions that hang on it hold their subjects -/
def sjA (c : pC) (M : Nat → Prop) (E : Nat) (β : zS) : Prop := ∀ p, M p → zkd β (p + 1) = 3 ∧ ∀ q, some q ∈ zL β (p + 1) → M q ∧ (¬ grCo (xkv β p) → grK 50 54 (xkv β q) → cPn c M E β q)
/-- no kind of a condition -/
abbrev nkC (kv : Int32) : Prop := kv ≠ nI 50 ∧ kv ≠ nI 51 ∧ kv ≠ nI 52 ∧ kv ≠ nI 53 ∧ kv ≠ nI 54
/-- node E is at hand: what it is, what lies below it; new since α0 -/
def xnS (c : pC) (T E : Nat) (α0 : zS) (a : Nat) (e : Int32 × Int32) (K : List (Int32 × Int32)) (γ : zS) : Prop := (c.p < zn α0 ∧ zkd α0 c.p = 41 ∧ zkd α0 T ≠ 45 ∧ T < zn α0 ∧ nkC e.1) ∧ ∃ L M, xp c a γ ∧ xnB γ E e L ∧ xnF c T E M α0 γ ∧ M E ∧ (zn α0 ≤ E ∧ E < zn γ) ∧ (∀ r, r ∈ L → M r ∧ r ≠ E) ∧ L.map (xkv γ) = K ∧ sjA c M E γ
/-- a node has come, and all that is new has its shape -/
def xnD (c : pC) (T : Nat) (α0 : zS) (a q : Nat) (γ : zS) : Prop := ∃ M, xp c a γ ∧ xnF c T c.p M α0 γ ∧ M q ∧ sjA c M c.p γ ∧ (grK 50 54 (xkv γ q) → cPn c M c.p γ q)
/-- nodes but E are as they were -/
def oK (E : Nat) (γ ε : zS) : Prop := qN γ ε ∧ ∀ q e L, xnB γ q e L → q ≠ E → xnB ε q e L ∧ L.map (xkv ε) = L.map (xkv γ)
section PAZZZU
variable {ρ σ : Type} {c : pC} {G : xQ} {α β γ δ ε α0 : zS} {a a' b k w q r t u n x T T' E f kd sg o : Nat} {v v' kv nm pr : Int32} {e e' : Int32 × Int32} {L : List Nat} {M M' N S S' : Nat → Prop} {l m K : List (Int32 × Int32)} {P : Int32 × Int32 → Prop} {p : Option Nat}
theorem cPn.st (h : cPn c M E β q) (e : qN β γ) (hM : ∀ t, M t → zkd β t = 45 ∧ t < zn β) (hL : ∀ x, M x → x ≠ E → grCo (xkv β x) → zkd β (x + 1) = 3 → zL γ (x + 1) = zL β (x + 1) ∧ zkd γ (x + 1) = 3) : cPn c M E γ q := by
  obtain ⟨N, n1, n2, n3⟩ := h
  have ke : ∀ x, N x → xkv γ x = xkv β x := fun x hx => by
    obtain ⟨m1, m2⟩ := hM x (n2 x hx).1.1.1
    exact e.ke m1 m2
  have sm : ∀ x, N x → zL γ (x + 1) = zL β (x + 1) ∧ zkd γ (x + 1) = 3 := fun x hx => by
    obtain ⟨⟨y1, y2, y3⟩, y4, y5⟩ := n2 x hx
    exact hL x y1.1 y1.2 y4 y2
  have cl : ∀ x, N x → (∀ r, some r ∈ zL β (x + 1) → N r) ∧ zL γ (x + 1) = zL β (x + 1) := fun x hx => ⟨(n2 x hx).1.2.2, (sm x hx).1⟩
  refine ⟨N, n1, fun x hx => ?_, fun t ht h53 => ?_⟩
  · obtain ⟨⟨y1, y2, y3⟩, y4, y5⟩ := n2 x hx
    exact ⟨⟨y1, (sm x hx).2, fun r hr => y3 r (by rw [← (sm x hx).1]; exact hr)⟩, by rw [ke x hx]; exact y4, y5.st cl n1⟩
  · obtain ⟨m1, m2⟩ := hM t (n2 t ht).1.1.1
    obtain ⟨e1, e2, e3⟩ := e.2 t m1 m2
    obtain ⟨u, u1, u2, u3⟩ := n3 t ht (by rw [← e1]; exact h53)
    exact ⟨u, e2.trans u1, u2, by rw [ke u u2]; exact u3⟩
theorem cPn.up (h : cPn c M E β q) (hM : ∀ x, M x → x ≠ E → M' x ∧ x ≠ w) : cPn c M' w β q := by
  obtain ⟨N, n1, n2, n3⟩ := h
  exact ⟨N, n1, fun x hx => ⟨⟨hM x (n2 x hx).1.1.1 (n2 x hx).1.1.2, (n2 x hx).1.2⟩, (n2 x hx).2⟩, n3⟩
/-- what stands outside conditions may grow by what hE tells -/
theorem sjA.st2 (h : sjA c M E β) (e : qN β γ) (hM : ∀ t, M t → zkd β t = 45 ∧ t < zn β) (hL : ∀ x, M x → x ≠ E → grCo (xkv β x) → zkd β (x + 1) = 3 → zL γ (x + 1) = zL β (x + 1) ∧ zkd γ (x + 1) = 3) (hE : ∀ x, M x → zkd β (x + 1) = 3 → zkd γ (x + 1) = 3 ∧ ∀ q, some q ∈ zL γ (x + 1) → some q ∈ zL β (x + 1) ∨ (M q ∧ (grK 50 54 (xkv γ q) → cPn c M E γ q))) : sjA c M E γ := fun p hp => by
  obtain ⟨p1, p2⟩ := h p hp
  obtain ⟨y1, y2⟩ := hE p hp p1
  refine ⟨y1, fun q hq => ?_⟩
  rcases y2 q hq with z | z
  · obtain ⟨q1, q2⟩ := p2 q z
    obtain ⟨m1, m2⟩ := hM p hp
    obtain ⟨m3, m4⟩ := hM q q1
    refine ⟨q1, fun nc g => ?_⟩
    rw [e.ke m1 m2] at nc
    rw [e.ke m3 m4] at g
    exact (q2 nc g).st e hM hL
  · exact ⟨z.1, fun _ g => z.2 g⟩
theorem sjA.st (h : sjA c M E β) (e : qN β γ) (hM : ∀ t, M t → zkd β t = 45 ∧ t < zn β) (hL : ∀ x, M x → x ≠ E → zkd β (x + 1) = 3 → zL γ (x + 1) = zL β (x + 1) ∧ zkd γ (x + 1) = 3) (hE : M E → zkd β (E + 1) = 3 → zkd γ (E + 1) = 3 ∧ ∀ q, some q ∈ zL γ (E + 1) → some q ∈ zL β (E + 1) ∨ (M q ∧ (grK 50 54 (xkv γ q) → cPn c M E γ q))) : sjA c M E γ := h.st2 e hM (fun x h1 h2 _ h3 => hL x h1 h2 h3) fun x hx h3 => by
  by_cases y : x = E
  · rw [y] at hx h3 ⊢
    exact hE hx h3
  · obtain ⟨z1, z2⟩ := hL x hx y h3
    exact ⟨z2, fun q hq => .inl (by rw [← z1]; exact hq)⟩
theorem sjA.or (h : sjA c M E β) (h' : sjA c N c.p β) (hN : ∀ x, N x → x ≠ E) : sjA c (fun q => M q ∨ N q) E β := fun p hp => by
  rcases hp with z | z
  · obtain ⟨p1, p2⟩ := h p z
    exact ⟨p1, fun q hq => ⟨.inl (p2 q hq).1, fun nc g => ((p2 q hq).2 nc g).up fun x hx hE => ⟨.inl hx, hE⟩⟩⟩
  · obtain ⟨p1, p2⟩ := h' p z
    exact ⟨p1, fun q hq => ⟨.inr (p2 q hq).1, fun nc g => ((p2 q hq).2 nc g).up fun x hx _ => ⟨.inr hx, hN x hx⟩⟩⟩
/-- a part has come below the node at hand -/
theorem sjA.st3 (h : sjA c M E β) (e : qN β γ) (hM : ∀ t, M t → zkd β t = 45 ∧ t < zn β) (hL : ∀ x, M x → x ≠ E → zkd β (x + 1) = 3 → zL γ (x + 1) = zL β (x + 1) ∧ zkd γ (x + 1) = 3) (h' : sjA c N c.p γ) (hN : ∀ x, N x → x ≠ E) (h3 : zkd γ (E + 1) = 3) (hE : ∀ q, some q ∈ zL γ (E + 1) → some q ∈ zL β (E + 1) ∨ (N q ∧ (grK 50 54 (xkv γ q) → cPn c N c.p γ q))) : sjA c (fun q => M q ∨ N q) E γ := fun p hp => by
  have old : M p → ∀ q, some q ∈ zL β (p + 1) → (M q ∨ N q) ∧ (¬ grCo (xkv γ p) → grK 50 54 (xkv γ q) → cPn c (fun q => M q ∨ N q) E γ q) := fun mp q hq => by
    obtain ⟨q1, q2⟩ := (h p mp).2 q hq
    obtain ⟨m1, m2⟩ := hM p mp
    obtain ⟨m3, m4⟩ := hM q q1
    refine ⟨.inl q1, fun nc g => ?_⟩
    rw [e.ke m1 m2] at nc
    rw [e.ke m3 m4] at g
    exact ((q2 nc g).st e hM (fun x h1 h2 _ h3 => hL x h1 h2 h3)).up fun x hx hE => ⟨.inl hx, hE⟩
  rcases hp with z | z
  · by_cases y : p = E
    · rw [y]
      refine ⟨h3, fun q hq => ?_⟩
      rcases hE q hq with w | w
      · rw [← y] at w
        have := old z q w
        rw [y] at this
        exact this
      · exact ⟨.inr w.1, fun _ g => (w.2 g).up fun x hx _ => ⟨.inr hx, hN x hx⟩⟩
    · obtain ⟨z1, z2⟩ := hL p z y (h p z).1
      exact ⟨z2, fun q hq => old z q (by rw [← z1]; exact hq)⟩
  · obtain ⟨p1, p2⟩ := h' p z
    exact ⟨p1, fun q hq => ⟨.inr (p2 q hq).1, fun nc g => ((p2 q hq).2 nc g).up fun x hx _ => ⟨.inr hx, hN x hx⟩⟩⟩
/-- what lies below a node of a condition stands in it -/
theorem co_kid (h : xnN c M E β x) (hc : grCo (xkv β x)) : zkd β (x + 1) = 3 ∧ ∀ r, some r ∈ zL β (x + 1) → (M r ∧ r ≠ E) ∧ grCo (xkv β r) := by
  obtain ⟨ex, L, b, hL, k, k1, k2, k3⟩ := h
  refine ⟨b.kl, fun r hr => ?_⟩
  rw [b.ls] at hr
  obtain ⟨r', r1, r2⟩ := List.mem_map.mp hr
  have r3 := Option.some.inj r2
  subst r3
  refine ⟨hL r' r1, ?_⟩
  have mr : xkv β r' ∈ L.map (xkv β) := List.mem_map_of_mem r1
  rw [b.e] at hc
  have kk : k = 41 ∨ 50 ≤ k ∧ k ≤ 54 := by
    rcases hc with w | w
    · obtain ⟨j, j1, j2, j3⟩ := w
      rw [k2, pI_inj (by omega) (by omega)] at j3
      omega
    · obtain ⟨j, j1, j2, j3⟩ := w
      rw [k2, pI_inj (by omega) (by omega)] at j3
      omega
  have op : ∀ f, grOp c f → grCo f := fun f hf => by
    obtain ⟨j, x, _, _, e⟩ := hf
    exact .inl ⟨41, by decide, by decide, by rw [e]⟩
  have k5 : k = 41 ∨ k = 50 ∨ k = 51 ∨ k = 52 ∨ k = 53 ∨ k = 54 := by omega
  rcases k5 with w | w | w | w | w | w <;> subst w
  · rw [k3.1] at mr
    exact absurd mr (by simp)
  · exact .inr (k3.2.2 _ mr)
  · exact .inr (k3.2.2 _ mr)
  · obtain ⟨_, f, e1, e2⟩ := k3
    rw [e1] at mr
    rw [List.mem_singleton.mp mr]
    exact .inr e2
  · obtain ⟨_, f, m, e1, e2, e3⟩ := k3
    rw [e1] at mr
    rcases List.mem_cons.mp mr with y | y
    · rw [y]; exact op f e2
    · rcases e3 with z | ⟨f', z, e4⟩
      · rw [z] at y
        exact absurd y (by simp)
      · rw [z] at y
        rw [List.mem_singleton.mp y]
        exact op f' e4
  · rw [k3.1] at mr
    exact absurd mr (by simp)
theorem xDn_up {n : Nat} : ∀ {q u r : Nat}, xDn β n q u → some r ∈ zL β (u + 1) → xIn β q r := by
  induction n with
  | zero =>
    intro q u r h hr
    have e : u = q := h
    rw [e] at hr
    exact xIn.dn hr xIn.rf
  | succ n ih =>
    intro q u r h hr
    rcases h with e | ⟨s, s1, s2⟩
    · rw [e] at hr
      exact xIn.dn hr xIn.rf
    · exact xIn.dn s1 (ih s2 hr)
/-- what lies below a condition -/
theorem co_set (H : ∀ x, M x → xnN c M E β x) (hq : M q) (hE : q ≠ E) (gq : grCo (xkv β q)) : ∀ x, (M x ∧ xIn β q x ∧ grCo (xkv β x) ∧ x ≠ E) → ((M x ∧ x ≠ E) ∧ zkd β (x + 1) = 3 ∧ ∀ r, some r ∈ zL β (x + 1) → (M r ∧ xIn β q r ∧ grCo (xkv β r) ∧ r ≠ E)) ∧ grCo (xkv β x) ∧ xIn β q x := fun x hx => by
  obtain ⟨h1, ⟨n, h2⟩, h3, h4⟩ := hx
  obtain ⟨y1, y2⟩ := co_kid (H x h1) h3
  exact ⟨⟨⟨h1, h4⟩, y1, fun r hr => ⟨(y2 r hr).1.1, xDn_up h2 hr, (y2 r hr).2, (y2 r hr).1.2⟩⟩, h3, n, h2⟩
/-- no relation at all -/
theorem sjA_no (H : ∀ x, M x → xnN c M c.p β x) (kp : ∀ x, M x → x ≠ c.p) (h : ∀ t, M t → zI β 44 0 t ≠ nI 53) : sjA c M c.p β := fun p hp => by
  obtain ⟨e, L, b, hL, _⟩ := H p hp
  refine ⟨b.kl, fun q hq => ?_⟩
  rw [b.ls] at hq
  obtain ⟨q', q1, q2⟩ := List.mem_map.mp hq
  have q3 := Option.some.inj q2
  subst q3
  have mq := (hL q' q1).1
  exact ⟨mq, fun _ g => ⟨fun x => M x ∧ xIn β q' x ∧ grCo (xkv β x) ∧ x ≠ c.p, ⟨mq, xIn.rf, .inr g, kp _ mq⟩, co_set H mq (kp _ mq) (.inr g), fun t ht h53 => absurd h53 (h t ht.1)⟩⟩
theorem grCo_1 (h : grCo e) (h1 : e'.1 = e.1) : grCo e' := by
  rcases h with ⟨k, k1, k2, k3⟩ | ⟨k, k1, k2, k3⟩
  · exact .inl ⟨k, k1, k2, h1.trans k3⟩
  · exact .inr ⟨k, k1, k2, h1.trans k3⟩
theorem grK_1 (h : grK a b e) (h1 : e'.1 = e.1) : grK a b e' := by
  obtain ⟨k, k1, k2, k3⟩ := h
  exact ⟨k, k1, k2, h1.trans k3⟩
/-- the node at hand changes its value, or a flag -/
theorem sjA.vl (h : sjA c M E β) (zl : ∀ x, zL δ x = zL β x) (kd : ∀ x, zkd δ x = zkd β x) (k1 : ∀ x, (xkv δ x).1 = (xkv β x).1) (za : ∀ x, zA δ 44 7 x = zA β 44 7 x) (ke : ∀ x, x ≠ E → xkv δ x = xkv β x) : sjA c M E δ := fun p hp => by
  obtain ⟨p1, p2⟩ := h p hp
  refine ⟨by rw [kd]; exact p1, fun q hq => ?_⟩
  obtain ⟨q1, q2⟩ := p2 q (by rw [← zl]; exact hq)
  refine ⟨q1, fun nc g => ?_⟩
  obtain ⟨N, n1, n2, n3⟩ := q2 (fun y => nc (grCo_1 y (k1 p))) (grK_1 g (k1 q).symm)
  have nE : ∀ x, N x → x ≠ E := fun x hx => (n2 x hx).1.1.2
  have cl : ∀ x, N x → (∀ r, some r ∈ zL β (x + 1) → N r) ∧ zL δ (x + 1) = zL β (x + 1) := fun x hx => ⟨(n2 x hx).1.2.2, zl _⟩
  refine ⟨N, n1, fun x hx => ?_, fun t ht h53 => ?_⟩
  · obtain ⟨⟨y1, y2, y3⟩, y4, y5⟩ := n2 x hx
    exact ⟨⟨y1, by rw [kd]; exact y2, fun r hr => y3 r (by rw [← zl]; exact hr)⟩, by rw [ke x (nE x hx)]; exact y4, y5.st cl n1⟩
  · obtain ⟨u, u1, u2, u3⟩ := n3 t ht (by have := congrArg Prod.fst (ke t (nE t ht)); exact this.symm.trans h53)
    exact ⟨u, (za t).trans u1, u2, by rw [ke u (nE u u2)]; exact u3⟩
theorem oK.rf : oK E γ γ := ⟨⟨Nat.le_refl _, fun t hk _ => ⟨fun _ => rfl, rfl, hk⟩⟩, fun q e L b _ => ⟨b, rfl⟩⟩
theorem oK.tr (h : oK E γ δ) (h' : oK E δ ε) : oK E γ ε := ⟨h.1.tr h'.1, fun q e L b hq => by
  obtain ⟨b1, b2⟩ := h.2 q e L b hq
  obtain ⟨b3, b4⟩ := h'.2 q e L b1 hq
  exact ⟨b3, b4.trans b2⟩⟩
theorem oK_pw (fr : ∀ x, x ≠ c.p → γ.2 x = β.2 x) (hn : zn γ = zn β) (kp : zkd β c.p = 41) : oK E β γ := ⟨qN_pw fr hn kp, fun q e L b _ => b.pw fr hn kp⟩
theorem xnF.ok' (H : xnF c T E M β γ) (kp : zkd β c.p = 41) (hT : zkd β T ≠ 45) (ht : T = c.p ∨ T = w + 1) : oK w β γ := ⟨H.qn kp hT, fun q e L b hq => b.fr H kp hT (fun z => by
  rcases ht with y | y
  · have := b.kl
    rw [z, y, kp] at this
    omega
  · omega)⟩
theorem xAt.ok' (x : xAt β E w γ) (kl : zkd β (E + 1) = 3) : oK E β γ := ⟨x.qn kl, fun q e L b hq => b.at' x kl hq⟩
/-- the parser's own fields -/
theorem xnS.pw (s : xnS c T E α0 a e K γ) (fr : ∀ x, x ≠ c.p → δ.2 x = γ.2 x) (hn : zn δ = zn γ) (h' : xp c a' δ) : xnS c T E α0 a' e K δ ∧ oK E γ δ := by
  obtain ⟨s0, L, M, h, b, H, m, lo, hL, k, sj⟩ := s
  have kp := h.kp
  obtain ⟨b1, m1⟩ := b.pw fr hn kp
  refine ⟨⟨s0, L, M, h', b1, H.pw fr hn kp h'.kp, m, by omega, hL, m1.trans k, sj.st (qN_pw fr hn kp) (fun t ht => ?_) (fun x hx hE h3 => ?_) (fun hE h3 => ?_)⟩, oK_pw fr hn kp⟩
  · have := H.nw t ht
    exact ⟨this.2.2, by omega⟩
  · have e := fr (x + 1) (fun z => by rw [z, kp] at h3; omega)
    rw [zL_eq e, zkd_eq e]
    exact ⟨rfl, h3⟩
  · have e := fr (E + 1) (fun z => by rw [z, kp] at h3; omega)
    rw [zL_eq e, zkd_eq e]
    exact ⟨h3, fun q hq => .inl hq⟩
theorem xnS.adv (s : xnS c T E α0 a e K γ) (ha : a < c.n) : xnS c T E α0 (a + 1) e K (xaS c γ a) ∧ oK E γ (xaS c γ a) := by
  obtain ⟨_, L, M, h, _⟩ := id s
  exact s.pw (fun x hx => zwI_ne hx) rfl (h.adv ha)
theorem xnS.hp (s : xnS c T E α0 a e K γ) : xp c a γ := by
  obtain ⟨_, L, M, h, _⟩ := s
  exact h
theorem xnS.z45 (s : xnS c T E α0 a e K γ) : zis G γ (some E) 45 = true := by
  obtain ⟨_, L, M, h, b, _⟩ := s
  exact of_eq_true (kis b.kn (by decide))
/-- a part comes and is laid below -/
theorem xnS.res (s : xnS c T E α0 a e K γ) (d : xnD c c.p γ a' q δ) : zis G δ (some E) 45 = true ∧ wp (hX43_add G (some E) (some q) δ) (fun r ε => r = some q ∧ xnS c T E α0 a' e (K ++ [xkv δ q]) ε ∧ oK E γ ε) := by
  obtain ⟨⟨s1, s2, s3, s4, s5⟩, L, M, h, b, H, m, lo, hL, k, sj⟩ := s
  obtain ⟨N, h1, H1, nq, sj1, cq⟩ := d
  have kp := h.kp
  obtain ⟨q1, q2, q3⟩ := H1.nw q nq
  have ok1 : oK E γ δ := H1.ok' kp (by rw [kp]; decide) (.inl rfl)
  have H2 := H.tr H1 kp h1.kp s3 (by rw [kp]; decide) s4 (.inr (.inr rfl)) (fun _ => lo.1) (.inr lo.2)
  obtain ⟨b1, m1⟩ := b.fr H1 kp (by rw [kp]; decide) (fun z => by have := b.kl; rw [z, kp] at this; omega)
  have kM : ∀ t, M t → zkd γ t = 45 ∧ t < zn γ := fun t ht => by
    have := H.nw t ht
    exact ⟨this.2.2, by omega⟩
  have sj2 : sjA c M E δ := sj.st ok1.1 kM (fun x hx hE h3 => by
    have e := H1.fr (x + 1) (H.nw x hx).2.1 (fun z => by rw [z, kp] at h3; omega) (fun z => by rw [z, kp] at h3; omega)
    rw [zL_eq e, zkd_eq e]
    exact ⟨rfl, h3⟩) (fun hE h3 => by
    have e := H1.fr (E + 1) (H.nw E hE).2.1 (fun z => by rw [z, kp] at h3; omega) (fun z => by rw [z, kp] at h3; omega)
    rw [zL_eq e, zkd_eq e]
    exact ⟨h3, fun q hq => .inl hq⟩)
  have sj3 := sj2.or sj1 (fun x hx => by have := (H1.nw x hx).1; omega)
  refine ⟨of_eq_true (kis b1.kn (by decide)), wp_im (w_add b1 q3) fun r ε z => ?_⟩
  obtain ⟨z, x1⟩ := z
  obtain ⟨b2, m2⟩ := b1.add x1 q3 (by omega)
  have ok2 := ok1.tr (x1.ok' b1.kl)
  refine ⟨z, ⟨⟨s1, s2, s3, s4, s5⟩, L ++ [q], _, h1.at' x1 b1.kl q3, b2, H2.add x1 b1.kl s4 (.inl ⟨rfl, lo.1⟩) (.inr nq), .inl m, ⟨lo.1, Nat.lt_of_lt_of_le lo.2 ok2.1.1⟩, fun r hr => ?_, ?_, sj3.st (x1.qn b1.kl) (fun t ht => ?_) (fun x hx hE h3 => ?_) (fun hE h3 => ⟨(x1.kd _).trans h3, fun q' hq' => ?_⟩)⟩, ok2⟩
  · rcases List.mem_append.mp hr with y | y
    · exact ⟨.inl (hL r y).1, (hL r y).2⟩
    · rw [List.mem_singleton.mp y]
      exact ⟨.inr nq, by omega⟩
  · rw [m2, List.map_append, m1, k]
    rfl
  · have := H2.nw t ht
    exact ⟨this.2.2, by omega⟩
  · exact ⟨x1.L _ (by omega), (x1.kd _).trans h3⟩
  · rw [x1.ls] at hq'
    rcases List.mem_append.mp hq' with y | y
    · exact .inl y
    · have eq' := Option.some.inj (List.mem_singleton.mp y)
      subst eq'
      refine .inr ⟨.inr nq, fun g => ?_⟩
      rw [x1.ke (b1.k3 q3)] at g
      have q5 := (cq g).up (M' := fun q => M q ∨ N q) (w := E) (fun x hx _ => ⟨.inr hx, fun y => by have := (H1.nw x hx).1; omega⟩)
      refine q5.st (x1.qn b1.kl) (fun t ht => ?_) (fun x hx hE' _ h3' => ⟨x1.L _ (by omega), (x1.kd _).trans h3'⟩)
      have := H2.nw t ht
      exact ⟨this.2.2, by omega⟩
/-- a part has laid something below the node at hand -/
theorem xnS.lst (s : xnS c T E α0 a e K γ) (h1 : xp c a' δ) (H1 : xnF c (E + 1) c.p N γ δ) (nl : N q) (sj1 : sjA c N c.p δ) (cq : grK 50 54 (xkv δ q) → cPn c N c.p δ q) (hb : ∀ L, xnB γ E e L → xnB δ E e (L ++ [q])) : xnS c T E α0 a' e (K ++ [xkv δ q]) δ ∧ oK E γ δ := by
  obtain ⟨⟨s1, s2, s3, s4, s5⟩, L, M, h, b, H, m, lo, hL, k, sj⟩ := s
  have kp := h.kp
  have kE : zkd γ (E + 1) ≠ 45 := by rw [b.kl]; decide
  obtain ⟨q1, q2, q3⟩ := H1.nw q nl
  have ok1 : oK E γ δ := H1.ok' kp kE (.inr rfl)
  have H2 := H.tr H1 kp h1.kp s3 kE s4 (.inr (.inl rfl)) (fun _ => lo.1) (.inr lo.2)
  have b1 := hb L b
  have kM : ∀ t, M t → zkd γ t = 45 ∧ t < zn γ := fun t ht => by
    have := H.nw t ht
    exact ⟨this.2.2, by omega⟩
  have sj3 := sj.st3 ok1.1 kM (fun x hx hE h3 => by
    have e := H1.fr (x + 1) (H.nw x hx).2.1 (fun z => by rw [z, kp] at h3; omega) (fun z => by omega)
    rw [zL_eq e, zkd_eq e]
    exact ⟨rfl, h3⟩) sj1 (fun x hx => by have := (H1.nw x hx).1; omega) b1.kl (fun q' hq' => by
    rw [b1.ls, List.map_append] at hq'
    rcases List.mem_append.mp hq' with y | y
    · exact .inl (by rw [b.ls]; exact y)
    · have eq' := Option.some.inj (List.mem_singleton.mp y)
      subst eq'
      exact .inr ⟨nl, cq⟩)
  refine ⟨⟨⟨s1, s2, s3, s4, s5⟩, L ++ [q], _, h1, b1, H2, .inl m, ⟨lo.1, Nat.lt_of_lt_of_le lo.2 ok1.1.1⟩, fun r hr => ?_, ?_, sj3⟩, ok1⟩
  · rcases List.mem_append.mp hr with y | y
    · exact ⟨.inl (hL r y).1, (hL r y).2⟩
    · rw [List.mem_singleton.mp y]
      exact ⟨.inr nl, by omega⟩
  · rw [List.map_append, ← k]
    congr 1
    exact List.map_congr_left fun r hr => ok1.1.ke (b.ok r hr).1 (b.ok r hr).2
/-- the node at hand gets its value -/
theorem xnS.val (s : xnS c T E α0 a e K γ) : zpI γ (some E) 44 1 v = some (zwI γ 44 1 E v) ∧ xnS c T E α0 a (e.1, v) K (zwI γ 44 1 E v) ∧ (∀ x, x ≠ E → (zwI γ 44 1 E v).2 x = γ.2 x) := by
  obtain ⟨s0, L, M, h, b, H, m, lo, hL, k, sj⟩ := s
  have fr : ∀ x, x ≠ E → (zwI γ 44 1 E v).2 x = γ.2 x := fun x hx => zwI_ne hx
  obtain ⟨b1, m1⟩ := b.wV (v := v) (fun r hr => (hL r hr).2)
  have kM : ∀ t, M t → zkd γ t = 45 ∧ t < zn γ := fun t ht => by
    have := H.nw t ht
    exact ⟨this.2.2, by omega⟩
  have ke : ∀ x, x ≠ E → xkv (zwI γ 44 1 E v) x = xkv γ x := fun x hx => by
    unfold xkv
    rw [zI_eq (fr x hx), zI_eq (fr x hx)]
  exact ⟨kpI b.kn, ⟨s0, L, M, h.wN b.kn fr rfl, b1, H.wI b.kn lo.1, m, lo, hL, m1.trans k, sj.vl (fun x => zL_zwI ..) (fun x => zkd_zwI ..) (fun x => by
    unfold xkv
    rw [zI_zwI, if_neg (fun z => absurd z.2.1 (by decide))]) (fun x => zA_zwI ..) ke⟩, fr⟩
/-- a flag of the node at hand -/
theorem xnS.flg (s : xnS c T E α0 a e K γ) (hk : k ≠ 0 ∧ k ≠ 1) : zpI γ (some E) 44 k v = some (zwI γ 44 k E v) ∧ xnS c T E α0 a e K (zwI γ 44 k E v) ∧ (∀ x, x ≠ E → (zwI γ 44 k E v).2 x = γ.2 x) := by
  obtain ⟨s0, L, M, h, b, H, m, lo, hL, kk, sj⟩ := s
  have fr : ∀ x, x ≠ E → (zwI γ 44 k E v).2 x = γ.2 x := fun x hx => zwI_ne hx
  have ke : ∀ t, xkv (zwI γ 44 k E v) t = xkv γ t := fun t => by
    unfold xkv
    rw [zI_zwI, if_neg (fun z => hk.1 z.2.1.symm), zI_zwI, if_neg (fun z => hk.2 z.2.1.symm)]
  have zLs : ∀ x, zL (zwI γ 44 k E v) x = zL γ x := fun x => zL_zwI ..
  have b1 : xnB (zwI γ 44 k E v) E e L := xnB.mk (by rw [zkd_zwI]; exact b.kn) b.hi (by rw [zA_zwI]; exact b.fl) (by rw [zkd_zwI]; exact b.kl) (by rw [zLs]; exact b.ls) (fun r hr => by rw [zkd_zwI]; exact b.ok r hr) ((ke E).trans b.e)
  exact ⟨kpI b.kn, ⟨s0, L, M, h.wN b.kn fr rfl, b1, H.wI b.kn lo.1, m, lo, hL, (List.map_congr_left fun r _ => ke r).trans kk, sj.vl zLs (fun x => zkd_zwI ..) (fun x => by rw [ke]) (fun x => zA_zwI ..) (fun x _ => ke x)⟩, fr⟩
/-- the node at hand is done -/
theorem xnS.cl (s : xnS c T E α0 a e K γ) (g : grS c e K) : xnD c T α0 a E γ ∧ xkv γ E = e := by
  obtain ⟨s0, L, M, h, b, H, m, lo, hL, k, sj⟩ := s
  have kp := h.kp
  refine ⟨⟨M, h, H.cl kp ⟨e, L, b, fun r hr => (hL r hr).1, by rw [k]; exact g⟩, m, fun p hp => ⟨(sj p hp).1, fun q hq => ⟨((sj p hp).2 q hq).1, fun nc g => (((sj p hp).2 q hq).2 nc g).up fun x hx _ => ⟨hx, fun z => by have := (H.nw x hx).2.2; rw [z, kp] at this; omega⟩⟩⟩, fun g' => ?_⟩, b.e⟩
  rw [b.e] at g'
  obtain ⟨k', k1, k2, k3⟩ := g'
  obtain ⟨n1, n2, n3, n4, n5⟩ := s0.2.2.2.2
  have : k' = 50 ∨ k' = 51 ∨ k' = 52 ∨ k' = 53 ∨ k' = 54 := by omega
  rcases this with w | w | w | w | w <;> subst w
  · exact absurd k3 n1
  · exact absurd k3 n2
  · exact absurd k3 n3
  · exact absurd k3 n4
  · exact absurd k3 n5
/-- a node comes to hand -/
theorem xnS_new (h : xp c a γ) (hT : zkd γ T ≠ 45) (hz : T < zn γ) (k53 : nkC kv) : ∃ β, hX43_init G (some (zn γ)) kv v v' (zmk γ 45 0 9) = some ((), β) ∧ xnS c T (zn γ) γ a (kv, v) [] β ∧ (∀ x, x < zn γ → β.2 x = γ.2 x) ∧ zn β = zn γ + 3 := by
  have H0 : xnF c T c.p (fun _ => False) γ γ := xnF.rf
  obtain ⟨β, y1, y2, b0, H1, y4, y5⟩ := H0.push (G := G) (kv := kv) (v := v) (v' := v') h hT hz
  refine ⟨β, y1, ⟨⟨h.pz, h.kp, hT, hz, k53⟩, [], _, y2, b0, H1, .inr rfl, ⟨Nat.le_refl _, by omega⟩, fun r hr => absurd hr (by simp), rfl, fun p hp => ?_⟩, y4, y5⟩
  rw [hp.resolve_left id]
  refine ⟨b0.kl, fun q hq => ?_⟩
  rw [b0.ls] at hq
  exact absurd hq (by simp)
/-- the node at hand is laid below an older one -/
theorem xnS.att (s : xnS c (t + 1) E α0 a e K γ) (bt : xnB γ t e' L) (ht : t < zn α0) : wp (hX43_add G (some t) (some E) γ) (fun r ε => r = some E ∧ xnS c (t + 1) E α0 a e K ε ∧ xnB ε t e' (L ++ [E])) := by
  obtain ⟨⟨s1, s2, s3, s4, s5⟩, L', M, h, b, H, m, lo, hL, k, sj⟩ := s
  refine wp_im (w_add bt b.kn) fun r ε z => ?_
  obtain ⟨z, x1⟩ := z
  obtain ⟨b2, _⟩ := bt.add x1 b.kn lo.2
  obtain ⟨b3, m3⟩ := b.at' x1 bt.kl (by omega)
  have kM : ∀ t, M t → zkd γ t = 45 ∧ t < zn γ := fun t ht => by
    have := H.nw t ht
    exact ⟨this.2.2, by omega⟩
  exact ⟨z, ⟨⟨s1, s2, s3, s4, s5⟩, L', M, h.at' x1 bt.kl b.kn, b3, H.add x1 bt.kl s4 (.inr rfl) m, m, ⟨lo.1, Nat.lt_of_lt_of_le lo.2 x1.n⟩, hL, m3.trans k, sj.st (x1.qn bt.kl) kM (fun x hx hE h3 => ⟨x1.L _ (by have := (H.nw x hx).1; omega), (x1.kd _).trans h3⟩) (fun hE h3 => ⟨(x1.kd _).trans h3, fun q hq => .inl (by rw [← x1.L (E + 1) (by have := (H.nw E hE).1; omega)]; exact hq)⟩)⟩, b2⟩
end PAZZZU
