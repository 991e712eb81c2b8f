/-! THE PURE LAYER: the parser: X's side alone: every node, every unit, between clauses. -/
/-- what stands below a unit's node -/
def grUl (i j k : Bool) : List (Int32 × Int32) := (if i then [(nI 3, nI 0)] else []) ++ ((if j then [(nI 7, nI 0)] else []) ++ (if k then [(nI 20, nI 0)] else []))
def grU (l : List (Int32 × Int32)) : Prop := ∃ i j k n, l = grUl i j k ++ n ∧ ∀ e, e ∈ n → grK 1 2 e
/-- every node has its shape -/
def xHpN (c : pC) (M : Nat → Prop) (α : zS) : Prop := (∀ q, M q → ∃ e L, xnB α q e L ∧ (∀ r, r ∈ L → M r) ∧ (grS c e (L.map (xkv α)) ∨ grK 1 2 e ∧ grU (L.map (xkv α)))) ∧ sjA c M c.p α
/-- a unit's field k holds a node of a kind from lo to hi -/
def uF (α : zS) (M : Nat → Prop) (u k lo hi : Nat) : Prop := ∀ q, zA α 43 k u = some q → M q ∧ grK lo hi (xkv α q)
/-- an item, no condition's name -/
def uI (c : pC) (α : zS) (M : Nat → Prop) (q : Nat) : Prop := M q ∧ grI c (fun n => n = 1 ∨ n = 77 ∨ 2 ≤ n ∧ n ≤ 49) (xkv α q)
/-- a list cell that is no node's -/
def uL (α : zS) (M : Nat → Prop) (l : Nat) : Prop := zkd α l = 3 ∧ l < zn α ∧ ∀ q, M q → q + 1 ≠ l
def xUn (c : pC) (M : Nat → Prop) (lu lr : Nat) (α : zS) (u : Nat) : Prop := (zkd α u = 44) ∧ (u < zn α) ∧ (∃ r, zA α 43 1 u = some r ∧ M r ∧ grK 1 2 (xkv α r)) ∧ (uF α M u 4 3 3) ∧ (uF α M u 5 7 7) ∧ (uF α M u 6 8 8) ∧ (uF α M u 7 9 11) ∧ (uF α M u 8 20 20) ∧ (uF α M u 9 22 22) ∧ (uF α M u 10 23 23) ∧ (uF α M u 11 24 24) ∧ (∀ q, zA α 43 12 u = some q → uI c α M q) ∧ (∃ l, zA α 43 13 u = some l ∧ uL α M l ∧ l ≠ lu ∧ l ≠ lr ∧ ∀ r, some r ∈ zL α l → uI c α M r)
theorem xUn.ku {c : pC} {M : Nat → Prop} {lu lr : Nat} {α : zS} {u : Nat} (h : xUn c M lu lr α u) : zkd α u = 44 := by
  unfold xUn at h
  exact h.1
theorem xUn.hi {c : pC} {M : Nat → Prop} {lu lr : Nat} {α : zS} {u : Nat} (h : xUn c M lu lr α u) : u < zn α := by
  unfold xUn at h
  exact h.2.1
theorem xUn.f1 {c : pC} {M : Nat → Prop} {lu lr : Nat} {α : zS} {u : Nat} (h : xUn c M lu lr α u) : ∃ r, zA α 43 1 u = some r ∧ M r ∧ grK 1 2 (xkv α r) := by
  unfold xUn at h
  exact h.2.2.1
theorem xUn.f4 {c : pC} {M : Nat → Prop} {lu lr : Nat} {α : zS} {u : Nat} (h : xUn c M lu lr α u) : uF α M u 4 3 3 := by
  unfold xUn at h
  exact h.2.2.2.1
theorem xUn.f5 {c : pC} {M : Nat → Prop} {lu lr : Nat} {α : zS} {u : Nat} (h : xUn c M lu lr α u) : uF α M u 5 7 7 := by
  unfold xUn at h
  exact h.2.2.2.2.1
theorem xUn.f6 {c : pC} {M : Nat → Prop} {lu lr : Nat} {α : zS} {u : Nat} (h : xUn c M lu lr α u) : uF α M u 6 8 8 := by
  unfold xUn at h
  exact h.2.2.2.2.2.1
theorem xUn.f7 {c : pC} {M : Nat → Prop} {lu lr : Nat} {α : zS} {u : Nat} (h : xUn c M lu lr α u) : uF α M u 7 9 11 := by
  unfold xUn at h
  exact h.2.2.2.2.2.2.1
theorem xUn.f8 {c : pC} {M : Nat → Prop} {lu lr : Nat} {α : zS} {u : Nat} (h : xUn c M lu lr α u) : uF α M u 8 20 20 := by
  unfold xUn at h
  exact h.2.2.2.2.2.2.2.1
theorem xUn.f9 {c : pC} {M : Nat → Prop} {lu lr : Nat} {α : zS} {u : Nat} (h : xUn c M lu lr α u) : uF α M u 9 22 22 := by
  unfold xUn at h
  exact h.2.2.2.2.2.2.2.2.1
theorem xUn.fa {c : pC} {M : Nat → Prop} {lu lr : Nat} {α : zS} {u : Nat} (h : xUn c M lu lr α u) : uF α M u 10 23 23 := by
  unfold xUn at h
  exact h.2.2.2.2.2.2.2.2.2.1
theorem xUn.fb {c : pC} {M : Nat → Prop} {lu lr : Nat} {α : zS} {u : Nat} (h : xUn c M lu lr α u) : uF α M u 11 24 24 := by
  unfold xUn at h
  exact h.2.2.2.2.2.2.2.2.2.2.1
theorem xUn.fc {c : pC} {M : Nat → Prop} {lu lr : Nat} {α : zS} {u : Nat} (h : xUn c M lu lr α u) : ∀ q, zA α 43 12 u = some q → uI c α M q := by
  unfold xUn at h
  exact h.2.2.2.2.2.2.2.2.2.2.2.1
theorem xUn.fd {c : pC} {M : Nat → Prop} {lu lr : Nat} {α : zS} {u : Nat} (h : xUn c M lu lr α u) : ∃ l, zA α 43 13 u = some l ∧ uL α M l ∧ l ≠ lu ∧ l ≠ lr ∧ ∀ r, some r ∈ zL α l → uI c α M r := by
  unfold xUn at h
  exact h.2.2.2.2.2.2.2.2.2.2.2.2
theorem xUn.mk {c : pC} {M : Nat → Prop} {lu lr : Nat} {α : zS} {u : Nat} (x0 : zkd α u = 44) (x1 : u < zn α) (x2 : ∃ r, zA α 43 1 u = some r ∧ M r ∧ grK 1 2 (xkv α r)) (x3 : uF α M u 4 3 3) (x4 : uF α M u 5 7 7) (x5 : uF α M u 6 8 8) (x6 : uF α M u 7 9 11) (x7 : uF α M u 8 20 20) (x8 : uF α M u 9 22 22) (x9 : uF α M u 10 23 23) (x10 : uF α M u 11 24 24) (x11 : ∀ q, zA α 43 12 u = some q → uI c α M q) (x12 : ∃ l, zA α 43 13 u = some l ∧ uL α M l ∧ l ≠ lu ∧ l ≠ lr ∧ ∀ r, some r ∈ zL α l → uI c α M r) : xUn c M lu lr α u := by
  unfold xUn
  exact ⟨x0, x1, x2, x3, x4, x5, x6, x7, x8, x9, x10, x11, x12⟩
/-- all nodes, all units; node z waits for its name -/
def xTs (c : pC) (M U : Nat → Prop) (z : Option Nat) (lu lr : Nat) (α : zS) : Prop := (xHpN c M α) ∧ (∀ u, U u → xUn c M lu lr α u) ∧ (∀ q, M q → grK 1 2 (xkv α q) → grV c 1 (xkv α q).2 ∨ z = some q) ∧ (uL α M lu) ∧ (uL α M lr) ∧ (∀ r, z = some r → ∀ t, M t → ∃ e L, xnB α t e L ∧ (r ∈ L → grK 1 2 e)) ∧ (∀ r, some r ∈ zL α lr → M r ∧ grK 1 2 (xkv α r)) ∧ (lu ≠ lr)
theorem xTs.hp {c : pC} {M U : Nat → Prop} {z : Option Nat} {lu lr : Nat} {α : zS} (h : xTs c M U z lu lr α) : xHpN c M α := by
  unfold xTs at h
  exact h.1
theorem xTs.un {c : pC} {M U : Nat → Prop} {z : Option Nat} {lu lr : Nat} {α : zS} (h : xTs c M U z lu lr α) : ∀ u, U u → xUn c M lu lr α u := by
  unfold xTs at h
  exact h.2.1
theorem xTs.nm {c : pC} {M U : Nat → Prop} {z : Option Nat} {lu lr : Nat} {α : zS} (h : xTs c M U z lu lr α) : ∀ q, M q → grK 1 2 (xkv α q) → grV c 1 (xkv α q).2 ∨ z = some q := by
  unfold xTs at h
  exact h.2.2.1
theorem xTs.lu {c : pC} {M U : Nat → Prop} {z : Option Nat} {lu lr : Nat} {α : zS} (h : xTs c M U z lu lr α) : uL α M lu := by
  unfold xTs at h
  exact h.2.2.2.1
theorem xTs.lr {c : pC} {M U : Nat → Prop} {z : Option Nat} {lu lr : Nat} {α : zS} (h : xTs c M U z lu lr α) : uL α M lr := by
  unfold xTs at h
  exact h.2.2.2.2.1
theorem xTs.zc {c : pC} {M U : Nat → Prop} {z : Option Nat} {lu lr : Nat} {α : zS} (h : xTs c M U z lu lr α) : ∀ r, z = some r → ∀ t, M t → ∃ e L, xnB α t e L ∧ (r ∈ L → grK 1 2 e) := by
  unfold xTs at h
  exact h.2.2.2.2.2.1
theorem xTs.rr {c : pC} {M U : Nat → Prop} {z : Option Nat} {lu lr : Nat} {α : zS} (h : xTs c M U z lu lr α) : ∀ r, some r ∈ zL α lr → M r ∧ grK 1 2 (xkv α r) := by
  unfold xTs at h
  exact h.2.2.2.2.2.2.1
theorem xTs.ne {c : pC} {M U : Nat → Prop} {z : Option Nat} {lu lr : Nat} {α : zS} (h : xTs c M U z lu lr α) : lu ≠ lr := by
  unfold xTs at h
  exact h.2.2.2.2.2.2.2
theorem xTs.mk {c : pC} {M U : Nat → Prop} {z : Option Nat} {lu lr : Nat} {α : zS} (x0 : xHpN c M α) (x1 : ∀ u, U u → xUn c M lu lr α u) (x2 : ∀ q, M q → grK 1 2 (xkv α q) → grV c 1 (xkv α q).2 ∨ z = some q) (x3 : uL α M lu) (x4 : uL α M lr) (x5 : ∀ r, z = some r → ∀ t, M t → ∃ e L, xnB α t e L ∧ (r ∈ L → grK 1 2 e)) (x6 : ∀ r, some r ∈ zL α lr → M r ∧ grK 1 2 (xkv α r)) (x7 : lu ≠ lr) : xTs c M U z lu lr α := by
  unfold xTs
  exact ⟨x0, x1, x2, x3, x4, x5, x6, x7⟩
/-- the open units -/
def xOp (α : zS) (U : Nat → Prop) : List Nat → Prop
  | [] => True
  | u :: l => U u ∧ zA α 43 0 u = l.head? ∧ (∀ v, v ∈ l → v ≠ u ∧ zI α 43 3 v = nI 12) ∧ xOp α U l
/-- where the innermost is -/
def xCuN (α : zS) (u x : Nat) : Prop := (zI α 43 3 u = nI x) ∧ (x ≤ 12) ∧ (∃ r e L i j k n, zA α 43 1 u = some r ∧ xnB α r e L ∧ L.map (xkv α) = grUl i j k ++ n ∧ (∀ f, f ∈ n → grK 1 2 f) ∧ (x ≤ 11 → n = []) ∧ (x ≤ 1 → i = false) ∧ (x ≤ 2 → j = false) ∧ (x ≤ 7 → k = false)) ∧ (x = 8 → ∃ r e L, zA α 43 8 u = some r ∧ xnB α r e L ∧ ∀ f, f ∈ L.map (xkv α) → grK 21 21 f)
theorem xCuN.st {α : zS} {u x : Nat} (h : xCuN α u x) : zI α 43 3 u = nI x := by
  unfold xCuN at h
  exact h.1
theorem xCuN.x {α : zS} {u x : Nat} (h : xCuN α u x) : x ≤ 12 := by
  unfold xCuN at h
  exact h.2.1
theorem xCuN.rt {α : zS} {u x : Nat} (h : xCuN α u x) : ∃ r e L i j k n, zA α 43 1 u = some r ∧ xnB α r e L ∧ L.map (xkv α) = grUl i j k ++ n ∧ (∀ f, f ∈ n → grK 1 2 f) ∧ (x ≤ 11 → n = []) ∧ (x ≤ 1 → i = false) ∧ (x ≤ 2 → j = false) ∧ (x ≤ 7 → k = false) := by
  unfold xCuN at h
  exact h.2.2.1
theorem xCuN.p8 {α : zS} {u x : Nat} (h : xCuN α u x) : x = 8 → ∃ r e L, zA α 43 8 u = some r ∧ xnB α r e L ∧ ∀ f, f ∈ L.map (xkv α) → grK 21 21 f := by
  unfold xCuN at h
  exact h.2.2.2
theorem xCuN.mk {α : zS} {u x : Nat} (x0 : zI α 43 3 u = nI x) (x1 : x ≤ 12) (x2 : ∃ r e L i j k n, zA α 43 1 u = some r ∧ xnB α r e L ∧ L.map (xkv α) = grUl i j k ++ n ∧ (∀ f, f ∈ n → grK 1 2 f) ∧ (x ≤ 11 → n = []) ∧ (x ≤ 1 → i = false) ∧ (x ≤ 2 → j = false) ∧ (x ≤ 7 → k = false)) (x3 : x = 8 → ∃ r e L, zA α 43 8 u = some r ∧ xnB α r e L ∧ ∀ f, f ∈ L.map (xkv α) → grK 21 21 f) : xCuN α u x := by
  unfold xCuN
  exact ⟨x0, x1, x2, x3⟩
section PAZZZZB
variable {ρ σ τ : Type} {c : pC} {G : xQ} {α β γ γ' δ ε α0 : zS} {a a' b k w q r t u n x T T' E f kd sg o lu lr : Nat} {v v' kv nm pr : Int32} {e e' : Int32 × Int32} {L L' op : List Nat} {M M' N S S' U U' : Nat → Prop} {l m K K' : List (Int32 × Int32)} {P : Int32 × Int32 → Prop} {p z : Option Nat}
/-- nothing is laid anywhere -/
theorem sjA.sm (h : sjA c M E β) (e : qN β γ) (hM : ∀ t, M t → zkd β t = 45 ∧ t < zn β) (hL : ∀ x, M x → zkd β (x + 1) = 3 → zL γ (x + 1) = zL β (x + 1) ∧ zkd γ (x + 1) = 3) : sjA c M E γ := h.st e hM (fun x hx _ h3 => hL x hx h3) (fun hx h3 => ⟨(hL E hx h3).2, fun q hq => .inl (by rw [← (hL E hx h3).1]; exact hq)⟩)
theorem grK_kv (h : grK a b e) (h' : e'.1 = e.1) : grK a b e' := by
  obtain ⟨k, k1, k2, k3⟩ := h
  exact ⟨k, k1, k2, h'.trans k3⟩
/-- the nodes stay, so do their lists -/
theorem xHpN.fr (H : xHpN c M α) (hn : zn α ≤ zn β) (f1 : ∀ q, zkd α q = 45 → q < zn α → β.2 q = α.2 q) (f2 : ∀ q, M q → β.2 (q + 1) = α.2 (q + 1)) : xHpN c M β := by
  have qn : qN α β := ⟨hn, fun t hk ht => by
    have e := f1 t hk ht
    exact ⟨fun k => zI_eq e 44 k, zA_eq e 44 7, by rw [zkd_eq e]; exact hk⟩⟩
  have hM : ∀ t, M t → zkd α t = 45 ∧ t < zn α := fun t ht => by
    obtain ⟨e, L, b, _⟩ := H.1 t ht
    exact ⟨b.kn, by have := b.hi; omega⟩
  refine ⟨fun q hq => ?_, H.2.sm qn hM fun x hx h3 => ?_⟩
  · obtain ⟨e, L, b, c1, c2⟩ := H.1 q hq
    obtain ⟨b1, b2⟩ := b.st hn (f1 q b.kn (hM q hq).2) (f2 q hq) (fun r hr => f1 r (b.ok r hr).1 (b.ok r hr).2)
    exact ⟨e, L, b1, c1, by rw [b2]; exact c2⟩
  · rw [zL_eq (f2 x hx), zkd_eq (f2 x hx)]
    exact ⟨rfl, h3⟩
theorem uF.fr (h : uF α M u k a b) (hu : β.2 u = α.2 u) (hM : ∀ q, M q → M' q) (hk : ∀ q, M q → xkv β q = xkv α q) : uF β M' u k a b := fun q hq => by
  obtain ⟨m, g⟩ := h q (by rw [← zA_eq hu]; exact hq)
  exact ⟨hM q m, by rw [hk q m]; exact g⟩
theorem uI.fr (h : uI c α M q) (hM : ∀ q, M q → M' q) (hk : ∀ q, M q → xkv β q = xkv α q) : uI c β M' q := ⟨hM q h.1, by rw [hk q h.1]; exact h.2⟩
theorem uL.fr (h : uL α M t) (hn : zn α ≤ zn β) (ht : zkd β t = zkd α t) (hM : ∀ q, M' q → M q ∨ zn α ≤ q) : uL β M' t := by
  obtain ⟨h1, h2, h3⟩ := h
  refine ⟨by rw [ht]; exact h1, by omega, fun q hq y => ?_⟩
  rcases hM q hq with z | z
  · exact h3 q z y
  · omega
theorem xUn.fr (h : xUn c M lu lr α u) (hn : zn α ≤ zn β) (hu : β.2 u = α.2 u) (hM : ∀ q, M q → M' q) (hM' : ∀ q, M' q → M q ∨ zn α ≤ q) (hk : ∀ q, M q → xkv β q = xkv α q) (hl : ∀ l, uL α M l → β.2 l = α.2 l) : xUn c M' lu lr β u := by
  obtain ⟨r, r1, r2, r3⟩ := h.f1
  obtain ⟨l, l1, l2, l3, l4, l5⟩ := h.fd
  have hi := h.hi
  refine xUn.mk (by rw [zkd_eq hu]; exact h.ku) (by omega) ⟨r, by rw [zA_eq hu]; exact r1, hM r r2, by rw [hk r r2]; exact r3⟩ (h.f4.fr hu hM hk) (h.f5.fr hu hM hk) (h.f6.fr hu hM hk) (h.f7.fr hu hM hk) (h.f8.fr hu hM hk) (h.f9.fr hu hM hk) (h.fa.fr hu hM hk) (h.fb.fr hu hM hk) (fun q hq => (h.fc q (by rw [← zA_eq hu]; exact hq)).fr hM hk) ⟨l, by rw [zA_eq hu]; exact l1, l2.fr hn (zkd_eq (hl l l2)) hM', l3, l4, fun r hr => ?_⟩
  exact (l5 r (by rw [← zL_eq (hl l l2)]; exact hr)).fr hM hk
/-- nodes come, the older ones keep kind and value; units and their lists stay -/
theorem xTs.gr (s : xTs c M U z lu lr α) (hn : zn α ≤ zn β) (hu : ∀ u, U u → β.2 u = α.2 u) (hM : ∀ q, M q → M' q) (hM' : ∀ q, M' q → M q ∨ zn α ≤ q) (hk : ∀ q, M q → xkv β q = xkv α q) (hl : ∀ l, uL α M l → β.2 l = α.2 l) (H : xHpN c M' β) (hv : ∀ q, M' q → zn α ≤ q → grK 1 2 (xkv β q) → grV c 1 (xkv β q).2 ∨ z = some q) (hz : ∀ r, z = some r → ∀ t, M' t → ∃ e L, xnB β t e L ∧ (r ∈ L → grK 1 2 e)) : xTs c M' U z lu lr β := by
  refine xTs.mk H (fun u h => (s.un u h).fr hn (hu u h) hM hM' hk hl) (fun q hq g => ?_) (s.lu.fr hn (zkd_eq (hl _ s.lu)) hM') (s.lr.fr hn (zkd_eq (hl _ s.lr)) hM') hz (fun r hr => by
    obtain ⟨m, g⟩ := s.rr r (by rw [← zL_eq (hl _ s.lr)]; exact hr)
    exact ⟨hM r m, by rw [hk r m]; exact g⟩) s.ne
  rcases hM' q hq with y | y
  · rw [hk q y] at g ⊢
    exact s.nm q y g
  · exact hv q hq y g
theorem xHpN.md (H : xHpN c M α) (h : M q) : zkd α q = 45 ∧ q + 1 < zn α ∧ zkd α (q + 1) = 3 := by
  obtain ⟨e, L, b, _⟩ := H.1 q h
  exact ⟨b.kn, b.hi, b.kl⟩
theorem xHpN.ke (H : xHpN c M α) (f1 : ∀ q, zkd α q = 45 → q < zn α → β.2 q = α.2 q) (h : M q) : xkv β q = xkv α q := by
  have m := H.md h
  have e := f1 q m.1 (by omega)
  unfold xkv
  rw [zI_eq e, zI_eq e]
/-- the parser's own fields -/
theorem xTs.pw (s : xTs c M U z lu lr α) (fr : ∀ x, x ≠ c.p → β.2 x = α.2 x) (hn : zn β = zn α) (kp : zkd α c.p = 41) : xTs c M U z lu lr β := by
  have f1 : ∀ q, zkd α q = 45 → q < zn α → β.2 q = α.2 q := fun q hk _ => fr q (fun y => by rw [y, kp] at hk; omega)
  have f3 : ∀ q, zkd α q = 3 → β.2 q = α.2 q := fun q hk => fr q (fun y => by rw [y, kp] at hk; omega)
  refine s.gr (by omega) (fun u hu => fr u fun y => ?_) (fun _ h => h) (fun _ h => .inl h) (fun q hq => s.hp.ke f1 hq) (fun l hl => f3 l hl.1) (s.hp.fr (by omega) f1 (fun q hq => f3 _ (s.hp.md hq).2.2)) (fun q hq y => ?_) (fun r hr t ht => ?_)
  · have := (s.un u hu).ku
    rw [y, kp] at this
    omega
  · have := s.hp.md hq
    omega
  · obtain ⟨e, L, b, h⟩ := s.zc r hr t ht
    exact ⟨e, L, (b.pw fr hn kp).1, h⟩
/-- nodes stay when a unit's field changes -/
theorem xnB.uw (b : xnB α t e L) (fr : ∀ x, x ≠ u → β.2 x = α.2 x) (hn : zn β = zn α) (ku : zkd α u = 44) : xnB β t e L ∧ L.map (xkv β) = L.map (xkv α) := by
  have kn := b.kn
  have kl := b.kl
  exact b.st (by omega) (fr t (fun z => by rw [z, ku] at kn; omega)) (fr _ (fun z => by rw [z, ku] at kl; omega)) (fun r hr => fr r (fun z => by have := (b.ok r hr).1; rw [z, ku] at this; omega))
/-- a unit's own fields -/
theorem xTs.uw (s : xTs c M U z lu lr α) (fr : ∀ x, x ≠ u → β.2 x = α.2 x) (hn : zn β = zn α) (ku : zkd α u = 44) (hu : xUn c M lu lr β u) : xTs c M U z lu lr β := by
  have f1 : ∀ q, zkd α q = 45 → q < zn α → β.2 q = α.2 q := fun q hk _ => fr q (fun y => by rw [y, ku] at hk; omega)
  have f3 : ∀ q, zkd α q = 3 → β.2 q = α.2 q := fun q hk => fr q (fun y => by rw [y, ku] at hk; omega)
  refine xTs.mk (s.hp.fr (by omega) f1 (fun q hq => f3 _ (s.hp.md hq).2.2)) (fun v hv => ?_) (fun q hq => ?_) (s.lu.fr (by omega) (zkd_eq (f3 _ s.lu.1)) (fun _ h => .inl h)) (s.lr.fr (by omega) (zkd_eq (f3 _ s.lr.1)) (fun _ h => .inl h)) (fun r hr t ht => by
    obtain ⟨e, L, b, h⟩ := s.zc r hr t ht
    exact ⟨e, L, (b.uw fr hn ku).1, h⟩) (fun r hr => by
    obtain ⟨m, g⟩ := s.rr r (by rw [← zL_eq (f3 _ s.lr.1)]; exact hr)
    exact ⟨m, by rw [s.hp.ke f1 m]; exact g⟩) s.ne
  · by_cases y : v = u
    · rw [y]; exact hu
    · exact (s.un v hv).fr (by omega) (fr v y) (fun _ h => h) (fun _ h => .inl h) (fun q hq => s.hp.ke f1 hq) (fun l hl => f3 l hl.1)
  · rw [s.hp.ke f1 hq]
    exact s.nm q hq
theorem xOp.fr : ∀ {l : List Nat}, xOp α U l → (∀ u, u ∈ l → zA β 43 0 u = zA α 43 0 u) → (∀ u, u ∈ l.tail → zI β 43 3 u = zI α 43 3 u) → xOp β U l
  | [], _, _, _ => trivial
  | u :: l, h, f1, f2 => ⟨h.1, by rw [f1 u (List.mem_cons_self ..)]; exact h.2.1, fun v hv => ⟨(h.2.2.1 v hv).1, by rw [f2 v hv]; exact (h.2.2.1 v hv).2⟩, xOp.fr h.2.2.2 (fun v hv => f1 v (List.mem_cons_of_mem _ hv)) (fun v hv => f2 v (List.mem_of_mem_tail hv))⟩
theorem xOp.mem : ∀ {l : List Nat}, xOp α U l → ∀ u, u ∈ l → U u
  | [], _, u, h => absurd h (by simp)
  | v :: l, h, u, hu => by
    rcases List.mem_cons.mp hu with y | y
    · rw [y]; exact h.1
    · exact xOp.mem h.2.2.2 u y
theorem xHpN.rs (H : xHpN c M α) (h : M q) : ∃ e L, xnB α q e L ∧ (∀ r, r ∈ L → M r) ∧ (grS c e (L.map (xkv α)) ∨ grK 1 2 e ∧ grU (L.map (xkv α))) := H.1 q h
/-- a node that has come is laid below an older one -/
theorem xHpN.add (H : xHpN c M α) (d : xnD c c.p α a q γ) (kp : zkd α c.p = 41) (ht : M t) (b : xnB α t e L) (nc : ¬ grCo e) (g : grS c e (L.map (xkv α) ++ [xkv γ q]) ∨ grK 1 2 e ∧ grU (L.map (xkv α) ++ [xkv γ q])) : zis G γ (some t) 45 = true ∧ wp (hX43_add G (some t) (some q) γ) (fun r β => r = some q ∧ ∃ N : Nat → Prop, N q ∧ xp c a β ∧ xHpN c (fun x => M x ∨ N x) β ∧ (∀ x, N x → zn α ≤ x) ∧ xnB β t e (L ++ [q]) ∧ (L ++ [q]).map (xkv β) = L.map (xkv α) ++ [xkv γ q] ∧ xkv β q = xkv γ q ∧ zn α ≤ zn β ∧ (∀ x, x < zn α → x ≠ c.p → x ≠ t + 1 → β.2 x = α.2 x) ∧ (∀ x, M x → xkv β x = xkv α x) ∧ (∀ t' e' L', xnB α t' e' L' → t' ≠ t → xnB β t' e' L' ∧ L'.map (xkv β) = L'.map (xkv α)) ∧ (∀ x, N x → ¬ grK 1 2 (xkv β x)) ∧ ∀ t' e' L', xnB γ t' e' L' → t' ≠ t → xnB β t' e' L' ∧ L'.map (xkv β) = L'.map (xkv γ)) := by
  obtain ⟨N, h1, H1, nq, sj1, cq⟩ := d
  obtain ⟨q1, q2, q3⟩ := H1.nw q nq
  have kT : zkd α c.p ≠ 45 := by rw [kp]; decide
  have hM : ∀ x, M x → zkd α x = 45 ∧ x < zn α := fun x hx => by
    have := H.md hx
    exact ⟨this.1, by omega⟩
  have bf : ∀ {t' e' L'}, xnB α t' e' L' → xnB γ t' e' L' ∧ L'.map (xkv γ) = L'.map (xkv α) := fun b' => b'.fr H1 kp kT (fun y => by have := b'.kl; rw [y, kp] at this; omega)
  obtain ⟨b1, m1⟩ := bf b
  have tl := (hM t ht).2
  have sj2 : sjA c M c.p γ := H.2.sm (H1.qn kp kT) hM (fun x hx h3 => by
    have e := H1.fr (x + 1) (H.md hx).2.1 (fun y => by rw [y, kp] at h3; omega) (fun y => by rw [y, kp] at h3; omega)
    rw [zL_eq e, zkd_eq e]
    exact ⟨rfl, h3⟩)
  have sj3 := sj2.or sj1 (fun x hx y => by have := (H1.nw x hx).2.2; rw [y, h1.kp] at this; omega)
  refine ⟨of_eq_true (kis b1.kn (by decide)), wp_im (w_add b1 q3) fun r ε z => ?_⟩
  obtain ⟨z, x1⟩ := z
  obtain ⟨b2, m2⟩ := b1.add x1 q3 (by omega)
  have at1 : ∀ {t' e' L'}, xnB γ t' e' L' → t' ≠ t → xnB ε t' e' L' ∧ L'.map (xkv ε) = L'.map (xkv γ) := fun b' y => b'.at' x1 b1.kl y
  have ke : ∀ x, zkd γ x = 45 → xkv ε x = xkv γ x := fun x hx => x1.ke (b1.k3 hx)
  have nx := H1.n
  have nx' := x1.n
  have shp : ∀ x, N x → ∃ e L, xnB ε x e L ∧ (∀ r, r ∈ L → M r ∨ N r) ∧ grS c e (L.map (xkv ε)) := fun x hx => by
    obtain ⟨y1, y2, y3⟩ := H1.nw x hx
    obtain ⟨e', L', c1, c2, c3⟩ := H1.ok x hx (fun y => by rw [y, h1.kp] at y3; omega)
    obtain ⟨c4, c5⟩ := at1 c1 (by omega)
    exact ⟨e', L', c4, fun r hr => .inr (c2 r hr).1, by rw [c5]; exact c3⟩
  have m3 : (L ++ [q]).map (xkv ε) = L.map (xkv α) ++ [xkv γ q] := by
    rw [m2, List.map_append, m1]
    rfl
  refine ⟨z, N, nq, h1.at' x1 b1.kl q3, ⟨fun x hx => ?_, ?_⟩, fun x hx => (H1.nw x hx).1, b2, m3, ke q q3, by omega, fun x h2 h3 h4 => ?_, fun x hx => ?_, fun t' e' L' b' y => ?_, fun x hx y => ?_, fun t' e' L' b' y => at1 b' y⟩
  · rcases hx with hx | hx
    · by_cases y : x = t
      · rw [y]
        exact ⟨e, L ++ [q], b2, fun r hr => by
          rcases List.mem_append.mp hr with w | w
          · obtain ⟨e0, L0, d1, d2, _⟩ := H.1 t ht
            have e1 : L0 = L := mapsome_inj (d1.ls.symm.trans b.ls)
            exact .inl (d2 r (by rw [e1]; exact w))
          · rw [List.mem_singleton.mp w]; exact .inr nq, by rw [m3]; exact g⟩
      · obtain ⟨e', L', c1, c2, c3⟩ := H.1 x hx
        obtain ⟨c4, c5⟩ := bf c1
        obtain ⟨c6, c7⟩ := at1 c4 y
        exact ⟨e', L', c6, fun r hr => .inl (c2 r hr), by rw [c7, c5]; exact c3⟩
    · obtain ⟨e', L', c1, c2, c3⟩ := shp x hx
      exact ⟨e', L', c1, c2, .inl c3⟩
  · have hMN : ∀ x, M x ∨ N x → zkd γ x = 45 ∧ x < zn γ := fun x hx => by
      rcases hx with hx | hx
      · obtain ⟨e', L', c1, _⟩ := H.1 x hx
        have := (bf c1).1
        exact ⟨this.kn, by have := this.hi; omega⟩
      · have := H1.nw x hx
        exact ⟨this.2.2, by omega⟩
    have hLc : ∀ x, M x ∨ N x → x ≠ c.p → grCo (xkv γ x) → zkd γ (x + 1) = 3 → zL ε (x + 1) = zL γ (x + 1) ∧ zkd ε (x + 1) = 3 := fun x hx _ hc h3 => ⟨x1.L _ (fun y => by
      have y1 : x = t := by omega
      rw [y1, b1.e] at hc
      exact nc hc), (x1.kd _).trans h3⟩
    refine sj3.st2 (x1.qn b1.kl) hMN hLc fun x hx h3 => ⟨(x1.kd _).trans h3, fun q' hq' => ?_⟩
    by_cases y : x = t
    · rw [y, x1.ls] at hq'
      rw [y]
      rcases List.mem_append.mp hq' with w | w
      · exact .inl w
      · have eq' := Option.some.inj (List.mem_singleton.mp w)
        subst eq'
        refine .inr ⟨.inr nq, fun g5 => ?_⟩
        rw [ke q' q3] at g5
        exact ((cq g5).up (M' := fun q => M q ∨ N q) (w := c.p) (fun x hx hE => ⟨.inr hx, hE⟩)).st (x1.qn b1.kl) hMN hLc
    · exact .inl (by rw [← x1.L (x + 1) (by omega)]; exact hq')
  · rw [x1.fr x h4 (by omega)]
    exact H1.fr x h2 h3 h3
  · rw [ke x (by
      obtain ⟨e', L', c1, _⟩ := H.1 x hx
      exact (bf c1).1.kn)]
    exact (H1.qn kp kT).ke (hM x hx).1 (hM x hx).2
  · obtain ⟨c4, c5⟩ := bf b'
    obtain ⟨c6, c7⟩ := at1 c4 y
    exact ⟨c6, c7.trans c5⟩
  · obtain ⟨e', L', c1, _, k', k1, k2, k3⟩ := shp x hx
    rw [c1.e] at y
    obtain ⟨j, j1, j2, j3⟩ := y
    rw [k2, pI_inj (by omega) (by omega)] at j3
    have : k' = 1 ∨ k' = 2 := by omega
    rcases this with w | w <;> subst w <;> exact k3
end PAZZZZB
