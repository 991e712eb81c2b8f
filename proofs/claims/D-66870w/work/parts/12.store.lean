/-! THE PLAIN MACHINE, 3: stores. A store is the list of all cells made since a base address, and what words they have; older cells are read alone. -/
abbrev xE : Type := (FieldType × vp_A) ⊕ (Nat × List Value)
abbrev xS : Type := List xE × Nat
def xemb (dA : FieldType → ClassId) (x : xE) : va_E := match x with
  | .inl y => .inl (dA y.1, y.2)
  | .inr o => .inr o
def xws (dA : FieldType → ClassId) : Nat → List xE → va_W
  | _, [] => []
  | b, x :: l => (b, xemb dA x) :: xws dA (b + 1) l
theorem xws_at (dA : FieldType → ClassId) (l : List xE) (b k : Nat) : (xws dA b l)[k]? = (l[k]?).map (fun x => (b + k, xemb dA x)) := by
  induction l generalizing b k with
  | nil => simp [xws]
  | cons x l ih =>
    cases k with
    | zero => simp [xws]
    | succ k =>
      simp only [xws, List.getElem?_cons_succ, ih]
      congr 1
      funext z
      rw [show b + 1 + k = b + (k + 1) by omega]
theorem xws_len (dA : FieldType → ClassId) (l : List xE) (b : Nat) : (xws dA b l).length = l.length := by
  induction l generalizing b with
  | nil => rfl
  | cons x l ih => simp [xws, ih]
theorem xws_set (dA : FieldType → ClassId) (l : List xE) (b k : Nat) (x : xE) : xws dA b (l.set k x) = (xws dA b l).set k (b + k, xemb dA x) := by
  apply List.ext_getElem?
  intro j
  rw [xws_at]
  by_cases h : j = k
  · subst h
    by_cases hl : j < l.length
    · rw [List.getElem?_set_self hl, List.getElem?_set_self (by rw [xws_len]; exact hl)]; rfl
    · rw [List.getElem?_eq_none (by simp; omega), List.getElem?_eq_none (by simp [xws_len]; omega)]; rfl
  · rw [List.getElem?_set_ne (Ne.symm h), List.getElem?_set_ne (Ne.symm h), xws_at]
theorem xws_push (dA : FieldType → ClassId) (l : List xE) (b : Nat) (x : xE) : xws dA b (l ++ [x]) = xws dA b l ++ [(b + l.length, xemb dA x)] := by
  induction l generalizing b with
  | nil => rfl
  | cons y l ih =>
    simp only [List.cons_append, xws, ih, List.length_cons]
    rw [show b + 1 + l.length = b + (l.length + 1) by omega]
/-- what the plain machine stands on in a launch: addresses of old cells, numbers of classes -/
abbrev xG : Type := (Nat → ClassId) × (Nat → Nat → Nat) × (FieldType → ClassId) × Nat × (Nat → Option xE)
abbrev xD (g : xG) : va_G := (g.1, g.2.1)
abbrev xA (g : xG) : FieldType → ClassId := g.2.2.1
abbrev xb (g : xG) : Nat := g.2.2.2.1
abbrev xold (g : xG) : Nat → Option xE := g.2.2.2.2
/-- the cell at an address -/
def xat (b : Nat) (old : Nat → Option xE) (σ : xS) (a : Nat) : Option xE := if b ≤ a then σ.1[a - b]? else old a
/-- the cell at an address that may be written -/
def xnw (b : Nat) (σ : xS) (a : Nat) : Option xE := if b ≤ a then σ.1[a - b]? else none
def xput (b : Nat) (σ : xS) (a : Nat) (x : xE) : xS := (σ.1.set (a - b) x, σ.2)
def xmake (σ : xS) (x : xE) (w : Nat) : xS := (σ.1 ++ [x], σ.2 + w)
/-- component types of the arrays of a store -/
def xTy (tyl : List FieldType) (l : List xE) : Prop := ∀ x ∈ l, ∀ (ty : FieldType) (y : vp_A), x = .inl (ty, y) → ty ∈ tyl
/-- what stays all through a method's body -/
def xEnv (g : xG) (cl : List vw_C) (tyl : List FieldType) (s : State) : Prop :=
  va_K (xD g) cl (tyl.map fun ty => (xA g ty, ty)) s ∧ xb g ≤ s.heap.size ∧ ∀ (a : Nat) (x : xE), xold g a = some x → a < xb g ∧ va_at (xD g) cl (a, xemb (xA g) x) s.heap ∧ ∀ (ty : FieldType) (y : vp_A), x = .inl (ty, y) → ty ∈ tyl
/-- the heap as the store has it, at a place of a method's body behind so many new cells -/
def xHp (g : xG) (cl : List vw_C) (tyl : List FieldType) (σ : xS) (s : State) (H : Heap) (locs : List Loc) (cells : Nat) : Prop :=
  H.size = xb g + σ.1.length ∧ H.size = s.heap.size + cells ∧ va_P (xD g) cl (xws (xA g) (xb g) σ.1) H ∧ va_D (fun q => xb g ≤ q) (xws (xA g) (xb g) σ.1) ∧ va_S (fun q => xb g ≤ q) s.heap H locs ∧ xTy tyl σ.1
section XST
variable {p : Program} {l : Launch} {e : Env} {R : Room} {s : State} {m : MethodId} {args : Array Value} {below : List Frame} {meth : Method} {c : Code} {H : Heap} {locs : List Loc} {cells slots : Nat} {Q : State → Prop}
variable {cc : ByteArray} {pc : Nat} {ls : Array Slot} {rest : List Value} {g : xG} {cl : List vw_C} {tyl : List FieldType} {σ : xS}
theorem W.szb {gg : JFrame} (k : H.size ≤ s.heap.size + cells → W p l e R s m args below meth c H locs cells slots Q gg) : W p l e R s m args below meth c H locs cells slots Q gg := by
  intro T hT X
  have h := X.same.2.2.1
  refine k ?_ T hT X
  rw [← hT]
  exact h
theorem xEnv.A (h : xEnv g cl tyl s) : ∀ q : Nat, s.heap.size ≤ q → xb g ≤ q := fun _ hq => Nat.le_trans h.2.1 hq
theorem xEnv.ty (h : xEnv g cl tyl s) {ty : FieldType} (ht : ty ∈ tyl) : ∃ t0 : Nat, (tyl.map fun ty => (xA g ty, ty))[t0]? = some (xA g ty, ty) := by
  obtain ⟨i, hi⟩ := List.getElem?_of_mem ht
  exact ⟨i, by rw [List.getElem?_map, hi]; rfl⟩
/-- a cell that is read -/
theorem xHp.rd (hE : xEnv g cl tyl s) (hH : xHp g cl tyl σ s H locs cells) {a : Nat} {x : xE} (h : xat (xb g) (xold g) σ a = some x) : va_P (xD g) cl [(a, xemb (xA g) x)] H ∧ ∀ (ty : FieldType) (y : vp_A), x = .inl (ty, y) → ty ∈ tyl := by
  unfold xat at h
  split at h
  · rename_i hb
    have h1 := hH.2.2.1 (a - xb g) (a, xemb (xA g) x) (by rw [xws_at, h]; simp; omega)
    refine ⟨fun k q hk => ?_, fun ty y hx => hH.2.2.2.2.2 x (List.mem_of_getElem? h) ty y hx⟩
    cases k with
    | zero => cases hk; exact h1
    | succ k => simp at hk
  · obtain ⟨h1, h2, h3⟩ := hE.2.2 a x h
    refine ⟨fun k q hk => ?_, h3⟩
    cases k with
    | zero =>
      cases hk
      exact h2.kept (hH.2.2.2.2.1.2.1 a (Nat.lt_of_lt_of_le h1 hE.2.1) (by omega))
    | succ k => simp at hk
/-- the place of a cell that is written -/
theorem xnw_inv {a : Nat} {x : xE} {b : Nat} (h : xnw b σ a = some x) : b ≤ a ∧ σ.1[a - b]? = some x := by
  unfold xnw at h
  split at h
  · exact ⟨by assumption, h⟩
  · cases h
theorem xTy.set {tyl : List FieldType} {l : List xE} (h : xTy tyl l) (k : Nat) (x : xE) (hx : ∀ (ty : FieldType) (y : vp_A), x = .inl (ty, y) → ty ∈ tyl) : xTy tyl (l.set k x) := by
  intro z hz
  rcases List.mem_or_eq_of_mem_set hz with h1 | h1
  · exact h z h1
  · subst h1; exact hx
theorem xTy.push {tyl : List FieldType} {l : List xE} (h : xTy tyl l) (x : xE) (hx : ∀ (ty : FieldType) (y : vp_A), x = .inl (ty, y) → ty ∈ tyl) : xTy tyl (l ++ [x]) := by
  intro z hz
  rcases List.mem_append.mp hz with h1 | h1
  · exact h z h1
  · rw [List.mem_singleton.mp h1]; exact hx
/-- behind a write: the store with another cell -/
theorem xHp.wr (hH : xHp g cl tyl σ s H locs cells) {a : Nat} {x0 x : xE} (h : xnw (xb g) σ a = some x0) (hx : ∀ (ty : FieldType) (y : vp_A), x = .inl (ty, y) → ty ∈ tyl) {H1 : Heap} {locs1 : List Loc}
    (hP : va_P (xD g) cl ((xws (xA g) (xb g) σ.1).set (a - xb g) (a, xemb (xA g) x)) H1) (hD : va_D (fun q => xb g ≤ q) ((xws (xA g) (xb g) σ.1).set (a - xb g) (a, xemb (xA g) x))) (hS : va_S (fun q => xb g ≤ q) s.heap H1 locs1) (hS2 : H.size ≤ H1.size) (hz : H1.size ≤ s.heap.size + cells) :
    xHp g cl tyl (xput (xb g) σ a x) s H1 locs1 cells := by
  obtain ⟨hb, hk⟩ := xnw_inv h
  have hw : xws (xA g) (xb g) (xput (xb g) σ a x).1 = (xws (xA g) (xb g) σ.1).set (a - xb g) (a, xemb (xA g) x) := by
    show xws (xA g) (xb g) (σ.1.set (a - xb g) x) = _
    rw [xws_set, show xb g + (a - xb g) = a by omega]
  have hs : H1.size = H.size := by have := hH.2.1; omega
  refine ⟨?_, by rw [hs]; exact hH.2.1, by rw [hw]; exact hP, by rw [hw]; exact hD, hS, hH.2.2.2.2.2.set _ _ hx⟩
  rw [hs, hH.1]
  show _ = _ + (σ.1.set (a - xb g) x).length
  rw [List.length_set]
/-- behind a new cell -/
theorem xHp.mk (hE : xEnv g cl tyl s) (hH : xHp g cl tyl σ s H locs cells) {q w : Nat} {x : xE} (hx : ∀ (ty : FieldType) (y : vp_A), x = .inl (ty, y) → ty ∈ tyl) {H1 : Heap} {locs1 : List Loc}
    (hP : va_P (xD g) cl (xws (xA g) (xb g) σ.1 ++ [(q, xemb (xA g) x)]) H1) (hD : va_D (fun q => xb g ≤ q) (xws (xA g) (xb g) σ.1 ++ [(q, xemb (xA g) x)])) (hS : va_S (fun q => xb g ≤ q) s.heap H1 locs1) (hz : H1.size ≤ s.heap.size + (cells + 1)) :
    q = xb g + σ.1.length ∧ xHp g cl tyl (xmake σ x w) s H1 locs1 (cells + 1) := by
  have hlen : (xws (xA g) (xb g) σ.1).length = σ.1.length := xws_len _ _ _
  have hq : (xws (xA g) (xb g) σ.1 ++ [(q, xemb (xA g) x)])[σ.1.length]? = some (q, xemb (xA g) x) := by
    rw [List.getElem?_append_right (by omega), hlen, Nat.sub_self]; rfl
  have h1 : xb g ≤ q := hD.2 _ _ hq
  have h2 : q < H1.size := (hP _ _ hq).lt
  have h3 : ¬ q < xb g + σ.1.length := by
    intro hlt
    have hi : q - xb g < σ.1.length := by omega
    have h4 : (xws (xA g) (xb g) σ.1 ++ [(q, xemb (xA g) x)])[q - xb g]? = some (q, xemb (xA g) σ.1[q - xb g]) := by
      rw [List.getElem?_append_left (by omega), xws_at, List.getElem?_eq_getElem hi]
      simp
      omega
    have h5 := hD.1 _ _ _ _ h4 hq rfl
    omega
  have e1 := hH.1
  have e2 := hH.2.1
  have hqe : q = xb g + σ.1.length := by omega
  refine ⟨hqe, ?_, by omega, ?_, ?_, hS, hH.2.2.2.2.2.push _ hx⟩
  · show H1.size = xb g + (σ.1 ++ [x]).length
    simp only [List.length_append, List.length_singleton]
    omega
  · show va_P _ _ (xws _ _ (σ.1 ++ [x])) _
    rw [xws_push, ← hqe]; exact hP
  · show va_D _ (xws _ _ (σ.1 ++ [x]))
    rw [xws_push, ← hqe]; exact hD
end XST
