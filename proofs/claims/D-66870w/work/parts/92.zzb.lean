/-! THE PURE LAYER: objects of small numbers, builders, texts. -/
/-- what is asked of a launch: the objects of small numbers; the constants' texts -/
def xIc (G : xQ) : Prop := ∀ u : Int32, -128 ≤ u ∧ u ≤ 127 → 1000000000 ≤ zca0 G u ∧ ∀ α, zkd α (zca0 G u) = 0 → zunb G α (some (zca0 G u)) = some u ∧ zco G α (some (zca0 G u)) [1] = true
def xTg (G : xQ) : Prop := ∀ k t, zTx0[k]? = some t → 1000000000 ≤ zlt G k ∧ zot G (zlt G k) = some t
/-- an object that holds the number u; new ones are from b on -/
def zBx (G : xQ) (α : zS) (b : Nat) (r : Option Nat) (u : Int32) : Prop := (∃ a, r = some a ∧ b ≤ a ∧ a < zn α ∧ zkd α a = 1 ∧ zI α 0 0 a = u) ∨ ((-128 ≤ u ∧ u ≤ 127) ∧ r = some (zca0 G u))
/-- a text at r; new ones are from b on -/
def zTx (G : xQ) (α : zS) (b : Nat) (r : Option Nat) (t : List Int32) : Prop := (∃ a, r = some a ∧ b ≤ a ∧ a < zn α ∧ zkd α a = 8 ∧ zT α a = t) ∨ (∃ a, r = some a ∧ 1000000000 ≤ a ∧ zot G a = some t)
section XBX
variable {G : xQ} {α β : zS} {b b' a k : Nat} {r r' : Option Nat} {u c : Int32} {t t' : List Int32} {l l' : List Nat}
theorem zBx.fr (h : zBx G α b r u) (h1 : ∀ x, b ≤ x → x < zn α → zkd α x = 1 → β.2 x = α.2 x) (hn : zn α ≤ zn β) : zBx G β b r u := by
  rcases h with ⟨a, e, h2, h3, h4, h5⟩ | h
  · have := h1 a h2 h3 h4
    exact .inl ⟨a, e, h2, by omega, by rw [zkd_eq this]; exact h4, by rw [zI_eq this]; exact h5⟩
  · exact .inr h
theorem zBx.unb (h : zBx G α b r u) (hi : zHi α) (g : xIc G) : zunb G α r = some u ∧ zco G α r [1] = true := by
  rcases h with ⟨a, e, h2, h3, h4, h5⟩ | ⟨h1, e⟩
  · subst e
    refine ⟨?_, ?_⟩
    · show (if zkd α a = 1 then some (zI α 0 0 a) else _) = _
      rw [if_pos h4, h5]
    · show List.contains [1] (zk G α a) = true
      unfold zk
      rw [h4]; rfl
  · subst e
    obtain ⟨g1, g2⟩ := g u h1
    exact g2 α (hi _ g1)
theorem kbx (hb : b ≤ zn α) : ∃ v γ, zbox G α u = some (v, γ) ∧ zBx G γ b v u ∧ zFr α γ (fun _ => False) ∧ zn γ ≤ zn α + 1 ∧ zc γ ≤ zc α + 1 ∧ zw γ ≤ zw α + 1 := by
  unfold zbox
  split
  · rename_i h; exact ⟨_, α, rfl, .inr ⟨h, rfl⟩, zFr.rf, by omega, by omega, by omega⟩
  · refine ⟨_, _, rfl, .inl ⟨zn α, rfl, hb, Nat.lt_succ_self _, ?_, ?_⟩, ⟨Nat.le_succ _, fun r hr _ => ?_⟩, Nat.le_refl _, Nat.le_refl _, Nat.le_refl _⟩
    · rw [zkd_zwI, zkd_zmk, if_pos rfl]
    · rw [zI_zwI, if_pos ⟨rfl, rfl, rfl⟩]
    · have hr : r < zn α ∨ zn α + 1 ≤ r := hr
      exact (zwI_ne (by omega)).trans (zup_ne (by omega))
/-- a new builder -/
theorem kbd0 : ∃ β, zSi0 (zmk α 2007 0 4) (some (zn α)) = some ((), β) ∧ zkd β (zn α) = 7 ∧ zT β (zn α) = [] ∧ (∀ r, r ≠ zn α → β.2 r = α.2 r) ∧ zn β = zn α + 2 ∧ zc β = zc α + 2 ∧ zw β = zw α + 20 := by
  refine ⟨zraw (zmk α 2007 0 4) (zn α) 7 (zn (zmk α 2007 0 4)) 16 1 1 16 [] [], if_pos (by rw [zkd_zmk, if_pos rfl]), by rw [zkd_raw, if_pos rfl], by rw [zT_raw, if_pos rfl], fun r hr => (zraw_ne hr).trans (zup_ne hr), rfl, rfl, ?_⟩
  show zw α + 4 + 16 = _; omega
/-- a sign more -/
theorem kbdc (hk : zkd α a = 7) (ht : zT α a = t) (hc : 0 ≤ c ∧ c < 256) (hl : t.length < 1000000) : ∃ β, zSch α (some a) c = some (some a, β) ∧ zkd β a = 7 ∧ zT β a = t ++ [c] ∧ (∀ r, r ≠ a → β.2 r = α.2 r) ∧ zn α ≤ zn β ∧ zn β ≤ zn α + 1 ∧ zc β = zc α + 1 ∧ zw β = zw α + 4 := by
  subst ht
  refine ⟨zbset α a 1 (zT α a ++ [c]), if_pos ⟨hk, hc.1, hc.2, hl⟩, ?_⟩
  have key : ∀ n bk cap, n ≤ 1 → zkd (zsT α a n 1 4 bk cap (zT α a ++ [c])) a = 7 ∧ zT (zsT α a n 1 4 bk cap (zT α a ++ [c])) a = zT α a ++ [c] ∧ (∀ r, r ≠ a → (zsT α a n 1 4 bk cap (zT α a ++ [c])).2 r = α.2 r) ∧ zn α ≤ zn (zsT α a n 1 4 bk cap (zT α a ++ [c])) ∧ zn (zsT α a n 1 4 bk cap (zT α a ++ [c])) ≤ zn α + 1 ∧ zc (zsT α a n 1 4 bk cap (zT α a ++ [c])) = zc α + 1 ∧ zw (zsT α a n 1 4 bk cap (zT α a ++ [c])) = zw α + 4 := fun n bk cap hn => by
    refine ⟨by rw [← hk]; unfold zkd zsT va_up; simp [zqT], by unfold zT zsT va_up; simp [zqT], fun r hr => zup_ne hr, ?_, ?_, rfl, rfl⟩
    · show zn α ≤ zn α + n; omega
    · show zn α + n ≤ zn α + 1; omega
  unfold zbset
  split
  · exact key 0 _ _ (by omega)
  · exact key 1 _ _ (by omega)
theorem kbds (hk : zkd α a = 7) : zSstr α (some a) = some (some (zn α), zmT α (zT α a)) := if_pos hk
theorem kmT : zkd (zmT α t) (zn α) = 8 ∧ zT (zmT α t) (zn α) = t := ⟨by unfold zkd zmT va_up; simp, by unfold zT zmT va_up; simp⟩
theorem kmT_ne (h : a ≠ zn α) : (zmT α t).2 a = α.2 a := zup_ne h
theorem zTx.of (h : zTx G α b r t) (hi : zHi α) : ∃ a, r = some a ∧ zt G α a = some t := by
  rcases h with ⟨a, e, _, _, h3, h4⟩ | ⟨a, e, h1, h2⟩
  · exact ⟨a, e, by unfold zt; rw [if_pos h3, h4]⟩
  · exact ⟨a, e, by have := hi a h1; unfold zt; rw [if_neg (by omega), if_pos this]; exact h2⟩
theorem zTx.fr (h : zTx G α b r t) (h1 : ∀ x, b ≤ x → x < zn α → zkd α x = 8 → β.2 x = α.2 x) (hn : zn α ≤ zn β) : zTx G β b r t := by
  rcases h with ⟨a, e, h2, h3, h4, h5⟩ | h
  · have := h1 a h2 h3 h4
    exact .inl ⟨a, e, h2, by omega, by rw [zkd_eq this]; exact h4, by rw [← h5]; unfold zT; rw [this]⟩
  · exact .inr h
theorem xTg.tx (g : xTg G) (h : zTx0[k]? = some t) : zTx G α b (some (zlt G k)) t := .inr ⟨_, rfl, (g k t h).1, (g k t h).2⟩
theorem kTeq (h : zTx G α b r t) (h' : zTx G α b' r' t') (hi : zHi α) : zTeq G α r r' = some (if t = t' then 1 else 0) := by
  obtain ⟨a, e, z⟩ := h.of hi
  obtain ⟨a', e', z'⟩ := h'.of hi
  subst e; subst e'
  show (zt G α a).bind (fun t => (zt G α a').map fun u => if t = u then 1 else 0) = _
  rw [z, z']; rfl
theorem kTlen (h : zTx G α b r t) (hi : zHi α) : zTlen G α r = some (nI t.length) := by
  obtain ⟨a, e, z⟩ := h.of hi
  subst e
  show (zt G α a).map (fun t => nI t.length) = _
  rw [z]; rfl
theorem kTempty (h : zTx G α b r t) (hi : zHi α) : zTempty G α r = some (if t = [] then 1 else 0) := by
  obtain ⟨a, e, z⟩ := h.of hi
  subst e
  show (zt G α a).map (fun t => if t = [] then 1 else 0) = _
  rw [z]; rfl
theorem kTat (h : zTx G α b r t) (hi : zHi α) (hk : k < 2 ^ 31) : zTat G α r (nI k) = t[k]? := by
  obtain ⟨a, e, z⟩ := h.of hi
  subst e
  show (if nI k < 0 then none else (zt G α a).bind (fun t => t[(nI k).toNatClampNeg]?)) = _
  rw [if_neg (by rw [nl0, pI_lt hk (by omega)]; omega), z, pI_clamp hk]; rfl
theorem mapnI (h : ∀ x, x ∈ l → x < 2 ^ 31) (h' : ∀ x, x ∈ l' → x < 2 ^ 31) : l.map nI = l'.map nI ↔ l = l' := by
  refine ⟨fun e => ?_, fun e => by rw [e]⟩
  induction l generalizing l' with
  | nil =>
    cases l' with
    | nil => rfl
    | cons y l' => cases e
  | cons x l ih =>
    cases l' with
    | nil => cases e
    | cons y l' =>
      rw [List.map_cons, List.map_cons] at e
      injection e with e1 e2
      rw [pI_inj (h x (List.mem_cons_self ..)) (h' y (List.mem_cons_self ..))] at e1
      rw [e1, ih (fun z hz => h z (List.mem_cons_of_mem _ hz)) (fun z hz => h' z (List.mem_cons_of_mem _ hz)) e2]
end XBX
