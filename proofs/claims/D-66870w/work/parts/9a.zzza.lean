/-! THE PURE LAYER: the parser: nodes are numbered, M's side. -/
/-- what comes behind node t, n below the roots -/
def pCl (ch : Nat → List Nat) (rt : List Nat) (L : Nat → Prop) : Nat → Nat → List Nat → Prop
  | 0, t, l => ∃ A, rt = A ++ t :: l
  | n + 1, t, l => ∃ p A B l', L p ∧ ch p = A ++ t :: B ∧ l = B ++ l' ∧ pCl ch rt L n p l'
def nM (s0 s : zM) (vis : List Nat) : Prop := (∀ k, k ≠ 19 → k ≠ 21 → ls s k = ls s0 k) ∧ (∀ k, k ≠ 17 → k ≠ 18 → la s k = la s0 k) ∧ (ls s 19 = nI vis.length) ∧ (∀ i, i < vis.length → la s 18 i = nI (vis.getD i 0)) ∧ (∀ i, i < vis.length → la s 17 (vis.getD i 0) = nI i)
theorem nM.I {s0 s : zM} {vis : List Nat} (h : nM s0 s vis) : ∀ k, k ≠ 19 → k ≠ 21 → ls s k = ls s0 k := by
  unfold nM at h
  exact h.1
theorem nM.B {s0 s : zM} {vis : List Nat} (h : nM s0 s vis) : ∀ k, k ≠ 17 → k ≠ 18 → la s k = la s0 k := by
  unfold nM at h
  exact h.2.1
theorem nM.td {s0 s : zM} {vis : List Nat} (h : nM s0 s vis) : ls s 19 = nI vis.length := by
  unfold nM at h
  exact h.2.2.1
theorem nM.od {s0 s : zM} {vis : List Nat} (h : nM s0 s vis) : ∀ i, i < vis.length → la s 18 i = nI (vis.getD i 0) := by
  unfold nM at h
  exact h.2.2.2.1
theorem nM.nr {s0 s : zM} {vis : List Nat} (h : nM s0 s vis) : ∀ i, i < vis.length → la s 17 (vis.getD i 0) = nI i := by
  unfold nM at h
  exact h.2.2.2.2
theorem nM.mk {s0 s : zM} {vis : List Nat} (x0 : ∀ k, k ≠ 19 → k ≠ 21 → ls s k = ls s0 k) (x1 : ∀ k, k ≠ 17 → k ≠ 18 → la s k = la s0 k) (x2 : ls s 19 = nI vis.length) (x3 : ∀ i, i < vis.length → la s 18 i = nI (vis.getD i 0)) (x4 : ∀ i, i < vis.length → la s 17 (vis.getD i 0) = nI i) : nM s0 s vis := by
  unfold nM
  exact ⟨x0, x1, x2, x3, x4⟩
section PAZZZA
variable {L L2 : Nat → Prop} {c : pC} {D D' : pD} {G : xQ} {α β : zS} {s s' s0 s1 : zM} {B a a1 b d e f l m n N N' F F' p q t to u x y k i j w wh lv S r : Nat} {g g' g2 : pG} {v v' x1 x3 : Int32} {ch : Nat → List Nat} {rt vis l1 l2 A1 B1 : List Nat} {fn : Nat → Int32}
theorem pCh_mid : ∀ {A1 : List Nat}, pCh fn (A1 ++ t :: B1) → fn t = nI (B1.headD 0)
  | [], h => by
    cases B1 with
    | nil => exact h
    | cons u l => exact h.1
  | [x], h => pCh_mid (A1 := []) (show pCh fn (t :: B1) from h.2)
  | x :: y :: A1, h => pCh_mid (A1 := y :: A1) h.2
/-- the next one -/
theorem pCl_next : ∀ {n t : Nat} {u : Nat} {l2 : List Nat}, pCl ch rt L n t (u :: l2) → ∃ m, m ≤ n ∧ pCl ch rt L m u l2
  | 0, t, u, l2, h => by
    obtain ⟨A, h⟩ := h
    exact ⟨0, Nat.le_refl _, A ++ [t], by rw [h]; simp⟩
  | n + 1, t, u, l2, h => by
    obtain ⟨p, A, B, l', h1, h2, h3, h4⟩ := h
    cases B with
    | nil =>
      rw [List.nil_append] at h3
      rw [← h3] at h4
      obtain ⟨m, m1, m2⟩ := pCl_next h4
      exact ⟨m, by omega, m2⟩
    | cons y B =>
      rw [List.cons_append, List.cons.injEq] at h3
      obtain ⟨e1, e2⟩ := h3
      subst e1
      exact ⟨n + 1, Nat.le_refl _, p, A ++ [t], B, l', h1, by rw [h2]; simp, e2, h4⟩
/-- M climbs to the next one -/
theorem M_climb (hc : ∀ p, L p → (1 ≤ p ∧ p < N) ∧ pCh (la s 15) (g.ch p) ∧ ∀ u, u ∈ g.ch p → L u ∧ la s 16 u = nI p) (hr : pCh (la s 15) rt ∧ ∀ u, u ∈ rt → L u ∧ la s 16 u = nI 0) (hN : N ≤ 8000) : ∀ {n t : Nat} {l1 : List Nat} {x3 : Int32} {Fm : Nat}, pCl g.ch rt L n t l1 → n < Fm → ∃ x3', gloop (fun (a : (Int32 × Int32 × Int32)) s => gX26_numberAll_85b a.1 a.2.1 a.2.2 s) Fm (nI 0, nI t, x3) s = some (.inl (nI 0, nI (l1.headD 0), x3'), s)
  | 0, t, l1, x3, Fm, h, hF => by
    obtain ⟨fm, rfl⟩ : ∃ x, Fm = x + 1 := ⟨Fm - 1, by omega⟩
    obtain ⟨A, h⟩ := h
    have ht : t ∈ rt := by rw [h]; simp
    obtain ⟨h1, h2⟩ := hr.2 t ht
    have b := (hc t h1).1
    have nx : la s 15 t = nI (l1.headD 0) := pCh_mid (A1 := A) (by rw [← h]; exact hr.1)
    refine ⟨x3, gl_inR ?_⟩
    have E : gX26_numberAll_117 (nI 0) (nI t) x3 s = some (.inl (nI 0, nI (l1.headD 0), x3), s) := by
      unfold gX26_numberAll_117
      rw [pgld (by omega) (by decide), gl_bs, nx]
    unfold gX26_numberAll_85b
    rw [pgld (by omega) (by decide), gl_bs]
    by_cases z : ¬ la s 15 t = 0
    · rw [if_pos z, E]
    · rw [if_neg z, pgld (by omega) (by decide), gl_bs, h2, if_pos rfl, E]
  | n + 1, t, l1, x3, Fm, h, hF => by
    obtain ⟨fm, rfl⟩ : ∃ x, Fm = x + 1 := ⟨Fm - 1, by omega⟩
    obtain ⟨p, A, B, l', h1, h2, h3, h4⟩ := h
    have ht : t ∈ g.ch p := by rw [h2]; simp
    obtain ⟨c1, c2, c3⟩ := hc p h1
    obtain ⟨t1, t2⟩ := c3 t ht
    have b := (hc t t1).1
    have nx : la s 15 t = nI (B.headD 0) := pCh_mid (A1 := A) (by rw [← h2]; exact c2)
    have n0 : ¬ nI p = nI 0 := by rw [pI_inj (by omega) (by decide)]; omega
    cases B with
    | nil =>
      rw [List.nil_append] at h3
      obtain ⟨x3', y⟩ := M_climb hc hr hN (x3 := x3 + (- 1)) (Fm := fm) h4 (by omega)
      refine ⟨x3', ?_⟩
      rw [gl_step (a' := (nI 0, nI p, x3 + (- 1))) (s' := s)]
      · rw [h3]; exact y
      · unfold gX26_numberAll_85b
        have nx' : la s 15 t = nI 0 := nx
        rw [pgld (by omega) (by decide), gl_bs, nx', if_neg (show ¬ ¬ nI 0 = 0 from fun z => z rfl), pgld (by omega) (by decide), gl_bs, t2, if_neg n0, gl_bs]
    | cons u B =>
      have hu : u ∈ g.ch p := by rw [h2]; simp
      have bu := (hc u (c3 u hu).1).1
      refine ⟨x3, gl_inR ?_⟩
      have nx' : la s 15 t = nI u := nx
      unfold gX26_numberAll_85b gX26_numberAll_117
      rw [pgld (by omega) (by decide), gl_bs, nx', if_pos (show ¬ nI u = 0 from by rw [nl0, pI_inj (by omega) (by decide)]; omega), gl_bs, h3]
      rfl
/-- M's turn: a node gets its number -/
theorem M_num9b (h : nM s0 s vis) (hk : vis.length < 8000) (ht : 1 ≤ t) (ht8 : t < 8000) (hf : la s0 13 t = nI ((g.ch t).headD 0)) (hf8 : (g.ch t).headD 0 < 8000) (hnew : t ∉ vis) : ∃ s', gX26_numberAll_9b (nI 0) (nI t) x3 s = (if (g.ch t).headD 0 = 0 then gX26_numberAll_85 (nI 0) (nI t) x3 s' else some (.inl (nI 0, nI ((g.ch t).headD 0), x3 + 1), s')) ∧ nM s0 s' (vis ++ [t]) := by
  have F : ∀ v, nM s0 (us (us (ua (ua s 17 (upd (la s 17) t (nI vis.length))) 18 (upd (la s 18) vis.length (nI t))) 19 (nI (vis.length + 1))) 21 v) (vis ++ [t]) := fun v => by
    refine nM.mk (fun k k1 k2 => ?_) (fun k k1 k2 => ?_) ?_ (fun i hi => ?_) (fun i hi => ?_)
    · rw [ls_us, if_neg k2, ls_us, if_neg k1]
      exact h.I k k1 k2
    · rw [la_us, la_us, la_ua, if_neg k2, la_ua, if_neg k1]
      exact h.B k k1 k2
    · rw [ls_us, if_neg (by decide), ls_us, if_pos rfl, List.length_append]
      rfl
    · rw [List.length_append] at hi
      have hi' : i < vis.length + 1 := hi
      show upd (la s 18) vis.length (nI t) i = _
      by_cases z : i = vis.length
      · rw [z, upd_same, List.getD_eq_getElem?_getD, List.getElem?_append_right (Nat.le_refl _), Nat.sub_self]
        rfl
      · rw [upd_other z, h.od i (by omega), List.getD_eq_getElem?_getD, List.getD_eq_getElem?_getD, List.getElem?_append_left (by omega)]
    · rw [List.length_append] at hi
      have hi' : i < vis.length + 1 := hi
      show upd (la s 17) t (nI vis.length) _ = _
      by_cases z : i = vis.length
      · rw [z, List.getD_eq_getElem?_getD, List.getElem?_append_right (Nat.le_refl _), Nat.sub_self]
        exact upd_same
      · have e : (vis ++ [t]).getD i 0 = vis.getD i 0 := by
          rw [List.getD_eq_getElem?_getD, List.getD_eq_getElem?_getD, List.getElem?_append_left (by omega)]
        have m : vis.getD i 0 ∈ vis := by
          rw [List.getD_eq_getElem?_getD, List.getElem?_eq_getElem (by omega)]
          exact List.getElem_mem _
        rw [e, upd_other (fun y => hnew (by rw [← y]; exact m))]
        exact h.nr i (by omega)
  have E : ∀ v, gX26_numberAll_60 (nI 0) (nI t) x3 v (us (ua (ua s 17 (upd (la s 17) t (nI vis.length))) 18 (upd (la s 18) vis.length (nI t))) 19 (nI (vis.length + 1))) = (if (g.ch t).headD 0 = 0 then gX26_numberAll_85 (nI 0) (nI t) x3 (us (us (ua (ua s 17 (upd (la s 17) t (nI vis.length))) 18 (upd (la s 18) vis.length (nI t))) 19 (nI (vis.length + 1))) 21 v) else some (.inl (nI 0, nI ((g.ch t).headD 0), x3 + 1), us (us (ua (ua s 17 (upd (la s 17) t (nI vis.length))) 18 (upd (la s 18) vis.length (nI t))) 19 (nI (vis.length + 1))) 21 v)) := fun v => by
    have e13 : la (us (us (ua (ua s 17 (upd (la s 17) t (nI vis.length))) 18 (upd (la s 18) vis.length (nI t))) 19 (nI (vis.length + 1))) 21 v) 13 t = nI ((g.ch t).headD 0) := by
      rw [(F v).B 13 (by decide) (by decide)]; exact hf
    unfold gX26_numberAll_60
    rw [gl_x, pgld ht8 (by decide), gl_bs, e13]
    by_cases z : (g.ch t).headD 0 = 0
    · rw [if_pos (by rw [z]; decide), if_pos z]
    · rw [if_neg (by rw [nl0, pI_le (by omega) (by decide)]; omega), if_neg z, gl_bs]
  have M1 : gX26_numberAll_9b (nI 0) (nI t) x3 s = if x3 ≤ ls (us (ua (ua s 17 (upd (la s 17) t (nI vis.length))) 18 (upd (la s 18) vis.length (nI t))) 19 (nI (vis.length + 1))) 21 then gX26_numberAll_60 (nI 0) (nI t) x3 (ls (us (ua (ua s 17 (upd (la s 17) t (nI vis.length))) 18 (upd (la s 18) vis.length (nI t))) 19 (nI (vis.length + 1))) 21) (us (ua (ua s 17 (upd (la s 17) t (nI vis.length))) 18 (upd (la s 18) vis.length (nI t))) 19 (nI (vis.length + 1))) else gX26_numberAll_60 (nI 0) (nI t) x3 x3 (us (ua (ua s 17 (upd (la s 17) t (nI vis.length))) 18 (upd (la s 18) vis.length (nI t))) 19 (nI (vis.length + 1))) := by
    unfold gX26_numberAll_9b
    rw [if_neg (by rw [nl0, pI_le (by omega) (by decide)]; omega), gl_x, h.td, pgst ht8 (by decide), gl_bs, gl_x, show ls (ua s 17 (upd (la s 17) t (nI vis.length))) 19 = nI vis.length from h.td, pgst hk (by decide), gl_bs, gl_x, show ls (ua (ua s 17 (upd (la s 17) t (nI vis.length))) 18 (upd (la (ua s 17 (upd (la s 17) t (nI vis.length))) 18) vis.length (nI t))) 19 = nI vis.length from h.td, gl_x, pI_succ, gl_x]
    rfl
  rw [M1]
  by_cases z : x3 ≤ ls (us (ua (ua s 17 (upd (la s 17) t (nI vis.length))) 18 (upd (la s 18) vis.length (nI t))) 19 (nI (vis.length + 1))) 21
  · rw [if_pos z]
    exact ⟨_, E _, F _⟩
  · rw [if_neg z]
    exact ⟨_, E _, F _⟩
end PAZZZA
