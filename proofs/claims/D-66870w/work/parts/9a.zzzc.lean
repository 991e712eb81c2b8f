/-! THE PURE LAYER: the parser: nodes are numbered alike. -/
/-- what has been numbered and what waits -/
def nO (L : Nat → Prop) (rt : List Nat) (ch : Nat → List Nat) (vis stk : List Nat) : Prop := ((vis ++ stk).Nodup) ∧ (∀ u, u ∈ vis ++ stk → L u ∧ (u ∈ rt ∨ ∃ p, p ∈ vis ∧ u ∈ ch p)) ∧ (∀ p, p ∈ vis → ∀ u, u ∈ ch p → u ∈ vis ++ stk) ∧ (∀ u, u ∈ rt → u ∈ vis ++ stk)
theorem nO.nd {L : Nat → Prop} {rt : List Nat} {ch : Nat → List Nat} {vis stk : List Nat} (h : nO L rt ch vis stk) : (vis ++ stk).Nodup := by
  unfold nO at h
  exact h.1
theorem nO.up {L : Nat → Prop} {rt : List Nat} {ch : Nat → List Nat} {vis stk : List Nat} (h : nO L rt ch vis stk) : ∀ u, u ∈ vis ++ stk → L u ∧ (u ∈ rt ∨ ∃ p, p ∈ vis ∧ u ∈ ch p) := by
  unfold nO at h
  exact h.2.1
theorem nO.dn {L : Nat → Prop} {rt : List Nat} {ch : Nat → List Nat} {vis stk : List Nat} (h : nO L rt ch vis stk) : ∀ p, p ∈ vis → ∀ u, u ∈ ch p → u ∈ vis ++ stk := by
  unfold nO at h
  exact h.2.2.1
theorem nO.rt {L : Nat → Prop} {rt : List Nat} {ch : Nat → List Nat} {vis stk : List Nat} (h : nO L rt ch vis stk) : ∀ u, u ∈ rt → u ∈ vis ++ stk := by
  unfold nO at h
  exact h.2.2.2
theorem nO.mk {L : Nat → Prop} {rt : List Nat} {ch : Nat → List Nat} {vis stk : List Nat} (x0 : (vis ++ stk).Nodup) (x1 : ∀ u, u ∈ vis ++ stk → L u ∧ (u ∈ rt ∨ ∃ p, p ∈ vis ∧ u ∈ ch p)) (x2 : ∀ p, p ∈ vis → ∀ u, u ∈ ch p → u ∈ vis ++ stk) (x3 : ∀ u, u ∈ rt → u ∈ vis ++ stk) : nO L rt ch vis stk := by
  unfold nO
  exact ⟨x0, x1, x2, x3⟩
section PAZZZC
variable {L L2 : Nat → Prop} {c : pC} {D D' : pD} {G : xQ} {α β γ α0 : zS} {s s' s0 s1 : zM} {B a a1 b d e f l m n N N' F F' p q t to u x y k i j w wh lv S r al W : Nat} {g g' g2 : pG} {v v' x1 x3 : Int32} {rt vis cs stk l1 l2 A1 B1 : List Nat} {fn : Nat → Nat} {r0 : Option Nat}
theorem nO.len (h : nO L rt g.ch vis stk) (hW : gW L N B g α s) (N1 : 1 ≤ N) : vis.length + stk.length + 1 ≤ N := by
  have h1 : (0 :: (vis ++ stk)).Nodup := by
    rw [List.nodup_cons]
    exact ⟨fun z => by have := (hW.bd _ (h.up 0 z).1).1; omega, h.nd⟩
  have h2 : ∀ x, x ∈ (0 :: (vis ++ stk)) → x < N := fun x hx => by
    rcases List.mem_cons.mp hx with z | z
    · omega
    · exact (hW.bd _ (h.up x z).1).2
  have h3 := nodup_len h1 h2
  rw [List.length_cons, List.length_append] at h3
  exact h3
/-- one node more has its number -/
theorem nO.step (h : nO L rt g.ch vis (t :: stk)) (hW : gW L N B g α s) (hN : N ≤ 8000) (hr : ∀ u, u ∈ rt → la s 16 u = nI 0) : nO L rt g.ch (vis ++ [t]) (g.ch t ++ stk) ∧ t ∉ vis := by
  have nd := h.nd
  have tv : t ∉ vis := fun z => (List.nodup_append.mp nd).2.2 t z t (by simp) rfl
  have lt : L t := (h.up t (by simp)).1
  have o := hW.nd t lt
  have bt := hW.bd t lt
  have fresh : ∀ u, u ∈ g.ch t → u ∉ vis ++ (t :: stk) := fun u hu hm => by
    have e1 := (o.mem u hu).2.1
    rcases (h.up u hm).2 with z | ⟨p, z1, z2⟩
    · rw [hr u z, pI_inj (by decide) (by omega)] at e1
      omega
    · have lp := (h.up p (by simp [z1])).1
      have bp := hW.bd p lp
      have e2 := ((hW.nd p lp).mem u z2).2.1
      rw [e1, pI_inj (by omega) (by omega)] at e2
      exact tv (e2 ▸ z1)
  refine ⟨nO.mk ?_ (fun u hu => ?_) (fun p hp u hu => ?_) (fun u hu => ?_), tv⟩
  · have P : ((vis ++ [t]) ++ (g.ch t ++ stk)).Perm ((vis ++ (t :: stk)) ++ g.ch t) := by
      have : (vis ++ (t :: stk)) ++ g.ch t = (vis ++ [t]) ++ (stk ++ g.ch t) := by simp
      rw [this]
      exact List.Perm.append_left _ List.perm_append_comm
    rw [P.nodup_iff, List.nodup_append]
    exact ⟨nd, o.nd, fun x hx y hy z => fresh y hy (z ▸ hx)⟩
  · have hu' : u ∈ vis ∨ u = t ∨ u ∈ g.ch t ∨ u ∈ stk := by
      simp only [List.mem_append, List.mem_cons, List.not_mem_nil, or_false] at hu
      rcases hu with (z | z) | (z | z)
      · exact .inl z
      · exact .inr (.inl z)
      · exact .inr (.inr (.inl z))
      · exact .inr (.inr (.inr z))
    have old : u ∈ vis ++ (t :: stk) → L u ∧ (u ∈ rt ∨ ∃ p, p ∈ vis ++ [t] ∧ u ∈ g.ch p) := fun z => by
      obtain ⟨y1, y2⟩ := h.up u z
      refine ⟨y1, y2.imp id fun ⟨p, y3, y4⟩ => ⟨p, by simp [y3], y4⟩⟩
    rcases hu' with z | z | z | z
    · exact old (by simp [z])
    · exact old (by simp [z])
    · exact ⟨(o.mem u z).1, .inr ⟨t, by simp, z⟩⟩
    · exact old (by simp [z])
  · rcases List.mem_append.mp hp with z | z
    · have := h.dn p z u hu
      simp only [List.mem_append, List.mem_cons, List.not_mem_nil, or_false] at this ⊢
      rcases this with y | y | y
      · exact .inl (.inl y)
      · exact .inl (.inr y)
      · exact .inr (.inr y)
    · rw [List.mem_singleton] at z
      rw [z] at hu
      simp only [List.mem_append, List.mem_cons, List.not_mem_nil, or_false]
      exact .inr (.inl hu)
  · have := h.rt u hu
    simp only [List.mem_append, List.mem_cons, List.not_mem_nil, or_false] at this ⊢
    rcases this with y | y | y
    · exact .inl (.inl y)
    · exact .inl (.inr y)
    · exact .inr (.inr y)
theorem numJ (hW : gW L N B g α0 s0) (N1 : 1 ≤ N) (hN : N ≤ 8000) (hr : pCh (la s0 15) rt ∧ ∀ u, u ∈ rt → L u ∧ zA α0 44 6 (g.oa u) = none ∧ la s0 16 u = nI 0) (kp : zkd α0 p = 41) (pz : p < zn α0) (pal : zA α0 40 14 p = some al) (kal : zkd α0 al = 3) (alB : al ≤ B) (m : Nat) : ∀ {vis stk : List Nat} {n : Nat} {α : zS} {s : zM} {x3 : Int32} {Fx Fm : Nat}, N ≤ m + vis.length → m < Fx → m < Fm → nX g al α0 α W vis stk → nM s0 s vis → nO L rt g.ch vis stk → (∀ t l, stk = t :: l → pCl g.ch rt L n t l) → n ≤ vis.length → ∃ β s', zloop (fun (a : ((Option Nat) × (Option Nat))) σ => hX4_number_44b G a.1 a.2 σ) Fx (some p, some W) α = some ((), β) ∧ gloop (fun (a : (Int32 × Int32 × Int32)) s => gX26_numberAll_9b a.1 a.2.1 a.2.2 s) Fm (nI 0, nI (stk.headD 0), x3) s = some ((), s') ∧ nX g al α0 β W (vis ++ preo g.ch m stk) [] ∧ nM s0 s' (vis ++ preo g.ch m stk) ∧ nO L rt g.ch (vis ++ preo g.ch m stk) [] := by
  induction m with
  | zero =>
    intro vis stk n α s x3 Fx Fm hm _ _ _ _ hO _ _
    have := hO.len hW N1
    omega
  | succ m ih =>
    intro vis stk n α s x3 Fx Fm hm hFx hFm hX hM hO hC hn
    obtain ⟨fx, rfl⟩ : ∃ x, Fx = x + 1 := ⟨Fx - 1, by omega⟩
    obtain ⟨fm, rfl⟩ : ∃ x, Fm = x + 1 := ⟨Fm - 1, by omega⟩
    have len := hO.len hW N1
    cases stk with
    | nil =>
      have pe : preo g.ch (m + 1) [] = [] := rfl
      refine ⟨α, s, zloop_in ?_, gl_inR ?_, by rw [pe, List.append_nil]; exact hX, by rw [pe, List.append_nil]; exact hM, by rw [pe, List.append_nil]; exact hO⟩
      · unfold hX4_number_44b
        have em : zLempty α (some W) = some 1 := by
          show (if zkd α W = 3 then some (if zL α W = [] then (1 : Int32) else 0) else none) = _
          rw [if_pos hX.kW, if_pos (by rw [hX.lW]; rfl)]
        rw [em, gl_bs, if_pos (show ¬ (1 : Int32) = 0 from by decide)]
      · unfold gX26_numberAll_9b
        rw [if_pos (show nI (([] : List Nat).headD 0) ≤ 0 from by decide)]
    | cons t l =>
      obtain ⟨hO', tv⟩ := hO.step hW hN (fun u hu => (hr.2 u hu).2.2)
      have lt : L t := (hO.up t (by simp)).1
      have o := hW.nd t lt
      have bt := hW.bd t lt
      have len' := hO'.len hW N1
      rw [List.length_append, List.length_append] at len'
      simp only [List.length_cons, List.length_nil] at len len'
      have vm : ∀ i, i < vis.length → vis.getD i 0 ∈ vis := fun i hi => by
        rw [List.getD_eq_getElem?_getD, List.getElem?_eq_getElem hi]
        exact List.getElem_mem _
      have lo := o.lo
      have hi := o.hi
      obtain ⟨β1, x1, hX1⟩ := X_num44b (G := G) hX (by omega) (by omega) kp pz pal o hi (fun u hu => by
        have ou := hW.nd u (o.mem u hu).1
        exact ⟨ou.kn, by have := ou.hi; omega⟩) (by
        rcases (hO.up t (by simp)).2 with z | ⟨y, z1, z2⟩
        · exact .inl (hr.2 t z).2.1
        · have ly := (hO.up y (by simp [z1])).1
          have oy := hW.nd y ly
          exact .inr ⟨g.oa y, (oy.mem t z2).2.2.1, oy.kn, by have := oy.hi; omega⟩) ⟨by omega, by omega⟩ kal (fun i hi z => tv (by
          have lv := (hO.up _ (List.mem_append_left _ (vm i hi))).1
          rw [← hW.inj _ _ lv lt z]
          exact vm i hi)) (fun i hi => by
          have ov := hW.nd _ (hO.up _ (List.mem_append_left _ (vm i hi))).1
          have := ov.lo
          have := ov.hi
          omega)
      have h8 : (g.ch t).headD 0 < 8000 ∧ (g.ch t ≠ [] → 1 ≤ (g.ch t).headD 0) := by
        cases hc : g.ch t with
        | nil => exact ⟨by decide, fun z => absurd rfl z⟩
        | cons u l =>
          have := hW.bd u (o.mem u (by rw [hc]; simp)).1
          exact ⟨by show u < 8000; omega, fun _ => by show 1 ≤ u; omega⟩
      obtain ⟨s1, m1, hM1⟩ := M_num9b (x3 := x3) hM (by omega) bt.1 (by omega) o.hd h8.1 tv
      have pe : preo g.ch (m + 1) (t :: l) = t :: preo g.ch m (g.ch t ++ l) := rfl
      have ve : vis ++ preo g.ch (m + 1) (t :: l) = (vis ++ [t]) ++ preo g.ch m (g.ch t ++ l) := by rw [pe, List.append_assoc]; rfl
      have go : ∀ n' x3', (∀ u l', g.ch t ++ l = u :: l' → pCl g.ch rt L n' u l') → n' ≤ (vis ++ [t]).length → gX26_numberAll_9b (nI 0) (nI t) x3 s = some (.inl (nI 0, nI ((g.ch t ++ l).headD 0), x3'), s1) → ∃ β s', zloop (fun (a : ((Option Nat) × (Option Nat))) σ => hX4_number_44b G a.1 a.2 σ) (fx + 1) (some p, some W) α = some ((), β) ∧ gloop (fun (a : (Int32 × Int32 × Int32)) s => gX26_numberAll_9b a.1 a.2.1 a.2.2 s) (fm + 1) (nI 0, nI ((t :: l).headD 0), x3) s = some ((), s') ∧ nX g al α0 β W (vis ++ preo g.ch (m + 1) (t :: l)) [] ∧ nM s0 s' (vis ++ preo g.ch (m + 1) (t :: l)) ∧ nO L rt g.ch (vis ++ preo g.ch (m + 1) (t :: l)) [] := fun n' x3' c1 c2 c3 => by
        obtain ⟨β, s', y1, y2, y3, y4, y5⟩ := ih (x3 := x3') (Fx := fx) (Fm := fm) (by rw [List.length_append]; simp only [List.length_cons, List.length_nil]; omega) (by omega) (by omega) hX1 hM1 hO' c1 c2
        refine ⟨β, s', ?_, ?_, by rw [ve]; exact y3, by rw [ve]; exact y4, by rw [ve]; exact y5⟩
        · rw [zloop_step x1]; exact y1
        · rw [gl_step c3]; exact y2
      by_cases hc : g.ch t = []
      · rw [hc] at m1
        rw [if_pos (show ([] : List Nat).headD 0 = 0 from rfl)] at m1
        obtain ⟨x3', y⟩ := M_climb (g := g) (rt := rt) (L := L) (N := N) (s := s1) (n := n) (t := t) (l1 := l) (x3 := x3) (Fm := xLim) (fun p hp => by
          have op := hW.nd p hp
          exact ⟨hW.bd p hp, by rw [hM1.B 15 (by decide) (by decide)]; exact op.nx, fun u hu => ⟨(op.mem u hu).1, by rw [hM1.B 16 (by decide) (by decide)]; exact (op.mem u hu).2.1⟩⟩) ⟨by rw [hM1.B 15 (by decide) (by decide)]; exact hr.1, fun u hu => ⟨(hr.2 u hu).1, by rw [hM1.B 16 (by decide) (by decide)]; exact (hr.2 u hu).2.2⟩⟩ hN (hC t l rfl) (zlim (by omega))
        have m2 : gX26_numberAll_9b (nI 0) (nI t) x3 s = some (.inl (nI 0, nI ((g.ch t ++ l).headD 0), x3'), s1) := by
          rw [m1, hc]
          exact y
        cases l with
        | nil => exact go n x3' (fun u l' z => by rw [hc] at z; exact absurd z (by simp)) (by rw [List.length_append]; omega) m2
        | cons u l2 =>
          obtain ⟨n', n1, n2⟩ := pCl_next (hC t (u :: l2) rfl)
          refine go n' x3' (fun u' l' z => ?_) (by rw [List.length_append]; omega) m2
          rw [hc, List.nil_append, List.cons.injEq] at z
          rw [← z.1, ← z.2]
          exact n2
      · rw [if_neg (by have := h8.2 hc; omega)] at m1
        have hh : (g.ch t ++ l).headD 0 = (g.ch t).headD 0 := by
          cases h : g.ch t with
          | nil => exact absurd h hc
          | cons u l => rfl
        refine go (n + 1) (x3 + 1) (fun u l' z => ?_) (by rw [List.length_append]; simp only [List.length_cons, List.length_nil]; omega) (by rw [hh]; exact m1)
        cases h : g.ch t with
        | nil => exact absurd h hc
        | cons u2 l2 =>
          rw [h, List.cons_append, List.cons.injEq] at z
          rw [← z.1, ← z.2]
          exact ⟨t, [], l2, l, lt, by rw [h]; rfl, rfl, hC t l rfl⟩
end PAZZZC
