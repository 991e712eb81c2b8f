/-! THE PURE LAYER: the parser: X's side alone: what a clause keeps. -/
/-- only the parser's own fields have changed -/
def xqN (c : pC) (α β : zS) : Prop := (∀ x, x ≠ c.p → β.2 x = α.2 x) ∧ zn β = zn α
/-- between clauses; unit u is open, l lie about it -/
def xBN (c : pC) (M U : Nat → Prop) (z : Option Nat) (lu lr u : Nat) (l : List Nat) (x : Nat) (α : zS) : Prop := (xTs c M U z lu lr α) ∧ (xOp α U (u :: l)) ∧ (xCuN α u x) ∧ (z = none ∧ 1 ≤ x ∨ x = 0 ∧ z = zA α 43 1 u)
theorem xBN.ts {c : pC} {M U : Nat → Prop} {z : Option Nat} {lu lr u : Nat} {l : List Nat} {x : Nat} {α : zS} (h : xBN c M U z lu lr u l x α) : xTs c M U z lu lr α := by
  unfold xBN at h
  exact h.1
theorem xBN.op {c : pC} {M U : Nat → Prop} {z : Option Nat} {lu lr u : Nat} {l : List Nat} {x : Nat} {α : zS} (h : xBN c M U z lu lr u l x α) : xOp α U (u :: l) := by
  unfold xBN at h
  exact h.2.1
theorem xBN.cu {c : pC} {M U : Nat → Prop} {z : Option Nat} {lu lr u : Nat} {l : List Nat} {x : Nat} {α : zS} (h : xBN c M U z lu lr u l x α) : xCuN α u x := by
  unfold xBN at h
  exact h.2.2.1
theorem xBN.z0 {c : pC} {M U : Nat → Prop} {z : Option Nat} {lu lr u : Nat} {l : List Nat} {x : Nat} {α : zS} (h : xBN c M U z lu lr u l x α) : z = none ∧ 1 ≤ x ∨ x = 0 ∧ z = zA α 43 1 u := by
  unfold xBN at h
  exact h.2.2.2
theorem xBN.mk {c : pC} {M U : Nat → Prop} {z : Option Nat} {lu lr u : Nat} {l : List Nat} {x : Nat} {α : zS} (x0 : xTs c M U z lu lr α) (x1 : xOp α U (u :: l)) (x2 : xCuN α u x) (x3 : z = none ∧ 1 ≤ x ∨ x = 0 ∧ z = zA α 43 1 u) : xBN c M U z lu lr u l x α := by
  unfold xBN
  exact ⟨x0, x1, x2, x3⟩
/-- the clause is done -/
def xWN (c : pC) (U : Nat → Prop) (lu lr u : Nat) (l : List Nat) (β : zS) : Prop := ∃ a M z x, xp c a β ∧ xBN c M U z lu lr u l x β
/-- what a unit's field may hold -/
def uG (k : Nat) (e : Int32 × Int32) : Prop := match k with
  | 4 => grK 3 3 e
  | 5 => grK 7 7 e
  | 6 => grK 8 8 e
  | 7 => grK 9 11 e
  | 8 => grK 20 20 e
  | 9 => grK 22 22 e
  | 10 => grK 23 23 e
  | 11 => grK 24 24 e
  | _ => True
section PAZZZZC
variable {ρ σ τ : Type} {c : pC} {G : xQ} {α β γ γ' δ ε α0 : zS} {a a' b k w q r t u n x x' T T' E f i j o lu lr : Nat} {v v' kv nm pr : Int32} {e e' : Int32 × Int32} {L L' op l : List Nat} {M M' N S S' U U' : Nat → Prop} {m K K' : List (Int32 × Int32)} {P : Int32 × Int32 → Prop} {p z : Option Nat}
theorem xqN.rf : xqN c α α := ⟨fun _ _ => rfl, rfl⟩
theorem xqN.tr (h : xqN c α β) (h' : xqN c β γ) : xqN c α γ := ⟨fun x hx => (h'.1 x hx).trans (h.1 x hx), h'.2.trans h.2⟩
theorem Q_need (h : xp c a α) (hw : w < 100000) : wx (hX4_need G (some c.p) (nI w) α) (fun _ β => xp c (a + 1) β ∧ xqN c α β ∧ wW c a w = true) := w_need h hw fun e => ⟨h.adv (wW_i e).1, ⟨fun x hx => zwI_ne hx, rfl⟩, e⟩
theorem Q_take (h : xp c a α) (hk : k < 6) : wx (hX4_take G (some c.p) (nI k) α) (fun v β => xp c (a + 1) β ∧ xqN c α β ∧ wK c a k = true ∧ v = nI (c.vs a)) := w_take h hk fun e => ⟨h.adv (wK_i e).1, ⟨fun x hx => zwI_ne hx, rfl⟩, e, rfl⟩
theorem Q_period (h : xp c a α) : wx (hX4_period G (some c.p) α) (fun _ β => xp c (a + 1) β ∧ xqN c α β) := w_period h fun e => ⟨h.adv (wK_i e).1, ⟨fun x hx => zwI_ne hx, rfl⟩⟩
theorem Q_meets (h : xp c a α) (hw : w < 100000) : wp (hX4_meets G (some c.p) (nI w) α) (fun r β => ∃ a', xp c a' β ∧ xqN c α β ∧ (r = 0 → a' = a ∧ wW c a w = false) ∧ (r ≠ 0 → a' = a + 1 ∧ wW c a w = true)) := by
  rw [w_meets h hw]
  rcases e : wW c a w with _ | _
  · rw [if_neg (by decide)]
    exact wp_s ⟨a, h, xqN.rf, fun _ => ⟨rfl, rfl⟩, fun y => absurd rfl y⟩
  · rw [if_pos rfl]
    exact wp_s ⟨a + 1, h.adv (wW_i e).1, ⟨fun x hx => zwI_ne hx, rfl⟩, fun y => absurd y (by decide), fun _ => ⟨rfl, rfl⟩⟩
theorem Q_second (h : xp c a α) (ha : a < c.n) (hw : w < 100000) : wx (hX4_second G (some c.p) (nI w) α) (fun _ β => ∃ a', xp c a' β ∧ xqN c α β) := by
  unfold hX4_second
  rw [kfI h.kp, gl_bs, h.ax, kpI h.kp, gl_bs, show nI a + 1 = nI (a + 1) from pI_succ a, show zwI α 40 3 c.p (nI (a + 1)) = xaS c α a from rfl]
  have h1 := h.adv ha
  refine wx_zc (wx_im (Q_need h1 hw) fun _ γ z => ?_)
  obtain ⟨h2, q2, _⟩ := z
  refine wx_zc (wx_im (Q_period h2) fun _ δ z => wx_l ?_)
  obtain ⟨h3, q3⟩ := z
  exact ⟨_, h3, (xqN.tr ⟨fun x hx => zwI_ne hx, rfl⟩ q2).tr q3⟩
theorem xUn.wA (h : xUn c M lu lr α u) (h1 : k ≠ 1) (h12 : k ≠ 12) (h13 : k ≠ 13) (hp : ∀ q, p = some q → M q ∧ uG k (xkv α q)) : xUn c M lu lr (zwA α 43 k u p) u := by
  obtain ⟨r, r1, r2, r3⟩ := h.f1
  obtain ⟨l, l1, l2, l3, l4, l5⟩ := h.fd
  have ke : ∀ x, xkv (zwA α 43 k u p) x = xkv α x := fun x => by
    unfold xkv
    rw [zI_zwA, zI_zwA]
  have F : ∀ j lo hi, (∀ e, uG j e → grK lo hi e) → uF α M u j lo hi → uF (zwA α 43 k u p) M u j lo hi := fun j lo hi g f q hq => by
    rw [ke]
    by_cases y : j = k
    · rw [zA_zwA, if_pos ⟨rfl, y, rfl⟩] at hq
      have := hp q hq
      exact ⟨this.1, g _ (by rw [y]; exact this.2)⟩
    · rw [zA_zwA, if_neg (fun z => y z.2.1)] at hq
      exact f q hq
  have oI : ∀ q, uI c α M q → uI c (zwA α 43 k u p) M q := fun q hq => ⟨hq.1, by rw [ke]; exact hq.2⟩
  have lz : zL (zwA α 43 k u p) l = zL α l := zL_zwA ..
  exact xUn.mk (by rw [zkd_zwA]; exact h.ku) h.hi ⟨r, by rw [zA_zwA, if_neg (fun z => h1 z.2.1.symm)]; exact r1, r2, by rw [ke]; exact r3⟩ (F 4 3 3 (fun _ h => h) h.f4) (F 5 7 7 (fun _ h => h) h.f5) (F 6 8 8 (fun _ h => h) h.f6) (F 7 9 11 (fun _ h => h) h.f7) (F 8 20 20 (fun _ h => h) h.f8) (F 9 22 22 (fun _ h => h) h.f9) (F 10 23 23 (fun _ h => h) h.fa) (F 11 24 24 (fun _ h => h) h.fb) (fun q hq => oI q (h.fc q (by rw [zA_zwA, if_neg (fun z => h12 z.2.1.symm)] at hq; exact hq))) ⟨l, by rw [zA_zwA, if_neg (fun z => h13 z.2.1.symm)]; exact l1, ⟨by rw [zkd_zwA]; exact l2.1, l2.2⟩, l3, l4, fun r hr => oI r (l5 r (by rw [← lz]; exact hr))⟩
theorem xUn.wI (h : xUn c M lu lr α u) : xUn c M lu lr (zwI α 43 k u v) u := by
  obtain ⟨r, r1, r2, r3⟩ := h.f1
  obtain ⟨l, l1, l2, l3, l4, l5⟩ := h.fd
  have ke : ∀ x, xkv (zwI α 43 k u v) x = xkv α x := fun x => by
    unfold xkv
    rw [zI_zwI, if_neg (fun z => absurd z.1 (by decide)), zI_zwI, if_neg (fun z => absurd z.1 (by decide))]
  have F : ∀ j lo hi, uF α M u j lo hi → uF (zwI α 43 k u v) M u j lo hi := fun j lo hi f q hq => by
    rw [ke]
    rw [zA_zwI] at hq
    exact f q hq
  have oI : ∀ q, uI c α M q → uI c (zwI α 43 k u v) M q := fun q hq => ⟨hq.1, by rw [ke]; exact hq.2⟩
  have lz : zL (zwI α 43 k u v) l = zL α l := zL_zwI ..
  exact xUn.mk (by rw [zkd_zwI]; exact h.ku) h.hi ⟨r, by rw [zA_zwI]; exact r1, r2, by rw [ke]; exact r3⟩ (F _ _ _ h.f4) (F _ _ _ h.f5) (F _ _ _ h.f6) (F _ _ _ h.f7) (F _ _ _ h.f8) (F _ _ _ h.f9) (F _ _ _ h.fa) (F _ _ _ h.fb) (fun q hq => oI q (h.fc q (by rw [zA_zwI] at hq; exact hq))) ⟨l, by rw [zA_zwI]; exact l1, ⟨by rw [zkd_zwI]; exact l2.1, l2.2⟩, l3, l4, fun r hr => oI r (l5 r (by rw [← lz]; exact hr))⟩
/-- the innermost unit's state ahead of its change -/
theorem xCuN.fr (h : xCuN α u x) (hu : β.2 u = α.2 u) (hb : ∀ t e L, xnB α t e L → xnB β t e L ∧ L.map (xkv β) = L.map (xkv α)) : xCuN β u x := by
  obtain ⟨r, e, L, i, j, k, n, r1, r2, r3, r4⟩ := h.rt
  obtain ⟨b1, b2⟩ := hb _ _ _ r2
  refine xCuN.mk (by rw [zI_eq hu]; exact h.st) h.x ⟨r, e, L, i, j, k, n, by rw [zA_eq hu]; exact r1, b1, by rw [b2]; exact r3, r4⟩ (fun h8 => ?_)
  obtain ⟨r', e', L', w1, w2, w3⟩ := h.p8 h8
  obtain ⟨b3, b4⟩ := hb _ _ _ w2
  exact ⟨r', e', L', by rw [zA_eq hu]; exact w1, b3, by rw [b4]; exact w3⟩
theorem xBN.un (B : xBN c M U z lu lr u l x α) : xUn c M lu lr α u := B.ts.un u B.op.1
/-- the parser's own fields -/
theorem xBN.pw (B : xBN c M U z lu lr u l x α) (e : xqN c α β) (kp : zkd α c.p = 41) : xBN c M U z lu lr u l x β := by
  have hU : ∀ v, U v → β.2 v = α.2 v := fun v hv => e.1 v (fun y => by have := (B.ts.un v hv).ku; rw [y, kp] at this; omega)
  have hu := hU u B.op.1
  refine xBN.mk (B.ts.pw e.1 e.2 kp) (B.op.fr (fun v hv => zA_eq (hU v (B.op.mem v hv)) 43 0) (fun v hv => zI_eq (hU v (B.op.mem v (List.mem_of_mem_tail hv))) 43 3)) (B.cu.fr hu fun t e' L b => b.pw e.1 e.2 kp) ?_
  rw [zA_eq hu]; exact B.z0
/-- a node is laid below an older one -/
theorem T_add (S : xTs c M U none lu lr γ) (kp : zkd γ c.p = 41) (d : xnD c c.p γ a q β) (ht : M t) (b : xnB γ t e L) (nc : ¬ grCo e) (g : grS c e (L.map (xkv γ) ++ [xkv β q]) ∨ grK 1 2 e ∧ grU (L.map (xkv γ) ++ [xkv β q])) : wp (hX43_add G (some t) (some q) β) (fun r ε => r = some q ∧ xp c a ε ∧ ∃ M' : Nat → Prop, xTs c M' U none lu lr ε ∧ M' q ∧ (∀ x, M x → M' x) ∧ xkv ε q = xkv β q ∧ (∀ v, U v → ε.2 v = γ.2 v) ∧ xnB ε t e (L ++ [q]) ∧ (L ++ [q]).map (xkv ε) = L.map (xkv γ) ++ [xkv β q] ∧ (∀ t' e' L', xnB γ t' e' L' → t' ≠ t → xnB ε t' e' L' ∧ L'.map (xkv ε) = L'.map (xkv γ)) ∧ (∀ l, uL γ M l → ε.2 l = γ.2 l) ∧ zn γ ≤ zn ε ∧ (∀ x, M' x → M x ∨ zn γ ≤ x) ∧ ∀ t' e' L', xnB β t' e' L' → t' ≠ t → xnB ε t' e' L' ∧ L'.map (xkv ε) = L'.map (xkv β)) := by
  refine wp_im (S.hp.add d kp ht b nc g).2 fun r ε z => ?_
  obtain ⟨z1, N, n1, n2, n3, n4, n5, n6, n7, n8, n9, n10, n11, n12, n13⟩ := z
  have hU : ∀ v, U v → ε.2 v = γ.2 v := fun v hv => by
    have h1 := S.un v hv
    have h2 := h1.ku
    have h3 := h1.hi
    exact n9 v h3 (fun y => by rw [y, kp] at h2; omega) (fun y => by have := (S.hp.md ht).2.2; rw [← y, h2] at this; omega)
  have hl : ∀ l, uL γ M l → ε.2 l = γ.2 l := fun l hl => n9 l hl.2.1 (fun y => by have := hl.1; rw [y, kp] at this; omega) (fun y => hl.2.2 t ht y.symm)
  have hM' : ∀ x, M x ∨ N x → M x ∨ zn γ ≤ x := fun x hx => hx.imp id (n4 x)
  exact ⟨z1, n2, fun x => M x ∨ N x, S.gr n8 hU (fun _ h => .inl h) hM' n10 hl n3 (fun x hx h1 h2 => by
    rcases hx with y | y
    · have := S.hp.md y
      omega
    · exact absurd h2 (n12 x y)) (fun r hr => absurd hr (by simp)), .inr n1, fun _ h => .inl h, n7, hU, n5, n6, n11, hl, n8, hM', n13⟩
/-- a unit's field changes -/
theorem T_wA (S : xTs c M U z lu lr α) (hu : U u) (h1 : k ≠ 1) (h12 : k ≠ 12) (h13 : k ≠ 13) (hp : ∀ q, p = some q → M q ∧ uG k (xkv α q)) : zpA α (some u) 43 k p = some (zwA α 43 k u p) ∧ xTs c M U z lu lr (zwA α 43 k u p) ∧ (∀ x, x ≠ u → (zwA α 43 k u p).2 x = α.2 x) := ⟨kpA (S.un u hu).ku, S.uw (fun x hx => zwA_ne hx) rfl (S.un u hu).ku ((S.un u hu).wA h1 h12 h13 hp), fun x hx => zwA_ne hx⟩
theorem T_wI (S : xTs c M U z lu lr α) (hu : U u) : zpI α (some u) 43 k v = some (zwI α 43 k u v) ∧ xTs c M U z lu lr (zwI α 43 k u v) ∧ (∀ x, x ≠ u → (zwI α 43 k u v).2 x = α.2 x) := ⟨kpI (S.un u hu).ku, S.uw (fun x hx => zwI_ne hx) rfl (S.un u hu).ku (S.un u hu).wI, fun x hx => zwI_ne hx⟩
theorem xp.uw (h : xp c a α) (fr : ∀ x, x ≠ u → β.2 x = α.2 x) (hn : zn β = zn α) (ku : zkd α u = 44) : xp c a β := by
  have kp := h.x.kp
  have kk := h.x.kk
  have kv := h.x.kv
  exact h.fr (by omega) (fr _ (fun z => by rw [z, ku] at kp; omega)) (fr _ (fun z => by rw [z, ku] at kk; omega)) (fr _ (fun z => by rw [z, ku] at kv; omega))
theorem w_state (C : xCuN α u x) (h : xp c a α) (hu : zA α 40 11 c.p = some u) (ku : zkd α u = 44) (hi : i < 100) (hj : j < 100) {Q : Unit → zS → Prop} (hq : i ≤ x → x ≤ j → Q () α) : wx (hX4_state G (some c.p) (nI i) (nI j) α) Q := by
  rw [X_state h.kp hu ku C.st (by have := C.x; omega) hi hj]
  by_cases y : i ≤ x ∧ x ≤ j
  · rw [if_pos y]
    exact wx_l (hq y.1 y.2)
  · rw [if_neg y]
    exact wx_c (w_must h fun z => absurd rfl z)
end PAZZZZC
