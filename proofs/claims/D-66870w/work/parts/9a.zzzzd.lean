/-! THE PURE LAYER: the parser: X's side alone: headers. -/
/-- the innermost unit's node -/
def xRtN (α : zS) (u x : Nat) : Prop := ∃ r e L i j k n, zA α 43 1 u = some r ∧ xnB α r e L ∧ L.map (xkv α) = grUl i j k ++ n ∧ (∀ f, f ∈ n → grK 1 2 f) ∧ (x ≤ 11 → n = []) ∧ (x ≤ 1 → i = false) ∧ (x ≤ 2 → j = false) ∧ (x ≤ 7 → k = false)
section PAZZZZD
variable {ρ σ τ : Type} {c : pC} {G : xQ} {α β γ γ' δ ε α0 : zS} {a a' b k w q r t u n x x' T T' E f i j o lu lr lo hi : Nat} {v v' kv nm pr : Int32} {e e' : Int32 × Int32} {L L' op l : List Nat} {M M' N S S' U U' : Nat → Prop} {m K K' : List (Int32 × Int32)} {P : Int32 × Int32 → Prop} {p z : Option Nat}
theorem grK_dis (h : grK lo hi e) (h' : grK a b e) (h1 : hi < 1000) (h2 : b < 1000) : ∃ k, lo ≤ k ∧ k ≤ hi ∧ a ≤ k ∧ k ≤ b := by
  obtain ⟨k, k1, k2, k3⟩ := h
  obtain ⟨j, j1, j2, j3⟩ := h'
  rw [k3, pI_inj (by omega) (by omega)] at j3
  exact ⟨k, k1, k2, by omega, by omega⟩
theorem nco (h : grK lo hi e) (h1 : hi < 41) : ¬ grCo e := fun y => by
  rcases y with y | y
  · obtain ⟨k, _⟩ := grK_dis h y (by omega) (by omega)
    omega
  · obtain ⟨k, _⟩ := grK_dis h y (by omega) (by omega)
    omega
theorem nun (h : grK lo hi e) (h1 : 3 ≤ lo) (h2 : hi < 1000) : ¬ grK 1 2 e := fun y => by
  obtain ⟨k, _⟩ := grK_dis h y h2 (by omega)
  omega
theorem xRtN.up (h : xRtN α u x) (h1 : x ≤ x') (h2 : x' ≤ 11) : xRtN α u x' := by
  obtain ⟨r, e, L, i, j, k, n, r1, r2, r3, r4, r5, r6, r7, r8⟩ := h
  exact ⟨r, e, L, i, j, k, n, r1, r2, r3, r4, fun _ => r5 (by omega), fun _ => r6 (by omega), fun _ => r7 (by omega), fun _ => r8 (by omega)⟩
theorem xRtN.fr (h : xRtN α u x) (hu : zA β 43 1 u = zA α 43 1 u) (hb : ∀ t e L, zA α 43 1 u = some t → xnB α t e L → xnB β t e L ∧ L.map (xkv β) = L.map (xkv α)) : xRtN β u x := by
  obtain ⟨r, e, L, i, j, k, n, r1, r2, r3, r4⟩ := h
  obtain ⟨b1, b2⟩ := hb r e L r1 r2
  exact ⟨r, e, L, i, j, k, n, hu.trans r1, b1, by rw [b2]; exact r3, r4⟩
/-- a node is laid below an older one that is no unit's -/
theorem B_add (B : xBN c M U none lu lr u l x γ) (kp : zkd γ c.p = 41) (d : xnD c c.p γ a q β) (ht : M t) (b : xnB γ t e L) (ge : grK lo hi e) (h3 : 3 ≤ lo) (h41 : hi < 41) (g : grS c e (L.map (xkv γ) ++ [xkv β q])) : wp (hX43_add G (some t) (some q) β) (fun r ε => r = some q ∧ xp c a ε ∧ ∃ M' : Nat → Prop, xTs c M' U none lu lr ε ∧ M' q ∧ (∀ x, M x → M' x) ∧ xkv ε q = xkv β q ∧ (∀ v, U v → ε.2 v = γ.2 v) ∧ xRtN ε u x ∧ (∀ l, uL γ M l → ε.2 l = γ.2 l) ∧ (∀ x, M x → xkv ε x = xkv γ x) ∧ zn γ ≤ zn ε ∧ (∀ x, M' x → M x ∨ zn γ ≤ x) ∧ ∀ t' e' L', xnB β t' e' L' → t' ≠ t → xnB ε t' e' L' ∧ L'.map (xkv ε) = L'.map (xkv β)) := by
  refine wp_im (T_add B.ts kp d ht b (nco ge h41) (.inl g)) fun r ε z => ?_
  obtain ⟨z1, z2, M', z3, z4, z5, z6, z7, z8, z9, z10, z11, z12, z13, z14⟩ := z
  refine ⟨z1, z2, M', z3, z4, z5, z6, z7, ?_, z11, fun x hx => ?_, z12, z13, z14⟩
  · refine xRtN.fr B.cu.rt (zA_eq (z7 u B.op.1) 43 1) fun t' e' L' h1 b' => z10 t' e' L' b' fun y => ?_
    obtain ⟨r', r1, r2, r3⟩ := B.un.f1
    have y1 : t' = r' := Option.some.inj (h1.symm.trans r1)
    rw [← y1, y, b.e] at r3
    exact nun ge h3 (by omega) r3
  · obtain ⟨e', L', b', _⟩ := B.ts.hp.1 x hx
    by_cases y : x = t
    · rw [y, z8.e, b.e]
    · rw [(z10 x e' L' b' y).1.e, b'.e]
/-- a division is laid below the unit's node -/
theorem B_root (B : xBN c M U none lu lr u l x γ) (kp : zkd γ c.p = 41) (d : xnD c c.p γ a q β) (r1 : zA γ 43 1 u = some r) (hf : ∀ i j k n, (x ≤ 11 → n = []) → (x ≤ 1 → i = false) → (x ≤ 2 → j = false) → (x ≤ 7 → k = false) → (∀ f, f ∈ n → grK 1 2 f) → ∃ i' j' k' n', (grUl i j k ++ n) ++ [xkv β q] = grUl i' j' k' ++ n' ∧ (∀ f, f ∈ n' → grK 1 2 f) ∧ (x' ≤ 11 → n' = []) ∧ (x' ≤ 1 → i' = false) ∧ (x' ≤ 2 → j' = false) ∧ (x' ≤ 7 → k' = false)) : wp (hX43_add G (some r) (some q) β) (fun r' ε => r' = some q ∧ xp c a ε ∧ ∃ M' : Nat → Prop, xTs c M' U none lu lr ε ∧ M' q ∧ (∀ x, M x → M' x) ∧ xkv ε q = xkv β q ∧ (∀ v, U v → ε.2 v = γ.2 v) ∧ xRtN ε u x' ∧ ∀ t' e' L', xnB β t' e' L' → t' ≠ r → xnB ε t' e' L' ∧ L'.map (xkv ε) = L'.map (xkv β)) := by
  obtain ⟨r0, e, L, i, j, k, n, w1, b, w3, w4, w5, w6, w7, w8⟩ := B.cu.rt
  obtain ⟨r', v1, v2, v3⟩ := B.un.f1
  have y0 : r0 = r := Option.some.inj (w1.symm.trans r1)
  have y1 : r' = r := Option.some.inj (v1.symm.trans r1)
  subst y0
  subst y1
  rw [b.e] at v3
  obtain ⟨i', j', k', n', g1, g2, g3⟩ := hf i j k n w5 w6 w7 w8 w4
  refine wp_im (T_add B.ts kp d v2 b (nco v3 (by decide)) (.inr ⟨v3, i', j', k', n', by rw [w3]; exact g1, g2⟩)) fun r ε z => ?_
  obtain ⟨z1, z2, M', z3, z4, z5, z6, z7, z8, z9, z10, z11, z12, z13, z14⟩ := z
  exact ⟨z1, z2, M', z3, z4, z5, z6, z7, ⟨_, e, _, i', j', k', n', (zA_eq (z7 u B.op.1) 43 1).trans r1, z8, by rw [z9, w3]; exact g1, g2, g3⟩, z14⟩
/-- the clause ends: the unit's state is x' -/
theorem B_end (B : xBN c M U z lu lr u l x γ) (hE : ∀ v, U v → v ≠ u → δ.2 v = γ.2 v) (f0 : zA δ 43 0 u = zA γ 43 0 u) (R : xRtN δ u x') (h : xp c a δ) (S : xTs c M' U none lu lr δ) (st : zI δ 43 3 u = nI x') (hx : x' ≤ 12) (hx1 : 1 ≤ x') (h8 : x' = 8 → ∃ r e L, zA δ 43 8 u = some r ∧ xnB δ r e L ∧ ∀ f, f ∈ L.map (xkv δ) → grK 21 21 f) : xWN c U lu lr u l δ := by
  refine ⟨a, M', none, x', h, xBN.mk S ?_ (xCuN.mk st hx R h8) (.inl ⟨rfl, hx1⟩)⟩
  have ne : ∀ v, v ∈ l → v ≠ u ∧ U v := fun v hv => ⟨(B.op.2.2.1 v hv).1, B.op.mem v (List.mem_cons_of_mem _ hv)⟩
  refine B.op.fr (fun v hv => ?_) (fun v hv => ?_)
  · rcases List.mem_cons.mp hv with y | y
    · rw [y]; exact f0
    · exact zA_eq (hE v (ne v y).2 (ne v y).1) 43 0
  · exact zI_eq (hE v (ne v hv).2 (ne v hv).1) 43 3
/-- a field and the state are set, then the clause ends -/
theorem B_set (B : xBN c M U z lu lr u l x γ) (hE : ∀ v, U v → ε.2 v = γ.2 v) (h : xp c a ε) (S : xTs c M' U none lu lr ε) (R : xRtN ε u x') (h0 : k ≠ 0) (h1 : k ≠ 1) (h12 : k ≠ 12) (h13 : k ≠ 13) (hp : ∀ q, p = some q → M' q ∧ uG k (xkv ε q)) (hx : x' ≤ 12) (hx1 : 1 ≤ x') (h8 : x' = 8 → k = 8 ∧ ∃ r e L, p = some r ∧ xnB ε r e L ∧ ∀ f, f ∈ L.map (xkv ε) → grK 21 21 f) : zpA ε (some u) 43 k p = some (zwA ε 43 k u p) ∧ zpI (zwA ε 43 k u p) (some u) 43 3 (nI x') = some (zwI (zwA ε 43 k u p) 43 3 u (nI x')) ∧ xWN c U lu lr u l (zwI (zwA ε 43 k u p) 43 3 u (nI x')) := by
  have Uu := B.op.1
  obtain ⟨y1, S1, f1⟩ := T_wA S Uu h1 h12 h13 hp
  obtain ⟨y2, S2, f2⟩ := T_wI (k := 3) (v := nI x') S1 Uu
  have ku := (S.un u Uu).ku
  have ku1 := (S1.un u Uu).ku
  have fr : ∀ y, y ≠ u → (zwI (zwA ε 43 k u p) 43 3 u (nI x')).2 y = ε.2 y := fun y hy => (f2 y hy).trans (f1 y hy)
  have zA' : ∀ j, j ≠ k → zA (zwI (zwA ε 43 k u p) 43 3 u (nI x')) 43 j u = zA ε 43 j u := fun j hj => by
    rw [zA_zwI, zA_zwA, if_neg (fun z => hj z.2.1)]
  refine ⟨y1, y2, B_end B (fun v hv hvu => (fr v hvu).trans (hE v hv)) ((zA' 0 (fun y => h0 y.symm)).trans (zA_eq (hE u Uu) 43 0)) (R.fr (zA' 1 (fun y => h1 y.symm)) fun t e L _ b => b.uw fr rfl ku) (h.uw fr rfl ku) S2 (by rw [zI_zwI, if_pos ⟨rfl, rfl, rfl⟩]) hx hx1 fun e8 => ?_⟩
  obtain ⟨k8, r, e, L, e1, b, g⟩ := h8 e8
  subst k8
  obtain ⟨b1, b2⟩ := b.uw (u := u) fr rfl ku
  exact ⟨r, e, L, by rw [zA_zwI, zA_zwA, if_pos ⟨rfl, rfl, rfl⟩]; exact e1, b1, by rw [b2]; exact g⟩
/-- the state is set, then the clause ends -/
theorem B_st (B : xBN c M U z lu lr u l x γ) (hE : ∀ v, U v → v ≠ u → ε.2 v = γ.2 v) (f0 : zA ε 43 0 u = zA γ 43 0 u) (h : xp c a ε) (S : xTs c M' U none lu lr ε) (R : xRtN ε u x') (hx : x' ≤ 12) (hx1 : 1 ≤ x') (h8 : x' ≠ 8) : zpI ε (some u) 43 3 (nI x') = some (zwI ε 43 3 u (nI x')) ∧ xWN c U lu lr u l (zwI ε 43 3 u (nI x')) := by
  have Uu := B.op.1
  obtain ⟨y2, S2, f2⟩ := T_wI (k := 3) (v := nI x') S Uu
  have ku := (S.un u Uu).ku
  refine ⟨y2, B_end B (fun v hv hvu => (f2 v hvu).trans (hE v hv hvu)) ((zA_zwI ..).trans f0) (R.fr (zA_zwI ..) fun t e L _ b => b.uw f2 rfl ku) (h.uw f2 rfl ku) S2 (by rw [zI_zwI, if_pos ⟨rfl, rfl, rfl⟩]) hx hx1 fun e8 => absurd e8 h8⟩
end PAZZZZD
