/-! THE PURE LAYER: the parser: an item's place among the open ones, the loop over its clauses. -/
section PAZZS
variable {c : pC} {G : xQ} {α β γ : zS} {s s' s1 s2 : zM} {a a1 a2 a3 a' b b' d e f l m N N' k o p q t to u w x y r : Nat} {g g' g2 : pG} {v v' kv x2 x3 x5 : Int32} {P : Nat → Nat → pG → Prop} {r0 r1 r6 r8 : Option Nat} {it : List Nat} {oa : Nat → Nat}
theorem gl_inR {S ρ β : Type} {body : ρ → S → Option ((ρ ⊕ β) × S)} {n : Nat} {a : ρ} {s : S} {r : Option (β × S)} (h : body a s = ginr r) : gloop body (n + 1) a s = r := by
  rcases r with _ | ⟨b, t⟩
  · simp only [gloop, h]; rfl
  · exact gl_done h
theorem kpco {a k : Nat} (h : zkd α a = k) (h0 : 0 < k) : zco G α (some a) [k] = true := by
  have e : zk G α a = k := by
    have := kis (G := G) h h0
    unfold zis at this
    exact beq_iff_eq.mp (of_eq_true this)
  unfold zco
  simp only [e]
  simp
theorem kpLs {a : Nat} (h : zkd α a = 3) : zLsize α (some a) = some (nI (zL α a).length) := if_pos h
theorem kpLg {a : Nat} (h : zkd α a = 3) (hk : k < 2 ^ 31) : zLget α (some a) (nI k) = (zL α a)[k]? := by
  have h1 : ¬ nI k < 0 := by rw [nl0, pI_lt hk (by decide)]; omega
  show (if zkd α a = 3 ∧ ¬ nI k < 0 then (zL α a)[(nI k).toNatClampNeg]? else none) = _
  rw [if_pos ⟨h, h1⟩, pI_clamp hk]
theorem kpLr {a : Nat} (h : zkd α a = 3) (hk : k < (zL α a).length) (hb : k < 2 ^ 31) : zLrem α (some a) (nI k) = some ((zL α a)[k], zsL α a 0 0 0 (zB α a) (zC α a) ((zL α a).eraseIdx k) (zm α a + 1)) := by
  have h1 : ¬ nI k < 0 := by rw [nl0, pI_lt hb (by decide)]; omega
  unfold zLrem
  simp only [if_pos (show zkd α a = 3 ∧ ¬ nI k < 0 from ⟨h, h1⟩), pI_clamp hb, List.getElem?_eq_getElem hk]
theorem pI_dec : nI (k + 1) + (-1 : Int32) = nI k := by
  rw [show nI (k + 1) = nI k + 1 from (pI_succ k).symm, Int32.add_assoc, show (1 : Int32) + -1 = 0 from by decide, Int32.add_zero]
theorem pI_dec1 : nI k + (-1 : Int32) = nI k - nI 1 := by
  rw [Int32.sub_eq_add_neg]; rfl
/-- the place among the open items: X's and M's search -/
theorem itW (kq : zkd α q = 44) (fl : zA α 43 13 q = some (q + 1)) (kl : zkd α (q + 1) = 3) (Ls : zL α (q + 1) = it.map fun u => some (oa u)) (hn : it.length < 64) (H : ∀ i, i < it.length → zkd α (oa (it.getD i 0)) = 45 ∧ ∃ v w, v < 100 ∧ w < 1000 ∧ la s 39 i = nI v ∧ zI α 44 1 (oa (it.getD i 0)) = nI (1000 * v + w)) (hl : l < 100) (h88 : l ≠ 88) : ∀ k, k ≤ it.length → ∀ {Fx Fm : Nat}, k < Fx → k < Fm → ∃ j, j ≤ k ∧ zloop (fun (a : ((Option Nat) × (Option Nat) × Int32 × Int32 × Int32 × Int32)) σ => hX4_item_85b G a.1 a.2.1 a.2.2.1 a.2.2.2.1 a.2.2.2.2.1 a.2.2.2.2.2 σ) Fx (r0, some q, x2, nI l, nI 0, nI k) α = hX4_item_132 G r0 (some q) x2 (nI l) (nI 0) (nI j) α ∧ (∀ s', la s' 39 = la s 39 → gloop (fun (a : (Int32 × Int32)) s => gX26_within_7b a.1 a.2 s) Fm (nI l, nI k - nI 1) s' = some (nI j - nI 1, s')) ∧ (0 < j → ∃ v, la s 39 (j - 1) = nI v ∧ v < l) := by
  have e88 : ¬ nI l = 88 := by rw [show (88 : Int32) = nI 88 from rfl, pI_inj (by omega) (by decide)]; exact h88
  intro k
  induction k with
  | zero =>
    intro _ Fx Fm hFx hFm
    obtain ⟨fx, rfl⟩ : ∃ x, Fx = x + 1 := ⟨Fx - 1, by omega⟩
    obtain ⟨fm, rfl⟩ : ∃ x, Fm = x + 1 := ⟨Fm - 1, by omega⟩
    refine ⟨0, Nat.le_refl _, zloop_in ?_, fun s' _ => gl_done ?_, fun z => absurd z (by decide)⟩
    · unfold hX4_item_85b
      rw [if_neg e88, if_pos (show nI 0 ≤ 0 from by decide)]
    · unfold gX26_within_7b
      rw [if_pos (show nI 0 - nI 1 < 0 from by decide)]
      rfl
  | succ k ih =>
    intro hk Fx Fm hFx hFm
    obtain ⟨fx, rfl⟩ : ∃ x, Fx = x + 1 := ⟨Fx - 1, by omega⟩
    obtain ⟨fm, rfl⟩ : ∃ x, Fm = x + 1 := ⟨Fm - 1, by omega⟩
    obtain ⟨kn, v, w, hv, hw, l39, xv⟩ := H k (by omega)
    have gk : (zL α (q + 1))[k]? = some (some (oa (it.getD k 0))) := by
      rw [Ls, List.getElem?_map, List.getElem?_eq_getElem (by omega), List.getD_eq_getElem?_getD, List.getElem?_eq_getElem (by omega)]
      rfl
    have X1 : hX4_item_85b G r0 (some q) x2 (nI l) (nI 0) (nI (k + 1)) α = if v < l then zinr (hX4_item_132 G r0 (some q) x2 (nI l) (nI 0) (nI (k + 1)) α) else some (.inl (r0, some q, x2, nI l, nI 0, nI k), α) := by
      unfold hX4_item_85b
      rw [if_neg e88, if_neg (by rw [nl0, pI_le (by omega) (by decide)]; omega), if_neg (show ¬ ¬ nI 0 = 0 from fun z => z rfl), kfA kq, gl_bs, fl, nl1, pI_sub (by omega), Nat.add_sub_cancel, kpLg kl (by omega), gk, gl_bs, if_pos (kpco kn (by decide)), kfI kn, gl_bs, xv, if_neg (by decide), show (1000 : Int32) = nI 1000 from rfl, pI_div (by omega) (by decide) (by decide), show (1000 * v + w) / 1000 = v from by omega]
      by_cases z : v < l
      · rw [if_pos (by rw [pI_lt (by omega) (by omega)]; exact z), if_pos z]
      · rw [if_neg (by rw [pI_lt (by omega) (by omega)]; exact z), if_neg z]
        unfold hX4_item_126
        rw [pI_dec]
    have M1 : ∀ s', la s' 39 = la s 39 → gX26_within_7b (nI l) (nI (k + 1) - nI 1) s' = if v < l then some (.inr (nI (k + 1) - nI 1), s') else some (.inl (nI l, nI k - nI 1), s') := fun s' hs => by
      unfold gX26_within_7b
      rw [pI_sub (by omega), Nat.add_sub_cancel, if_neg (by rw [nl0, pI_lt (by omega) (by decide)]; omega), pgld (by omega) (by decide), gl_bs, hs, l39]
      by_cases z : v < l
      · rw [if_pos (by rw [pI_lt (by omega) (by omega)]; exact z), if_pos z]
        rfl
      · rw [if_neg (by rw [pI_lt (by omega) (by omega)]; exact z), if_neg z, pI_dec1]
    by_cases z : v < l
    · rw [if_pos z] at X1
      exact ⟨k + 1, Nat.le_refl _, zloop_in X1, fun s' hs => gl_done (by rw [M1 s' hs, if_pos z]), fun _ => ⟨v, l39, z⟩⟩
    · rw [if_neg z] at X1
      obtain ⟨j, j1, j2, j3, j4⟩ := ih (by omega) (Fx := fx) (Fm := fm) (by omega) (by omega)
      exact ⟨j, by omega, by rw [zloop_step X1]; exact j2, fun s' hs => by rw [gl_step (by rw [M1 s' hs, if_neg z])]; exact j3 s' hs, j4⟩
/-- a top item closes all open ones -/
theorem itT (hl : l < 100) (h88 : l ≠ 88) : ∀ k, k < 64 → ∀ {Fx : Nat}, k < Fx → zloop (fun (a : ((Option Nat) × (Option Nat) × Int32 × Int32 × Int32 × Int32)) σ => hX4_item_85b G a.1 a.2.1 a.2.2.1 a.2.2.2.1 a.2.2.2.2.1 a.2.2.2.2.2 σ) Fx (r0, r1, x2, nI l, nI 1, nI k) α = hX4_item_132 G r0 r1 x2 (nI l) (nI 1) (nI 0) α := by
  have e88 : ¬ nI l = 88 := by rw [show (88 : Int32) = nI 88 from rfl, pI_inj (by omega) (by decide)]; exact h88
  intro k
  induction k with
  | zero =>
    intro _ Fx hFx
    obtain ⟨fx, rfl⟩ : ∃ x, Fx = x + 1 := ⟨Fx - 1, by omega⟩
    refine zloop_in ?_
    unfold hX4_item_85b
    rw [if_neg e88, if_pos (show nI 0 ≤ 0 from by decide)]
  | succ k ih =>
    intro hk Fx hFx
    obtain ⟨fx, rfl⟩ : ∃ x, Fx = x + 1 := ⟨Fx - 1, by omega⟩
    rw [zloop_step (a' := (r0, r1, x2, nI l, nI 1, nI k)) (α' := α)]
    · exact ih (by omega) (by omega)
    · unfold hX4_item_85b
      rw [if_neg e88, if_neg (by rw [nl0, pI_le (by omega) (by decide)]; omega), if_pos (show ¬ nI 1 = 0 from n1n)]
      unfold hX4_item_126
      rw [pI_dec]
/-- X's list of open items: those behind place l go, one comes -/
theorem itR (hl : l < 64) : ∀ m, m < 64 → ∀ {α : zS} {Fx : Nat}, m < Fx → zkd α q = 44 → zA α 43 13 q = some (q + 1) → zkd α (q + 1) = 3 → (zL α (q + 1)).length = l + m → ∃ β, zloop (fun (a : ((Option Nat) × Int32 × (Option Nat))) σ => hX4_item_335b G a.1 a.2.1 a.2.2 σ) Fx (some q, nI l, r8) α = some (.inl (), zwA β 43 12 q r8) ∧ zL β (q + 1) = (zL α (q + 1)).take l ++ [r8] ∧ (∀ x, x ≠ q + 1 → β.2 x = α.2 x) ∧ zkd β (q + 1) = 3 ∧ zn α ≤ zn β ∧ zc β = zc α + 1 ∧ zw β = zw α + 7 := by
  intro m
  induction m with
  | zero =>
    intro _ α Fx hFx kq fl kl len
    obtain ⟨fx, rfl⟩ : ∃ x, Fx = x + 1 := ⟨Fx - 1, by omega⟩
    obtain ⟨β, z1, z2, z3, z4, z5, z6, z7, z8⟩ := zLadd_at (x := r8) kl (by omega)
    have kq' : zkd β q = 44 := by rw [zkd_eq (z4 _ (by omega))]; exact kq
    refine ⟨β, zloop_in ?_, ?_, z4, z2, z5, z7, z8⟩
    · unfold hX4_item_335b
      rw [kfA kq, gl_bs, fl, kpLs kl, gl_bs, len, if_pos (by rw [pI_le (by omega) (by omega)]; omega), gl_bs, z1, gl_bs, kpA kq', gl_bs]
    · rw [z3, List.take_of_length_le (by omega)]
  | succ m ih =>
    intro hm α Fx hFx kq fl kl len
    obtain ⟨fx, rfl⟩ : ∃ x, Fx = x + 1 := ⟨Fx - 1, by omega⟩
    have ls' : zL (zsL α (q + 1) 0 0 0 (zB α (q + 1)) (zC α (q + 1)) ((zL α (q + 1)).eraseIdx (l + m)) (zm α (q + 1) + 1)) (q + 1) = (zL α (q + 1)).take (l + m) := by
      rw [zL_zsL, if_pos rfl, List.eraseIdx_eq_take_drop_succ, List.drop_of_length_le (by omega), List.append_nil]
    obtain ⟨β, y1, y2, y3, y4, y5, y6, y7⟩ := ih (by omega) (α := zsL α (q + 1) 0 0 0 (zB α (q + 1)) (zC α (q + 1)) ((zL α (q + 1)).eraseIdx (l + m)) (zm α (q + 1) + 1)) (Fx := fx) (by omega) (by rw [zkd_zsL]; exact kq) (by rw [zA_zsL]; exact fl) (by rw [zkd_zsL]; exact kl) (by rw [ls', List.length_take]; omega)
    refine ⟨β, ?_, ?_, fun x hx => by rw [y3 x hx]; exact zsL_ne hx, y4, y5, y6, y7⟩
    · rw [zloop_step (a' := (some q, nI l, r8))]
      · exact y1
      · unfold hX4_item_335b
        rw [kfA kq, gl_bs, fl, kpLs kl, gl_bs, len, if_neg (by rw [pI_le (by omega) (by omega)]; omega), gl_bs, gl_bs, kpLs kl, gl_bs, len, nl1, pI_sub (by omega), show l + (m + 1) - 1 = l + m from by omega, kpLr kl (by omega) (by omega), gl_bs]
        rfl
    · rw [y2, ls', List.take_take, Nat.min_eq_left (by omega)]
end PAZZS
