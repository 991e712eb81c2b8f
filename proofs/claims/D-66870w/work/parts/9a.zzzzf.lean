/-! THE PURE LAYER: the parser: X's side alone: headers that hold items. -/
section PAZZZZF
variable {ρ σ τ : Type} {c : pC} {G : xQ} {α β γ γ' δ ε α0 : zS} {a a' b k w q r t u n x x' T T' E f i j o lu lr lo hi : Nat} {v v' kv nm pr : Int32} {e e' : Int32 × Int32} {L L' op l : List Nat} {M M' N S S' U U' : Nat → Prop} {m K K' : List (Int32 × Int32)} {P : Int32 × Int32 → Prop} {p z : Option Nat}
theorem zmk_xaS (hp : c.p < zn α) : xaS c (zmk α k t w) a = zmk (xaS c α a) k t w := by
  refine Prod.ext rfl (funext fun x => ?_)
  show va_up (va_up α.2 (zn α) _) c.p (zrI ((va_up α.2 (zn α) _) c.p) 40 3 _) x = va_up (va_up α.2 c.p (zrI (α.2 c.p) 40 3 _)) (zn α) _ x
  have ne : c.p ≠ zn α := Nat.ne_of_lt hp
  have ne' : zn α ≠ c.p := fun y => ne y.symm
  by_cases h1 : x = c.p
  · subst h1
    simp only [va_up, if_true, if_neg ne, if_neg ne']
  · by_cases h2 : x = zn α
    · subst h2
      simp only [va_up, if_true, if_neg ne, if_neg ne', if_neg h1]
    · simp only [va_up, if_neg h1, if_neg h2]
theorem add_none {q : Option Nat} : hX43_add G none q α = none := by
  unfold hX43_add
  rfl
/-- the innermost unit has a field, or nothing goes on -/
theorem xUn.wAc (h : xUn c M lu lr α u) : xUn c M lu lr (zwA α 43 12 u none) u := by
  obtain ⟨r, r1, r2, r3⟩ := h.f1
  obtain ⟨l, l1, l2, l3, l4, l5⟩ := h.fd
  have ke : ∀ x, xkv (zwA α 43 12 u none) x = xkv α x := fun x => by
    unfold xkv
    rw [zI_zwA, zI_zwA]
  have zz : ∀ j, j ≠ 12 → zA (zwA α 43 12 u none) 43 j u = zA α 43 j u := fun j hj => by
    rw [zA_zwA, if_neg (fun z => hj z.2.1)]
  have F : ∀ j lo hi, j ≠ 12 → uF α M u j lo hi → uF (zwA α 43 12 u none) M u j lo hi := fun j lo hi hj f q hq => by
    rw [ke]
    rw [zz j hj] at hq
    exact f q hq
  have oI : ∀ q, uI c α M q → uI c (zwA α 43 12 u none) M q := fun q hq => ⟨hq.1, by rw [ke]; exact hq.2⟩
  have lz : zL (zwA α 43 12 u none) l = zL α l := zL_zwA ..
  exact xUn.mk (by rw [zkd_zwA]; exact h.ku) h.hi ⟨r, (zz 1 (by decide)).trans r1, r2, by rw [ke]; exact r3⟩ (F _ _ _ (by decide) h.f4) (F _ _ _ (by decide) h.f5) (F _ _ _ (by decide) h.f6) (F _ _ _ (by decide) h.f7) (F _ _ _ (by decide) h.f8) (F _ _ _ (by decide) h.f9) (F _ _ _ (by decide) h.fa) (F _ _ _ (by decide) h.fb) (fun q hq => by
    rw [zA_zwA, if_pos ⟨rfl, rfl, rfl⟩] at hq
    exact absurd hq (by simp)) ⟨l, (zz 13 (by decide)).trans l1, ⟨by rw [zkd_zwA]; exact l2.1, l2.2⟩, l3, l4, fun r hr => oI r (l5 r (by rw [← lz]; exact hr))⟩
/-- a list of a unit's changes -/
theorem xTs.lw (s : xTs c M U z lu lr α) (hl : uL α M o) (h1 : o ≠ lu) (h2 : o ≠ lr) (fr : ∀ x, x ≠ o → β.2 x = α.2 x) (hn : zn α ≤ zn β) (hk : zkd β o = 3) (hL : ∀ r, some r ∈ zL β o → uI c α M r) : xTs c M U z lu lr β := by
  have k3 := hl.1
  have f1 : ∀ q, zkd α q = 45 → q < zn α → β.2 q = α.2 q := fun q hk _ => fr q (fun y => by rw [y, k3] at hk; omega)
  have f2 : ∀ q, M q → β.2 (q + 1) = α.2 (q + 1) := fun q hq => fr _ (fun y => hl.2.2 q hq y)
  have ke : ∀ q, M q → xkv β q = xkv α q := fun q hq => s.hp.ke f1 hq
  have oI : ∀ q, uI c α M q → uI c β M q := fun q hq => ⟨hq.1, by rw [ke q hq.1]; exact hq.2⟩
  have L' : ∀ l, uL α M l → uL β M l := fun l hl' => by
    refine hl'.fr hn ?_ (fun _ h => .inl h)
    by_cases y : l = o
    · rw [y, hk, k3]
    · exact zkd_eq (fr l y)
  have bb : ∀ {t e L}, M t → xnB α t e L → xnB β t e L := fun mt b => (b.st hn (f1 _ b.kn (by have := b.hi; omega)) (f2 _ mt) (fun r hr => f1 r (b.ok r hr).1 (b.ok r hr).2)).1
  refine xTs.mk (s.hp.fr hn f1 f2) (fun v hv => ?_) (fun q hq => ?_) (L' _ s.lu) (L' _ s.lr) (fun r hr t ht => ?_) (fun r hr => by
    obtain ⟨m, g⟩ := s.rr r (by rw [← zL_eq (fr lr (fun y => h2 y.symm))]; exact hr)
    exact ⟨m, by rw [ke r m]; exact g⟩) s.ne
  · have h := s.un v hv
    have kv := h.ku
    have hv' : β.2 v = α.2 v := fr v (fun y => by rw [y, k3] at kv; omega)
    obtain ⟨r, r1, r2, r3⟩ := h.f1
    obtain ⟨l, l1, l2, l3, l4, l5⟩ := h.fd
    have hi := h.hi
    refine xUn.mk (by rw [zkd_eq hv']; exact kv) (by omega) ⟨r, by rw [zA_eq hv']; exact r1, r2, by rw [ke r r2]; exact r3⟩ (h.f4.fr hv' (fun _ h => h) ke) (h.f5.fr hv' (fun _ h => h) ke) (h.f6.fr hv' (fun _ h => h) ke) (h.f7.fr hv' (fun _ h => h) ke) (h.f8.fr hv' (fun _ h => h) ke) (h.f9.fr hv' (fun _ h => h) ke) (h.fa.fr hv' (fun _ h => h) ke) (h.fb.fr hv' (fun _ h => h) ke) (fun q hq => oI q (h.fc q (by rw [← zA_eq hv']; exact hq))) ⟨l, by rw [zA_eq hv']; exact l1, L' l l2, l3, l4, fun r hr => oI r ?_⟩
    by_cases y : l = o
    · rw [y] at hr
      exact hL r hr
    · exact l5 r (by rw [← zL_eq (fr l y)]; exact hr)
  · rw [ke q hq]
    exact s.nm q hq
  · obtain ⟨e, L, b, h⟩ := s.zc r hr t ht
    exact ⟨e, L, bb ht b, h⟩
/-- items begin below node q -/
theorem T_items (S : xTs c M U z lu lr α) (hu : U u) (h : xp c a α) (mq : M q) (gq : grK 9 11 (xkv α q)) : wp (hX42_items G (some u) (some q) α) (fun _ β => xp c a β ∧ xTs c M U z lu lr β ∧ (∀ v, U v → v ≠ u → β.2 v = α.2 v) ∧ zA β 43 0 u = zA α 43 0 u ∧ zA β 43 1 u = zA α 43 1 u ∧ (∀ t e L, M t → xnB α t e L → xnB β t e L ∧ L.map (xkv β) = L.map (xkv α))) := by
  obtain ⟨y1, S1, f1⟩ := T_wA (k := 7) (p := some q) S hu (by decide) (by decide) (by decide) (fun q' hq => by rw [← Option.some.inj hq]; exact ⟨mq, gq⟩)
  have ku := (S.un u hu).ku
  have k1 := (S1.un u hu).ku
  have S2 := S1.uw (β := zwA (zwA α 43 7 u (some q)) 43 12 u none) (u := u) (fun x hx => zwA_ne hx) rfl k1 (S1.un u hu).wAc
  have k2 := (S2.un u hu).ku
  obtain ⟨o, l1, l2, l3, l4, l5⟩ := (S2.un u hu).fd
  have fr : ∀ x, x ≠ u → (zwA (zwA α 43 7 u (some q)) 43 12 u none).2 x = α.2 x := fun x hx => (zwA_ne hx).trans (f1 x hx)
  unfold hX42_items
  rw [y1, gl_bs, kpA k1, gl_bs, kfA k2, gl_bs, l1]
  have z0 : ∀ j, j ≠ 7 → j ≠ 12 → zA (zwA (zwA α 43 7 u (some q)) 43 12 u none) 43 j u = zA α 43 j u := fun j j1 j2 => by
    rw [zA_zwA, if_neg (fun z => j2 z.2.1), zA_zwA, if_neg (fun z => j1 z.2.1)]
  have z1 := z0 0 (by decide) (by decide)
  have z2 := z0 1 (by decide) (by decide)
  have nn : zn (zwA (zwA α 43 7 u (some q)) 43 12 u none) = zn α := rfl
  rw [xCl_e l2.1, gl_bs]
  clear f1 S1 k1 y1
  generalize zwA (zwA α 43 7 u (some q)) 43 12 u none = δ at *
  refine wp_s ?_
  have h2 : xp c a δ := h.uw fr nn ku
  have S3 := S2.lw (β := xCl δ o) l2 l3 l4 (fun x hx => xCl_fr hx) (Nat.le_refl _) (by rw [xCl_kd]; exact l2.1) (fun r hr => by rw [xCl_ls] at hr; exact absurd hr (by simp))
  have ko := l2.1
  have kp := h2.x.kp
  have kk := h2.x.kk
  have kv := h2.x.kv
  have uo : u ≠ o := fun y => by rw [y, ko] at k2; omega
  refine ⟨h2.fr (Nat.le_refl _) (xCl_fr (fun z => by rw [z, ko] at kp; omega)) (xCl_fr (fun z => by rw [z, ko] at kk; omega)) (xCl_fr (fun z => by rw [z, ko] at kv; omega)), S3, fun v hv hvu => (xCl_fr (fun z => by have := (S.un v hv).ku; rw [← zkd_eq (fr v hvu), z, ko] at this; omega)).trans (fr v hvu), (zA_eq (xCl_fr uo) 43 0).trans z1, (zA_eq (xCl_fr uo) 43 1).trans z2, fun t e L mt b => ?_⟩
  obtain ⟨b1, b2⟩ := b.uw fr nn ku
  have kn := b1.kn
  obtain ⟨b3, b4⟩ := b1.st (β := xCl δ o) (Nat.le_refl _) (xCl_fr (fun z => by rw [z, ko] at kn; omega)) (xCl_fr (fun z => l2.2.2 t mt z)) (fun r hr => xCl_fr (fun z => by have := (b1.ok r hr).1; rw [z, ko] at this; omega))
  exact ⟨b3, b4.trans b2⟩
end PAZZZZF
