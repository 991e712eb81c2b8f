/-! THE PURE LAYER: the parser: X's side alone: an item. -/
/-- what takes an item of level X below it -/
def paN (c : pC) (M : Nat → Prop) (γ : zS) (X : Nat) (tO : Option Nat) : Prop := ∀ t, tO = some t → M t ∧ ∃ k v0 L, (9 ≤ k ∧ k ≤ 12) ∧ xnB γ t (nI k, v0) L ∧ ∀ e, grI c (fun n => n = X) e → grN c k v0 (L.map (xkv γ) ++ [e])
section PAZZZZO
variable {ρ σ τ : Type} {c : pC} {G : xQ} {α β γ γ' δ ε α0 : zS} {a a' a1 b k w q r t u n x x' T T' E f i j o lu lr lo hi y X : Nat} {v v' v0 kv nm pr x4 x5 : Int32} {e e' e1 : Int32 × Int32} {L L' op l : List Nat} {M M' N S S' U U' : Nat → Prop} {m K K' K1 : List (Int32 × Int32)} {P : Int32 × Int32 → Prop} {p z tO : Option Nat}
theorem paN.pw (h : paN c M γ X tO) (e : xqN c γ β) (kp : zkd γ c.p = 41) : paN c M β X tO := fun t ht => by
  obtain ⟨m, k, v0, L, hk, b, g⟩ := h t ht
  obtain ⟨b1, b2⟩ := b.pw (γ := β) e.1 e.2 kp
  exact ⟨m, k, v0, L, hk, b1, fun f hf => by rw [b2]; exact g f hf⟩
theorem xUn.wAi (h : xUn c M lu lr α u) (hp : ∀ q, p = some q → uI c α M q) : xUn c M lu lr (zwA α 43 12 u p) u := by
  obtain ⟨r, r1, r2, r3⟩ := h.f1
  obtain ⟨l, l1, l2, l3, l4, l5⟩ := h.fd
  have ke : ∀ x, xkv (zwA α 43 12 u p) x = xkv α x := fun x => by
    unfold xkv
    rw [zI_zwA, zI_zwA]
  have zz : ∀ j, j ≠ 12 → zA (zwA α 43 12 u p) 43 j u = zA α 43 j u := fun j hj => by
    rw [zA_zwA, if_neg (fun z => hj z.2.1)]
  have F : ∀ j lo hi, j ≠ 12 → uF α M u j lo hi → uF (zwA α 43 12 u p) M u j lo hi := fun j lo hi hj f q hq => by
    rw [ke]
    rw [zz j hj] at hq
    exact f q hq
  have oI : ∀ q, uI c α M q → uI c (zwA α 43 12 u p) M q := fun q hq => ⟨hq.1, by rw [ke]; exact hq.2⟩
  have lz : zL (zwA α 43 12 u p) l = zL α l := zL_zwA ..
  exact xUn.mk (by rw [zkd_zwA]; exact h.ku) h.hi ⟨r, (zz 1 (by decide)).trans r1, r2, by rw [ke]; exact r3⟩ (F _ _ _ (by decide) h.f4) (F _ _ _ (by decide) h.f5) (F _ _ _ (by decide) h.f6) (F _ _ _ (by decide) h.f7) (F _ _ _ (by decide) h.f8) (F _ _ _ (by decide) h.f9) (F _ _ _ (by decide) h.fa) (F _ _ _ (by decide) h.fb) (fun q hq => by
    rw [zA_zwA, if_pos ⟨rfl, rfl, rfl⟩] at hq
    exact oI q (hp q hq)) ⟨l, (zz 13 (by decide)).trans l1, ⟨by rw [zkd_zwA]; exact l2.1, l2.2⟩, l3, l4, fun r hr => oI r (l5 r (by rw [← lz]; exact hr))⟩
theorem lget_m {i : Int32} (h : zLget α (some o) i = some p) : p ∈ zL α o := by
  have h1 : (if zkd α o = 3 ∧ ¬ i < 0 then (zL α o)[i.toNatClampNeg]? else none) = some p := h
  by_cases y : zkd α o = 3 ∧ ¬ i < 0
  · rw [if_pos y] at h1
    exact List.mem_of_getElem? h1
  · rw [if_neg y] at h1
    exact absurd h1 (by simp)
theorem lrem_p {i : Int32} (k3 : zkd α o = 3) : wp (zLrem α (some o) i) (fun _ β => (∀ x, x ≠ o → β.2 x = α.2 x) ∧ zn β = zn α ∧ zkd β o = 3 ∧ ∀ r, r ∈ zL β o → r ∈ zL α o) := fun y β h => by
  have h1 : (if zkd α o = 3 ∧ ¬ i < 0 then (match (zL α o)[i.toNatClampNeg]? with
      | some y => some (y, zsL α o 0 0 0 (zB α o) (zC α o) ((zL α o).eraseIdx i.toNatClampNeg) (zm α o + 1))
      | none => none) else none) = some (y, β) := h
  by_cases w : zkd α o = 3 ∧ ¬ i < 0
  · rw [if_pos w] at h1
    rcases hg : (zL α o)[i.toNatClampNeg]? with _ | g
    · rw [hg] at h1
      exact absurd h1 (by simp)
    · rw [hg] at h1
      have e1 := (Prod.mk.inj (Option.some.inj h1)).2
      rw [← e1]
      exact ⟨fun x hx => zsL_ne hx, rfl, by rw [zkd_zsL]; exact k3, fun r hr => by
        rw [zL_zsL, if_pos rfl] at hr
        exact List.mem_of_mem_eraseIdx hr⟩
  · rw [if_neg w] at h1
    exact absurd h1 (by simp)
theorem ladd_p (k3 : zkd α o = 3) : wp (zLadd α (some o) p) (fun _ β => (∀ x, x ≠ o → β.2 x = α.2 x) ∧ zn α ≤ zn β ∧ zkd β o = 3 ∧ zL β o = zL α o ++ [p]) := fun y β h => by
  by_cases ln : (zL α o).length < 1000000
  · obtain ⟨γ, z1, z2, z3, z4, z5, _⟩ := zLadd_at (x := p) k3 ln
    rw [z1] at h
    rw [← (Prod.mk.inj (Option.some.inj h)).2]
    exact ⟨z4, z5, z2, z3⟩
  · have h1 : (if zkd α o = 3 ∧ (zL α o).length < 1000000 then some ((1 : Int32), zlset α o 1 (zL α o ++ [p]) (zm α o + 1)) else none) = some (y, β) := h
    rw [if_neg (fun z => ln z.2)] at h1
    exact absurd h1 (by simp)
/-- the innermost unit's list changes -/
theorem T_lw (S : xTs c M U none lu lr α) (h : xp c a α) (hl : uL α M o) (h1 : o ≠ lu) (h2 : o ≠ lr) (fr : ∀ x, x ≠ o → β.2 x = α.2 x) (hn : zn α ≤ zn β) (hk : zkd β o = 3) (hL : ∀ r, some r ∈ zL β o → uI c α M r) : xp c a β ∧ xTs c M U none lu lr β ∧ (∀ v, U v → β.2 v = α.2 v) ∧ (∀ t e L, M t → xnB α t e L → xnB β t e L ∧ L.map (xkv β) = L.map (xkv α)) := by
  have ko := hl.1
  have kp := h.x.kp
  have kk := h.x.kk
  have kv := h.x.kv
  refine ⟨h.fr hn (fr _ (fun z => by rw [z, ko] at kp; omega)) (fr _ (fun z => by rw [z, ko] at kk; omega)) (fr _ (fun z => by rw [z, ko] at kv; omega)), S.lw hl h1 h2 fr hn hk hL, fun v hv => fr v (fun z => by have := (S.un v hv).ku; rw [z, ko] at this; omega), fun t e L mt b => ?_⟩
  have kn := b.kn
  exact b.st hn (fr _ (fun z => by rw [z, ko] at kn; omega)) (fr _ (fun z => hl.2.2 t mt z)) (fun r hr => fr r (fun z => by have := (b.ok r hr).1; rw [z, ko] at this; omega))
theorem w_i335 (B : xBN c M U none lu lr u l x γ) (hE : ∀ v, U v → α.2 v = γ.2 v) (R : xRtN α u x) (h : xp c a α) (S : xTs c M' U none lu lr α) (iq : uI c α M' q) (h5 : 5 ≤ x) (h7 : x ≤ 7) : wx (hX4_item_335 G (some u) x5 (some q) α) (fun _ β => xWN c U lu lr u l β) := by
  have Uu := B.op.1
  unfold hX4_item_335
  refine wx_lp (I := fun y δ => y = (some u, x5, some q) ∧ xp c a δ ∧ xTs c M' U none lu lr δ ∧ (∀ v, U v → δ.2 v = γ.2 v) ∧ xRtN δ u x ∧ uI c δ M' q) (fun y δ hI => ?_) ⟨rfl, h, S, hE, R, iq⟩
  obtain ⟨rfl, h1, S1, E1, R1, i1⟩ := hI
  have ku := (S1.un u Uu).ku
  obtain ⟨o, l1, l2, l3, l4, l5⟩ := (S1.un u Uu).fd
  obtain ⟨r, r1, r2, r3⟩ := (S1.un u Uu).f1
  have step : ∀ {ε}, (∀ x, x ≠ o → ε.2 x = δ.2 x) → zn δ ≤ zn ε → zkd ε o = 3 → (∀ r, some r ∈ zL ε o → uI c δ M' r) → xp c a ε ∧ xTs c M' U none lu lr ε ∧ (∀ v, U v → ε.2 v = γ.2 v) ∧ xRtN ε u x ∧ uI c ε M' q := fun {ε} fr hn hk hL => by
    obtain ⟨y1, y2, y3, y4⟩ := T_lw S1 h1 l2 l3 l4 fr hn hk hL
    refine ⟨y1, y2, fun v hv => (y3 v hv).trans (E1 v hv), R1.fr (zA_eq (y3 u Uu) 43 1) fun t' e' L' w1 b' => y4 t' e' L' (by rw [Option.some.inj (w1.symm.trans r1)]; exact r2) b', i1.1, ?_⟩
    obtain ⟨e, L, b, _⟩ := S1.hp.1 q i1.1
    rw [(y4 q e L i1.1 b).1.e, ← b.e]
    exact i1.2
  show wl (hX4_item_335b G (some u) x5 (some q) δ) _ _
  unfold hX4_item_335b
  rw [kfA ku, gl_bs, l1]
  refine wl_ob fun x2 _ => wl_if (fun _ => wl_zi ?_) (fun _ => ?_)
  · rw [gl_bs]
    refine wx_b (wp_im (ladd_p l2.1) fun _ ε y => ?_)
    obtain ⟨f1, f2, f3, f4⟩ := y
    obtain ⟨h2, S2, E2, R2, i2⟩ := step f1 f2 f3 (fun r hr => by
      rw [f4] at hr
      rcases List.mem_append.mp hr with w | w
      · exact l5 r w
      · rw [Option.some.inj (List.mem_singleton.mp w)]; exact i1)
    have ku2 := (S2.un u Uu).ku
    show wx (Option.bind (zpA ε (some u) 43 12 (some q)) _) _
    rw [kpA ku2, gl_bs]
    refine wx_l ?_
    have fr : ∀ y, y ≠ u → (zwA ε 43 12 u (some q)).2 y = ε.2 y := fun y hy => zwA_ne hy
    have S3 := S2.uw (β := zwA ε 43 12 u (some q)) (u := u) fr rfl ku2 ((S2.un u Uu).wAi (fun q' hq => by rw [← Option.some.inj hq]; exact i2))
    refine B_end B (fun v hv hvu => (fr v hvu).trans (E2 v hv)) ?_ (R2.fr ?_ fun t' e' L' _ b' => b'.uw fr rfl ku2) (h2.uw fr rfl ku2) S3 ?_ (by omega) (by omega) (fun y => by omega)
    · rw [zA_zwA, if_neg (fun z => absurd z.2.1 (by decide))]; exact zA_eq (E2 u Uu) 43 0
    · rw [zA_zwA, if_neg (fun z => absurd z.2.1 (by decide))]
    · rw [zI_zwA, zI_eq (E2 u Uu)]; exact B.cu.st
  · rw [gl_bs, gl_bs]
    refine wl_ob fun x8 _ => wl_b (wp_im (lrem_p l2.1) fun _ ε y => wl_in ⟨rfl, ?_⟩)
    obtain ⟨f1, f2, f3, f4⟩ := y
    exact step f1 (Nat.le_of_eq f2.symm) f3 (fun r hr => l5 r (f4 _ hr))
theorem w_i295 (B : xBN c M U none lu lr u l x γ) (kp : zkd γ c.p = 41) (h5 : 5 ≤ x) (h7 : x ≤ 7) (pa : paN c M γ X tO) (s : xnS c c.p q γ a (nI 12, nI (1000 * X + y)) [] δ) (hX : X = 1 ∨ X = 77 ∨ X = 88 ∨ 2 ≤ X ∧ X ≤ 49) (hy : y = 0 ∨ wV c 1 (y - 1)) (hy' : y < 1000) : wx (hX4_item_295 G (some c.p) (some u) (nI X) x5 tO (some q) δ) (fun _ β => xWN c U lu lr u l β) := by
  have Uu := B.op.1
  unfold hX4_item_295
  refine wx_lp (I := fun w δ => w = (some c.p, some u, nI X, x5, tO, some q) ∧ ∃ a' K, xnS c c.p q γ a' (nI 12, nI (1000 * X + y)) K δ ∧ ∀ ev, ev ∈ K → grK 13 15 ev ∨ grK 18 19 ev) (fun w δ hI => ?_) ⟨rfl, a, [], s, fun ev hv => absurd hv (by simp)⟩
  obtain ⟨rfl, a2, K, s2, g2⟩ := hI
  have h2 := s2.hp
  have c5 := h2.a5
  show wl (hX4_item_295b G (some c.p) (some u) (nI X) x5 tO (some q) δ) _ _
  unfold hX4_item_295b
  rw [kfI h2.kp, gl_bs, h2.ax]
  refine wl_z ?_
  rw [show (4 : Int32) = nI 4 from rfl, X_isK h2.o h2.x (by omega) (by decide), gl_bs]
  refine wl_if (fun _ => wl_zi (wx_zc (w_period h2 fun e => ?_))) (fun _ => ?_)
  · obtain ⟨s3, _⟩ := s2.adv (wK_i e).1
    have gI : grI c (fun n => n = X) (nI 12, nI (1000 * X + y)) := ⟨X, y, rfl, by omega, hy, hy', rfl⟩
    obtain ⟨d, ek⟩ := s3.cl (grS_i (k := 12) ⟨⟨X, y, hX, by omega, hy, hy', rfl⟩, K, [], by simp, g2, fun _ h => absurd h (by simp), fun _ => rfl⟩ (by decide))
    rcases tO with _ | t
    · refine wx_z ?_
      rw [add_none]
      exact wx_no
    obtain ⟨mt, k, v0, L, hk, b, g⟩ := pa t rfl
    refine wx_zb (wp_im (B_add B kp d mt b (lo := k) (hi := k) ⟨k, by omega, by omega, rfl⟩ (by omega) (by omega) (grS_i (g _ (by rw [ek]; exact gI)) (by omega))) fun r' ε w => ?_)
    obtain ⟨rfl, h3, M', S2, m2, _, e2, hE, R, _⟩ := w
    refine wx_if (fun h88 => ?_) (fun _ => ?_)
    · have x88 : X ≠ 88 := fun w => h88 (by rw [w]; rfl)
      refine w_i335 B hE R h3 S2 ⟨m2, ?_⟩ h5 h7
      rw [e2, ek]
      exact ⟨X, y, by omega, by omega, hy, hy', rfl⟩
    · refine wx_l (B_end B (fun v hv _ => hE v hv) (zA_eq (hE u Uu) 43 0) R h3 S2 ?_ (by omega) (by omega) (fun w => by omega))
      rw [zI_eq (hE u Uu)]; exact B.cu.st
  · refine wl_z (wl_c (wx_im (w_part s2) fun _ ε w => wl_in ?_))
    obtain ⟨a3, ev, g3, s3⟩ := w
    exact ⟨rfl, a3, K ++ [ev], s3, al_add g2 g3⟩
theorem w_i275 (B : xBN c M U none lu lr u l x γ) (h : xp c a γ) (h5 : 5 ≤ x) (h7 : x ≤ 7) (pa : paN c M γ X tO) (hX : X = 1 ∨ X = 77 ∨ X = 88 ∨ 2 ≤ X ∧ X ≤ 49) (hy : y = 0 ∨ wV c 1 (y - 1)) (hy' : y < 1000) {x2 : Int32} : wx (hX4_item_275 G (some c.p) (some u) x2 (nI X) x5 tO (nI y) γ) (fun _ β => xWN c U lu lr u l β) := by
  unfold hX4_item_275
  rw [show ((1000 : Int32) * nI X + nI y) = nI (1000 * X + y) from by rw [show (1000 : Int32) = nI 1000 from rfl, pI_mul, pI_add]]
  refine wx_nw (T := c.p) h (by rw [h.kp]; decide) h.pz (by decide) fun β s _ _ => ?_
  exact w_i295 B h.kp h5 h7 pa s hX hy hy'
theorem w_i265 (B : xBN c M U none lu lr u l x γ) (h : xp c a γ) (ha : a < c.n) (h5 : 5 ≤ x) (h7 : x ≤ 7) (pa : paN c M γ X tO) (hX : X = 1 ∨ X = 77 ∨ X = 88 ∨ 2 ≤ X ∧ X ≤ 49) (hy : y = 0 ∨ wV c 1 (y - 1)) (hy' : y < 1000) {x2 : Int32} : wx (hX4_item_265 G (some c.p) (some u) x2 (nI X) x5 tO (nI y) γ) (fun _ β => xWN c U lu lr u l β) := by
  unfold hX4_item_265
  rw [kfI h.kp, gl_bs, h.ax, kpI h.kp, gl_bs, show nI a + 1 = nI (a + 1) from pI_succ a, show zwI γ 40 3 c.p (nI (a + 1)) = xaS c γ a from rfl]
  exact w_i275 (B.pw xaSq h.kp) (h.adv ha) h5 h7 (pa.pw xaSq h.kp) hX hy hy'
theorem w_i206 (B : xBN c M U none lu lr u l x γ) (h : xp c a γ) (ha : a < c.n) (h5 : 5 ≤ x) (h7 : x ≤ 7) (pa : paN c M γ X tO) (hX : X = 1 ∨ X = 77 ∨ X = 88 ∨ 2 ≤ X ∧ X ≤ 49) (hn : ∀ i, i < c.n → c.ks i = 1 → c.vs i < 999) {x2 : Int32} : wx (hX4_item_206 G (some c.p) (some u) x2 (nI X) x5 tO γ) (fun _ β => xWN c U lu lr u l β) := by
  have h1 := h.adv ha
  have B1 := B.pw (xaSq (a := a)) h.kp
  have pa1 := pa.pw (xaSq (a := a)) h.kp
  have a5 := h1.a5
  unfold hX4_item_206
  rw [kfI h.kp, gl_bs, h.ax, kpI h.kp, gl_bs, show nI a + 1 = nI (a + 1) from pI_succ a, show zwI γ 40 3 c.p (nI (a + 1)) = xaS c γ a from rfl]
  generalize xaS c γ a = δ at *
  rw [kfI h1.kp, gl_bs, h1.ax]
  refine wx_z ?_
  rw [nl1, X_isK h1.o h1.x (by omega) (by decide), gl_bs]
  refine wx_if (fun _ => ?_) (fun e1 => ?_)
  · unfold hX4_item_245
    refine wx_if (fun w => absurd w (by decide)) (fun _ => ?_)
    show wx (Option.bind (zfI δ (some c.p) 40 3) _) _
    rw [kfI h1.kp, gl_bs, h1.ax]
    refine wx_z ?_
    rw [show (18 : Int32) = nI 18 from rfl, X_isW h1.o h1.x (by omega) (by decide), gl_bs]
    refine wx_if (fun _ => ?_) (fun e18 => ?_)
    · exact w_i275 (y := 0) B1 h1 h5 h7 pa1 hX (.inl rfl) (by decide)
    · exact w_i265 (y := 0) B1 h1 (wW_i (b2nT e18)).1 h5 h7 pa1 hX (.inl rfl) (by decide)
  · obtain ⟨i1, i2⟩ := wK_i (b2nT e1)
    have nb := hn _ i1 i2
    have rv := h1.x.rv (a + 1) i1
    show wx (Option.bind (zfA δ (some c.p) 40 1) _) _
    rw [kfA h1.kp, gl_bs, h1.x.fv, kfI h1.kp, gl_bs, h1.ax, kald h1.x.kv (by rw [h1.x.lv]; omega) (by rw [h1.x.lv]; decide), gl_bs, rv, show nI (c.vs (a + 1)) + nI 1 = nI (c.vs (a + 1) + 1) from pI_succ _]
    unfold hX4_item_245
    refine wx_if (fun _ => ?_) (fun w => absurd (by rw [nl0, pI_lt (by decide) (by omega)]; omega) w)
    exact w_i265 B1 h1 i1 h5 h7 pa1 hX (.inr ⟨a + 1, i1, i2, by omega⟩) (by omega)
theorem pa_item (B : xBN c M U none lu lr u l x γ) (h : uI c γ M t) (hX : X = 88 ∨ 2 ≤ X ∧ X ≤ 49) : paN c M γ X (some t) := fun t' ht => by
  have e0 := Option.some.inj ht
  subst e0
  obtain ⟨mt, n1, x1, p1, p2, p3, p4, e1⟩ := h
  obtain ⟨v0, L, b, g1, m, n, em, hm, hn, h88⟩ := B.ts.hp.nd mt (k := 12) ⟨12, by decide, by decide, by rw [e1]⟩ (by decide) (by decide)
  refine ⟨mt, 12, v0, L, by omega, b, fun e he => ⟨g1, m, n ++ [e], by rw [em, List.append_assoc], hm, al_add hn ?_, fun g8 => ?_⟩⟩
  · obtain ⟨n2, x2, q1, q2⟩ := he
    exact ⟨n2, x2, by omega, q2⟩
  · obtain ⟨n2, x2, q1, q2, q3, q4, q5⟩ := g8
    have e2 := b.e.symm.trans e1
    rw [e2] at q5
    have e3 : nI (1000 * n1 + x1) = nI (1000 * n2 + x2) := congrArg Prod.snd q5
    rw [pI_inj (by omega) (by omega)] at e3
    omega
theorem w_i164 (B : xBN c M U none lu lr u l x γ) (h : xp c a γ) (ha : a < c.n) (h5 : 5 ≤ x) (h7 : x ≤ 7) (hX : x4 ≠ 0 ∧ (X = 1 ∨ X = 77) ∨ x4 = 0 ∧ (X = 88 ∨ 2 ≤ X ∧ X ≤ 49)) (hn : ∀ i, i < c.n → c.ks i = 1 → c.vs i < 999) {x2 x0 : Int32} : wx (hX4_item_164 G (some c.p) (some u) x2 (nI X) x4 x5 x0 (some c.p) γ) (fun _ β => xWN c U lu lr u l β) := by
  have ku := B.un.ku
  unfold hX4_item_164
  refine wx_zc (w_must h fun _ => ?_)
  refine wx_if (fun e4 => ?_) (fun e4 => ?_)
  · have hX' : X = 88 ∨ 2 ≤ X ∧ X ≤ 49 := by
      rcases hX with w | w
      · exact absurd e4 w.1
      · exact w.2
    refine wx_if (fun _ => ?_) (fun _ => ?_)
    · show wx (Option.bind (zfA γ (some u) 43 13) _) _
      obtain ⟨o, l1, l2, l3, l4, l5⟩ := B.un.fd
      rw [kfA ku, gl_bs, l1]
      refine wx_ob fun r32 h32 => wx_z ?_
      have m32 := lget_m h32
      refine w_i206 B h ha h5 h7 ?_ (by omega) hn
      rcases r32 with _ | r
      · exact fun t ht => absurd ht (by simp)
      · exact pa_item B (l5 r m32) hX'
    · show wx (Option.bind (zfA γ (some u) 43 12) _) _
      rw [kfA ku, gl_bs]
      refine w_i206 B h ha h5 h7 ?_ (by omega) hn
      rcases h12 : zA γ 43 12 u with _ | r
      · exact fun t ht => absurd ht (by simp)
      · exact pa_item B (B.un.fc r h12) hX'
  · have hX' : X = 1 ∨ X = 77 := by
      rcases hX with w | w
      · exact w.2
      · exact absurd w.1 e4
    show wx (Option.bind (zfA γ (some u) 43 7) _) _
    rw [kfA ku, gl_bs]
    refine w_i206 B h ha h5 h7 (fun t ht => ?_) (by omega) hn
    obtain ⟨mt, k, k1, k2, k3⟩ := B.un.f7 t ht
    obtain ⟨v0, L, b, g⟩ := B.ts.hp.nd mt (k := k) ⟨k, by omega, by omega, k3⟩ (by omega) (by omega)
    refine ⟨mt, k, v0, L, by omega, b, fun e he => ?_⟩
    have ge : grI c grTop e := by
      obtain ⟨n2, x2, q1, q2⟩ := he
      exact ⟨n2, x2, by rw [q1]; exact hX', q2⟩
    have kk : k = 9 ∨ k = 10 ∨ k = 11 := by omega
    rcases kk with w | w | w <;> subst w
    · exact ⟨g.1, al_add g.2 ge⟩
    · exact ⟨g.1, al_add g.2 ge⟩
    · exact ⟨g.1, al_add g.2 ge⟩
theorem w_i132 (B : xBN c M U none lu lr u l x γ) (h : xp c a γ) (ha : a < c.n) (h5 : 5 ≤ x) (h7 : x ≤ 7) (hX : x4 ≠ 0 ∧ (X = 1 ∨ X = 77) ∨ x4 = 0 ∧ (X = 88 ∨ 2 ≤ X ∧ X ≤ 49)) (hn : ∀ i, i < c.n → c.ks i = 1 → c.vs i < 999) {x2 : Int32} : wx (hX4_item_132 G (some c.p) (some u) x2 (nI X) x4 x5 γ) (fun _ β => xWN c U lu lr u l β) := by
  have no : wx (hX4_item_163 G (some c.p) (some u) x2 (nI X) x4 x5 (some c.p) γ) (fun _ β => xWN c U lu lr u l β) := by
    unfold hX4_item_163 hX4_item_164
    exact wx_zc (w_must h fun w => absurd rfl w)
  have go : wx (hX4_item_159 G (some c.p) (some u) x2 (nI X) x4 x5 (some c.p) γ) (fun _ β => xWN c U lu lr u l β) := by
    unfold hX4_item_159
    exact w_i164 B h ha h5 h7 hX hn
  unfold hX4_item_132
  refine wx_if (fun _ => go) (fun _ => wx_if (fun _ => wx_if (fun _ => no) (fun _ => go)) (fun _ => ?_))
  rw [kfA B.un.ku, gl_bs]
  exact wx_if (fun _ => no) (fun _ => go)
theorem w_i73 (B : xBN c M U none lu lr u l x γ) (h : xp c a γ) (ha : a < c.n) (h5 : 5 ≤ x) (h7 : x ≤ 7) (hX : x4 ≠ 0 ∧ (X = 1 ∨ X = 77) ∨ x4 = 0 ∧ (X = 88 ∨ 2 ≤ X ∧ X ≤ 49)) (hn : ∀ i, i < c.n → c.ks i = 1 → c.vs i < 999) {x2 x0 : Int32} : wx (hX4_item_73 G (some c.p) (some u) x2 (nI X) x4 x0 (some c.p) γ) (fun _ β => xWN c U lu lr u l β) := by
  unfold hX4_item_73
  refine wx_zc (w_must h fun _ => ?_)
  refine wx_ob fun r41 _ => wx_ob fun x42 _ => ?_
  unfold hX4_item_85
  refine wx_lp (I := fun w δ => δ = γ ∧ ∃ z5, w = (some c.p, some u, x2, nI X, x4, z5)) (fun w δ hI => ?_) ⟨rfl, x42, rfl⟩
  obtain ⟨rfl, z5, rfl⟩ := hI
  have go : ∀ z5, wx (hX4_item_132 G (some c.p) (some u) x2 (nI X) x4 z5 δ) (fun _ β => xWN c U lu lr u l β) := fun z5 => w_i132 B h ha h5 h7 hX hn
  have on : wl (hX4_item_126 G (some c.p) (some u) x2 (nI X) x4 z5 δ) (fun w ε => ε = δ ∧ ∃ z5, w = (some c.p, some u, x2, nI X, x4, z5)) (fun _ β => xWN c U lu lr u l β) := by
    unfold hX4_item_126
    exact wl_in ⟨rfl, _, rfl⟩
  show wl (hX4_item_85b G (some c.p) (some u) x2 (nI X) x4 z5 δ) _ _
  unfold hX4_item_85b
  refine wl_if (fun _ => wl_zi (go z5)) (fun _ => wl_if (fun _ => wl_zi (go z5)) (fun _ => wl_if (fun _ => on) (fun _ => ?_)))
  refine wl_ob fun r37 _ => wl_ob fun r38 _ => wl_z (wl_ob fun x39 _ => wl_if (fun w => absurd w (by decide)) (fun _ => wl_if (fun _ => wl_zi (go z5)) (fun _ => on)))
/-- an item -/
theorem w_item (s : xBg c M U z lu lr u l x a α) (hn : ∀ i, i < c.n → c.ks i = 1 → c.vs i < 999) : wx (hX4_item G (some c.p) α) (fun _ β => xWN c U lu lr u l β) := by
  have h := s.hh
  have B := s.bb
  have a5 := h.a5
  have rv := h.x.rv a s.nn
  have vb := h.o.vs a s.nn
  unfold hX4_item
  rw [kfA h.kp, gl_bs, s.cu]
  refine wx_zc (w_state (i := 5) (j := 7) B.cu h s.cu B.un.ku (by decide) (by decide) fun g1 g2 => ?_)
  have z0 := B.z1 (by omega)
  subst z0
  show wx (Option.bind (zfI α (some c.p) 40 3) _) _
  rw [kfI h.kp, gl_bs, kfA h.kp, gl_bs, h.x.fv, gl_bs, h.ax, kald h.x.kv (by rw [h.x.lv]; omega) (by rw [h.x.lv]; decide), gl_bs, rv]
  have one : c.vs a = 1 ∨ c.vs a = 77 → ∀ {x2}, wx (hX4_item_38 G (some c.p) (some u) x2 (nI (c.vs a)) α) (fun _ β => xWN c U lu lr u l β) := fun hv {x2} => by
    unfold hX4_item_38 hX4_item_43
    refine wx_if (fun _ => ?_) (fun w => absurd (show ¬ (1 : Int32) = 0 from by decide) w)
    unfold hX4_item_68
    exact w_i73 B h s.nn g1 g2 (.inl ⟨by decide, hv⟩) hn
  have two : ∀ {x2}, wx (hX4_item_43 G (some c.p) (some u) x2 (nI (c.vs a)) 0 α) (fun _ β => xWN c U lu lr u l β) := fun {x2} => by
    have no : wx (hX4_item_72 G (some c.p) (some u) x2 (nI (c.vs a)) 0 (some c.p) α) (fun _ β => xWN c U lu lr u l β) := by
      unfold hX4_item_72 hX4_item_73
      exact wx_zc (w_must h fun w => absurd rfl w)
    have go : c.vs a = 88 ∨ 2 ≤ c.vs a ∧ c.vs a ≤ 49 → wx (hX4_item_68 G (some c.p) (some u) x2 (nI (c.vs a)) 0 (some c.p) α) (fun _ β => xWN c U lu lr u l β) := fun hv => by
      unfold hX4_item_68
      exact w_i73 B h s.nn g1 g2 (.inr ⟨rfl, hv⟩) hn
    unfold hX4_item_43
    refine wx_if (fun w => absurd rfl w) (fun _ => wx_if (fun e => go ?_) (fun _ => wx_if (fun _ => no) (fun e2 => wx_if (fun _ => no) (fun e49 => go ?_))))
    · rw [show (88 : Int32) = nI 88 from rfl, pI_inj (by omega) (by decide)] at e
      exact .inl e
    · rw [show (2 : Int32) = nI 2 from rfl, pI_lt (by omega) (by decide)] at e2
      rw [show (49 : Int32) = nI 49 from rfl, pI_lt (by decide) (by omega)] at e49
      exact .inr (by omega)
  refine wx_if (fun e => one ?_) (fun _ => wx_if (fun _ => two) (fun e => one ?_))
  · rw [show (1 : Int32) = nI 1 from rfl, pI_inj (by omega) (by decide)] at e
    exact .inl e
  · have e := Decidable.of_not_not e
    rw [show (77 : Int32) = nI 77 from rfl, pI_inj (by omega) (by decide)] at e
    exact .inr e
end PAZZZZO
