/-! THE PURE LAYER: the parser: a new unit: its cells, its node, its place. -/
def pD.rta (D : pD) (t : Nat) : pD := (D.fa, D.fb, D.lu, D.lr, D.rt ++ [t], D.nu, D.un, D.ou, D.en, D.da, D.pr, D.dp, D.os, D.st, D.nm, D.fu, D.hd, D.fi, D.ho, D.de, D.se, D.pa, D.lt, D.it, D.z0, D.w0, D.a0)
def pD.opn (D : pD) (q t : Nat) : pD := (D.fa, D.fb, D.lu, D.lr, D.rt, D.nu + 1, va_up D.un D.nu t, va_up D.ou D.nu q, va_up D.en D.nu 0, va_up D.da D.nu 0, va_up D.pr D.nu 0, D.dp + 1, va_up D.os D.dp D.nu, va_up D.st D.dp 0, va_up D.nm D.dp 0, va_up D.fu D.dp 0, va_up D.hd D.dp 0, D.fi, D.ho, D.de, D.se, D.pa, D.lt, D.it, D.z0, D.w0, D.a0)
section PAZZI
variable {L L2 : Nat → Prop} {c : pC} {D D' : pD} {G : xQ} {α β : zS} {s s' s1 : zM} {B at' a a1 b d f N N' F F' p q t to u x y k i j w wh lv m S r : Nat} {g g' g2 : pG} {v v' : Int32}
/-- X's store grows, nothing else -/
theorem pR.qt (h : pR c a d b N y g α s) (hn : zn α ≤ zn β) (hf : ∀ q, q < zn α ∨ zn β ≤ q → β.2 q = α.2 q) (hc : zc β ≤ zc α + 3 * k) (hw : zw β ≤ zw α + 14 * k) : pR c a d (b + k) N y g β s := by
  have n := h.x.n
  have p := h.k.p
  have ep := hf c.p (.inl (by omega))
  have zcb := h.zcb
  have zwb := h.zwb
  refine pR.mk h.k (h.x.nw h.k hn fun q hq => hf q (by omega)) h.m (by rw [zI_eq ep]; exact h.ax) (by rw [zI_eq ep]; exact h.nx) h.am h.nm h.bm h.Nm h.al h.a0 h.nl h.N0 (by have := h.Nb; omega) (by omega) (by omega) h.yN (h.g.fr (fun _ _ _ _ _ _ => rfl) (fun t h1 h2 => ?_) hn)
  have := (h.g.nd t h1 h2).hi
  exact ⟨hf _ (.inl (by omega)), hf _ (.inl (by omega))⟩
/-- a new node has no parent -/
theorem init_A {kv : Int32} (h : xNw c α q) (hx : hX43_init G (some q) kv v v' α = some ((), β)) (hk : k ≠ 8) : zA β 44 k q = none := by
  have n := h.n
  have kd := h.kd
  have A2 : zkd (zmk α 2003 0 3) (q + 1) = 2003 := by rw [zkd_zmk, if_pos n.symm]
  have A1 : zkd (zmk α 2003 0 3) q = 45 := by rw [zkd_eq (zmk_ne (by omega))]; exact kd
  have zl : zLiI (zmk α 2003 0 3) (some (q + 1)) 2 = some ((), zraw (zmk α 2003 0 3) (q + 1) 3 (q + 2) 2 1 1 2 [] []) := by
    unfold zLiI
    simp only [A2]
    have : zn (zmk α 2003 0 3) = q + 2 := by show zn α + 1 = _; omega
    rw [this]
    rfl
  have B1 : zkd (zraw (zmk α 2003 0 3) (q + 1) 3 (q + 2) 2 1 1 2 [] []) q = 45 := by rw [zkd_raw, if_neg (by omega)]; exact A1
  have E : hX43_init G (some q) kv v v' α = some ((), zwI (zwI (zwI (zwA (zraw (zmk α 2003 0 3) (q + 1) 3 (q + 2) 2 1 1 2 [] []) 44 8 q (some (q + 1))) 44 0 q kv) 44 1 q v) 44 5 q v') := by
    unfold hX43_init
    rw [if_neg (by simp)]
    show ((zLiI (zmk α 2003 0 3) (some (zn α)) 2).bind _) = _
    rw [n, zl, gl_bs]
    show ((zpA _ (some q) 44 8 (some (q + 1))).bind _) = _
    rw [kpA B1, gl_bs, kpI (by rw [zkd_zwA]; exact B1), gl_bs, kpI (by rw [zkd_zwI, zkd_zwA]; exact B1), gl_bs, kpI (by rw [zkd_zwI, zkd_zwI, zkd_zwA]; exact B1), gl_bs]
  rw [E] at hx
  have e := (Prod.mk.inj (Option.some.inj hx)).2
  rw [← e, zA_zwI, zA_zwI, zA_zwI, zA_zwA, if_neg (fun z => hk z.2.1), zA_raw, zA_mk, if_neg (by omega)]
  exact h.A k
/-- X's constructor of units -/
theorem X_unit {o : Option Nat} (hz : zn c.a0 ≤ zn α) : ∃ β, hX42_init G (some (zn α)) o v (zmk α 44 0 14) = some ((), β) ∧ (zkd β (zn α) = 44 ∧ zA β 43 13 (zn α) = some (zn α + 1) ∧ zkd β (zn α + 1) = 3 ∧ zL β (zn α + 1) = [] ∧ zA β 43 0 (zn α) = o ∧ zA β 43 1 (zn α) = some (zn α + 2) ∧ (∀ k, k ≠ 0 → k ≠ 1 → k ≠ 13 → zA β 43 k (zn α) = none) ∧ (∀ k, zI β 43 k (zn α) = nI 0)) ∧ (zkd β (zn α + 2) = 45 ∧ zA β 44 8 (zn α + 2) = some (zn α + 2 + 1) ∧ zkd β (zn α + 2 + 1) = 3 ∧ zL β (zn α + 2 + 1) = [] ∧ zI β 44 0 (zn α + 2) = nI 1 ∧ zI β 44 1 (zn α + 2) = nI 0 ∧ zI β 44 5 (zn α + 2) = v ∧ zI β 44 2 (zn α + 2) = nI 0 ∧ zA β 44 6 (zn α + 2) = none) ∧ (∀ x, x < zn α ∨ zn α + 5 ≤ x → β.2 x = α.2 x) ∧ zn β = zn α + 5 ∧ zc β = zc α + 5 ∧ zw β = zw α + 41 := by
  have e1 : zn (zmk α 44 0 14) = zn α + 1 := rfl
  have A0 : zkd (zmk α 44 0 14) (zn α) = 44 := by rw [zkd_zmk, if_pos rfl]
  have A1 : zkd (zmk (zmk α 44 0 14) 2003 0 3) (zn α + 1) = 2003 := by rw [zkd_zmk, if_pos e1.symm]
  have zl : zLi0 (zmk (zmk α 44 0 14) 2003 0 3) (some (zn α + 1)) = some ((), zraw (zmk (zmk α 44 0 14) 2003 0 3) (zn α + 1) 3 0 0 0 0 10 [] []) := if_pos A1
  have A2 : zkd (zraw (zmk (zmk α 44 0 14) 2003 0 3) (zn α + 1) 3 0 0 0 0 10 [] []) (zn α) = 44 := by
    rw [zkd_raw, if_neg (by omega), zkd_eq (zmk_ne (by rw [e1]; omega))]; exact A0
  have fr3 : ∀ x, x ≠ zn α + 1 → (zraw (zmk (zmk α 44 0 14) 2003 0 3) (zn α + 1) 3 0 0 0 0 10 [] []).2 x = (zmk α 44 0 14).2 x := fun x hx => by
    rw [zraw_ne hx]; exact zup_ne (by rw [e1]; exact hx)
  have k3 : zkd (zraw (zmk (zmk α 44 0 14) 2003 0 3) (zn α + 1) 3 0 0 0 0 10 [] []) (zn α + 1) = 3 := by rw [zkd_raw, if_pos rfl]
  have l3 : zL (zraw (zmk (zmk α 44 0 14) 2003 0 3) (zn α + 1) 3 0 0 0 0 10 [] []) (zn α + 1) = [] := by rw [zL_raw, if_pos rfl]
  have n3 : zn (zraw (zmk (zmk α 44 0 14) 2003 0 3) (zn α + 1) 3 0 0 0 0 10 [] []) = zn α + 2 := rfl
  have c3 : zc (zraw (zmk (zmk α 44 0 14) 2003 0 3) (zn α + 1) 3 0 0 0 0 10 [] []) = zc α + 2 := rfl
  have w3 : zw (zraw (zmk (zmk α 44 0 14) 2003 0 3) (zn α + 1) 3 0 0 0 0 10 [] []) = zw α + 27 := rfl
  have X0 : hX42_init G (some (zn α)) o v (zmk α 44 0 14) = (zpA (zraw (zmk (zmk α 44 0 14) 2003 0 3) (zn α + 1) 3 0 0 0 0 10 [] []) (some (zn α)) 43 13 (some (zn α + 1))).bind fun σ3 => (zpA σ3 (some (zn α)) 43 0 o).bind fun σ4 => (znO σ4 44 9).bind fun p5 => if zis G p5.2 p5.1 45 = true then (hX43_init G p5.1 1 0 v p5.2).bind fun p6 => (zpA p6.2 (some (zn α)) 43 1 p5.1).bind fun σ7 => some ((), σ7) else none := by
    unfold hX42_init
    rw [if_neg (by simp)]
    show Option.bind (zLi0 (zmk (zmk α 44 0 14) 2003 0 3) (some (zn α + 1))) _ = _
    rw [zl, gl_bs]
    rfl
  have I3 : ∀ k, zI (zraw (zmk (zmk α 44 0 14) 2003 0 3) (zn α + 1) 3 0 0 0 0 10 [] []) 43 k (zn α) = nI 0 := fun k => by
    rw [zI_eq (fr3 _ (by omega)), zI_mk, if_pos rfl]; rfl
  have R3 : ∀ k, zA (zraw (zmk (zmk α 44 0 14) 2003 0 3) (zn α + 1) 3 0 0 0 0 10 [] []) 43 k (zn α) = none := fun k => by
    rw [zA_eq (fr3 _ (by omega)), zA_mk, if_pos rfl]
  have O3 : ∀ x, x < zn α ∨ zn α + 5 ≤ x → (zraw (zmk (zmk α 44 0 14) 2003 0 3) (zn α + 1) 3 0 0 0 0 10 [] []).2 x = α.2 x := fun x hx => by
    rw [fr3 x (by omega)]; exact zup_ne (by omega)
  generalize zraw (zmk (zmk α 44 0 14) 2003 0 3) (zn α + 1) 3 0 0 0 0 10 [] [] = α3 at *
  have k4 : zkd (zwA (zwA α3 43 13 (zn α) (some (zn α + 1))) 43 0 (zn α) o) (zn α) = 44 := by rw [zkd_zwA, zkd_zwA]; exact A2
  have A4 : ∀ k, zA (zwA (zwA α3 43 13 (zn α) (some (zn α + 1))) 43 0 (zn α) o) 43 k (zn α) = if k = 0 then o else if k = 13 then some (zn α + 1) else none := fun k => by
    rw [zA_zwA, zA_zwA]
    by_cases z1 : k = 0
    · rw [if_pos ⟨rfl, z1, rfl⟩, if_pos z1]
    · rw [if_neg (fun z => z1 z.2.1), if_neg z1]
      by_cases z2 : k = 13
      · rw [if_pos ⟨rfl, z2, rfl⟩, if_pos z2]
      · rw [if_neg (fun z => z2 z.2.1), if_neg z2]; exact R3 k
  have I4 : ∀ k, zI (zwA (zwA α3 43 13 (zn α) (some (zn α + 1))) 43 0 (zn α) o) 43 k (zn α) = nI 0 := fun k => by rw [zI_zwA, zI_zwA]; exact I3 k
  have f4 : ∀ x, x ≠ zn α → (zwA (zwA α3 43 13 (zn α) (some (zn α + 1))) 43 0 (zn α) o).2 x = α3.2 x := fun x hx => by rw [zwA_ne hx, zwA_ne hx]
  have n4 : zn (zwA (zwA α3 43 13 (zn α) (some (zn α + 1))) 43 0 (zn α) o) = zn α + 2 := n3
  have c4 : zc (zwA (zwA α3 43 13 (zn α) (some (zn α + 1))) 43 0 (zn α) o) = zc α + 2 := c3
  have w4 : zw (zwA (zwA α3 43 13 (zn α) (some (zn α + 1))) 43 0 (zn α) o) = zw α + 27 := w3
  have X1 : hX42_init G (some (zn α)) o v (zmk α 44 0 14) = (znO (zwA (zwA α3 43 13 (zn α) (some (zn α + 1))) 43 0 (zn α) o) 44 9).bind fun p5 => if zis G p5.2 p5.1 45 = true then (hX43_init G p5.1 1 0 v p5.2).bind fun p6 => (zpA p6.2 (some (zn α)) 43 1 p5.1).bind fun σ7 => some ((), σ7) else none := by
    rw [X0, kpA A2, gl_bs, kpA (by rw [zkd_zwA]; exact A2), gl_bs]
  generalize zwA (zwA α3 43 13 (zn α) (some (zn α + 1))) 43 0 (zn α) o = α4 at *
  have Q : xNw c (zmk α4 45 0 9) (zn α + 2) := by
    refine xNw.mk (by show zn α4 + 1 = _; omega) (by omega) ?_ (fun k => ?_) (fun k => ?_)
    · rw [zkd_zmk, if_pos n4.symm]
    · rw [zI_mk, if_pos n4.symm]; rfl
    · rw [zA_mk, if_pos n4.symm]
  obtain ⟨β, x1, x2, x3, x4, x5, x6, x7, x8, x9, x10, x11, x12, x13⟩ := X_init (G := G) (kv := nI 1) (v := nI 0) (v' := v) Q
  have x6A : zA β 44 6 (zn α + 2) = none := init_A Q x1 (by decide)
  have fu : β.2 (zn α) = α4.2 (zn α) := by rw [x10 _ (by omega) (by omega)]; exact zmk_ne (by omega)
  have fl : β.2 (zn α + 1) = α4.2 (zn α + 1) := by rw [x10 _ (by omega) (by omega)]; exact zmk_ne (by omega)
  refine ⟨zwA β 43 1 (zn α) (some (zn α + 2)), ?_, ⟨?_, ?_, ?_, ?_, ?_, ?_, ?_, ?_⟩, ⟨?_, ?_, ?_, ?_, ?_, ?_, ?_, ?_, ?_⟩, ?_, ?_, ?_, ?_⟩
  · rw [X1, znO_e, gl_bs]
    show (if zis G (zmk α4 45 0 9) (some (zn α4)) 45 = true then _ else _) = _
    rw [n4, if_pos (of_eq_true (kis Q.kd (by decide)))]
    show Option.bind (hX43_init G (some (zn α + 2)) (nI 1) (nI 0) v (zmk α4 45 0 9)) _ = _
    rw [x1, gl_bs, kpA (by rw [zkd_eq fu]; exact k4), gl_bs]
  · rw [zkd_zwA, zkd_eq fu]; exact k4
  · rw [zA_zwA, if_neg (fun z => absurd z.2.1 (by decide)), zA_eq fu, A4]; rfl
  · rw [zkd_zwA, zkd_eq fl, zkd_eq (f4 _ (by omega))]; exact k3
  · rw [zL_zwA, zL_eq fl, zL_eq (f4 _ (by omega))]; exact l3
  · rw [zA_zwA, if_neg (fun z => absurd z.2.1 (by decide)), zA_eq fu, A4]; rfl
  · rw [zA_zwA, if_pos ⟨rfl, rfl, rfl⟩]
  · intro k h0 h1 h13
    rw [zA_zwA, if_neg (fun z => h1 z.2.1), zA_eq fu, A4, if_neg h0, if_neg h13]
  · intro k
    rw [zI_zwA, zI_eq fu]; exact I4 k
  · rw [zkd_zwA]; exact x2
  · rw [zA_zwA, if_neg (fun z => absurd z.1 (by decide))]; exact x3
  · rw [zkd_zwA]; exact x4
  · rw [zL_zwA]; exact x5
  · rw [zI_zwA]; exact x6
  · rw [zI_zwA]; exact x7
  · rw [zI_zwA]; exact x8
  · rw [zI_zwA]; exact x9
  · rw [zA_zwA, if_neg (fun z => absurd z.1 (by decide))]; exact x6A
  · intro x hx
    rw [zwA_ne (by omega), x10 x (by omega) (by omega), ← O3 x hx, ← f4 x (by omega)]
    exact zup_ne (by omega)
  · show zn β = _; omega
  · show zc β = _
    have : zc (zmk α4 45 0 9) = zc α4 + 1 := rfl
    omega
  · show zw β = _
    have : zw (zmk α4 45 0 9) = zw α4 + 9 := rfl
    omega
/-- a new node lives -/
theorem gW.push (h : gW L N p g α s) (N1 : 1 ≤ N) (hq : p < q) (hfr : ∀ t, L t → g.oa t ≠ q) (hn : q + 2 < zn α) (k0 : zkd α q = 45) (k1 : zA α 44 8 q = some (q + 1)) (k2 : zkd α (q + 1) = 3) (k3 : zL α (q + 1) = []) (k4 : zI α 44 0 q = nI k) (k53 : k < 53) (k5 : zI α 44 1 q = v) (k6 : zI α 44 5 q = v') (k7 : zI α 44 2 q = nI 0) : gW (fun t => L t ∨ t = N) (N + 1) p (g.push N q r) α (mMk s N (nI k) v v') := by
  have la0 := fun j (h1 : 9 ≤ j) (h2 : j ≤ 16) i => mMk_la (s := s) (N := N) (kv := nI k) (v := v) (v' := v') h1 h2 i
  have ne : ∀ w, L w → w ≠ N := fun w w1 z => by have := (h.bd w w1).2; omega
  refine gW.mk (fun t ht => ?_) (fun t ht => ?_) (fun t u ht hu e => ?_)
  · rcases ht with ht | ht
    · have := h.bd t ht; omega
    · omega
  · rcases ht with ht | ht
    · have o := h.nd t ht
      have n1 := ne t ht
      have old : ∀ j, 9 ≤ j → j ≤ 16 → la (mMk s N (nI k) v v') j t = la s j t := fun j h1 h2 => by rw [la0 j h1 h2, if_neg n1]
      refine wOk.mk ?_ ?_ ?_ ?_ ?_ ?_ ?_ ?_ ?_ ?_ ?_ ?_ ?_ ?_ ?_
      · rw [push_oa, if_neg n1]; exact o.lo
      · rw [push_oa, if_neg n1]; exact o.hi
      · rw [push_oa, if_neg n1]; exact o.kn
      · rw [push_oa, if_neg n1]; exact o.fl
      · rw [push_oa, if_neg n1]; exact o.kl
      · rw [push_oa, if_neg n1, old 9 (by decide) (by decide)]; exact o.kd
      · rw [push_oa, if_neg n1, old 10 (by decide) (by decide)]; exact o.vl
      · rw [push_oa, if_neg n1, old 11 (by decide) (by decide)]; exact o.wd
      · rw [push_oa, if_neg n1, old 9 (by decide) (by decide), old 12 (by decide) (by decide)]
        rcases o.ex with ⟨z1, u, z2, z3, z4⟩ | z
        · exact .inl ⟨z1, u, .inl z2, z3, by rw [push_oa, if_neg (ne u z2)]; exact z4⟩
        · exact .inr z
      · rw [push_oa, if_neg n1, push_ch, if_neg n1, o.ls]
        exact List.map_congr_left fun u hu => by rw [push_oa, if_neg (ne u (o.mem u hu).1)]
      · rw [push_ch, if_neg n1]; exact o.nd
      · rw [push_ch, if_neg n1]
        intro u hu
        obtain ⟨u1, u2, u3, u4⟩ := o.mem u hu
        exact ⟨.inl u1, by rw [la0 16 (by decide) (by decide), if_neg (ne u u1)]; exact u2, by rw [push_oa, push_oa, if_neg (ne u u1), if_neg n1]; exact u3, by rw [push_r, push_r, if_neg (ne u u1), if_neg n1]; exact u4⟩
      · rw [push_ch, if_neg n1, old 13 (by decide) (by decide)]; exact o.hd
      · rw [push_ch, if_neg n1, old 14 (by decide) (by decide)]; exact o.lt
      · rw [push_ch, if_neg n1]
        exact pCh_fr o.nx fun u hu => by rw [la0 15 (by decide) (by decide), if_neg (ne u (o.mem u hu).1)]
    · subst ht
      have eo : (g.push t q r).oa t = q := by rw [push_oa, if_pos rfl]
      have ec : (g.push t q r).ch t = [] := by rw [push_ch, if_pos rfl]
      have new : ∀ j, 9 ≤ j → j ≤ 16 → la (mMk s t (nI k) v v') j t = if j = 9 then nI k else if j = 10 then v else if j = 11 then v' else nI 0 := fun j h1 h2 => by rw [la0 j h1 h2, if_pos rfl]
      refine wOk.mk ?_ ?_ ?_ ?_ ?_ ?_ ?_ ?_ ?_ ?_ ?_ ?_ ?_ ?_ ?_
      · rw [eo]; exact hq
      · rw [eo]; exact hn
      · rw [eo]; exact k0
      · rw [eo]; exact k1
      · rw [eo]; exact k2
      · rw [eo, new 9 (by decide) (by decide), if_pos rfl]; exact k4
      · rw [eo, new 10 (by decide) (by decide), if_neg (by decide), if_pos rfl]; exact k5
      · rw [eo, new 11 (by decide) (by decide), if_neg (by decide), if_neg (by decide), if_pos rfl]; exact k6
      · rw [eo, new 9 (by decide) (by decide), if_pos rfl, new 12 (by decide) (by decide), if_neg (by decide), if_neg (by decide), if_neg (by decide)]
        exact .inr ⟨fun z => by rw [pI_inj (by omega) (by decide)] at z; omega, k7⟩
      · rw [eo, ec]; exact k3
      · rw [ec]; exact List.nodup_nil
      · rw [ec]; exact fun u hu => absurd hu (by simp)
      · rw [ec, new 13 (by decide) (by decide)]; rfl
      · rw [ec, new 14 (by decide) (by decide)]; rfl
      · rw [ec]; exact trivial
  · rcases ht with ht | ht
    · rcases hu with hu | hu
      · rw [push_oa, push_oa, if_neg (ne t ht), if_neg (ne u hu)] at e
        exact h.inj t u ht hu e
      · rw [hu, push_oa, push_oa, if_neg (ne t ht), if_pos rfl] at e
        exact absurd e (hfr t ht)
    · rcases hu with hu | hu
      · rw [ht, push_oa, push_oa, if_neg (ne u hu), if_pos rfl] at e
        exact absurd e.symm (hfr u hu)
      · rw [ht, hu]
theorem mMk_la' {j : Nat} (h : ¬ (9 ≤ j ∧ j ≤ 16)) {kv : Int32} : la (mMk s N kv v v') j = la s j := by
  unfold mMk
  rw [la_ua, if_neg (by omega), la_ua, if_neg (by omega), la_ua, if_neg (by omega), la_ua, if_neg (by omega), la_ua, if_neg (by omega), la_ua, if_neg (by omega), la_ua, if_neg (by omega), la_ua, if_neg (by omega)]
  rfl
theorem mMk_ls {j : Nat} (h : j ≠ 8) {kv : Int32} : ls (mMk s N kv v v') j = ls s j := by
  show ls (us s 8 (nI (N + 1))) j = _
  rw [ls_us, if_neg h]
/-- M makes the node too: it lives -/
theorem pV_push (h : pV c D L B a N F g α s) (hNa : N + 1 ≤ 10 * a + 1 + 70 * F) (hq : B < q) (hfr : ∀ t, L t → g.oa t ≠ q) (hn : q + 2 < zn α) (k0 : zkd α q = 45) (k1 : zA α 44 8 q = some (q + 1)) (k2 : zkd α (q + 1) = 3) (k3 : zL α (q + 1) = []) (k4 : zI α 44 0 q = nI k) (k53 : k < 53) (k5 : zI α 44 1 q = v) (k6 : zI α 44 5 q = v') (k7 : zI α 44 2 q = nI 0) : pV c D (fun t => L t ∨ t = N) B a (N + 1) F (g.push N q r) α (mMk s N (nI k) v v') := by
  have h0 := h.o
  have eA : ∀ j, ¬ (9 ≤ j ∧ j ≤ 16) → la (mMk s N (nI k) v v') j = la s j := fun j hj => mMk_la' hj
  have V0 : pV0 c D B a (N + 1) F α (mMk s N (nI k) v v') := by
    refine pV0.mk h0.n h0.ks h0.vs h0.nm h0.p h0.ka h0.va h0.B1 h0.x (mWd.mk ?_ (fun i hi => ?_) (fun i hi => ?_)) h0.ax ?_ h0.al rfl (by have := h0.N1; omega) hNa h0.fx ?_ h0.f20 h0.fa h0.fb h0.ak h0.bk h0.an h0.bn h0.aB h0.bB h0.ne (fun i hi => ?_) (fun i hi => ?_) h0.zb h0.wb h0.fr h0.fe ((mMk_ls (by decide)).trans h0.t19) ((mMk_ls (by decide)).trans h0.t1)
    · rw [mMk_ls (by decide)]; exact h0.m.fn
    · rw [eA 2 (by decide)]; exact h0.m.rk i hi
    · rw [eA 3 (by decide)]; exact h0.m.rv i hi
    · rw [mMk_ls (by decide)]; exact h0.am
    · rw [mMk_ls (by decide)]; exact h0.fm
    · rw [eA 6 (by decide)]; exact h0.ra i hi
    · rw [eA 7 (by decide)]; exact h0.rb i hi
  have K := h.keep V0 (Nat.le_succ _) (Nat.le_refl _) (Nat.le_refl _) (fun _ _ _ _ _ => rfl) rfl (fun _ _ _ => rfl) (fun k hk => mMk_ls (by omega)) (fun k t k1 k2 ht => by rw [mMk_la k1 k2, if_neg (by omega)]) (fun k hk => eA k (by omega))
  have W := h.g.push (r := r) h0.N1 hq hfr hn k0 k1 k2 k3 k4 k53 k5 k6 k7
  have ne : ∀ w, L w → w ≠ N := fun w w1 z => by have := (h.g.bd w w1).2; omega
  exact K.ext W (fun t ht => .inl ht) fun t ht => ⟨by rw [push_oa, if_neg (ne t ht)], by rw [push_r, if_neg (ne t ht)]⟩
end PAZZI
