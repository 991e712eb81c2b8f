/-! THE PURE LAYER: the parser: an item, from its name on. -/
section PAZZU
variable {L L2 : Nat → Prop} {c : pC} {D D' : pD} {G : xQ} {α β : zS} {s s' s1 : zM} {B at' a a1 b d e f l tp N N' F F' p q t to u x y k i j w wh lv m S r : Nat} {g g' g2 : pG} {v v' : Int32} {it : List Nat}
theorem gd1 (h : i < j) (hj : j ≤ it.length) : (it.take j ++ [N]).getD i 0 = it.getD i 0 := by
  rw [List.getD_eq_getElem?_getD, List.getD_eq_getElem?_getD, List.getElem?_append_left (by rw [List.length_take]; omega), List.getElem?_take, if_pos h]
theorem gd2 (hj : j ≤ it.length) : (it.take j ++ [N]).getD j 0 = N := by
  rw [List.getD_eq_getElem?_getD, List.getElem?_append_right (by rw [List.length_take]; omega), List.length_take, Nat.min_eq_left hj, Nat.sub_self]
  rfl
theorem gd3 (hj : j ≤ it.length) : (it.take j ++ [N]).length = j + 1 := by
  rw [List.length_append, List.length_take, Nat.min_eq_left hj]
  rfl
theorem mAtS_us {l : List Nat} : mAtS (us s k v) to l t = us (mAtS s to l t) k v := by
  unfold mAtS
  by_cases h : l = []
  · simp only [if_pos h]; rfl
  · simp only [if_neg h]; rfl
theorem gW.attM (h : gW L N p g α s) (hN : N ≤ 8000) (h1 : L to) (h3 : L t) (e : ∀ k, la s' k = la s k) : gX26_attach (nI to) (nI t) s' = some ((), mAtS s' to (g.ch to) t) := by
  have o := h.nd to h1
  have b1 := h.bd to h1
  have b3 := h.bd t h3
  exact M_att (by
    by_cases e : g.ch to = []
    · exact .inl e
    · have m1 := h.bd _ (o.mem _ (last_mem e)).1
      have m2 := h.bd _ (o.mem ((g.ch to).headD 0) (by cases h : g.ch to with
        | nil => exact absurd h e
        | cons p l => simp)).1
      exact .inr ⟨e, by omega, by omega, by omega⟩) (by rw [e]; exact o.hd) (by rw [e]; exact o.lt) (by omega) (by omega)
/-- at most 50 items are open -/
theorem iOk.len (h : iOk D L g α s q k S) (h5 : 5 ≤ S) (h7 : S ≤ 7) : D.it.length ≤ 50 := by
  obtain ⟨_, _, H⟩ := h.it h5 h7
  by_cases z : D.it.length = 0
  · omega
  · obtain ⟨_, _, _, v, w, e1, e2, _⟩ := H (D.it.length - 1) (by omega)
    omega
/-- M's side behind the last clause -/
theorem M_it300 (at1 : gX26_attach (nI to) (nI t) s = some ((), s')) (h37 : ls s' 37 = nI j) (hj : j < 64) : gX26_item_300 (nI l) (nI t) (nI to) s = some ((), us (us (ua (ua s' 39 (upd (la s' 39) j (nI l))) 40 (upd (la s' 40) j (nI t))) 37 (nI (j + 1))) 38 (nI t)) := by
  unfold gX26_item_300
  rw [at1, gl_bs, gl_x, h37, pgst hj (by decide), gl_bs, gl_x, show ls (ua s' 39 (upd (la s' 39) j (nI l))) 37 = nI j from h37, pgst hj (by decide), gl_bs, gl_x, show ls (ua (ua s' 39 (upd (la s' 39) j (nI l))) 40 (upd (la (ua s' 39 (upd (la s' 39) j (nI l))) 40) j (nI t))) 37 = nI j from h37, gl_x, gl_x, pI_succ]
  rfl
/-- what an item stands in -/
def itP (D : pD) (s : zM) (l tp j to r : Nat) : Prop := (l = 88 ∧ to = D.lt ∧ D.lt ≠ 0 ∧ tp = 0 ∧ r = 500000) ∨ (l ≠ 88 ∧ r = 6000000 - 10000 * j ∧ ((tp = 1 ∧ j = 0 ∧ to = D.ho ∧ (l = 1 ∨ l = 77)) ∨ (tp = 0 ∧ l ≤ 49 ∧ 1 ≤ j ∧ to = D.it.getD (j - 1) 0 ∧ (∃ v, la s 39 (j - 1) = nI v ∧ v < l) ∧ ∀ s', ls s' 37 = ls s 37 → la s' 39 = la s 39 → gX26_within (nI l) s' = some (nI j - nI 1, s'))))
theorem itB (h : pV c D L B at' N F g α s) (ha : at' < c.n) (hF : F < 20) (hd : D.dp = i + 1) (hS : D.st i = S) (h5 : 5 ≤ S) (h7 : S ≤ 7) (hl1 : 1 ≤ l) (hl : l ≤ 88) (hto : L to) (hj : j ≤ D.it.length) (hr : r < g.r to) (hr1 : 1 < r) (T : itP D s l tp j to r) : cQ c D B at' N F α s (hX4_item_206 G (some c.p) (some (D.ou (D.os i))) (nI at') (nI l) (nI j) (some (g.oa to)) (zwI α 40 4 c.p (nI 0))) (gX26_item_78 (nI at') (nI l) (nI tp) (us s 43 (nI 0))) := by
  obtain ⟨i10, hu, cu, ku, xs, d26, r29, r22, u2⟩ := h.cur hd
  have h0 := h.o
  have R0 := h0.start (s' := us s 43 (nI 0)) (lv := 0) ha hF (fun k hk => by
    rw [ls_us] at hk
    split at hk
    · omega
    · exact absurd rfl hk) (fun _ => rfl) rfl (fun z => absurd z (by decide))
  have I0 := h.inn (by omega)
  rw [hd, Nat.add_sub_cancel, hS] at I0
  have len50 := I0.len h5 h7
  have N1 := h0.N1
  have N0 := h0.N0
  have n5 := h0.n
  obtain ⟨a1, w, α1, s1, X1, M1, R1, ha1, hw⟩ := itN (G := G) (r1 := some (D.ou (D.os i))) (x1 := nI at') (x2 := nI at') (x3 := nI l) (x5 := nI j) (xm := nI l) (xt := nI tp) (r6 := some (g.oa to)) R0 ha h0.nm
  have X1' : hX4_item_206 G (some c.p) (some (D.ou (D.os i))) (nI at') (nI l) (nI j) (some (g.oa to)) (zwI α 40 4 c.p (nI 0)) = hX4_item_275 G (some c.p) (some (D.ou (D.os i))) (nI at') (nI l) (nI j) (some (g.oa to)) (nI w) α1 := X1
  obtain ⟨R2, q2⟩ := R1.cell
  obtain ⟨β, x4, R3⟩ := R2.new (G := G) (kv := nI 12) (v := nI (1000 * l + w)) (v' := nI at') (r := r) q2 (by decide)
  have oN : (pG0.push N (zn α1) r).oa N = zn α1 := by rw [push_oa, if_pos rfl]
  have rN : (pG0.push N (zn α1) r).r N = r := by rw [push_r, if_pos rfl]
  have l16 : la (mMk s1 N (nI 12) (nI (1000 * l + w)) (nI at')) 16 N = nI 0 := mMk_16
  have l10 : la (mMk s1 N (nI 12) (nI (1000 * l + w)) (nI at')) 10 N = nI (1000 * l + w) := by rw [mMk_la (by decide) (by decide), if_pos rfl]; rfl
  have l9 : la (mMk s1 N (nI 12) (nI (1000 * l + w)) (nI at')) 9 N = nI 12 := by rw [mMk_la (by decide) (by decide), if_pos rfl]; rfl
  have ev : (1000 : Int32) * nI l + nI w = nI (1000 * l + w) := by
    rw [show (1000 : Int32) = nI 1000 from rfl, pI_mul, pI_add]
  have XA : hX4_item_206 G (some c.p) (some (D.ou (D.os i))) (nI at') (nI l) (nI j) (some (g.oa to)) (zwI α 40 4 c.p (nI 0)) = hX4_item_295 G (some c.p) (some (D.ou (D.os i))) (nI l) (nI j) (some (g.oa to)) (some (zn α1)) β := by
    rw [X1']
    unfold hX4_item_275
    rw [znO_e, gl_bs]
    show (if zis G (zmk α1 45 0 9) (some (zn α1)) 45 = true then _ else _) = _
    rw [if_pos (of_eq_true (kis q2.kd (by decide))), ev]
    show Option.bind (hX43_init G (some (zn α1)) (nI 12) (nI (1000 * l + w)) (nI at') (zmk α1 45 0 9)) _ = _
    rw [x4, gl_bs]
  have MA : gX26_item_78 (nI at') (nI l) (nI tp) (us s 43 (nI 0)) = gX26_item_178 (nI l) (nI tp) (nI N) (nI 1) (mMk s1 N (nI 12) (nI (1000 * l + w)) (nI at')) := by
    rw [M1]
    unfold gX26_item_158
    rw [ev]
    show Option.bind (gX26_make (nI 12) (nI (1000 * l + w)) (nI at') s1) _ = _
    rw [M_make R1.Nm (by omega), gl_bs]
    rfl
  have b3 : pB (c.on (zwI α 40 4 c.p (nI 0)) (us s 43 (nI 0)) N at' 0) (N + 1 + 1) a1 4 := ⟨by show N + 1 + 1 + 4 + 10 * at' ≤ N + 10 * a1 + 60; omega, .inl (by decide)⟩
  have IL := itL (c := c.on (zwI α 40 4 c.p (nI 0)) (us s 43 (nI 0)) N at' 0) (G := G) (t := N) (r1 := some (D.ou (D.os i))) (x3 := nI l) (x5 := nI j) (r6 := some (g.oa to)) (xm := nI l) (xt := nI tp) (Fx := xLim) (Fm := xLim) 505 (by show c.n - a1 ≤ 505; omega) (zlim (by decide)) (zlim (n := 507) (by decide)) R3 b3 (Nat.le_refl _) (Nat.lt_succ_self _) (by rw [rN]; exact hr1)
  rw [oN] at IL
  rcases IL with ⟨δ, s2, a', b', N', g', y1, y2, R4, X4, ek, ha', hb'⟩ | ⟨e, δ, s2, wh, w2, y1, y2, y3, y4⟩
  · have XB : hX4_item_295 G (some c.p) (some (D.ou (D.os i))) (nI l) (nI j) (some (g.oa to)) (some (zn α1)) β = itE G c.p (some (D.ou (D.os i))) (nI l) (nI j) (some (g.oa to)) (some (zn α1)) δ := y1
    have MB : gX26_item_178 (nI l) (nI tp) (nI N) (nI 1) (mMk s1 N (nI 12) (nI (1000 * l + w)) (nI at')) = gX26_item_223 (nI l) (nI tp) (nI N) s2 := y2
    have hN' := X4.n
    have oN' := (X4.oa N (Nat.lt_succ_self _)).trans oN
    have rN' := (X4.r N (Nat.lt_succ_self _)).trans rN
    have l16' := (X4.up N (Nat.lt_succ_self _)).trans l16
    have bp : pB (c.on (zwI α 40 4 c.p (nI 0)) (us s 43 (nI 0)) N at' 0) b' a' 0 := ⟨by show b' + 0 + 10 * at' ≤ N + 10 * a' + 60; omega, .inl (by decide)⟩
    have kp4 : zkd δ c.p = 41 := R4.kp
    have am4 := R4.am
    have bm4 := R4.bm
    have PD : hX4_period G (some c.p) δ = some (.inl (), zwI δ 40 3 c.p (nI (a' + 1))) ∧ pR (c.on (zwI α 40 4 c.p (nI 0)) (us s 43 (nI 0)) N at' 0) (a' + 1) 0 b' N' 0 g' (zwI δ 40 3 c.p (nI (a' + 1))) (us s2 41 (nI (a' + 1))) := by
      rcases R4.period (G := G) bp with ⟨_, z1, _, z2⟩ | ⟨e, ε, s3, w2, z1, z2, z3, z4⟩
      · exact ⟨z1, z2⟩
      · exfalso
        rw [M_mbT4 R4 ek] at z3
        exact n10 z3
    obtain ⟨P1, R5⟩ := PD
    have al5 : a' + 1 ≤ c.n := R5.al
    have m5 := R5.m
    have s37 : ls (us s2 41 (nI (a' + 1))) 37 = ls s 37 := m5.I 37 (by decide)
    have s33 : ls (us s2 41 (nI (a' + 1))) 33 = ls s 33 := m5.I 33 (by decide)
    have s38 : ls (us s2 41 (nI (a' + 1))) 38 = ls s 38 := m5.I 38 (by decide)
    have t39 : la (us s2 41 (nI (a' + 1))) 39 = la s 39 := m5.B 39 (by decide)
    have t40 : la (us s2 41 (nI (a' + 1))) 40 = la s 40 := m5.B 40 (by decide)
    have b43 : ls (us s2 41 (nI (a' + 1))) 43 = nI 0 := R5.bm
    have l16'' : la (us s2 41 (nI (a' + 1))) 16 N = nI 0 := l16'
    have v10 : la (us s2 41 (nI (a' + 1))) 10 N = nI (1000 * l + w) := (X4.w10 N (Nat.lt_succ_self _) (.inr l9)).trans l10
    have MC : gX26_item_223 (nI l) (nI tp) (nI N) s2 = (if ¬ nI l = (88 : Int32) then if nI tp = 0 then (gX26_within (nI l) (us s2 41 (nI (a' + 1)))).bind fun p19 => gX26_item_274 (nI l) (nI tp) (nI N) (p19.1 + (1 : Int32)) p19.2 else gX26_item_274 (nI l) (nI tp) (nI N) 0 (us s2 41 (nI (a' + 1))) else xlet (ls (us s2 41 (nI (a' + 1))) 38) fun x20 => (gX26_attach x20 (nI N) (us s2 41 (nI (a' + 1)))).bind fun p21 => some ((), p21.2)) := by
      unfold gX26_item_223
      rw [gl_x, bm4, if_pos (show nI 0 = 0 from rfl), gl_x, am4, gl_x, pI_succ]
    generalize zwI δ 40 3 c.p (nI (a' + 1)) = α5 at P1 R5
    generalize us s2 41 (nI (a' + 1)) = s5 at R5 s37 s33 s38 t39 t40 b43 l16'' MC v10
    obtain ⟨V, vz, vw⟩ := h.fin R5 (fun k hk => by rw [ls_us, if_neg (by omega)]) (fun _ => rfl) (fun z => absurd z (by decide)) (by omega) (by omega)
    have b0 := h.g.bd _ hto
    have al := R5.al
    have Nb := R5.Nb
    have V0 := V.o.N0
    have nrt : N ∉ D.rt := fun z => by have := (h.g.bd _ (h.rm N z).1).2; omega
    have lN : pLn L N N' N := .inr ⟨Nat.le_refl _, hN'⟩
    have ch0 : (g.mrg g' N).ch to = g.ch to := mrg_co b0.2
    have o0 : (g.mrg g' N).oa to = g.oa to := mrg_o b0.2
    have o1 : (g.mrg g' N).oa N = zn α1 := (mrg_n (Nat.le_refl _)).trans oN'
    have r1' : (g.mrg g' N).r N = r := (mrg_rn (Nat.le_refl _)).trans rN'
    have gL : ∀ t, L t → (g.mrg g' N).oa t = g.oa t ∧ (g.mrg g' N).r t = g.r t := fun t ht => ⟨mrg_o (h.g.bd t ht).2, mrg_ro (h.g.bd t ht).2⟩
    obtain ⟨γ, c1, c2, V2, cX, c3, c4⟩ := V.att (G := G) (to := to) (t := N) (by omega) (.inl hto) lN (by rw [r1', (gL to hto).2]; exact hr) l16'' nrt (by omega) (by omega)
    have kU := (V.g.nd to (.inl hto)).kn
    have W9 := V.g
    rw [o0] at kU
    rw [o0, o1] at c1
    have XC : itE G c.p (some (D.ou (D.os i))) (nI l) (nI j) (some (g.oa to)) (some (zn α1)) δ = if ¬ nI l = (88 : Int32) then hX4_item_335 G (some (D.ou (D.os i))) (nI j) (some (zn α1)) γ else some (.inl (), γ) := by
      unfold itE
      rw [if_pos (of_eq_true (kis kp4 (by decide))), P1, zc_l, if_pos (of_eq_true (kis kU (by decide)))]
      show Option.bind (hX43_add G (some (g.oa to)) (some (zn α1)) α5) _ = _
      rw [c1, gl_bs]
    have U2 := V2.u _ hu
    have O2 := V2.op i (by omega)
    have I2 := V2.inn (by omega)
    rw [hd, Nat.add_sub_cancel, hS] at I2
    rcases T with ⟨t1, t2, t3, t4, t5⟩ | ⟨t1, t5, T⟩
    · have lt38 := (I0.lt h5 h7).2.1
      refine .inl ⟨γ, _, D, _, a' + 1, N', _, F, ?_, ?_, ?_, V2, by omega, ⟨Nat.le_refl _, Nat.le_succ _⟩, rfl, rfl, rfl, rfl, rfl, rfl, rfl⟩
      · rw [XA, XB, XC, t1, if_neg (show ¬ ¬ nI 88 = 88 from fun z => z rfl)]
      · rw [MA, MB, MC, t1, if_neg (show ¬ ¬ nI 88 = 88 from fun z => z rfl), gl_x, s38, lt38, ← t2, c2, gl_bs]
      · exact mAtS_ls.trans b43
    · have n88 : ¬ nI l = (88 : Int32) := by rw [show (88 : Int32) = nI 88 from rfl, pI_inj (by omega) (by decide)]; exact t1
      obtain ⟨i37, iL, iH⟩ := I2.it h5 h7
      have kO : zkd γ (D.ou (D.os i)) = 44 := U2.kn
      obtain ⟨β9, z1, z2, z3, z4, z5, z6, z7⟩ := itR (G := G) (l := j) (q := D.ou (D.os i)) (r8 := some (zn α1)) (by omega) (D.it.length - j) (by omega) (α := γ) (Fx := xLim) (zlim (by omega)) kO U2.fl U2.kl (by rw [iL, List.length_map]; omega)
      have z1' : hX4_item_335 G (some (D.ou (D.os i))) (nI j) (some (zn α1)) γ = some (.inl (), zwA β9 43 12 (D.ou (D.os i)) (some (zn α1))) := z1
      have kq9 : β9.2 (D.ou (D.os i)) = γ.2 (D.ou (D.os i)) := z3 _ (by omega)
      have MD : gX26_item_223 (nI l) (nI tp) (nI N) s2 = gX26_item_300 (nI l) (nI N) (nI to) (us s5 37 (nI j)) := by
        rw [MC, if_pos n88]
        rcases T with ⟨w1, w2, w3, w4⟩ | ⟨w1, w2, w3, w4, w5, w6⟩
        · rw [w1, w2, w3, if_neg (show ¬ nI 1 = 0 from n1n)]
          unfold gX26_item_274
          rw [gl_x, if_neg (show ¬ nI 1 = 0 from n1n), gl_x, show ls (us s5 37 0) 33 = nI D.ho from s33.trans (I0.ho h5 h7).2.2.1]
          rfl
        · rw [w1, if_pos (show nI 0 = 0 from rfl), w6 s5 s37 t39, gl_bs]
          unfold gX26_item_274
          rw [pI_subs (by omega), show j + 1 - 1 = j from by omega, gl_x, if_pos (show nI 0 = 0 from rfl), gl_x, show ls (us s5 37 (nI j)) 37 = nI j from rfl, nl1, pI_sub (by omega), pgld (by omega) (by decide), gl_bs, show la (us s5 37 (nI j)) 40 = la s 40 from t40, ((I0.it h5 h7).2.2 (j - 1) (by omega)).2.1, ← w4]
      have ME : gX26_attach (nI to) (nI N) (us s5 37 (nI j)) = some ((), us (mAtS s5 to ((g.mrg g' N).ch to) N) 37 (nI j)) := by
        rw [← mAtS_us]
        exact W9.attM (by omega) (.inl hto) lN (fun _ => rfl)
      have MF := M_it300 (l := l) (j := j) ME rfl (by omega)
      have jl : j ≤ 49 := by
        rcases T with ⟨_, w2, _⟩ | ⟨_, w2, w3, w4, ⟨v, w5, w6⟩, _⟩
        · omega
        · obtain ⟨_, _, _, v', _, e1, e2, _, e3, _⟩ := (I0.it h5 h7).2.2 (j - 1) (by omega)
          rw [e3, pI_inj (by omega) (by omega)] at w5
          omega
      refine .inl ⟨_, _, D.set D.en D.da D.pr D.st D.nm D.fu D.hd D.fi D.ho D.de D.se D.pa N (D.it.take j ++ [N]), _, a' + 1, N', _, F, by rw [XA, XB, XC, if_pos n88]; exact z1', by rw [MA, MB, MD]; exact MF, ?_, pV_updN V2 (i := i) (u := D.os i) (q := D.ou (D.os i)) hd rfl rfl ?_ ?_ ?_ ?_ ?_ ?_ ?_ ?_ ?_ ?_ ?_ ?_ ?_, by omega, ⟨Nat.le_refl _, Nat.le_succ _⟩, rfl, rfl, rfl, rfl, rfl, rfl, rfl⟩
      · rw [ls_us, if_neg (by decide), ls_us, if_neg (by decide)]
        show ls (us (mAtS s5 to ((g.mrg g' N).ch to) N) 37 (nI j)) 43 = _
        rw [ls_us, if_neg (by decide)]
        exact mAtS_ls.trans b43
      · intro x hx1 hx2
        rw [zwA_ne hx1, z3 x hx2]
      · exact z5
      · show zc β9 ≤ _
        omega
      · show zw β9 ≤ _
        omega
      · intro k hk
        rw [ls_us, if_neg (by omega), ls_us, if_neg (by omega)]
        show ls (us (mAtS s5 to ((g.mrg g' N).ch to) N) 37 (nI j)) k = _
        rw [ls_us, if_neg (by omega)]
      · intro k hk
        show la (ua (ua _ 39 _) 40 _) k = _
        rw [la_ua, if_neg (by omega), la_ua, if_neg (by omega)]
        rfl
      · intro k j' k1 k2 hj'
        show la (ua (ua _ 39 _) 40 _) k j' = _
        rw [la_ua, if_neg (by omega), la_ua, if_neg (by omega)]
        rfl
      · intro k j' k1 k2 hj'
        show la (ua (ua _ 39 _) 40 _) k j' = _
        rw [la_ua, if_neg (by omega), la_ua, if_neg (by omega)]
        rfl
      · exact fun k hk => ⟨rfl, rfl, rfl⟩
      · exact fun j hj => ⟨rfl, rfl, rfl, rfl⟩
      · refine uOk.mk U2.lo ?_ ?_ ?_ ?_ ?_ ?_ ?_ ?_ U2.mu U2.me U2.md U2.mp U2.lu U2.le U2.ld U2.lp
        · have := U2.hi
          show D.ou (D.os i) + 1 < zn β9
          omega
        · rw [zkd_zwA]; exact (zkd_eq kq9).trans U2.kn
        · rw [zA_zwA, if_neg (fun z => absurd z.2.1 (by decide))]; exact (zA_eq kq9 43 13).trans U2.fl
        · rw [zkd_zwA]; exact z4
        · rw [zA_zwA, if_neg (fun z => absurd z.2.1 (by decide))]; exact (zA_eq kq9 43 1).trans U2.xu
        · rw [zA_zwA, if_neg (fun z => absurd z.2.1 (by decide))]; exact (zA_eq kq9 43 4).trans U2.xe
        · rw [zA_zwA, if_neg (fun z => absurd z.2.1 (by decide))]; exact (zA_eq kq9 43 5).trans U2.xd
        · rw [zA_zwA, if_neg (fun z => absurd z.2.1 (by decide))]; exact (zA_eq kq9 43 8).trans U2.xp
      · refine oOk.mk O2.u ?_ ?_ ?_ O2.ms O2.mo O2.mf O2.mh O2.mn O2.kd O2.vl O2.s12 O2.f1 O2.h1 O2.nb O2.rk
        · rw [zA_zwA, if_neg (fun z => absurd z.2.1 (by decide))]; exact (zA_eq kq9 43 0).trans O2.up
        · rw [zI_zwA]; exact (zI_eq kq9 43 2).trans O2.xh
        · rw [zI_zwA]; exact (zI_eq kq9 43 3).trans O2.xs
      · show iOk _ _ _ _ _ _ _ (D.st i)
        rw [hS]
        refine iOk.mk (fun z1 z2 => by omega) I2.da (fun z1 z2 => by omega) (fun z1 z2 => ?_) (fun z1 z2 => ?_) (fun _ _ => ?_) (fun _ _ => ?_) (fun z => by omega) (fun z1 z2 => by omega) (fun z1 z2 => by omega) (fun z => ?_)
        · obtain ⟨e1, e2, e3, e4⟩ := I2.fi z1 z2
          exact ⟨e1, by rw [zA_zwA, if_neg (fun z => absurd z.2.1 (by decide)), zA_eq kq9]; exact e2, by rw [ls_us, if_neg (by decide), ls_us, if_neg (by decide)]; exact e3, e4⟩
        · obtain ⟨e1, e2, e3, e4⟩ := I2.ho z1 z2
          exact ⟨e1, by rw [zA_zwA, if_neg (fun z => absurd z.2.1 (by decide)), zA_eq kq9]; exact e2, by rw [ls_us, if_neg (by decide), ls_us, if_neg (by decide)]; exact e3, e4⟩
        · refine ⟨?_, rfl, .inr ⟨lN, ?_⟩⟩
          · show _ = pN _ N
            rw [zA_zwA, if_pos ⟨rfl, rfl, rfl⟩, pN_s (by omega), add_oa, o1]
          · show 1000000 ≤ ((g.mrg g' N).add to N).r N
            rw [add_r, r1', t5]
            omega
        · refine ⟨?_, ?_, fun i' hi' => ?_⟩
          · show nI (j + 1) = nI (D.it.take j ++ [N]).length
            rw [gd3 hj]
          · show _ = (D.it.take j ++ [N]).map _
            rw [zL_zwA, z2, iL, List.map_append, List.map_take]
            show _ ++ [some (zn α1)] = _ ++ [some ((g.mrg g' N).oa N)]
            rw [o1]
          · have hi2 : i' < j + 1 := by
              have : i' < (D.it.take j ++ [N]).length := hi'
              rw [gd3 hj] at this
              exact this
            show pLn L N N' ((D.it.take j ++ [N]).getD i' 0) ∧ _ ∧ _ = _ ∧ _
            have lN10 : la (mAtS s5 to ((g.mrg g' N).ch to) N) 10 N = nI (1000 * l + w) := by rw [mAtS_la (by decide)]; exact v10
            have hlt : ∀ x, x < j → l ≤ 49 ∧ ∃ v, la (mAtS s5 to ((g.mrg g' N).ch to) N) 39 x = nI v ∧ v < l ∧ v ≤ 49 := fun x hx => by
              rcases T with ⟨_, w2, _⟩ | ⟨_, w2, w3, w4, ⟨v, w5, w6⟩, _⟩
              · omega
              · refine ⟨w2, ?_⟩
                obtain ⟨_, _, _, v', _, e1, e2, _, e3, e4, e5⟩ := iH x (by omega)
                have l39 : la (mAtS s5 to ((g.mrg g' N).ch to) N) 39 = la s 39 := by rw [mAtS_la (by decide)]; exact t39
                refine ⟨v', e3, ?_⟩
                by_cases z : x = j - 1
                · rw [l39, z, w5, pI_inj (by omega) (by omega)] at e3
                  omega
                · obtain ⟨v2, q1, q2, q3⟩ := e5 (j - 1) (by omega) (by omega)
                  rw [l39, w5, pI_inj (by omega) (by omega)] at q1
                  omega
            by_cases z : i' = j
            · subst z
              have e39 : la (us (us (ua (ua (us (mAtS s5 to ((g.mrg g' N).ch to) N) 37 (nI i')) 39 (upd (la (us (mAtS s5 to ((g.mrg g' N).ch to) N) 37 (nI i')) 39) i' (nI l))) 40 (upd (la (us (mAtS s5 to ((g.mrg g' N).ch to) N) 37 (nI i')) 40) i' (nI N))) 37 (nI (i' + 1))) 38 (nI N)) 39 i' = nI l := upd_same
              refine ⟨by rw [gd2 hj]; exact lN, ?_, by
                show ((g.mrg g' N).add to N).r ((D.it.take i' ++ [N]).getD i' 0) = _
                rw [gd2 hj, add_r, r1', t5], l, w, ?_, ?_, hw, e39, by
                show la _ 10 ((D.it.take i' ++ [N]).getD i' 0) = _
                rw [gd2 hj]; exact lN10, fun j' z1 z2 => ?_⟩
              · show la _ 40 i' = nI ((D.it.take i' ++ [N]).getD i' 0)
                rw [gd2 hj]
                exact upd_same
              · show _ ∨ _ ∧ (D.it.take i' ++ [N]).length = 1
                rw [gd3 hj]
                rcases T with ⟨_, w2, _, w3⟩ | ⟨_, w2, _⟩
                · omega
                · exact .inl w2
              · by_cases z0 : i' = 0
                · omega
                · obtain ⟨_, v, q1, q2, q3⟩ := hlt (i' - 1) (by omega)
                  obtain ⟨_, _, _, v', _, e1, e2, _, e3, _⟩ := iH (i' - 1) (by omega)
                  rw [q1, pI_inj (by omega) (by omega)] at e3
                  omega
              · have : j' < (D.it.take i' ++ [N]).length := z2
                rw [gd3 hj] at this
                omega
            · have hi3 : i' < j := by omega
              obtain ⟨e0, e1, e2, v', w', e3, e4, e5, e6, e7, e8⟩ := iH i' (by omega)
              obtain ⟨l49, v, q1, q2, q3⟩ := hlt i' hi3
              have hv : v' = v := by
                rw [e6, pI_inj (by omega) (by omega)] at q1
                exact q1
              have e39 : ∀ x, x ≠ j → la (us (us (ua (ua (us (mAtS s5 to ((g.mrg g' N).ch to) N) 37 (nI j)) 39 (upd (la (us (mAtS s5 to ((g.mrg g' N).ch to) N) 37 (nI j)) 39) j (nI l))) 40 (upd (la (us (mAtS s5 to ((g.mrg g' N).ch to) N) 37 (nI j)) 40) j (nI N))) 37 (nI (j + 1))) 38 (nI N)) 39 x = la (mAtS s5 to ((g.mrg g' N).ch to) N) 39 x := fun x hx => upd_other hx
              have e39j : la (us (us (ua (ua (us (mAtS s5 to ((g.mrg g' N).ch to) N) 37 (nI j)) 39 (upd (la (us (mAtS s5 to ((g.mrg g' N).ch to) N) 37 (nI j)) 39) j (nI l))) 40 (upd (la (us (mAtS s5 to ((g.mrg g' N).ch to) N) 37 (nI j)) 40) j (nI N))) 37 (nI (j + 1))) 38 (nI N)) 39 j = nI l := upd_same
              refine ⟨by rw [gd1 hi3 hj]; exact e0, ?_, by
                show ((g.mrg g' N).add to N).r ((D.it.take j ++ [N]).getD i' 0) = _
                rw [gd1 hi3 hj]; exact e2, v', w', .inl (by omega), e4, e5, by rw [e39 _ z]; exact e6, by
                show la _ 10 ((D.it.take j ++ [N]).getD i' 0) = _
                rw [gd1 hi3 hj]; exact e7, fun j' z1 z2 => ?_⟩
              · show la _ 40 i' = nI ((D.it.take j ++ [N]).getD i' 0)
                rw [gd1 hi3 hj]
                exact (upd_other z).trans e1
              · have hj2 : j' < j + 1 := by
                  have : j' < (D.it.take j ++ [N]).length := z2
                  rw [gd3 hj] at this
                  exact this
                by_cases zj : j' = j
                · rw [zj]
                  exact ⟨l, e39j, by omega, by omega⟩
                · rw [e39 _ zj]
                  exact e8 j' z1 (by omega)
        · obtain ⟨e1, e2⟩ := I2.s8 z
          exact ⟨by rw [zA_zwA, if_neg (fun z => absurd z.2.1 (by decide)), zA_eq kq9]; exact e1, by rw [zA_zwA, if_neg (fun z => absurd z.2.1 (by decide)), zA_eq kq9]; exact e2⟩
  · refine .inr ⟨e, δ, s2, wh, w2, ?_, y2, ?_, y4⟩
    · rw [XA]
      exact y1
    · rw [MA]
      exact y3
end PAZZU
