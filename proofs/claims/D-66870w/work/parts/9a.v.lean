/-! THE PURE LAYER: the parser: conditions: factors, whole conditions. -/
/-- M goes deeper -/
def mDp (s : zM) (d a m : Nat) (x : Int32) : zM := us (us (ua (us s 44 (nI (d + 1))) 58 (upd (la s 58) m x)) 54 (nI (m + 1))) 41 (nI (a + 1))
/-- M opens a bracket's rows -/
def mJn (s : zM) (j : Nat) : zM := us (us (ua (ua s 61 (upd (la s 61) j (nI 0))) 64 (upd (la s 64) j (nI 0))) 57 (nI (j + 1))) 55 (nI 0)
section PAV
variable {c : pC} {G : xQ} {α β γ αs : zS} {s s' s2 ss : zM} {a a1 a' d b b' N N' N2 Ns as bs k t t2 u w wh q r F F1 F' Fs f y to m n jn o : Nat} {g g' g2 gs : pG} {v v' kv : Int32} {l ts : List Nat}
theorem M_deep (h44 : ls s 44 = nI d) (hd : d < 40) (h54 : ls s 54 = nI m) (hm : m < 60) (h41 : ls s 41 = nI a) : gX26_deeper v s = some ((), mDp s d a m v) := by
  unfold gX26_deeper mDp
  rw [gl_x, h44, if_pos (by rw [show (40 : Int32) = nI 40 from rfl, pI_inj (by omega) (by decide)]; omega), gl_x, gl_x, pI_succ]
  show (xlet (ls s 54) _) = _
  rw [gl_x, h54, pgst (by omega) (by decide), gl_bs]
  show (xlet (ls s 54) _) = _
  rw [gl_x, h54, gl_x, pI_succ]
  show (xlet (ls s 41) _) = _
  rw [gl_x, h41, gl_x, pI_succ]
  rfl
theorem M_deep40 (h44 : ls s 44 = nI 40) (h41 : ls s 41 = nI a) (hf : gX26_fail (nI 3) (nI a) s = some (nI 0, s')) : gX26_deeper v s = some ((), s') := by
  unfold gX26_deeper
  rw [gl_x, h44, if_neg (fun z => z rfl), gl_x, h41, nl3, hf, gl_bs]
theorem M_joint (h57 : ls s 57 = nI k) (hk : k < 60) : gX26_joint s = some ((), mJn s k) := by
  unfold gX26_joint mJn
  rw [gl_x, h57, pgst (by omega) (by decide), gl_bs]
  show (xlet (ls s 57) _) = _
  rw [gl_x, h57, pgst (by omega) (by decide), gl_bs]
  show (xlet (ls s 57) _) = _
  rw [gl_x, h57, gl_x, pI_succ, gl_x]
  rfl
theorem M_factor (h : pR c a d b N y g α s) : gX26_factor s = if wW c a 64 = true ∧ wR c (a + 1) = false then (gX26_deeper (nI a) s).bind fun p => some (0, p.2) else gX26_factor_36 s := by
  have a5 := h.a5
  have w1 := M_isW (a := 64) h.k h.mw (k := a) (by omega) (by decide)
  have w2 := M_isR h.k h.mw (k := a + 1) (by omega)
  unfold gX26_factor
  rw [gl_x, h.am, nl64, w1, gl_bs]
  rcases e1 : wW c a 64 with _ | _
  · rw [if_pos (by first | decide | exact bF | exact bT | exact n1n), if_neg (fun z => absurd z.1 (by decide))]
  · rw [if_neg (by first | decide | exact bT | exact n1n)]
    show (xlet (ls s 41) _) = _
    rw [gl_x, h.am, pI_1, w2, gl_bs]
    rcases e2 : wR c (a + 1) with _ | _
    · rw [if_neg (fun z => z rfl), if_pos ⟨rfl, rfl⟩]
      show (xlet (ls s 41) _) = _
      rw [gl_x, h.am]
    · rw [if_pos (by first | decide | exact bF | exact bT | exact n1n), if_neg (fun z => absurd z.2 (by decide))]
theorem M_f36b (h : pR c a d b N y g α s) (hp : wS c a 0 = true) : gX26_factor_36 s = (gX26_deeper (- 1) s).bind fun p42 => (gX26_joint p42.2).bind fun p43 => some (0, p43.2) := by
  have a5 := h.a5
  unfold gX26_factor_36
  rw [gl_x, h.am, nl0, M_isS h.k h.mw (by omega) (by decide), gl_bs, hp, if_neg (by first | decide | exact bT | exact n1n)]
/-- X's factor, by what comes next -/
theorem X_facN (h : pR c a d b N y g α s) (h1 : wW c a 64 = true) (h2 : wR c (a + 1) = false) : (rrX4_factor G (f + 1)).1 (some c.p) α = zcase (hX4_deeper G (some c.p) α) (fun p20 =>
              (zfI p20.2 (some c.p) 40 3).bind fun x21 =>
              (zpI p20.2 (some c.p) 40 3 (x21 + (1 : Int32))).bind fun σ22 =>
              (znO σ22 44 9).bind fun p23 =>
              if zis G p23.2 p23.1 45 = true then
                (hX43_init G p23.1 52 0 (nI a) p23.2).bind fun p24 =>
                if zis G p24.2 (some c.p) 41 = true then
                  zcase ((rrX4_factor G f).1 (some c.p) p24.2) (fun p25 =>
                    if zis G p25.2 p23.1 45 = true then
                      (hX43_add G p23.1 p25.1 p25.2).bind fun p26 =>
                      (zfI p26.2 (some c.p) 40 4).bind fun x27 =>
                      (zpI p26.2 (some c.p) 40 4 (x27 - (1 : Int32))).bind fun σ28 =>
                      some (.inl (p23.1), σ28)
                    else none) (fun p29 =>
                    if zthr p29.2 p29.1 3 = true then
                      some (.inr p29.1, p29.2)
                    else none)
                else none
              else none) (fun p30 =>
              if zthr p30.2 p30.1 3 = true then
                some (.inr p30.1, p30.2)
              else none) := by
  have kp := h.kp
  have ax := h.ax
  have a5 := h.a5
  show hX4_factor_r G (rrX4_factor G f).1 (rrX4_factor G f).2 (some c.p) α = _
  unfold hX4_factor_r
  rw [kfI kp, ax, gl_bs, gl_bs, if_pos (of_eq_true (kis kp (by decide))), nl64, X_isW h.k h.xw (by omega) (by omega), gl_bs, h1, if_neg (by first | decide | exact bT | exact n1n)]
  show ((zfI α (some c.p) 40 3).bind _) = _
  rw [kfI kp, ax, gl_bs]
  show (if zis G α (some c.p) 41 = true then _ else _) = _
  rw [if_pos (of_eq_true (kis kp (by decide))), pI_1, X_isR h.k h.xw (by omega), gl_bs, h2, if_neg (fun z => z rfl)]
  show (if zis G α (some c.p) 41 = true then _ else _) = _
  rw [if_pos (of_eq_true (kis kp (by decide)))]
theorem X_fac78 (h : pR c a d b N y g α s) (h1 : ¬ (wW c a 64 = true ∧ wR c (a + 1) = false)) : (rrX4_factor G (f + 1)).1 (some c.p) α = hX4_factor_78 G (rrX4_factor G f).1 (rrX4_factor G f).2 (some c.p) α := by
  have kp := h.kp
  have ax := h.ax
  have a5 := h.a5
  show hX4_factor_r G (rrX4_factor G f).1 (rrX4_factor G f).2 (some c.p) α = _
  unfold hX4_factor_r
  rw [kfI kp, ax, gl_bs, gl_bs, if_pos (of_eq_true (kis kp (by decide))), nl64, X_isW h.k h.xw (by omega) (by omega), gl_bs]
  rcases e1 : wW c a 64 with _ | _
  · rw [if_pos (by first | decide | exact bF | exact bT | exact n1n)]
  · rw [if_neg (by first | decide | exact bT | exact n1n)]
    show ((zfI α (some c.p) 40 3).bind _) = _
    rw [kfI kp, ax, gl_bs]
    show (if zis G α (some c.p) 41 = true then _ else _) = _
    rw [if_pos (of_eq_true (kis kp (by decide))), pI_1, X_isR h.k h.xw (by omega), gl_bs]
    rcases e2 : wR c (a + 1) with _ | _
    · exact absurd ⟨e1, e2⟩ h1
    · rw [if_pos (by first | decide | exact bF | exact bT | exact n1n)]
theorem X_facB (h : pR c a d b N y g α s) (hp : wS c a 0 = true) {FF : (Option Nat) → zS → zF ((Option Nat) ⊕ Nat)} {FR : (Option Nat) → Int32 → zS → zF ((Option Nat) ⊕ Nat)} : hX4_factor_78 G FF FR (some c.p) α = zcase (hX4_deeper G (some c.p) α) (fun p3 =>
          (zfI p3.2 (some c.p) 40 3).bind fun x4 =>
          (zpI p3.2 (some c.p) 40 3 (x4 + (1 : Int32))).bind fun σ5 =>
          (zpA σ5 (some c.p) 40 15 none).bind fun σ6 =>
          if zis G σ6 (some c.p) 41 = true then
            zcase (FR (some c.p) 1 σ6) (fun p7 =>
              if zis G p7.2 (some c.p) 41 = true then
                zcase (hX4_close G (some c.p) p7.2) (fun p8 =>
                  (zpA p8.2 (some c.p) 40 15 none).bind fun σ9 =>
                  some (.inl (p7.1), σ9)) (fun p10 =>
                  if zthr p10.2 p10.1 3 = true then
                    some (.inr p10.1, p10.2)
                  else none)
              else none) (fun p11 =>
              if zthr p11.2 p11.1 3 = true then
                some (.inr p11.1, p11.2)
              else none)
          else none) (fun p12 =>
          if zthr p12.2 p12.1 3 = true then
            some (.inr p12.1, p12.2)
          else none) := by
  have kp := h.kp
  have ax := h.ax
  have a5 := h.a5
  unfold hX4_factor_78
  rw [kfI kp, ax, gl_bs, if_pos (of_eq_true (kis kp (by decide))), nl0, X_isS h.k h.xw (by omega) (by omega), gl_bs, hp, if_pos (by first | decide | exact bF | exact bT | exact n1n)]
  show (if zis G α (some c.p) 41 = true then _ else _) = _
  rw [if_pos (of_eq_true (kis kp (by decide)))]
theorem X_facR (h : pR c a d b N y g α s) (hp : wS c a 0 = false) {FF : (Option Nat) → zS → zF ((Option Nat) ⊕ Nat)} {FR : (Option Nat) → Int32 → zS → zF ((Option Nat) ⊕ Nat)} : hX4_factor_78 G FF FR (some c.p) α = zcase (hX4_relation G (some c.p) α) (fun p13 => some (.inl (p13.1), p13.2)) (fun p14 => if zthr p14.2 p14.1 3 = true then some (.inr p14.1, p14.2) else none) := by
  have kp := h.kp
  have ax := h.ax
  have a5 := h.a5
  unfold hX4_factor_78
  rw [kfI kp, ax, gl_bs, if_pos (of_eq_true (kis kp (by decide))), nl0, X_isS h.k h.xw (by omega) (by omega), gl_bs, hp, if_neg (fun z => z rfl)]
  show (if zis G α (some c.p) 41 = true then _ else _) = _
  rw [if_pos (of_eq_true (kis kp (by decide)))]
theorem mDp_row {i j : Nat} {x : Int32} (h : ¬ (i = 58 ∧ j = m)) : la (mDp s d a m x) i j = la s i j := by
  unfold mDp
  rw [la_us, la_us, la_ua]
  split
  · rename_i e; rw [e, upd_other (fun z => h ⟨e, z⟩)]
  · rfl
theorem mJn_row {i j : Nat} (h : ¬ ((i = 61 ∨ i = 64) ∧ j = k)) : la (mJn s k) i j = la s i j := by
  unfold mJn
  rw [la_us, la_us, la_ua]
  split
  · rename_i e; rw [e, upd_other (fun z => h ⟨.inr e, z⟩)]
  · rw [la_ua]
    split
    · rename_i e; rw [e, upd_other (fun z => h ⟨.inl e, z⟩)]
    · rfl
theorem M_popN (h54 : ls s 54 = nI (m + 1)) (hm : m < 60) (h58 : la s 58 m = nI a) (ha : a < 1000) (h44 : ls s 44 = nI (d + 1)) (h8 : ls s 8 = nI N) (hN : N < 8000) (ht : t < 8000) : gX26_behindFactor_2b (nI t) s = some (.inl (nI N), mAts (mMk (us (us s 54 (nI m)) 44 (nI d)) N (nI 52) (nI 0) (nI a)) N [] [t]) := by
  have mk := M_make (s := us (us s 54 (nI m)) 44 (nI d)) (N := N) (kv := nI 52) (v := nI 0) (v' := nI a) h8 hN
  have at1 := M_att (s := mMk (us (us s 54 (nI m)) 44 (nI d)) N (nI 52) (nI 0) (nI a)) (to := N) (t := t) (l := []) (.inl rfl) (by rw [mMk_la (by decide) (by decide), if_pos rfl]; rfl) (by rw [mMk_la (by decide) (by decide), if_pos rfl]; rfl) hN ht
  unfold gX26_behindFactor_2b
  rw [gl_x, h54, if_neg (by rw [nl0, pI_le (by omega) (by decide)]; omega), gl_x, nl1, pI_sub (by omega), Nat.add_sub_cancel, pgld (by omega) (by decide), gl_bs, h58, if_neg ?_, gl_x, gl_x]
  · show (xlet (ls s 44) _) = _
    rw [gl_x, h44, gl_x, pI_sub (by omega), Nat.add_sub_cancel, gl_x]
    show ((gld (us (us s 54 (nI m)) 44 (nI d)) 58 64 (nI m)).bind _) = _
    rw [pgld (by omega) (by decide), gl_bs]
    rw [show nI (d + 1) - nI 1 = nI d from by rw [pI_sub (by omega), Nat.add_sub_cancel]]
    show ((gX26_make 52 0 (la s 58 m) (us (us s 54 (nI m)) 44 (nI d))).bind _) = _
    rw [h58, nl52, nl0, mk, gl_bs, at1, gl_bs]
    rfl
  · intro z
    have e : (-(nI 1)).toInt = -1 := by decide
    have := congrArg Int32.toInt z
    rw [e] at this
    unfold nI at this
    rw [Int32.toInt_ofNat_of_lt (by omega)] at this
    omega
/-- a factor with NOT -/
theorem fac_N (ih : cF c G f) (h : pR c a d b N y g α s) (hb : pB c b a 20) (hS : cSb c N g α s) (h54 : ls s 54 = nI m) (h57 : ls s 57 = nI (jn + 1)) (hmd : m ≤ d) (hjm : jn ≤ m) (hF : c.n - a + 5 ≤ F) (hf : 3 * (40 - d) + 1 ≤ f + 1) (e1 : wW c a 64 = true) (e2 : wR c (a + 1) = false) : qG c a d b N y g α s F ((rrX4_factor G (f + 1)).1 (some c.p) α) (mC F (nI 0) s) (fun F1' F' a' t s' => mC F (nI 0) s = mB F1' F' (nI t) s' ∧ qT m (jn + 1) s s' ∧ xLim + a + 1 ≤ F1' + a') := by
  have kp := h.kp
  have ax := h.ax
  have am := h.am
  have bm := h.bm
  have nm := h.nmv hb (by decide)
  have a5 := h.a5
  have al := h.al
  have nl := h.nl
  have hp := h.k.p
  have N0 := h.N0
  have yN := h.yN
  have hb0 := hb.le (t := 0) (by omega)
  have ha := (wW_i e1).1
  have Mf := M_factor h
  rw [if_pos ⟨e1, e2⟩] at Mf
  obtain ⟨F0, rfl⟩ : ∃ x, F = x + 1 := ⟨F - 1, by omega⟩
  by_cases e4 : d = 40
  · subst e4
    obtain ⟨e, β, s', w, z1, z2, z3, z4, z5, z6, z7⟩ := X_deep40 (G := G) h hb0
    rw [M_deep40 nm am z3, gl_bs] at Mf
    obtain ⟨u, z8⟩ := mC_fail (F := F0) bm Mf z4.b1 (by omega)
    refine .inr ⟨e, β, u, s', 3, w, ?_, z2, z8, z4, z5⟩
    rw [X_facN h e1 e2, z1, zc_r, if_pos z2]
  have hd : d < 40 := by omega
  rw [M_deep nm hd h54 (by omega) am, gl_bs] at Mf
  have M1 := mC_none (F := F0) bm Mf
  have h1 := h.dep (d' := d + 1) (by omega)
  have h2 := h1.adv ha
  have h3 : pR c (a + 1) (d + 1) b N y g (xaS c (zwI α 40 4 c.p (nI (d + 1))) a) (mDp s d a m (nI a)) := h2.tmp (fun i hi => by
    show (if i = 41 then nI (a + 1) else if i = 54 then nI (m + 1) else ls (us s 44 (nI (d + 1))) i) = (if i = 41 then nI (a + 1) else ls (us s 44 (nI (d + 1))) i)
    by_cases e : i = 41
    · rw [if_pos e, if_pos e]
    · rw [if_neg e, if_neg e, if_neg (by omega)]) (fun i hi => by
    unfold mDp
    rw [la_us, la_us, la_ua, if_neg (by omega)]
    rfl)
  obtain ⟨h4, hq⟩ := h3.cell
  obtain ⟨β0, x1, x2, x3, x4, x5⟩ := h4.lone (G := G) (kv := nI 52) (v := nI 0) (v' := nI a) hq
  have kp1 := h1.kp
  have ax1 := h1.ax
  have kpn := h4.kp
  have kpb := x2.kp
  have kdq : zkd (zmk (xaS c (zwI α 40 4 c.p (nI (d + 1))) a) 45 0 9) (zn α) = 45 := hq.kd
  have q0 : zn (xaS c (zwI α 40 4 c.p (nI (d + 1))) a) = zn α := rfl
  have zm : zn (zmk (xaS c (zwI α 40 4 c.p (nI (d + 1))) a) 45 0 9) = zn α + 1 := rfl
  rw [q0] at x1 x3 x4
  have hn := h.x.n
  have X0 : ∀ R, (rrX4_factor G f).1 (some c.p) β0 = R → (rrX4_factor G (f + 1)).1 (some c.p) α = zcase R (fun p25 =>
                    if zis G p25.2 (some (zn α)) 45 = true then
                      (hX43_add G (some (zn α)) p25.1 p25.2).bind fun p26 =>
                      (zfI p26.2 (some c.p) 40 4).bind fun x27 =>
                      (zpI p26.2 (some c.p) 40 4 (x27 - (1 : Int32))).bind fun σ28 =>
                      some (.inl (some (zn α)), σ28)
                    else none) (fun p29 =>
                    if zthr p29.2 p29.1 3 = true then
                      some (.inr p29.1, p29.2)
                    else none) := fun R hR => by
    rw [X_facN h e1 e2, X_deep h hd, zc_l]
    show ((zfI (zwI α 40 4 c.p (nI (d + 1))) (some c.p) 40 3).bind _) = _
    rw [kfI kp1, ax1, gl_bs]
    show ((zpI (zwI α 40 4 c.p (nI (d + 1))) (some c.p) 40 3 (nI a + 1)).bind _) = _
    rw [kpI kp1, gl_bs, pI_1, znO_e, gl_bs]
    show (if zis G (zmk (xaS c (zwI α 40 4 c.p (nI (d + 1))) a) 45 0 9) (some (zn α)) 45 = true then _ else _) = _
    rw [if_pos (of_eq_true (kis kdq (by decide))), nl52, nl0]
    show ((hX43_init G (some (zn α)) (nI 52) (nI 0) (nI a) (zmk (xaS c (zwI α 40 4 c.p (nI (d + 1))) a) 45 0 9)).bind _) = _
    rw [x1, gl_bs]
    show (if zis G β0 (some c.p) 41 = true then _ else _) = _
    rw [if_pos (of_eq_true (kis kpb (by decide)))]
    show zcase ((rrX4_factor G f).1 (some c.p) β0) _ _ = _
    rw [hR]
    rfl
  have hb' : pB c (b + 1 + 1) (a + 1) 20 := by unfold pB at *; omega
  have pl0 : pPl s (mDp s d a m (nI a)) := ⟨rfl, rfl, rfl, rfl⟩
  have fx0 : ∀ x, x < zn α → x ≠ c.p → β0.2 x = α.2 x := fun x z1 z2 => by
    rw [x4 x (by omega) (by omega), zmk_ne (by omega)]
    show (zwI (zwI α 40 4 c.p (nI (d + 1))) 40 3 c.p (nI (a + 1))).2 x = _
    rw [zwI_ne z2, zwI_ne z2]
  have ep0 : β0.2 c.p = (xaS c (zwI α 40 4 c.p (nI (d + 1))) a).2 c.p := (x4 _ (by omega) (by omega)).trans (zmk_ne (by omega))
  have Y0 : pY c N g α s N g β0 (mDp s d a m (nI a)) := (pY.rf.m (fun j h1 h2 => by
    unfold mDp
    rw [la_us, la_us, la_ua, if_neg (by omega)]
    rfl) pl0).xs fx0 (by omega)
  have xo0 : xOt c α β0 := by
    refine ⟨?_, ?_⟩
    · rw [zA_eq ep0]; unfold xaS; rw [zA_zwI, zA_zwI]
    · rw [zI_eq ep0]; unfold xaS; rw [zI_zwI, if_neg (by omega), zI_zwI, if_neg (by omega)]
  have S0 : cSb c N g β0 (mDp s d a m (nI a)) := hS.go (Nat.le_refl _) (fun _ _ => rfl) xo0 rfl rfl
  rcases ih (a + 1) (d + 1) (b + 1 + 1) N y g β0 (mDp s d a m (nI a)) (m + 1) jn F0 x2 hb' S0 rfl h57 (by omega) (by omega) (by omega) (by omega) with ⟨β, t, F1', F2, s2, a', b', N', g', y1, ⟨y2, y3, y4⟩, y5, y6, y7⟩ | ⟨e, β, u, s2, wh, w, y1, y2, y3, y4, y5⟩
  · have hR := y5.R
    have YY := Y0.tr y5.Y
    have a1' := y5.a1
    have b1 := y5.b1
    have r1 := y5.t4
    have tN := y5.t1
    have t2N := y5.t2
    have t20 := y5.t3
    have nn := y5.Y.nn
    have hbR : pB c b' a' 20 := hb'.go (by omega)
    have hN' := hR.N8 hbR
    have kpR := hR.kp
    have nxR := hR.nx
    have NbR := hR.Nb
    have alR := hR.al
    have n5 := h.k.n
    have xl : xLim = 1000000000 := rfl
    have lo2 := x3.fr (β := β) y5.Y.fx nn hp kpb
    have l54 : ls s2 54 = nI (m + 1) := y3.1
    have l58 : la s2 58 m = nI a := by
      rw [y3.2.2.1 m (by omega)]
      show upd (la s 58) m (nI a) m = _
      rw [upd_same]
    have noq : ∀ t, c.N0 ≤ t → t < N' → g'.oa t ≠ zn α := fun x z1 z2 => by
      by_cases z : x < N
      · rw [y5.Y.x.oa x z]
        have := (h.g.nd x z1 z).hi
        omega
      · intro e
        have w1 := y5.Y.nw x (by omega) z2
        omega
    obtain ⟨γ, z1, z2, z3, z4, z5⟩ := hR.ladd (G := G) lo2 (by simp) (by omega) t2N (by omega) t20 noq (by simp)
    have z6 := ((z2.dep (d' := d) (by omega)).tmp (s' := us (us s2 44 (nI d)) 54 (nI m)) (fun i hi => by rw [ls_us, if_neg (by omega)]) (fun _ _ => rfl)).bup (b' := b' + 1 + 1) (by omega)
    rw [us_comm (by decide)] at z6
    have z7 : pxL c (zwI γ 40 4 c.p (nI d)) (zn α) (nI 52) (nI 0) (nI a) ([t].map g'.oa) := z3.fr (fun x _ hx => zwI_ne hx) (Nat.le_refl _) hp z2.kp
    obtain ⟨u1, u2, u3⟩ := z6.manyY (y := y) (r := 2 * (a' - a) - 1) (by omega) (by omega) (by rw [ne_eq, pI_inj (by decide) (by decide)]; decide) z7 noq (by simp) (fun x hx => by
      rw [List.mem_singleton] at hx
      subst hx
      exact ⟨by omega, t2N, by omega, t20, by omega⟩)
    have Mp := M_popN (t := t) l54 (by omega) l58 (by omega) (hR.nmv hb (by decide)) hR.Nm (by omega) (by omega)
    obtain ⟨F3, rfl⟩ : ∃ x, F1' = x + 1 := ⟨F1' - 1, by omega⟩
    have eo : (gAdds (g'.push N' (zn α) (2 * (a' - a) - 1)) N' [t]).oa N' = zn α := by rw [gAdds_oa, push_oa, if_pos rfl]
    have er : (gAdds (g'.push N' (zn α) (2 * (a' - a) - 1)) N' [t]).r N' = 2 * (a' - a) - 1 := by rw [gAdds_r, push_r, if_pos rfl]
    have ot : mOt (us (us s2 54 (nI m)) 44 (nI d)) (mAts (mMk (us (us s2 54 (nI m)) 44 (nI d)) N' (nI 52) (nI 0) (nI a)) N' [] [t]) := mOt.mk0.tr mAts_ot
    have xo1 : xOt c β (zwI γ 40 4 c.p (nI d)) := by
      have ep : γ.2 c.p = β.2 c.p := z5 _ (by omega) (fun z => by have := hR.old (t := t) (by omega) t2N; omega)
      refine ⟨?_, ?_⟩
      · rw [zA_zwI, zA_eq ep]
      · rw [zI_zwI, if_neg (by omega), zI_eq ep]
    have t5 := YY.nw t (by omega) t2N
    have Y6 : pY c N g α s N' g' (zwI γ 40 4 c.p (nI d)) (us (us s2 54 (nI m)) 44 (nI d)) := (YY.m (fun _ _ _ => rfl) ⟨rfl, rfl, rfl, rfl⟩).xs (fun x w1 w2 => by rw [zwI_ne w2]; exact z5 x (by omega) (by omega)) z4
    refine .inl ⟨_, N', F3, F2, _, a', b' + 1 + 1, N' + 1, _, ?_, ⟨?_, ?_, by omega⟩, pQ.mk u1 (Y6.many (fun x hx => by rw [List.mem_singleton] at hx; omega) (Nat.le_refl _)) ?_ (by omega) (by omega) (mAts_16 (by rw [List.mem_singleton]; omega)) (by rw [er]; omega) (by omega) (by omega), by omega, by omega⟩
    · rw [X0 _ y1, zc_l, if_pos (of_eq_true (kis lo2.kn (by decide))), eo]
      show ((hX43_add G (some (zn α)) (some (g'.oa t)) β).bind _) = _
      rw [z1, gl_bs]
      show ((zfI γ (some c.p) 40 4).bind _) = _
      rw [kfI z2.kp, z2.nx, gl_bs, nl1, pI_sub (by omega), Nat.add_sub_cancel, kpI z2.kp, gl_bs]
    · rw [M1, y2, mB_s, Mp]
      rfl
    · refine ⟨?_, ?_, fun i hi => ?_, fun i j i1 i2 i3 => ?_⟩
      · rw [ot.1 54 (by decide), h54]; rfl
      · rw [ot.1 57 (by decide)]
        exact y3.2.1
      · rw [ot.2 58 (by decide)]
        exact (y3.2.2.1 i (by omega)).trans (mDp_row (by omega))
      · rw [ot.2 i (by omega)]
        exact (y3.2.2.2 i j i1 i2 i3).trans (mDp_row (by omega))
    · exact y5.S.go (Nat.le_succ _) (fun x hx => by rw [gAdds_oa, push_oa, if_neg (by omega)]) xo1 (ot.1 55 (by decide)) (ot.1 56 (by decide))
  · refine .inr ⟨e, β, u, s2, wh, w, ?_, y2, by rw [M1]; exact y3, y4, pl0.tr y5⟩
    rw [X0 _ y1, zc_r, if_pos y2]
end PAV
