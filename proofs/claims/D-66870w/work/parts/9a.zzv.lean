/-! THE PURE LAYER: the parser: an item, whole. -/
section PAZZV
variable {L L2 : Nat → Prop} {c : pC} {D D' : pD} {G : xQ} {α β : zS} {s s' s1 : zM} {B at' a a1 b d e f l tp N N' F F' p q t to u x y k i j w wh lv m S r : Nat} {g g' g2 : pG} {v v' x1 x2 x3 x5 : Int32} {it : List Nat}
theorem itm_F (h : pV c D L B at' N F g α s) (ha : at' < c.n) (hF : F < 20) (X1 : ∀ e β, hX4_must G (some c.p) (nI 0) (zwI α 40 4 c.p (nI 0)) = some (.inr e, β) → zthr β e 3 = true → hX4_item G (some c.p) (zwI α 40 4 c.p (nI 0)) = some (.inr e, β)) (M1 : gX26_item (us s 43 (nI 0)) = gX26_item_67 (us s 43 (nI 0))) : cQ c D B at' N F α s (hX4_item G (some c.p) (zwI α 40 4 c.p (nI 0))) (gX26_item (us s 43 (nI 0))) := by
  have h0 := h.o
  have R0 := h0.start (s' := us s 43 (nI 0)) (lv := 0) ha hF (fun k hk => by
    rw [ls_us] at hk
    split at hk
    · omega
    · exact absurd rfl hk) (fun _ => rfl) rfl (fun z => absurd z (by decide))
  have am' : ls (us s 43 (nI 0)) 41 = nI at' := R0.am
  have hb0 : pB (c.on (zwI α 40 4 c.p (nI 0)) (us s 43 (nI 0)) N at' 0) N at' 0 := (on_pB (k := 4) (by decide) (.inl (by decide))).le (by decide)
  obtain ⟨e, β, s', w, y1, y2, m1, y3⟩ := R0.no (G := G) hb0
  refine .inr ⟨e, β, s', 1, w, X1 e β y1 y2, y2, ?_, y3⟩
  rw [M1]
  unfold gX26_item_67
  rw [gl_x, am']
  show Option.bind (gX26_fail (nI 1) (nI at') (us s 43 (nI 0))) _ = _
  rw [m1, gl_bs]
theorem cl_itm (h : pV c D L B at' N F g α s) (ha : at' < c.n) (hF : F < 20) (hd : D.dp = i + 1) (hS : D.st i = S) (h5 : 5 ≤ S) (h7 : S ≤ 7) : cQ c D B at' N F α s (hX4_item G (some c.p) (zwI α 40 4 c.p (nI 0))) (gX26_item (us s 43 (nI 0))) := by
  obtain ⟨i10, hu, cu, ku, xs, d26, r29, r22, u2⟩ := h.cur hd
  have h0 := h.o
  have R0 := h0.start (s' := us s 43 (nI 0)) (lv := 0) ha hF (fun k hk => by
    rw [ls_us] at hk
    split at hk
    · omega
    · exact absurd rfl hk) (fun _ => rfl) rfl (fun z => absurd z (by decide))
  have kp : zkd (zwI α 40 4 c.p (nI 0)) c.p = 41 := R0.kp
  have cu' : zA (zwI α 40 4 c.p (nI 0)) 40 11 c.p = some (D.ou (D.os i)) := by rw [zA_zwI]; exact cu
  have ku' : zkd (zwI α 40 4 c.p (nI 0)) (D.ou (D.os i)) = 44 := by rw [zkd_zwI]; exact ku
  have ax' : zI (zwI α 40 4 c.p (nI 0)) 40 3 c.p = nI at' := R0.ax
  have am' : ls (us s 43 (nI 0)) 41 = nI at' := R0.am
  have n5 := h0.n
  have v9 := h0.vs _ ha
  have U0 := h.u _ hu
  have I0 := h.inn (by omega)
  rw [hd, Nat.add_sub_cancel, hS] at I0
  have len50 := I0.len h5 h7
  obtain ⟨it1, it2, itH⟩ := I0.it h5 h7
  have fl' : zA (zwI α 40 4 c.p (nI 0)) 43 13 (D.ou (D.os i)) = some (D.ou (D.os i) + 1) := by rw [zA_zwI]; exact U0.fl
  have kl' : zkd (zwI α 40 4 c.p (nI 0)) (D.ou (D.os i) + 1) = 3 := by rw [zkd_zwI]; exact U0.kl
  have it2' : zL (zwI α 40 4 c.p (nI 0)) (D.ou (D.os i) + 1) = D.it.map fun u => some (g.oa u) := by rw [zL_zwI]; exact it2
  have St : hX4_state G (some c.p) (nI 5) (nI 7) (zwI α 40 4 c.p (nI 0)) = some (.inl (), zwI α 40 4 c.p (nI 0)) := by
    rw [X_state (k := S) (i := 5) (j := 7) kp cu' ku' (by
      rw [zI_zwI, if_neg (fun z => by have := z.1; omega), xs, hS]) (by omega) (by decide) (by decide), if_pos (by omega)]
  obtain ⟨v1, v2⟩ := X_wv R0 ha
  have v1' : zfA (zwI α 40 4 c.p (nI 0)) (some c.p) 40 1 = some (some c.va) := v1
  have v2' : ziald (zwI α 40 4 c.p (nI 0)) (some c.va) (nI at') = some (nI (c.vs at')) := v2
  have rv : la (us s 43 (nI 0)) 3 at' = nI (c.vs at') := R0.mw.rv at' ha
  have XA : hX4_item G (some c.p) (zwI α 40 4 c.p (nI 0)) = if nI (c.vs at') = (1 : Int32) then hX4_item_43 G (some c.p) (some (D.ou (D.os i))) (nI at') (nI (c.vs at')) (nI 1) (zwI α 40 4 c.p (nI 0)) else if ¬ nI (c.vs at') = (77 : Int32) then hX4_item_43 G (some c.p) (some (D.ou (D.os i))) (nI at') (nI (c.vs at')) (nI 0) (zwI α 40 4 c.p (nI 0)) else hX4_item_43 G (some c.p) (some (D.ou (D.os i))) (nI at') (nI (c.vs at')) (nI 1) (zwI α 40 4 c.p (nI 0)) := by
    unfold hX4_item
    rw [kfA kp, gl_bs, cu', if_pos (of_eq_true (kis kp (by decide)))]
    show zcase (hX4_state G (some c.p) (nI 5) (nI 7) (zwI α 40 4 c.p (nI 0))) _ _ = _
    rw [St, zc_l, kfI kp, gl_bs, ax', v1', gl_bs, gl_bs, v2', gl_bs]
    rfl
  have MA : gX26_item (us s 43 (nI 0)) = if nI (c.vs at') = (1 : Int32) then gX26_item_31 (nI at') (nI (c.vs at')) (nI 1) (us s 43 (nI 0)) else if ¬ nI (c.vs at') = (77 : Int32) then gX26_item_31 (nI at') (nI (c.vs at')) (nI 0) (us s 43 (nI 0)) else gX26_item_31 (nI at') (nI (c.vs at')) (nI 1) (us s 43 (nI 0)) := by
    unfold gX26_item
    rw [gl_x, gl_x, am', pgld (by omega) (by decide), gl_bs, rv]
    rfl
  have e1 : nI (c.vs at') = (1 : Int32) ↔ c.vs at' = 1 := by rw [nl1, pI_inj (by omega) (by decide)]
  have e77 : nI (c.vs at') = (77 : Int32) ↔ c.vs at' = 77 := by rw [show (77 : Int32) = nI 77 from rfl, pI_inj (by omega) (by decide)]
  have e88 : nI (c.vs at') = (88 : Int32) ↔ c.vs at' = 88 := by rw [show (88 : Int32) = nI 88 from rfl, pI_inj (by omega) (by decide)]
  have e2 : nI (c.vs at') < (2 : Int32) ↔ c.vs at' < 2 := by rw [show (2 : Int32) = nI 2 from rfl, pI_lt (by omega) (by decide)]
  have e49 : (49 : Int32) < nI (c.vs at') ↔ 49 < c.vs at' := by rw [show (49 : Int32) = nI 49 from rfl, pI_lt (by decide) (by omega)]
  -- the search from the end of the list
  have X73 : ∀ v, hX4_item_73 G (some c.p) (some (D.ou (D.os i))) (nI at') (nI (c.vs at')) v (nI 1) (some c.p) (zwI α 40 4 c.p (nI 0)) = zloop (fun (a : ((Option Nat) × (Option Nat) × Int32 × Int32 × Int32 × Int32)) σ => hX4_item_85b G a.1 a.2.1 a.2.2.1 a.2.2.2.1 a.2.2.2.2.1 a.2.2.2.2.2 σ) xLim (some c.p, some (D.ou (D.os i)), nI at', nI (c.vs at'), v, nI D.it.length) (zwI α 40 4 c.p (nI 0)) := fun v => by
    unfold hX4_item_73
    rw [if_pos (of_eq_true (kis kp (by decide))), X_must1, zc_l]
    show Option.bind (zfA (zwI α 40 4 c.p (nI 0)) (some (D.ou (D.os i))) 43 13) _ = _
    rw [kfA ku', gl_bs, fl', kpLs kl', gl_bs, it2', List.length_map]
    rfl
  have must0 : ∀ e β, hX4_must G (some c.p) (nI 0) (zwI α 40 4 c.p (nI 0)) = some (.inr e, β) → zthr β e 3 = true → ∀ r1 x2 x3 x4 x5, hX4_item_163 G (some c.p) r1 x2 x3 x4 x5 (some c.p) (zwI α 40 4 c.p (nI 0)) = some (.inr e, β) ∧ hX4_item_72 G (some c.p) r1 x2 x3 x4 (some c.p) (zwI α 40 4 c.p (nI 0)) = some (.inr e, β) := fun e β y1 y2 r1 x2 x3 x4 x5 => by
    constructor
    · unfold hX4_item_163 hX4_item_164
      rw [if_pos (of_eq_true (kis kp (by decide)))]
      show zcase (hX4_must G (some c.p) (nI 0) (zwI α 40 4 c.p (nI 0))) _ _ = _
      rw [y1, zc_r, if_pos y2]
    · unfold hX4_item_72 hX4_item_73
      rw [if_pos (of_eq_true (kis kp (by decide)))]
      show zcase (hX4_must G (some c.p) (nI 0) (zwI α 40 4 c.p (nI 0))) _ _ = _
      rw [y1, zc_r, if_pos y2]
  by_cases top : c.vs at' = 1 ∨ c.vs at' = 77
  · obtain ⟨ho1, ho2, ho3, ho4⟩ := I0.ho h5 h7
    have XB : hX4_item G (some c.p) (zwI α 40 4 c.p (nI 0)) = hX4_item_206 G (some c.p) (some (D.ou (D.os i))) (nI at') (nI (c.vs at')) (nI 0) (some (g.oa D.ho)) (zwI α 40 4 c.p (nI 0)) := by
      have z : hX4_item G (some c.p) (zwI α 40 4 c.p (nI 0)) = hX4_item_43 G (some c.p) (some (D.ou (D.os i))) (nI at') (nI (c.vs at')) (nI 1) (zwI α 40 4 c.p (nI 0)) := by
        rw [XA]
        by_cases z1 : c.vs at' = 1
        · rw [if_pos (e1.mpr z1)]
        · rw [if_neg (fun y => z1 (e1.mp y)), if_neg (fun y => y (e77.mpr (by omega)))]
      rw [z]
      unfold hX4_item_43 hX4_item_68
      rw [if_pos (show ¬ nI 1 = 0 from n1n), show (1 : Int32) = nI 1 from rfl, X73, itT (by omega) (by omega) D.it.length (by omega) (zlim (by omega))]
      unfold hX4_item_132 hX4_item_159 hX4_item_164
      rw [if_pos (show ¬ nI 1 = 0 from n1n), if_pos (of_eq_true (kis kp (by decide)))]
      show zcase (hX4_must G (some c.p) (nI 1) (zwI α 40 4 c.p (nI 0))) _ _ = _
      rw [X_must1, zc_l, if_neg (show ¬ nI 1 = 0 from n1n), kfA ku', gl_bs, zA_zwI, ho2]
    have MB : gX26_item (us s 43 (nI 0)) = gX26_item_78 (nI at') (nI (c.vs at')) (nI 1) (us s 43 (nI 0)) := by
      have z : gX26_item (us s 43 (nI 0)) = gX26_item_31 (nI at') (nI (c.vs at')) (nI 1) (us s 43 (nI 0)) := by
        rw [MA]
        by_cases z1 : c.vs at' = 1
        · rw [if_pos (e1.mpr z1)]
        · rw [if_neg (fun y => z1 (e1.mp y)), if_neg (fun y => y (e77.mpr (by omega)))]
      rw [z]
      unfold gX26_item_31
      rw [if_pos (show ¬ nI 1 = 0 from n1n)]
    rw [XB, MB]
    exact itB (G := G) (r := 6000000 - 10000 * 0) h ha hF hd hS h5 h7 (by omega) (by omega) ho1 (Nat.zero_le _) (by omega) (by decide) (.inr ⟨by omega, rfl, .inl ⟨rfl, rfl, rfl, top⟩⟩)
  have XB : hX4_item G (some c.p) (zwI α 40 4 c.p (nI 0)) = hX4_item_43 G (some c.p) (some (D.ou (D.os i))) (nI at') (nI (c.vs at')) (nI 0) (zwI α 40 4 c.p (nI 0)) := by
    rw [XA, if_neg (fun y => top (.inl (e1.mp y))), if_pos (fun y => top (.inr (e77.mp y)))]
  have MB : gX26_item (us s 43 (nI 0)) = gX26_item_31 (nI at') (nI (c.vs at')) (nI 0) (us s 43 (nI 0)) := by
    rw [MA, if_neg (fun y => top (.inl (e1.mp y))), if_pos (fun y => top (.inr (e77.mp y)))]
  have z0 : ¬ ¬ nI 0 = 0 := fun z => z rfl
  have M49 : gX26_item_49 (nI at') (nI (c.vs at')) (nI 0) (us s 43 (nI 0)) = if 2 ≤ c.vs at' ∧ c.vs at' ≤ 49 then (gX26_within (nI (c.vs at')) (us s 43 (nI 0))).bind fun p43 => if 0 ≤ p43.1 then gX26_item_78 (nI at') (nI (c.vs at')) (nI 0) p43.2 else gX26_item_67 p43.2 else gX26_item_67 (us s 43 (nI 0)) := by
    unfold gX26_item_49
    show Option.bind (gX26_in (nI (c.vs at')) (nI 2) (nI 49) (us s 43 (nI 0))) _ = _
    rw [M_in (by omega) (by decide) (by decide), gl_bs]
    by_cases z : 2 ≤ c.vs at' ∧ c.vs at' ≤ 49
    · rw [decide_eq_true z, if_neg (show ¬ nI (b2n true) = 0 from bT), if_pos z]
    · rw [decide_eq_false z, if_pos (show nI (b2n false) = 0 from rfl), if_neg z]
  by_cases l88 : c.vs at' = 88
  · obtain ⟨lt1, lt2, lt3⟩ := I0.lt h5 h7
    have XC : hX4_item G (some c.p) (zwI α 40 4 c.p (nI 0)) = hX4_item_132 G (some c.p) (some (D.ou (D.os i))) (nI at') (nI (c.vs at')) (nI 0) (nI D.it.length) (zwI α 40 4 c.p (nI 0)) := by
      rw [XB]
      unfold hX4_item_43 hX4_item_68
      rw [if_neg z0, if_pos (e88.mpr l88), show (1 : Int32) = nI 1 from rfl, X73]
      rw [show xLim = 999999999 + 1 from rfl]
      refine zloop_in ?_
      unfold hX4_item_85b
      rw [if_pos (e88.mpr l88)]
    by_cases zl : D.lt = 0
    · refine itm_F (G := G) h ha hF (fun e β y1 y2 => ?_) ?_
      · rw [XC]
        unfold hX4_item_132
        rw [if_neg z0, if_neg (fun y => y (e88.mpr l88)), kfA ku', gl_bs, zA_zwI, lt1, zl, if_pos (show pN g 0 = none from rfl)]
        exact (must0 e β y1 y2 _ _ _ _ _).1
      · rw [MB]
        unfold gX26_item_31
        rw [if_neg z0, if_neg (fun y => y (e88.mpr l88)), gl_x, show ls (us s 43 (nI 0)) 38 = nI D.lt from lt2, zl, if_neg (by decide), M49, if_neg (by omega)]
    · obtain ⟨lt4, lt5⟩ := lt3.resolve_left zl
      have b3 := h.g.bd _ lt4
      have N0 := h0.N0
      have XD : hX4_item G (some c.p) (zwI α 40 4 c.p (nI 0)) = hX4_item_206 G (some c.p) (some (D.ou (D.os i))) (nI at') (nI (c.vs at')) (nI D.it.length) (some (g.oa D.lt)) (zwI α 40 4 c.p (nI 0)) := by
        rw [XC]
        unfold hX4_item_132 hX4_item_159 hX4_item_164
        rw [if_neg z0, if_neg (fun y => y (e88.mpr l88)), kfA ku', gl_bs, zA_zwI, lt1, pN_s zl, if_neg (by simp), if_pos (of_eq_true (kis kp (by decide)))]
        show zcase (hX4_must G (some c.p) (nI 1) (zwI α 40 4 c.p (nI 0))) _ _ = _
        rw [X_must1, zc_l, if_pos (show nI 0 = 0 from rfl), if_neg (fun y => y (e88.mpr l88)), kfA ku', gl_bs, zA_zwI, lt1, pN_s zl]
      have MD : gX26_item (us s 43 (nI 0)) = gX26_item_78 (nI at') (nI (c.vs at')) (nI 0) (us s 43 (nI 0)) := by
        rw [MB]
        unfold gX26_item_31
        rw [if_neg z0, if_neg (fun y => y (e88.mpr l88)), gl_x, show ls (us s 43 (nI 0)) 38 = nI D.lt from lt2, if_pos (by rw [nl0, pI_lt (by decide) (by omega)]; omega)]
      rw [XD, MD]
      exact itB (G := G) (r := 500000) h ha hF hd hS h5 h7 (by omega) (by omega) lt4 (Nat.le_refl _) (by omega) (by decide) (.inl ⟨l88, rfl, zl, rfl, rfl⟩)
  have M31 : gX26_item_31 (nI at') (nI (c.vs at')) (nI 0) (us s 43 (nI 0)) = gX26_item_49 (nI at') (nI (c.vs at')) (nI 0) (us s 43 (nI 0)) := by
    unfold gX26_item_31
    rw [if_neg z0, if_pos (fun y => l88 (e88.mp y))]
  by_cases rg : 2 ≤ c.vs at' ∧ c.vs at' ≤ 49
  · obtain ⟨j, j1, j2, j3, j4⟩ := itW (G := G) (s := s) (it := D.it) (oa := g.oa) (r0 := some c.p) (x2 := nI at') (l := c.vs at') ku' fl' kl' it2' (by omega) (fun x hx => by
      obtain ⟨y1, y2, y3, v, w, y4, y5, y6, y7, y8, y9⟩ := itH x hx
      have W := h.g.nd _ y1
      refine ⟨by rw [zkd_zwI]; exact W.kn, v, w, by omega, y6, y7, ?_⟩
      rw [zI_zwI, if_neg (fun z => absurd z.1 (by decide)), W.vl]
      exact y8) (by omega) l88 D.it.length (Nat.le_refl _) (Fx := xLim) (Fm := xLim) (zlim (by omega)) (zlim (by omega))
    have WI : ∀ s', ls s' 37 = ls s 37 → la s' 39 = la s 39 → gX26_within (nI (c.vs at')) s' = some (nI j - nI 1, s') := fun s' hs1 hs2 => by
      unfold gX26_within gX26_within_7
      rw [gl_x, hs1, it1, gl_x]
      exact j3 s' hs2
    have XC : hX4_item G (some c.p) (zwI α 40 4 c.p (nI 0)) = hX4_item_132 G (some c.p) (some (D.ou (D.os i))) (nI at') (nI (c.vs at')) (nI 0) (nI j) (zwI α 40 4 c.p (nI 0)) := by
      rw [XB]
      unfold hX4_item_43 hX4_item_68
      rw [if_neg z0, if_neg (fun y => l88 (e88.mp y)), if_neg (fun y => by have := e2.mp y; omega), if_neg (fun y => by have := e49.mp y; omega), show (1 : Int32) = nI 1 from rfl, X73]
      exact j2
    have MC : gX26_item (us s 43 (nI 0)) = if 0 ≤ nI j - nI 1 then gX26_item_78 (nI at') (nI (c.vs at')) (nI 0) (us s 43 (nI 0)) else gX26_item_67 (us s 43 (nI 0)) := by
      rw [MB, M31, M49, if_pos rg, WI (us s 43 (nI 0)) rfl rfl, gl_bs]
    by_cases j0 : j = 0
    · refine itm_F (G := G) h ha hF (fun e β y1 y2 => ?_) ?_
      · rw [XC]
        unfold hX4_item_132
        rw [if_neg z0, if_pos (fun y => l88 (e88.mp y)), j0, if_pos (show nI 0 ≤ 0 from by decide)]
        exact (must0 e β y1 y2 _ _ _ _ _).1
      · rw [MC, j0, if_neg (by decide)]
    · obtain ⟨v, w1, w2⟩ := j4 (by omega)
      obtain ⟨y1, y2, y3, _⟩ := itH (j - 1) (by omega)
      have kn := (h.g.nd _ y1).kn
      have gk : (zL (zwI α 40 4 c.p (nI 0)) (D.ou (D.os i) + 1))[j - 1]? = some (some (g.oa (D.it.getD (j - 1) 0))) := by
        rw [it2', List.getElem?_map, List.getElem?_eq_getElem (by omega), List.getD_eq_getElem?_getD, List.getElem?_eq_getElem (by omega)]
        rfl
      have XD : hX4_item G (some c.p) (zwI α 40 4 c.p (nI 0)) = hX4_item_206 G (some c.p) (some (D.ou (D.os i))) (nI at') (nI (c.vs at')) (nI j) (some (g.oa (D.it.getD (j - 1) 0))) (zwI α 40 4 c.p (nI 0)) := by
        rw [XC]
        unfold hX4_item_132 hX4_item_159 hX4_item_164
        rw [if_neg z0, if_pos (fun y => l88 (e88.mp y)), if_neg (by rw [nl0, pI_le (by omega) (by decide)]; omega), if_pos (of_eq_true (kis kp (by decide)))]
        show zcase (hX4_must G (some c.p) (nI 1) (zwI α 40 4 c.p (nI 0))) _ _ = _
        rw [X_must1, zc_l, if_pos (show nI 0 = 0 from rfl), if_pos (fun y => l88 (e88.mp y)), kfA ku', gl_bs, fl']
        show Option.bind (zLget (zwI α 40 4 c.p (nI 0)) (some (D.ou (D.os i) + 1)) (nI j - nI 1)) _ = _
        rw [pI_sub (by omega), kpLg kl' (by omega), gk, gl_bs, if_pos (kpco (by rw [zkd_zwI]; exact kn) (by decide))]
      have MD : gX26_item (us s 43 (nI 0)) = gX26_item_78 (nI at') (nI (c.vs at')) (nI 0) (us s 43 (nI 0)) := by
        rw [MC, pI_sub (by omega), if_pos (by rw [nl0, pI_le (by decide) (by omega)]; omega)]
      rw [XD, MD]
      have jl : j ≤ 50 := by omega
      exact itB (G := G) (r := 6000000 - 10000 * j) h ha hF hd hS h5 h7 (by omega) (by omega) y1 j1 (by rw [y3]; omega) (by omega) (.inr ⟨l88, rfl, .inr ⟨rfl, rg.2, by omega, rfl, ⟨v, w1, w2⟩, WI⟩⟩)
  · refine itm_F (G := G) h ha hF (fun e β y1 y2 => ?_) ?_
    · rw [XB]
      unfold hX4_item_43
      rw [if_neg z0, if_neg (fun y => l88 (e88.mp y))]
      by_cases z2 : c.vs at' < 2
      · rw [if_pos (e2.mpr z2)]
        exact (must0 e β y1 y2 _ _ _ _ (nI 0)).2
      · rw [if_neg (fun y => z2 (e2.mp y)), if_pos (e49.mpr (by omega))]
        exact (must0 e β y1 y2 _ _ _ _ (nI 0)).2
    · rw [MB, M31, M49, if_neg rg]
end PAZZV
