/-! THE PURE LAYER: the parser: a sentence, whole. -/
section PAZZC
variable {L L2 : Nat → Prop} {c : pC} {D : pD} {G : xQ} {α β : zS} {s s' s1 : zM} {B at' a a1 b d N N' F F' p q t to u x y k i j w wh lv m S : Nat} {g g' g2 : pG} {v : Int32}
theorem X_goOn (kq : zkd α q = 44) (hs : zI α 43 3 q = nI S) (hS : S < 100) : hX42_goOn G (some q) α = some ((), zwI α 43 3 q (nI (if S = 9 then 9 else 11))) := by
  unfold hX42_goOn hX42_goOn_17
  rw [kfI kq, gl_bs, hs]
  by_cases e : S = 9
  · rw [if_neg (show ¬ ¬ nI S = 9 from fun z => z (by rw [e]; rfl)), kpI kq, gl_bs, if_pos e]
    rfl
  · rw [if_pos (show ¬ nI S = 9 from by rw [show (9 : Int32) = nI 9 from rfl, pI_inj (by omega) (by decide)]; exact e), kpI kq, gl_bs, if_neg e]
    rfl
theorem ua_same (h : la s k j = v) : ua s k (upd (la s k) j v) = s := by
  refine Prod.ext rfl (Prod.ext rfl (Prod.ext ?_ rfl))
  funext n
  show (if n = k then _ else _) = _
  split
  · rename_i e
    rw [e]
    funext x
    by_cases z : x = j
    · rw [z, upd_same]; exact h.symm
    · rw [upd_other z]; rfl
  · rfl
theorem cl_sen (h : pV c D L B at' N F g α s) (ha : at' < c.n) (hF : F < 20) (hd : D.dp = i + 1) (hS : D.st i = S) (h8 : 8 ≤ S) (h11 : S ≤ 11) (h9 : S = 9 → D.se ≠ 0) (hw : wB c at' = true) : cQ c D B at' N F α s (hX4_sentence G (some c.p) (zwI α 40 4 c.p (nI 0))) (gX26_sentence (nI S) (us s 43 (nI 0))) := by
  obtain ⟨i10, hu, cu, ku, xs, d26, r29, r22, u2⟩ := h.cur hd
  have h0 := h.o
  have R0 := h0.start (s' := (us (us (us s 43 (nI 0)) 45 (nI 0)) 44 (nI 0))) (lv := 1) ha hF (fun k hk => by
    rw [ls_us, ls_us, ls_us] at hk
    split at hk
    · omega
    · split at hk
      · omega
      · split at hk
        · omega
        · exact absurd rfl hk) (fun _ => rfl) rfl (fun _ => rfl)
  have kp : zkd (zwI α 40 4 c.p (nI 0)) c.p = 41 := R0.kp
  have cu' : zA (zwI α 40 4 c.p (nI 0)) 40 11 c.p = some (D.ou (D.os i)) := by rw [zA_zwI]; exact cu
  have ax' : zI (zwI α 40 4 c.p (nI 0)) 40 3 c.p = nI at' := R0.ax
  have oK := h.op i (by omega)
  have U0 := h.u _ hu
  have I0 := h.inn (by omega)
  rw [hd, Nat.add_sub_cancel, hS] at I0
  obtain ⟨prn, rkp⟩ := I0.pr h8 h11
  obtain ⟨xse, mse, lse⟩ := I0.se h8 h11
  obtain ⟨xpa, mpa, lpa⟩ := I0.pa h8 h11
  have plL := U0.lp.resolve_left prn
  have e0 : (zwI α 40 4 c.p (nI 0)).2 (D.ou (D.os i)) = α.2 (D.ou (D.os i)) := zwI_ne (by have := U0.lo; have := h0.p; omega)
  have St : hX4_state G (some c.p) (nI 8) (nI 11) (zwI α 40 4 c.p (nI 0)) = some (.inl (), (zwI α 40 4 c.p (nI 0))) := by
    rw [X_state (k := S) (i := 8) (j := 11) kp cu' (by rw [zkd_eq e0]; exact ku) (by rw [zI_eq e0, xs, hS]) (by omega) (by decide) (by decide), if_pos (by omega)]
  have N1 := h0.N1
  have N8 : N < 7900 := by
    have := h0.N0
    have := h0.n
    omega
  obtain ⟨R1, q1⟩ := R0.cell
  obtain ⟨β, x4, R2⟩ := R1.new (G := G) (kv := nI 25) (v := nI 0) (v' := nI at') (r := 2000000) q1 (by decide)
  have x4' : hX43_init G (some (zn (zwI α 40 4 c.p (nI 0)))) (nI 25) (nI 0) (nI at') (zmk (zwI α 40 4 c.p (nI 0)) (44 + 1) 0 9) = some ((), β) := x4
  have axc : zI (zmk (zwI α 40 4 c.p (nI 0)) 45 0 9) 40 3 c.p = nI at' := R1.ax
  have kpc : zkd (zmk (zwI α 40 4 c.p (nI 0)) 45 0 9) c.p = 41 := R1.kp
  have X35 : hX4_sentence_35 G (some c.p) (some (D.ou (D.os i))) 1 (some c.p) (zwI α 40 4 c.p (nI 0)) = zloop (fun (a : ((Option Nat) × (Option Nat) × (Option Nat))) σ => hX4_sentence_53b G a.1 a.2.1 a.2.2 σ) xLim (some c.p, some (D.ou (D.os i)), some (zn (zwI α 40 4 c.p (nI 0)))) β := by
    unfold hX4_sentence_35
    rw [if_pos (of_eq_true (kis kp (by decide)))]
    show zcase (hX4_must G (some c.p) (nI 1) (zwI α 40 4 c.p (nI 0))) _ _ = _
    rw [X_must1, zc_l]
    show Option.bind (znO (zwI α 40 4 c.p (nI 0)) 44 9) _ = _
    rw [znO_e, gl_bs, kfI kpc, gl_bs, axc, if_pos (of_eq_true (kis q1.kd (by decide)))]
    show Option.bind (hX43_init G (some (zn (zwI α 40 4 c.p (nI 0)))) (nI 25) (nI 0) (nI at') _) _ = _
    rw [x4', gl_bs]
    rfl
  have X0 : hX4_sentence G (some c.p) (zwI α 40 4 c.p (nI 0)) = zloop (fun (a : ((Option Nat) × (Option Nat) × (Option Nat))) σ => hX4_sentence_53b G a.1 a.2.1 a.2.2 σ) xLim (some c.p, some (D.ou (D.os i)), some (zn (zwI α 40 4 c.p (nI 0)))) β := by
    rw [← X35]
    unfold hX4_sentence hX4_sentence_30
    rw [kfA kp, gl_bs, cu', if_pos (of_eq_true (kis kp (by decide)))]
    show zcase (hX4_state G (some c.p) (nI 8) (nI 11) (zwI α 40 4 c.p (nI 0))) _ _ = _
    rw [St, zc_l, kfI (by rw [zkd_eq e0]; exact ku), gl_bs, zI_eq e0, xs, hS]
    by_cases e : S = 9
    · rw [if_neg (show ¬ ¬ nI S = 9 from fun z => z (by rw [e]; rfl)), kfA (by rw [zkd_eq e0]; exact ku), gl_bs, zA_eq e0, xse, pN_s (h9 e), if_neg (show ¬ some (g.oa D.se) = none from by simp)]
    · rw [if_pos (show ¬ nI S = 9 from by rw [show (9 : Int32) = nI 9 from rfl, pI_inj (by omega) (by decide)]; exact e)]
  have R3 := R2.pl (k := 0) (v := nI 0) (v' := nI N) (show ls (mMk (us (us (us s 43 (nI 0)) 45 (nI 0)) 44 (nI 0)) N (nI 25) (nI 0) (nI at')) 45 = nI 0 from rfl) (by decide)
  have hb0 : pB (c.on (zwI α 40 4 c.p (nI 0)) (us (us (us s 43 (nI 0)) 45 (nI 0)) 44 (nI 0)) N at' 1) N at' 20 := on_pB (by decide) (.inr rfl)
  have hb3 : pB (c.on (zwI α 40 4 c.p (nI 0)) (us (us (us s 43 (nI 0)) 45 (nI 0)) 44 (nI 0)) N at' 1) (N + 1 + 1) at' 14 := by unfold pB at *; omega
  have M0 : gX26_sentence (nI S) (us s 43 (nI 0)) = (mS xLim (mPl (mMk (us (us (us s 43 (nI 0)) 45 (nI 0)) 44 (nI 0)) N (nI 25) (nI 0) (nI at')) 0 (nI 0) (nI N))).bind fun p5 =>
  (gX26_mustBe (nI 4) p5.2).bind fun p6 =>
  if ¬ p6.1 = 0 then
    xlet (ls p6.2 36) fun x7 =>
    if x7 ≤ nI 0 then
      xlet (ls p6.2 35) fun x8 =>
      if x8 ≤ nI 0 then
        (gX26_here p6.2).bind fun p10 =>
        (gld p10.2 25 600 p10.1).bind fun x11 =>
        gX26_sentence_64 (nI S) (nI N) x11 p10.2
      else
        xlet (ls p6.2 35) fun x12 =>
        gX26_sentence_64 (nI S) (nI N) x12 p6.2
    else
      xlet (ls p6.2 36) fun x13 =>
      gX26_sentence_64 (nI S) (nI N) x13 p6.2
  else
    some ((), p6.2) := by
    unfold gX26_sentence gX26_statements
    rw [gl_x, show ls (us s 43 (nI 0)) 41 = nI at' from h0.am]
    show Option.bind (gX26_make (nI 25) (nI 0) (nI at') (us s 43 (nI 0))) _ = _
    rw [M_make (show ls (us s 43 (nI 0)) 8 = nI N from h0.Nm) (by omega), gl_bs, gl_x, gl_x]
    show Option.bind (Option.bind (gX26_pile (nI 0) (nI N) (us (us (mMk (us s 43 (nI 0)) N (nI 25) (nI 0) (nI at')) 45 (nI 0)) 44 (nI 0))) _) _ = _
    rw [← mMk_dep, M_pile (k := 0) rfl (by decide), gl_bs]
    rfl
  have l16 : la (mPl (mMk (us (us (us s 43 (nI 0)) 45 (nI 0)) 44 (nI 0)) N (nI 25) (nI 0) (nI at')) 0 (nI 0) (nI N)) 16 N = nI 0 := by
    rw [mPl_la (by decide), mMk_la (by decide) (by decide), if_pos rfl]; rfl
  have rS0 : rS 0 = 1800 := rfl
  have LP := senLoop (c := c.on (zwI α 40 4 c.p (nI 0)) (us (us (us s 43 (nI 0)) 45 (nI 0)) 44 (nI 0)) N at' 1) (G := G) (t := N) (R := fun _ _ _ => none) (F := xLim) (Fx := xLim) (ou := some (D.ou (D.os i))) 505 (by
    show c.n - at' ≤ 505
    have := h0.n; omega) (zlim (by decide)) R3 hb3 (Nat.le_refl _) (Nat.lt_succ_self _) (by rw [push_r, if_pos rfl]; omega) mPl_45 mPl_46 mPl_47 (.inl hw) (by
    show 10 * (c.n - at') + 20 ≤ xLim
    have := h0.n
    have : (5100 : Nat) < xLim := zlim (by decide)
    omega)
  rw [push_oa, if_pos rfl] at LP
  rcases LP with ⟨γ, s2, a2, b2, N2, gN, l1, l2, l3, l4, l5, l6, l7, l8⟩ | ⟨e, γ, s', wh, w, l1, l2, l3, l4⟩
  · obtain ⟨S', hS', hc⟩ : ∃ S', S' = (if S = 9 then 9 else 11) ∧ ((S = 9 ∧ S' = 9) ∨ (S ≠ 9 ∧ S' = 11)) := by
      by_cases e : S = 9
      · exact ⟨9, by rw [if_pos e], .inl ⟨e, rfl⟩⟩
      · exact ⟨11, by rw [if_neg e], .inr ⟨e, rfl⟩⟩
    have R5 := (l3.unp l5 (by decide) (by rw [l6, ne_eq, pI_inj (by decide) (by decide)]; decide)).lv0 (v := nI 0 - nI 1) rfl
    have b8 : b2 + 10 * at' ≤ N + 1 + 1 + 10 * a2 := l8
    have hb5 : pB (c.on (zwI α 40 4 c.p (nI 0)) (us (us (us s 43 (nI 0)) 45 (nI 0)) 44 (nI 0)) N at' 0) b2 a2 0 := by
      show b2 + 0 + 10 * at' ≤ N + 10 * a2 + 60 ∧ (0 ≤ 4 ∨ 0 = 1)
      omega
    have X1 : ∀ R, hX4_period G (some c.p) γ = R → hX4_sentence G (some c.p) (zwI α 40 4 c.p (nI 0)) = zcase R (fun p2 =>
            if zis G p2.2 (some (D.ou (D.os i))) 44 = true then
              (hX42_sentences G (some (D.ou (D.os i))) p2.2).bind fun p3 =>
              if zis G p3.2 p3.1 45 = true then
                (hX43_add G p3.1 (some (zn (zwI α 40 4 c.p (nI 0)))) p3.2).bind fun p4 =>
                if zis G p4.2 (some (D.ou (D.os i))) 44 = true then
                  (hX42_goOn G (some (D.ou (D.os i))) p4.2).bind fun p5 =>
                  some (.inl (()), p5.2)
                else none
              else none
            else none) (fun p6 =>
            if zthr p6.2 p6.1 3 = true then
              some (.inr p6.1, p6.2)
            else none) := fun R hR => by
      rw [X0, ← hR]
      exact l1
    rcases R5.period (G := G) hb5 with ⟨e1, x1, m1, R6⟩ | ⟨e, δ, s', w, x1, x2, m1, x3⟩
    · have zk : (xaS (c.on (zwI α 40 4 c.p (nI 0)) (us (us (us s 43 (nI 0)) 45 (nI 0)) 44 (nI 0)) N at' 0) γ a2).2 (D.ou (D.os i)) = α.2 (D.ou (D.os i)) := h.unX R6.x hu
      have x1' : hX4_period G (some c.p) γ = some (.inl (), xaS (c.on (zwI α 40 4 c.p (nI 0)) (us (us (us s 43 (nI 0)) 45 (nI 0)) 44 (nI 0)) N at' 0) γ a2) := x1
      have l16' : la (maS (us (us s2 45 (nI 0)) 44 (nI 0 - nI 1)) a2) 16 N = nI 0 := (l4.up N (Nat.lt_succ_self _)).trans l16
      have oaN : gN.oa N = zn (zwI α 40 4 c.p (nI 0)) := by rw [l4.oa N (Nat.lt_succ_self _), push_oa, if_pos rfl]
      have rN' : gN.r N = 2000000 := by rw [l4.r N (Nat.lt_succ_self _), push_r, if_pos rfl]
      have n2 : N + 1 ≤ N2 := l4.n
      have bm6 := R6.bm
      have f36 : ls (maS (us (us s2 45 (nI 0)) 44 (nI 0 - nI 1)) a2) 36 = nI D.pa := (R6.m.I 36 (by decide)).trans mpa
      have f35 : ls (maS (us (us s2 45 (nI 0)) 44 (nI 0 - nI 1)) a2) 35 = nI D.se := (R6.m.I 35 (by decide)).trans mse
      have d26' : ls (maS (us (us s2 45 (nI 0)) 44 (nI 0 - nI 1)) a2) 26 = nI (i + 1) := (R6.m.I 26 (by decide)).trans d26
      have r29' : la (maS (us (us s2 45 (nI 0)) 44 (nI 0 - nI 1)) a2) 29 i = nI (D.os i) := (congrFun (R6.m.B 29 (by decide)) i).trans r29
      have r25' : la (maS (us (us s2 45 (nI 0)) 44 (nI 0 - nI 1)) a2) 25 (D.os i) = nI (D.pr (D.os i)) := (congrFun (R6.m.B 25 (by decide)) _).trans U0.mp
      obtain ⟨to, hto⟩ : ∃ to, to = (if D.pa ≠ 0 then D.pa else if D.se ≠ 0 then D.se else D.pr (D.os i)) := ⟨_, rfl⟩
      have tL : L to ∧ 2000000 < g.r to := by
        rw [hto]
        by_cases e1 : D.pa = 0
        · rw [if_neg (fun z => z e1)]
          by_cases e2 : D.se = 0
          · rw [if_neg (fun z => z e2)]
            exact ⟨plL, by rw [rkp]; decide⟩
          · rw [if_pos e2]
            obtain ⟨q1, q2⟩ := lse.resolve_left e2
            exact ⟨q1, by rw [q2]; decide⟩
        · rw [if_pos e1]
          obtain ⟨q1, q2⟩ := lpa.resolve_left e1
          exact ⟨q1, by rw [q2]; decide⟩
      obtain ⟨δ, l, g2, kU, y1, y2, V2, oN, rN, _⟩ := h.root (G := G) (to := to) (t := N) R6 (fun k hk => by rw [ls_us, if_neg (by omega), ls_us, if_neg (by omega), ls_us, if_neg (by omega)]) (fun _ => rfl) (fun z => absurd z (by decide)) (by omega) (by have : at' ≤ a2 := l7; omega) hF tL.1 (Nat.le_refl _) (by omega) (by rw [rN']; exact tL.2) l16'
      rw [oaN] at y1
      have SN := X_sents (G := G) (g := g) (α := xaS (c.on (zwI α 40 4 c.p (nI 0)) (us (us (us s 43 (nI 0)) 45 (nI 0)) 44 (nI 0)) N at' 0) γ a2) (q := D.ou (D.os i)) (pa := D.pa) (se := D.se) (pr := D.pr (D.os i)) (by rw [zkd_eq zk]; exact ku) (by rw [zA_eq zk]; exact xpa) (by rw [zA_eq zk]; exact xse) (by rw [zA_eq zk, U0.xp, pN_s prn])
      rw [← hto] at SN
      have U2 := V2.u _ hu
      have O2 := V2.op i (by omega)
      have I2 := V2.inn (by omega)
      rw [hd, Nat.add_sub_cancel, hS] at I2
      have kO : zkd δ (D.ou (D.os i)) = 44 := U2.kn
      have GO := X_goOn (G := G) (S := S) kO (by rw [O2.xs, hS]) (by omega)
      rw [← hS'] at GO
      have Xf : hX4_sentence G (some c.p) (zwI α 40 4 c.p (nI 0)) = some (.inl (), zwI δ 43 3 (D.ou (D.os i)) (nI S')) := by
        rw [X1 _ x1', zc_l, if_pos (of_eq_true (kis (by rw [zkd_eq zk]; exact ku) (by decide))), SN, gl_bs, if_pos (of_eq_true (kis kU (by decide)))]
        show Option.bind (hX43_add G (some (g.oa to)) (some (zn (zwI α 40 4 c.p (nI 0)))) (xaS (c.on (zwI α 40 4 c.p (nI 0)) (us (us (us s 43 (nI 0)) 45 (nI 0)) 44 (nI 0)) N at' 0) γ a2)) _ = _
        rw [y1, gl_bs, if_pos (of_eq_true (kis kO (by decide)))]
        show Option.bind (hX42_goOn G (some (D.ou (D.os i))) δ) _ = _
        rw [GO, gl_bs]
      have m1' : gX26_mustBe (nI 4) (us (us s2 45 (nI 0)) 44 (nI 0 - nI 1)) = some (nI 1, maS (us (us s2 45 (nI 0)) 44 (nI 0 - nI 1)) a2) := m1
      generalize maS (us (us s2 45 (nI 0)) 44 (nI 0 - nI 1)) a2 = s6 at m1' bm6 f36 f35 d26' r29' r25' y2 V2 U2 O2 I2
      have M64 : gX26_sentence_64 (nI S) (nI N) (nI to) s6 = some ((), ua (mAtS s6 to l N) 27 (upd (la (mAtS s6 to l N) 27) i (nI S'))) := by
        unfold gX26_sentence_64 gX26_sentence_80
        rw [y2, gl_bs]
        rcases hc with ⟨c1, c2⟩ | ⟨c1, c2⟩
        · rw [if_pos (show nI S = 9 from by rw [c1]; rfl), ua_same (by rw [O2.ms, hS, c1, c2])]
        · rw [if_neg (show ¬ nI S = 9 from by rw [show (9 : Int32) = nI 9 from rfl, pI_inj (by omega) (by decide)]; exact c1)]
          show Option.bind (gX26_to (nI 11) (mAtS s6 to l N)) _ = _
          rw [M_to (i := i) (by rw [mAtS_ls]; exact d26') (by omega), gl_bs, c2]
      have Mf : gX26_sentence (nI S) (us s 43 (nI 0)) = some ((), ua (mAtS s6 to l N) 27 (upd (la (mAtS s6 to l N) 27) i (nI S'))) := by
        have bp := fun z : D.pa ≠ 0 => h.g.bd _ (lpa.resolve_left z).1
        have bs := fun z : D.se ≠ 0 => h.g.bd _ (lse.resolve_left z).1
        rw [M0, l2, gl_bs]
        show Option.bind (gX26_mustBe (nI 4) (us (us s2 45 (nI 0)) 44 (nI 0 - nI 1))) _ = _
        rw [m1', gl_bs, if_pos (show ¬ nI 1 = 0 from n1n), gl_x, f36]
        by_cases e1 : D.pa = 0
        · rw [if_pos (show nI D.pa ≤ nI 0 from by rw [e1]; decide), gl_x, f35]
          by_cases e2 : D.se = 0
          · rw [if_pos (show nI D.se ≤ nI 0 from by rw [e2]; decide)]
            show Option.bind (gX26_here s6) _ = _
            rw [M_here (i := i) (u := D.os i) d26' r29' (by omega), gl_bs, pgld (by omega) (by decide), gl_bs, r25', ← M64, hto, if_neg (fun z => z e1), if_neg (fun z => z e2)]
          · rw [if_neg (show ¬ nI D.se ≤ nI 0 from by rw [pI_le (by have := bs e2; omega) (by decide)]; omega), gl_x, ← M64, hto, if_neg (fun z => z e1), if_pos e2]
        · rw [if_neg (show ¬ nI D.pa ≤ nI 0 from by rw [pI_le (by have := bp e1; omega) (by decide)]; omega), gl_x, ← M64, hto, if_pos e1]
      refine .inl ⟨_, _, D.set D.en D.da D.pr (va_up D.st i S') D.nm D.fu D.hd D.fi D.ho D.de D.se D.pa D.lt D.it, _, a2 + 1, N2, _, F, Xf, Mf, ?_, V2.upd (i := i) (u := D.os i) (q := D.ou (D.os i)) hd rfl rfl ?_ ?_ ?_ ?_ ?_ ?_ ?_ ?_ ?_ ?_ ?_ ?_ ?_, by have : at' ≤ a2 := l7; omega, ⟨Nat.le_refl _, Nat.le_succ _⟩, rfl, rfl, rfl, rfl, rfl, rfl, rfl⟩
      · show ls (mAtS s6 to l N) 43 = _
        rw [mAtS_ls]; exact bm6
      · intro x hx1 hx2
        rw [zwI_ne hx1]
      · rfl
      · exact Nat.le_refl _
      · exact Nat.le_refl _
      · exact fun k hk => rfl
      · intro k hk
        rw [la_ua, if_neg (by omega)]
      · intro k j k1 k2 hj
        rw [la_ua, if_neg (by omega)]
      · intro k j k1 k2 hj
        rw [la_ua]
        split
        · rename_i e
          rw [e, upd_other hj]
        · rfl
      · exact fun k hk => ⟨rfl, rfl, rfl⟩
      · intro j hj
        refine ⟨?_, rfl, rfl, rfl⟩
        show (if j = i then S' else D.st j) = _
        rw [if_neg hj]
      · refine uOk.mk U2.lo ?_ ?_ ?_ ?_ ?_ ?_ ?_ ?_ U2.mu U2.me U2.md U2.mp U2.lu U2.le U2.ld U2.lp
        · exact U2.hi
        · rw [zkd_zwI]; exact U2.kn
        · rw [zA_zwI]; exact U2.fl
        · rw [zkd_zwI]; exact U2.kl
        · rw [zA_zwI]; exact U2.xu
        · rw [zA_zwI]; exact U2.xe
        · rw [zA_zwI]; exact U2.xd
        · rw [zA_zwI]; exact U2.xp
      · refine oOk.mk O2.u ?_ ?_ ?_ ?_ O2.mo O2.mf O2.mh ?_ O2.kd ?_ ?_ O2.f1 O2.h1 O2.nb O2.rk
        · rw [zA_zwI]; exact O2.up
        · rw [zI_zwI, if_neg (fun z => absurd z.2.1 (by decide))]; exact O2.xh
        · show _ = nI (if i = i then S' else D.st i)
          rw [zI_zwI, if_pos ⟨rfl, rfl, rfl⟩, if_pos rfl]
        · show upd _ i (nI S') i = nI (if i = i then S' else D.st i)
          rw [upd_same, if_pos rfl]
        · exact fun _ => O2.mn (by omega)
        · exact fun _ => O2.vl (by omega)
        · show (if i = i then S' else D.st i) ≤ 12
          rw [if_pos rfl]; omega
      · have eS : va_up D.st i S' i = S' := if_pos rfl
        rw [eS]
        refine iOk.mk (fun z1 z2 => by omega) (fun z1 z2 => by omega) (fun _ _ => I2.pr h8 h11) (fun z1 z2 => by omega) (fun z1 z2 => by omega) (fun z1 z2 => by omega) (fun z1 z2 => by omega) (fun z => ?_) (fun _ _ => ?_) (fun _ _ => ?_) (fun z => by omega)
        · obtain ⟨w1, w2, w3⟩ := I2.de (by omega)
          exact ⟨w1, by rw [zA_zwI]; exact w2, w3⟩
        · obtain ⟨w1, w2⟩ := I2.se h8 h11
          exact ⟨by rw [zA_zwI]; exact w1, w2⟩
        · obtain ⟨w1, w2⟩ := I2.pa h8 h11
          exact ⟨by rw [zA_zwI]; exact w1, w2⟩
    · refine .inr ⟨e, δ, s', 1, w, ?_, x2, ?_, x3.base (fun k k1 k2 => by rw [ls_us, if_neg k1, ls_us, if_neg k2]) (fun _ => rfl)⟩
      · rw [X1 _ x1, zc_r, if_pos x2]
      · rw [M0, l2, gl_bs, m1, gl_bs, if_neg (show ¬ ¬ nI 0 = 0 from fun z => z rfl)]
  · refine .inr ⟨e, γ, s', wh, w, ?_, l2, ?_, l4.base (fun k k1 k2 => by rw [ls_us, if_neg k1, ls_us, if_neg k2]) (fun _ => rfl)⟩
    · rw [X0]; exact l1
    · rw [M0, l3, gl_bs, Bd_mustBe l4.b1, gl_bs, if_neg (show ¬ ¬ nI 0 = 0 from fun z => z rfl)]
end PAZZC
