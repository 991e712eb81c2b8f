/-! THE PURE LAYER: the parser: what a clause answers; a division's header. -/
/-- what comes of a clause that starts at α, s -/
def cQ (c : pC) (D : pD) (B at' N F : Nat) (α : zS) (s : zM) (fX : zF (Unit ⊕ Nat)) (mM : gF Unit) : Prop :=
  (∃ β s' D' L' a N' g' F', fX = some (.inl (), β) ∧ mM = some ((), s') ∧ ls s' 43 = nI 0 ∧ pV c D' L' B a N' F' g' β s' ∧ at' < a ∧ (F ≤ F' ∧ F' ≤ F + 1) ∧ (D'.z0 = D.z0 ∧ D'.w0 = D.w0 ∧ D'.a0 = D.a0 ∧ D'.fa = D.fa ∧ D'.fb = D.fb ∧ D'.lu = D.lu ∧ D'.lr = D.lr)) ∨ (∃ e β s' wh w, fX = some (.inr e, β) ∧ zthr β e 3 = true ∧ mM = some ((), s') ∧ pE (c.on (zwI α 40 4 c.p (nI 0)) (us s 43 (nI 0)) N at' 0) wh w β s')
/-- two words and a period: X's second -/
def sec (c : pC) (b : Nat) (G : xQ) (α : zS) (s : zM) (a d N y w : Nat) (g : pG) : Prop :=
  (hX4_second G (some c.p) (nI w) α = some (.inl (), xaS c (xaS c (xaS c α a) (a + 1)) (a + 2)) ∧ gX26_must (nI w) (maS s a) = some (nI 1, maS (maS s a) (a + 1)) ∧ gX26_mustBe (nI 4) (maS (maS s a) (a + 1)) = some (nI 1, maS (maS (maS s a) (a + 1)) (a + 2)) ∧ pR c (a + 3) d b N y g (xaS c (xaS c (xaS c α a) (a + 1)) (a + 2)) (maS (maS (maS s a) (a + 1)) (a + 2))) ∨ (∃ e β s' v, hX4_second G (some c.p) (nI w) α = some (.inr e, β) ∧ zthr β e 3 = true ∧ (gX26_must (nI w) (maS s a) = some (nI 0, s') ∨ (gX26_must (nI w) (maS s a) = some (nI 1, maS (maS s a) (a + 1)) ∧ gX26_mustBe (nI 4) (maS (maS s a) (a + 1)) = some (nI 0, s'))) ∧ pE c 1 v β s')
section PAZR
variable {L L2 : Nat → Prop} {c : pC} {D : pD} {G : xQ} {α β : zS} {s s' s1 : zM} {B at' a a1 b d N N' F F' p q t to u x y k i j w wh lv m : Nat} {g g' g2 : pG} {v : Int32}
theorem pR.second (h : pR c a d b N y g α s) (hb : pB c b a 0) (ha : a < c.n) (hw : w < 100000) : sec c b G α s a d N y w g := by
  have kp := h.kp
  have ax := h.ax
  have h1 := h.adv ha
  have kp1 := h1.kp
  have hb1 : pB c b (a + 1) 0 := hb.go (by omega)
  have X0 : ∀ R, hX4_need G (some c.p) (nI w) (xaS c α a) = R → hX4_second G (some c.p) (nI w) α = zcase R (fun p3 => if zis G p3.2 (some c.p) 41 = true then zcase (hX4_period G (some c.p) p3.2) (fun p4 => some (.inl (), p4.2)) (fun p5 => if zthr p5.2 p5.1 3 = true then some (.inr p5.1, p5.2) else none) else none) (fun p6 => if zthr p6.2 p6.1 3 = true then some (.inr p6.1, p6.2) else none) := fun R hR => by
    unfold hX4_second
    rw [kfI kp, gl_bs, ax, kpI kp, gl_bs, show nI a + 1 = nI (a + 1) from pI_succ a]
    show (if zis G (xaS c α a) (some c.p) 41 = true then _ else none) = _
    rw [if_pos (of_eq_true (kis kp1 (by decide))), ← hR]
    rfl
  rcases h1.need (G := G) hw hb1 with ⟨e1, x1, m1, h2⟩ | ⟨e, β, s', v, x1, x2, m1, x3⟩
  · have kp2 := h2.kp
    rcases h2.period (G := G) (hb.go (by omega)) with ⟨e2, y1, n1, h3⟩ | ⟨e, β, s', v, y1, y2, n1, y3⟩
    · refine .inl ⟨?_, m1, n1, h3⟩
      rw [X0 _ x1, zc_l, if_pos (of_eq_true (kis kp2 (by decide))), y1, zc_l]
    · refine .inr ⟨e, β, s', v, ?_, y2, .inr ⟨m1, n1⟩, y3⟩
      rw [X0 _ x1, zc_l, if_pos (of_eq_true (kis kp2 (by decide))), y1, zc_r, if_pos y2]
  · refine .inr ⟨e, β, s', v, ?_, x2, .inl m1, x3⟩
    rw [X0 _ x1, zc_r, if_pos x2]
theorem X_state (kp : zkd α c.p = 41) (hu : zA α 40 11 c.p = some q) (kq : zkd α q = 44) (hs : zI α 43 3 q = nI k) (h1 : k < 100) (h2 : i < 100) (h3 : j < 100) : hX4_state G (some c.p) (nI i) (nI j) α = if i ≤ k ∧ k ≤ j then some (.inl (), α) else zcase (hX4_must G (some c.p) (nI 0) α) (fun p1 => some (.inl (), p1.2)) (fun p2 => if zthr p2.2 p2.1 3 = true then some (.inr p2.1, p2.2) else none) := by
  have e28 : ∀ v, hX4_state_28 G v (some c.p) α = zcase (hX4_must G (some c.p) v α) (fun p1 => some (.inl (), p1.2)) (fun p2 => if zthr p2.2 p2.1 3 = true then some (.inr p2.1, p2.2) else none) := fun v => by
    unfold hX4_state_28
    rw [if_pos (of_eq_true (kis kp (by decide)))]
  unfold hX4_state hX4_state_27
  rw [kfA kp, gl_bs, hu, kfI kq, gl_bs, hs]
  by_cases a1 : k < i
  · rw [if_pos (by rw [pI_lt (by omega) (by omega)]; exact a1), if_neg (by omega)]
    exact e28 (nI 0)
  · rw [if_neg (by rw [pI_lt (by omega) (by omega)]; exact a1), gl_bs, kfI kq, gl_bs, hs]
    by_cases a2 : j < k
    · rw [if_pos (by rw [pI_lt (by omega) (by omega)]; exact a2), if_neg (by omega)]
      exact e28 (nI 0)
    · rw [if_neg (by rw [pI_lt (by omega) (by omega)]; exact a2), if_pos (by omega)]
      refine (e28 (nI 1)).trans ?_
      rw [X_must1, zc_l]
theorem M_here (h26 : ls s 26 = nI (i + 1)) (h29 : la s 29 i = nI u) (hi : i < 11) : gX26_here s = some (nI u, s) := by
  unfold gX26_here
  rw [gl_x, h26, nl1, pI_sub (by omega), Nat.add_sub_cancel, pgld hi (by decide), gl_bs, h29]
theorem M_to (h26 : ls s 26 = nI (i + 1)) (hi : i < 11) : gX26_to v s = some ((), ua s 27 (upd (la s 27) i v)) := by
  unfold gX26_to
  rw [gl_x, h26, nl1, pI_sub (by omega), Nat.add_sub_cancel, pgst hi (by decide), gl_bs]
end PAZR
