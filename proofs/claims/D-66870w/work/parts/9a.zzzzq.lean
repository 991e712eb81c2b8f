/-! THE PURE LAYER: the parser: X's side alone: BEGIN. -/
section PAZZZZQ
variable {ρ σ τ : Type} {c : pC} {G : xQ} {α β γ γ' δ ε α0 : zS} {a a' a1 b k w q r t u n x x' T T' E f i j o lu lr lo hi y X wn : Nat} {v v' v0 kv nm pr x4 x5 : Int32} {e e' e1 : Int32 × Int32} {L L' op l : List Nat} {M M' N S S' U U' : Nat → Prop} {m K K' K1 : List (Int32 × Int32)} {P : Int32 × Int32 → Prop} {p z tO : Option Nat}
theorem xOp.mono (hU : ∀ v, U v → U' v) : ∀ {l : List Nat}, xOp α U l → xOp α U' l
  | [], _ => trivial
  | _ :: _, h => ⟨hU _ h.1, h.2.1, h.2.2.1, xOp.mono hU h.2.2.2⟩
theorem w_b143 (h : xp c a ε) (S : xTs c M U (some wn) lu lr ε) (Uw : U w) (o1 : xOp ε U op) (o2 : ∀ v, v ∈ op → v ≠ w ∧ zI ε 43 3 v = nI 12) (o3 : zA ε 43 0 w = op.head?) (st : zI ε 43 3 w = nI 0) (f1 : zA ε 43 1 w = some wn) (mw : M wn) (bw : xnB ε wn (nI 1, nI 0) []) (h2 : zA c.a0 40 12 c.p = some lu) (h3 : zA c.a0 40 13 c.p = some lr) : wx (hX4_begin_143 G (some c.p) (some w) ε) (fun _ β => xTC c lu lr β) := by
  have kp := h.kp
  unfold hX4_begin_143
  have k1 : zkd (zwA ε 40 11 c.p (some w)) c.p = 41 := by rw [zkd_zwA]; exact kp
  have a12 : zA (zwA ε 40 11 c.p (some w)) 40 12 c.p = some lu := by
    rw [zA_zwA, if_neg (fun z => absurd z.2.1 (by decide)), h.cu 12 (by decide) (by decide)]; exact h2
  have a13 : zA (zwA ε 40 11 c.p (some w)) 40 13 c.p = some lr := by
    rw [zA_zwA, if_neg (fun z => absurd z.2.1 (by decide)), h.cu 13 (by decide) (by decide)]; exact h3
  have a11 : zA (zwA ε 40 11 c.p (some w)) 40 11 c.p = some w := by rw [zA_zwA, if_pos ⟨rfl, rfl, rfl⟩]
  rw [kpA kp, gl_bs, kfA k1, gl_bs, a12]
  have hx := h.scu (p := some w)
  have fr1 : ∀ x, x ≠ c.p → (zwA ε 40 11 c.p (some w)).2 x = ε.2 x := fun x hx => zwA_ne hx
  have S1 := S.pw fr1 rfl kp
  have b1 := (bw.pw (γ := zwA ε 40 11 c.p (some w)) fr1 rfl kp).1
  have hU1 : ∀ v, U v → (zwA ε 40 11 c.p (some w)).2 v = ε.2 v := fun v hv => fr1 v (fun y => by have := (S.un v hv).ku; rw [y, kp] at this; omega)
  generalize zwA ε 40 11 c.p (some w) = ζ at *
  refine wx_b (wp_im (ladd_p S1.lu.1) fun _ η y => ?_)
  obtain ⟨g1, g2, g3, g4⟩ := y
  have ku := S1.lu.1
  have epp : η.2 c.p = ζ.2 c.p := g1 c.p (fun y => by rw [← y, k1] at ku; omega)
  obtain ⟨S2, hU2, bb⟩ := T_sw (o := lu) S1 (.inl rfl) g1 g2 g3 (fun r hr => S1.rr r (by rw [← zL_eq (g1 lr (fun y => S1.ne y.symm))]; exact hr))
  have hx2 := hx.lw ku g1 g2
  have k2 : zkd η c.p = 41 := by rw [zkd_eq epp]; exact k1
  rw [kfI k2, gl_bs, kpI k2, gl_bs]
  refine wx_l ?_
  generalize zI η 40 8 c.p + 1 = vv
  have hx3 := hx2.wI (k := 8) (v := vv) (by decide) (by decide)
  have q3 : xqN c η (zwI η 40 8 c.p vv) := ⟨fun x hx => zwI_ne hx, rfl⟩
  have S3 := S2.pw q3.1 q3.2 k2
  have b3 := ((bb wn _ _ mw b1).1.pw (γ := zwI η 40 8 c.p vv) q3.1 q3.2 k2).1
  have hU : ∀ v, U v → (zwI η 40 8 c.p vv).2 v = ε.2 v := fun v hv => ((q3.1 v (fun y => by have := (S2.un v hv).ku; rw [y, k2] at this; omega)).trans (hU2 v hv)).trans (hU1 v hv)
  refine ⟨a, U, w :: op, hx3.cat, ?_, ?_, ?_, M, some wn, 0, xBN.mk S3 ⟨Uw, ?_, fun v hv => ⟨(o2 v hv).1, ?_⟩, o1.fr (fun v hv => zA_eq (hU v (o1.mem v hv)) 43 0) (fun v hv => zI_eq (hU v (o1.mem v (List.mem_of_mem_tail hv))) 43 3)⟩ (xCuN.mk ?_ (by decide) ⟨wn, _, [], false, false, false, [], ?_, b3, rfl, fun _ h => absurd h (by simp), fun _ => rfl, fun _ => rfl, fun _ => rfl, fun _ => rfl⟩ (fun y => absurd y (by decide))) (.inr ⟨rfl, ?_⟩)⟩
  · rw [zA_zwI, zA_eq epp]; exact a11
  · rw [zA_zwI, zA_eq epp]; exact a12
  · rw [zA_zwI, zA_eq epp]; exact a13
  · rw [zA_eq (hU w Uw)]; exact o3
  · rw [zI_eq (hU v (o1.mem v hv))]; exact (o2 v hv).2
  · rw [zI_eq (hU w Uw)]; exact st
  · rw [zA_eq (hU w Uw)]; exact f1
  · rw [zA_eq (hU w Uw)]; exact f1.symm
theorem w_canEnd (ku : zkd γ u = 44) (st : zI γ 43 3 u = nI x) (hx : x ≤ 12) : wp (hX42_canEnd G (some u) γ) (fun r β => β = γ ∧ (r ≠ 0 → 1 ≤ x ∧ x ≠ 9)) := by
  unfold hX42_canEnd hX42_canEnd_20 hX42_canEnd_21
  rw [kfI ku, gl_bs, st]
  refine wp_if (fun _ => wp_if (fun _ => wp_s ⟨rfl, fun y => absurd rfl y⟩) (fun _ => wp_no)) (fun h0 => ?_)
  rw [gl_bs]
  refine wp_if (fun _ => wp_if (fun _ => wp_s ⟨rfl, fun y => absurd rfl y⟩) (fun _ => wp_no)) (fun h9 => wp_if (fun _ => wp_s ⟨rfl, fun _ => ⟨?_, fun y => h9 (by rw [y]; rfl)⟩⟩) (fun _ => wp_no))
  rw [nl0, pI_le (by omega) (by decide)] at h0
  omega
theorem w_b54 (h : xp c a α) (ha : a < c.n) (hO : op = [] ∧ xTs c M U none lu lr α ∨ ∃ u l x, op = u :: l ∧ xBN c M U none lu lr u l x α) (h1 : zA c.a0 40 11 c.p = op.head?) (h2 : zA c.a0 40 12 c.p = some lu) (h3 : zA c.a0 40 13 c.p = some lr) : wx (hX4_begin_54 G (some c.p) α) (fun _ β => xTC c lu lr β) := by
  have S : xTs c M U none lu lr α := by
    rcases hO with y | ⟨u, l, x, _, B⟩
    · exact y.2
    · exact B.ts
  have pz := h.pz
  unfold hX4_begin_54
  have hz : xp c a (zmk α 44 0 14) := h.fr (Nat.le_succ _) (zmk_ne h.pz) (zmk_ne h.kz) (zmk_ne h.vz)
  rw [show znO α 43 14 = some (some (zn α), zmk α 44 0 14) from znO_e, gl_bs]
  show wx (Option.bind (zfA (zmk α 44 0 14) (some c.p) 40 11) _) _
  rw [kfA hz.kp, gl_bs, (hz.cu 11 (by decide) (by decide)).trans h1, kfI hz.kp, gl_bs]
  refine wx_z ?_
  obtain ⟨β, y1, hA, hB, fr, hn, _, _⟩ := X_unit (G := G) (v := zI (zmk α 44 0 14) 40 3 c.p) (o := op.head?) h.a0
  show wx (Option.bind (hX42_init G (some (zn α)) op.head? (zI (zmk α 44 0 14) 40 3 c.p) (zmk α 44 0 14)) _) _
  rw [y1, gl_bs]
  obtain ⟨S1, br⟩ := T_new S (w := zn α) rfl hA ⟨hB.1, hB.2.1, hB.2.2.1, hB.2.2.2.1, hB.2.2.2.2.1, hB.2.2.2.2.2.1⟩ (fun x hx => fr x (.inl hx)) hn
  have hb : xp c a β := h.fr (by omega) (fr _ (.inl h.pz)) (fr _ (.inl h.kz)) (fr _ (.inl h.vz))
  have h4 := hb.adv ha
  show wx (Option.bind (zfI β (some c.p) 40 3) _) _
  rw [kfI hb.kp, gl_bs, hb.ax, kpI hb.kp, gl_bs, show nI a + 1 = nI (a + 1) from pI_succ a, show zwI β 40 3 c.p (nI (a + 1)) = xaS c β a from rfl]
  refine wx_zc (wx_im (Q_need (w := 1) h4 (by decide)) fun _ γ y => ?_)
  obtain ⟨h5, q5, _⟩ := y
  refine wx_zc (wx_im (Q_period h5) fun _ δ y => ?_)
  obtain ⟨h6, q6⟩ := y
  have q : xqN c β δ := ((xaSq (a := a)).tr q5).tr q6
  have S2 := S1.pw q.1 q.2 hb.kp
  have b2 := (br.pw (γ := δ) q.1 q.2 hb.kp).1
  have ew : δ.2 (zn α) = β.2 (zn α) := q.1 _ (by omega)
  have kw : zkd δ (zn α) = 44 := by rw [zkd_eq ew]; exact hA.1
  have old : ∀ v, U v → δ.2 v = α.2 v := fun v hv => by
    have k := (S.un v hv).ku
    have hi := (S.un v hv).hi
    exact (q.1 v (fun y => by rw [y, h.kp] at k; omega)).trans (fr v (.inl hi))
  have a11 := (h6.cu 11 (by decide) (by decide)).trans h1
  have a13 := (h6.cu 13 (by decide) (by decide)).trans h3
  have w0 : zA δ 43 0 (zn α) = op.head? := by rw [zA_eq ew]; exact hA.2.2.2.2.1
  have w1 : zA δ 43 1 (zn α) = some (zn α + 2) := by rw [zA_eq ew]; exact hA.2.2.2.2.2.1
  have w3 : zI δ 43 3 (zn α) = nI 0 := by rw [zI_eq ew]; exact hA.2.2.2.2.2.2.2 3
  show wx (Option.bind (zfA δ (some c.p) 40 11) _) _
  rw [kfA h6.kp, gl_bs, a11]
  rcases hO with ⟨e0, _⟩ | ⟨u, l, x, e0, B⟩
  · subst e0
    rw [if_pos (show ([] : List Nat).head? = none from rfl)]
    show wx (Option.bind (zfA δ (some c.p) 40 13) _) _
    rw [kfA h6.kp, gl_bs, a13]
    show wx (Option.bind (zfA δ (some (zn α)) 43 1) _) _
    rw [kfA kw, gl_bs, w1]
    refine wx_b (wp_im (ladd_p S2.lr.1) fun _ ε y => ?_)
    obtain ⟨g1, g2, g3, g4⟩ := y
    obtain ⟨S3, hU3, bb⟩ := T_sw (o := lr) S2 (.inr rfl) g1 g2 g3 (fun r hr => by
      rw [g4] at hr
      rcases List.mem_append.mp hr with y | y
      · exact S2.rr r y
      · have er := Option.some.inj (List.mem_singleton.mp y)
        rw [er, b2.e]
        exact ⟨.inr rfl, 1, by decide, by decide, rfl⟩)
    have hw := hU3 (zn α) (.inr rfl)
    exact w_b143 (op := []) (h6.lw S2.lr.1 g1 g2) S3 (.inr rfl) trivial (fun v hv => absurd hv (by simp)) (by rw [zA_eq hw]; exact w0) (by rw [zI_eq hw]; exact w3) (by rw [zA_eq hw]; exact w1) (.inr rfl) (bb _ _ _ (.inr rfl) b2).1 h2 h3
  · subst e0
    have Uu := B.op.1
    have eu := old u Uu
    have ku : zkd δ u = 44 := by rw [zkd_eq eu]; exact B.un.ku
    have uw : u ≠ zn α := by have := B.un.hi; omega
    rw [if_neg (by simp), gl_bs]
    show wx (Option.bind (zpI δ (some u) 43 3 (nI 12)) _) _
    obtain ⟨y2, S3, f3⟩ := T_wI (k := 3) (v := nI 12) S2 (.inl Uu)
    rw [y2, gl_bs]
    have h7 := h6.uw f3 rfl ku
    have k3 : zkd (zwI δ 43 3 u (nI 12)) u = 44 := by rw [zkd_zwI]; exact ku
    have a7 : zA (zwI δ 43 3 u (nI 12)) 40 11 c.p = some u := (h7.cu 11 (by decide) (by decide)).trans h1
    rw [kfA h7.kp, gl_bs, a7, kpN (c := 43) (k := 2) (ty := .boolean) (x := 1) k3 (by decide), gl_bs]
    have S4 := S3.uw (β := zwI (zwI δ 43 3 u (nI 12)) 43 2 u 1) (u := u) (fun x hx => zwI_ne hx) rfl k3 (S3.un u (.inl Uu)).wI
    have f4 : ∀ x, x ≠ u → (zwI (zwI δ 43 3 u (nI 12)) 43 2 u 1).2 x = δ.2 x := fun x hx => (zwI_ne hx).trans (f3 x hx)
    have h8 := h6.uw f4 rfl ku
    have z4 : ∀ j, zA (zwI (zwI δ 43 3 u (nI 12)) 43 2 u 1) 43 j u = zA α 43 j u := fun j => by rw [zA_zwI, zA_zwI, zA_eq eu]
    have i4 : zI (zwI (zwI δ 43 3 u (nI 12)) 43 2 u 1) 43 3 u = nI 12 := by
      rw [zI_zwI, if_neg (fun z => absurd z.2.1 (by decide)), zI_zwI, if_pos ⟨rfl, rfl, rfl⟩]
    have k4 : zkd (zwI (zwI δ 43 3 u (nI 12)) 43 2 u 1) u = 44 := by rw [zkd_zwI]; exact k3
    have ew4 := f4 (zn α) (fun y => uw y.symm)
    have b4 := (b2.uw (u := u) f4 rfl ku).1
    obtain ⟨r, e, L, i, j, k, n, r1, b, r3, r4, _⟩ := B.cu.rt
    obtain ⟨r', v1, v2, v3⟩ := B.un.f1
    have er : r' = r := Option.some.inj (v1.symm.trans r1)
    subst er
    rw [b.e] at v3
    obtain ⟨c1, c2⟩ := b.st (β := δ) (by have := q.2; omega) ((q.1 _ (fun y => by have := b.kn; rw [y, h.kp] at this; omega)).trans (fr _ (.inl (by have := b.hi; omega)))) ((q.1 _ (fun y => by have := b.kl; rw [y, h.kp] at this; omega)).trans (fr _ (.inl b.hi))) (fun r hr => (q.1 _ (fun y => by have := (b.ok r hr).1; rw [y, h.kp] at this; omega)).trans (fr _ (.inl (b.ok r hr).2)))
    obtain ⟨c3, c4⟩ := c1.uw (u := u) f4 rfl ku
    generalize zwI (zwI δ 43 3 u (nI 12)) 43 2 u 1 = ζ at *
    rw [kfA h8.kp, gl_bs, (h8.cu 11 (by decide) (by decide)).trans h1]
    show wx (Option.bind (zfA ζ (some u) 43 1) _) _
    rw [kfA k4, gl_bs, z4, r1]
    have kw4 : zkd ζ (zn α) = 44 := by rw [zkd_eq ew4]; exact kw
    show wx (Option.bind (zfA ζ (some (zn α)) 43 1) _) _
    rw [kfA kw4, gl_bs, zA_eq ew4, w1]
    refine wx_zb (wp_im (w_add c3 b4.kn) fun r' η y => ?_)
    obtain ⟨_, x5⟩ := y
    have ekn : xkv ζ (zn α + 2) = (nI 1, nI 0) := b4.e
    obtain ⟨S5, hU5, _, bb⟩ := T_at S4 (.inl v2) (.inr rfl) c3 b4 x5 (fun g => grK_far g (k := 1) rfl (by decide) (by decide) (by decide)) (nco v3 (by decide)) v3 ⟨i, j, k, n ++ [(nI 1, nI 0)], by rw [c4, c2, r3, ekn, List.append_assoc], al_add r4 ⟨1, by decide, by decide, rfl⟩⟩
    have kl3 := c3.kl
    have h9 : xp c _ η := h8.at' x5 kl3 b4.kn
    have hw := hU5 (zn α) (.inr rfl)
    have hu5 := hU5 u (.inl Uu)
    have hv5 : ∀ v, U v → v ≠ u → η.2 v = α.2 v := fun v hv hvu => ((hU5 v (.inl hv)).trans (f4 v hvu)).trans (old v hv)
    have lm : ∀ v, v ∈ l → v ≠ u ∧ U v := fun v hv => ⟨(B.op.2.2.1 v hv).1, B.op.mem v (List.mem_cons_of_mem _ hv)⟩
    refine w_b143 h9 S5 (.inr rfl) ((B.op.fr (β := η) (fun v hv => ?_) (fun v hv => zI_eq (hv5 v (lm v hv).2 (lm v hv).1) 43 3)).mono fun v hv => .inl hv) (fun v hv => ?_) (by rw [zA_eq hw, zA_eq ew4]; exact w0) (by rw [zI_eq hw, zI_eq ew4]; exact w3) (by rw [zA_eq hw, zA_eq ew4]; exact w1) (.inr rfl) (bb _ _ _ b4 (fun y => by have := b.hi; omega)).1 h2 h3
    · rcases List.mem_cons.mp hv with y | y
      · rw [y, zA_eq hu5]; exact z4 0
      · exact zA_eq (hv5 v (lm v y).2 (lm v y).1) 43 0
    · rcases List.mem_cons.mp hv with y | y
      · rw [y]
        exact ⟨uw, by rw [zI_eq hu5]; exact i4⟩
      · refine ⟨by have := (S.un v (lm v y).2).hi; omega, ?_⟩
        rw [zI_eq (hv5 v (lm v y).2 (lm v y).1)]
        exact (B.op.2.2.1 v y).2
/-- a unit begins -/
theorem w_begin (h : xp c a α) (ha : a < c.n) (hO : xTo c U lu lr op α) (h1 : zA c.a0 40 11 c.p = op.head?) (h2 : zA c.a0 40 12 c.p = some lu) (h3 : zA c.a0 40 13 c.p = some lr) : wx (hX4_begin G (some c.p) α) (fun _ β => xTC c lu lr β) := by
  have a11 := (h.cu 11 (by decide) (by decide)).trans h1
  have go : ∀ {M}, (op = [] ∧ xTs c M U none lu lr α ∨ ∃ u l x, op = u :: l ∧ xBN c M U none lu lr u l x α) → wx (hX4_begin_28 G (some c.p) (some c.p) α) (fun _ β => xTC c lu lr β) := fun hO' => by
    unfold hX4_begin_28 hX4_begin_33
    refine wx_zc (w_must h fun _ => ?_)
    show wx (Option.bind (zfI α (some c.p) 40 8) _) _
    refine wx_ob fun x29 _ => wx_if (fun _ => w_b54 h ha hO' h1 h2 h3) (fun _ => ?_)
    show wx (Option.bind (zfI α (some c.p) 40 3) _) _
    exact wx_ob fun x30 _ => wx_zc (w_fails h.kp)
  have no : wx (hX4_begin_32 G (some c.p) (some c.p) α) (fun _ β => xTC c lu lr β) := by
    unfold hX4_begin_32 hX4_begin_33
    exact wx_zc (w_must h fun y => absurd rfl y)
  unfold hX4_begin
  rw [kfA h.kp, gl_bs, a11]
  rcases op with _ | ⟨u, l⟩
  · rw [if_pos (show ([] : List Nat).head? = none from rfl)]
    obtain ⟨M, S⟩ := hO
    exact go (.inl ⟨rfl, S⟩)
  · obtain ⟨M, z, x, B⟩ := hO
    rw [if_neg (by simp), gl_bs]
    refine wx_zb (wp_im w_isFun fun r β y => ?_)
    rw [y]
    refine wx_if (fun _ => no) (fun _ => ?_)
    show wx (Option.bind (zfA α (some c.p) 40 11) _) _
    rw [kfA h.kp, gl_bs, a11]
    refine wx_zb (wp_im (w_canEnd B.un.ku B.cu.st B.cu.x) fun r β y => ?_)
    obtain ⟨e, hx⟩ := y
    rw [e]
    refine wx_if (fun _ => no) (fun e0 => ?_)
    have z0 := B.z1 (hx e0).1
    subst z0
    exact go (.inr ⟨u, l, x, rfl, B⟩)
end PAZZZZQ
