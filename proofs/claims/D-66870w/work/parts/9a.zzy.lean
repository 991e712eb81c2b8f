/-! THE PURE LAYER: the parser: behind a fault to the next period; the loop over clauses. -/
section PAZZY
variable {L L2 : Nat → Prop} {c : pC} {D D' : pD} {G : xQ} {α β : zS} {s s' s1 : zM} {B at' a a1 b d e f l N N' F F' p q t to u x y k i j w wh lv m S r : Nat} {g g' g2 : pG} {v v' x1 : Int32}
/-- both sides go on to a later word -/
theorem pV_at (h : pV c D L B a N F g α s) (hk : a ≤ k) (hn : k ≤ c.n + 1) : pV c D L B k N F g (zwI α 40 3 c.p (nI k)) (us s 41 (nI k)) := by
  have h0 := h.o
  have kp := h0.x.kp
  have x := h0.x
  have N0 := h0.N0
  have zb := h0.zb
  have wb := h0.wb
  have fr : ∀ q, q ≠ c.p → (zwI α 40 3 c.p (nI k)).2 q = α.2 q := fun q hq => zwI_ne hq
  have ka := fr c.ka (fun z => by have := x.kk; rw [z, kp] at this; omega)
  have va := fr c.va (fun z => by have := x.kv; rw [z, kp] at this; omega)
  have fa := fr D.fa (fun z => by have := h0.ak; rw [z, kp] at this; omega)
  have fb := fr D.fb (fun z => by have := h0.bk; rw [z, kp] at this; omega)
  have V0 : pV0 c D B k N F (zwI α 40 3 c.p (nI k)) (us s 41 (nI k)) := by
    refine pV0.mk h0.n h0.ks h0.vs h0.nm h0.p h0.ka h0.va h0.B1 (pxW.mk ?_ ?_ ?_ ?_ ?_ ?_ ?_ ?_ (fun i hi => ?_) (fun i hi => ?_)) (mWd.mk ?_ h0.m.rk h0.m.rv) ?_ rfl hn ?_ h0.N1 (by omega) ?_ ?_ h0.f20 ?_ ?_ ?_ ?_ ?_ ?_ h0.aB h0.bB h0.ne (fun i hi => ?_) (fun i hi => ?_) ?_ ?_ (fun q q1 q2 q3 q4 q5 q6 => (fr q q2).trans (h0.fr q q1 q2 q3 q4 q5 q6)) ((zA_zwI _ _ _ _ _ _).trans h0.fe) (by rw [ls_us, if_neg (by decide)]; exact h0.t19) (by rw [ls_us, if_neg (by decide)]; exact h0.t1)
    · rw [zkd_zwI]; exact kp
    · rw [zA_zwI]; exact x.fk
    · rw [zA_zwI]; exact x.fv
    · rw [zI_zwI, if_neg (fun z => absurd z.2.1 (by decide))]; exact x.fn
    · rw [zkd_zwI]; exact x.kk
    · rw [zkd_zwI]; exact x.kv
    · rw [zln_zwI]; exact x.lk
    · rw [zln_zwI]; exact x.lv
    · rw [zaI_zwI]; exact x.rk i hi
    · rw [zaI_zwI]; exact x.rv i hi
    · rw [ls_us, if_neg (by decide)]; exact h0.m.fn
    · rw [zI_zwI, if_pos ⟨rfl, rfl, rfl⟩]
    · rw [ls_us, if_neg (by decide)]; exact h0.Nm
    · rw [zI_zwI, if_neg (fun z => absurd z.2.1 (by decide))]; exact h0.fx
    · rw [ls_us, if_neg (by decide)]; exact h0.fm
    · rw [zA_zwI]; exact h0.fa
    · rw [zA_zwI]; exact h0.fb
    · rw [zkd_zwI]; exact h0.ak
    · rw [zkd_zwI]; exact h0.bk
    · rw [zln_zwI]; exact h0.an
    · rw [zln_zwI]; exact h0.bn
    · rw [zaI_zwI]; exact h0.ra i hi
    · rw [zaI_zwI]; exact h0.rb i hi
    · show zc α ≤ _
      omega
    · show zw α ≤ _
      omega
  exact h.keep V0 (Nat.le_refl _) hk (Nat.le_refl _) (fun q _ q2 _ _ => fr q q2) (by rw [zI_zwI, if_neg (fun z => absurd z.2.1 (by decide))]) (fun k _ _ => zA_zwI _ _ _ _ _ _) (fun k hk => by rw [ls_us, if_neg (by omega)]) (fun _ _ _ _ _ => rfl) (fun _ _ => rfl)
/-- both sides go on behind the next period -/
theorem parS (n : Nat) : ∀ {k : Nat} {α : zS} {s : zM} {Fx Fm : Nat}, c.n - k ≤ n → n < Fx → n < Fm → k ≤ c.n → pV c D L B k N F g α s → ∃ β s' k', zloop (fun (a : ((Option Nat))) σ => hX4_parse_88b G a σ) Fx (some c.p) α = some (.inl (some c.p), β) ∧ gloop (fun (a : (Int32)) s => gX26_parse_103b a s) Fm x1 s = some (.inl x1, s') ∧ pV c D L B k' N F g β s' ∧ k < k' ∧ k' ≤ c.n + 1 := by
  have stop : ∀ {k : Nat} {α : zS} {s : zM}, k ≤ c.n → pV c D L B k N F g α s → hX4_parse_125 G (some c.p) α = some (.inl (some c.p), zwI α 40 3 c.p (nI (k + 1))) ∧ gX26_parse_140 x1 s = some (.inl x1, us s 41 (nI (k + 1))) := fun {k α s} hk h => by
    have kp := h.o.x.kp
    have ax := h.o.ax
    have am := h.o.am
    constructor
    · unfold hX4_parse_125
      rw [kfI kp, gl_bs, ax, kpI kp, gl_bs, pI_succ]
    · unfold gX26_parse_140
      rw [gl_x, am, gl_x, pI_succ]
  have bodyN : ∀ {k : Nat} {α : zS} {s : zM}, k = c.n → pV c D L B k N F g α s → hX4_parse_88b G (some c.p) α = zinr (hX4_parse_125 G (some c.p) α) ∧ gX26_parse_103b x1 s = ginr (gX26_parse_140 x1 s) := fun {k α s} hk h => by
    have kp := h.o.x.kp
    have ax := h.o.ax
    have am := h.o.am
    have n5 := h.o.n
    constructor
    · unfold hX4_parse_88b
      rw [kfI kp, gl_bs, ax, kfI kp, gl_bs, h.o.x.fn, if_pos (by rw [pI_le (by omega) (by omega)]; omega)]
    · unfold gX26_parse_103b
      rw [gl_x, am, gl_x, h.o.m.fn, if_pos (by rw [pI_le (by omega) (by omega)]; omega)]
  induction n with
  | zero =>
    intro k α s Fx Fm hn hFx hFm hk h
    obtain ⟨fx, rfl⟩ : ∃ x, Fx = x + 1 := ⟨Fx - 1, by omega⟩
    obtain ⟨fm, rfl⟩ : ∃ x, Fm = x + 1 := ⟨Fm - 1, by omega⟩
    obtain ⟨b1, b2⟩ := bodyN (by omega) h
    obtain ⟨s1, s2⟩ := stop hk h
    exact ⟨_, _, k + 1, by rw [zloop_in b1, s1], by rw [gl_inR b2, s2], pV_at h (by omega) (by omega), by omega, by omega⟩
  | succ n ih =>
    intro k α s Fx Fm hn hFx hFm hk h
    obtain ⟨fx, rfl⟩ : ∃ x, Fx = x + 1 := ⟨Fx - 1, by omega⟩
    obtain ⟨fm, rfl⟩ : ∃ x, Fm = x + 1 := ⟨Fm - 1, by omega⟩
    obtain ⟨s1, s2⟩ := stop hk h
    by_cases hkn : k = c.n
    · obtain ⟨b1, b2⟩ := bodyN hkn h
      exact ⟨_, _, k + 1, by rw [zloop_in b1, s1], by rw [gl_inR b2, s2], pV_at h (by omega) (by omega), by omega, by omega⟩
    · have kp := h.o.x.kp
      have x := h.o.x
      have ax := h.o.ax
      have am := h.o.am
      have n5 := h.o.n
      have k5 := h.o.ks k (by omega)
      have ia : ziald α (some c.ka) (nI k) = some (nI (c.ks k)) := by rw [kald x.kk (by have := x.lk; omega) (by have := x.lk; omega), x.rk k (by omega)]
      have X1 : hX4_parse_88b G (some c.p) α = if nI (c.ks k) = (4 : Int32) then zinr (hX4_parse_125 G (some c.p) α) else some (.inl (some c.p), zwI α 40 3 c.p (nI (k + 1))) := by
        unfold hX4_parse_88b
        rw [kfI kp, gl_bs, ax, kfI kp, gl_bs, x.fn, if_neg (by rw [pI_le (by omega) (by omega)]; omega), kfA kp, gl_bs, x.fk, gl_bs, ia, gl_bs]
        by_cases z : nI (c.ks k) = (4 : Int32)
        · rw [if_pos z, if_pos z]
        · rw [if_neg z, if_neg z, gl_bs, kpI kp, gl_bs, pI_succ]
      have M1 : gX26_parse_103b x1 s = if nI (c.ks k) = (4 : Int32) then ginr (gX26_parse_140 x1 s) else some (.inl x1, us s 41 (nI (k + 1))) := by
        unfold gX26_parse_103b
        rw [gl_x, am, gl_x, h.o.m.fn, if_neg (by rw [pI_le (by omega) (by omega)]; omega), gl_x, pgld (by omega) (by decide), gl_bs, h.o.m.rk k (by omega)]
        by_cases z : nI (c.ks k) = (4 : Int32)
        · rw [if_pos z, if_pos z]
        · rw [if_neg z, if_neg z, gl_x, gl_x, pI_succ]
      by_cases z : nI (c.ks k) = (4 : Int32)
      · rw [if_pos z] at X1 M1
        exact ⟨_, _, k + 1, by rw [zloop_in X1, s1], by rw [gl_inR M1, s2], pV_at h (by omega) (by omega), by omega, by omega⟩
      · rw [if_neg z] at X1 M1
        obtain ⟨β, s', k', y1, y2, y3, y4, y5⟩ := ih (Fx := fx) (Fm := fm) (by omega) (by omega) (by omega) (by omega) (pV_at h (k := k + 1) (by omega) (by omega))
        exact ⟨β, s', k', by rw [zloop_step X1]; exact y1, by rw [gl_step M1]; exact y2, y3, by omega, y5⟩
/-- what stays of the data through a parse -/
def pDk (D D' : pD) : Prop := D'.z0 = D.z0 ∧ D'.w0 = D.w0 ∧ D'.a0 = D.a0 ∧ D'.fa = D.fa ∧ D'.fb = D.fb ∧ D'.lu = D.lu ∧ D'.lr = D.lr
theorem pDk.rf : pDk D D := ⟨rfl, rfl, rfl, rfl, rfl, rfl, rfl⟩
theorem pDk.tr {D2 : pD} (h : pDk D D') (h' : pDk D' D2) : pDk D D2 := ⟨h'.1.trans h.1, h'.2.1.trans h.2.1, h'.2.2.1.trans h.2.2.1, h'.2.2.2.1.trans h.2.2.2.1, h'.2.2.2.2.1.trans h.2.2.2.2.1, h'.2.2.2.2.2.1.trans h.2.2.2.2.2.1, h'.2.2.2.2.2.2.trans h.2.2.2.2.2.2⟩
/-- all clauses -/
theorem parL {J : Nat → zS → Prop} (hJ : ∀ {D : pD} {L : Nat → Prop} {a N F F' : Nat} {g : pG} {α β : zS} {s : zM}, pV c D L B a N F g α s → a < c.n → J F α → hX4_clause G (some c.p) (zwI α 40 4 c.p (nI 0)) = some (.inl (), β) → zI β 40 7 c.p = nI F' → F ≤ F' → F' ≤ 21 → J F' β) (hJ1 : ∀ F β, F ≠ 0 → J F β) (n : Nat) : ∀ {a N F : Nat} {D : pD} {L : Nat → Prop} {g : pG} {α : zS} {s : zM} {Fx Fm : Nat}, c.n - a ≤ n → n < Fx → n < Fm → pV c D L B a N F g α s → J F α → ∃ β s' D' L' a' N' F' g', zloop (fun (a : ((Option Nat))) σ => hX4_parse_41b G a σ) Fx (some c.p) α = hX4_parse_138 G (some c.p) β ∧ gloop (fun (a : (Int32)) s => gX26_parse_56b a s) Fm x1 s = gX26_parse_153 x1 s' ∧ pV c D' L' B a' N' F' g' β s' ∧ pDk D D' ∧ F ≤ F' ∧ (c.n ≤ a' ∨ 20 ≤ F') ∧ J F' β := by
  induction n with
  | zero =>
    intro a N F D L g α s Fx Fm hn hFx hFm h hj
    obtain ⟨fx, rfl⟩ : ∃ x, Fx = x + 1 := ⟨Fx - 1, by omega⟩
    obtain ⟨fm, rfl⟩ : ∃ x, Fm = x + 1 := ⟨Fm - 1, by omega⟩
    have kp := h.o.x.kp
    have n5 := h.o.n
    have al := h.o.al
    refine ⟨α, s, D, L, a, N, F, g, zloop_in ?_, gl_inR ?_, h, pDk.rf, Nat.le_refl _, .inl (by omega), hj⟩
    · unfold hX4_parse_41b
      rw [kfI kp, gl_bs, h.o.ax, kfI kp, gl_bs, h.o.x.fn, if_pos (by rw [pI_le (by omega) (by omega)]; omega)]
    · unfold gX26_parse_56b
      rw [gl_x, h.o.am, gl_x, h.o.m.fn, if_pos (by rw [pI_le (by omega) (by omega)]; omega)]
  | succ n ih =>
    intro a N F D L g α s Fx Fm hn hFx hFm h hj
    obtain ⟨fx, rfl⟩ : ∃ x, Fx = x + 1 := ⟨Fx - 1, by omega⟩
    obtain ⟨fm, rfl⟩ : ∃ x, Fm = x + 1 := ⟨Fm - 1, by omega⟩
    have kp := h.o.x.kp
    have n5 := h.o.n
    have al := h.o.al
    have f20 := h.o.f20
    by_cases ha : c.n ≤ a
    · refine ⟨α, s, D, L, a, N, F, g, zloop_in ?_, gl_inR ?_, h, pDk.rf, Nat.le_refl _, .inl ha, hj⟩
      · unfold hX4_parse_41b
        rw [kfI kp, gl_bs, h.o.ax, kfI kp, gl_bs, h.o.x.fn, if_pos (by rw [pI_le (by omega) (by omega)]; omega)]
      · unfold gX26_parse_56b
        rw [gl_x, h.o.am, gl_x, h.o.m.fn, if_pos (by rw [pI_le (by omega) (by omega)]; omega)]
    by_cases hF : 20 ≤ F
    · refine ⟨α, s, D, L, a, N, F, g, zloop_in ?_, gl_inR ?_, h, pDk.rf, Nat.le_refl _, .inr hF, hj⟩
      · unfold hX4_parse_41b
        rw [kfI kp, gl_bs, h.o.ax, kfI kp, gl_bs, h.o.x.fn, if_neg (by rw [pI_le (by omega) (by omega)]; omega), kfI kp, gl_bs, h.o.fx, if_pos (by rw [show (20 : Int32) = nI 20 from rfl, pI_le (by decide) (by omega)]; exact hF)]
      · unfold gX26_parse_56b
        rw [gl_x, h.o.am, gl_x, h.o.m.fn, if_neg (by rw [pI_le (by omega) (by omega)]; omega), gl_x, h.o.fm, if_pos (by rw [show (20 : Int32) = nI 20 from rfl, pI_le (by decide) (by omega)]; exact hF)]
    have kp' : zkd (zwI α 40 4 c.p (nI 0)) c.p = 41 := by rw [zkd_zwI]; exact kp
    have X0 : hX4_parse_41b G (some c.p) α = (hX4_reads G (some c.p) α).bind fun p31 =>
        if ¬ p31.1 = 0 then
          some (.inl (some c.p), p31.2)
        else
          (zfI p31.2 (some c.p) 40 6).bind fun x32 =>
          (zfI p31.2 (some c.p) 40 5).bind fun x33 =>
          if zis G p31.2 (some c.p) 41 = true then
            (hX4_note G (some c.p) x32 x33 p31.2).bind fun p34 =>
            (zfI p34.2 (some c.p) 40 5).bind fun x35 =>
            (zpI p34.2 (some c.p) 40 3 x35).bind fun σ36 =>
            hX4_parse_88 G (some c.p) σ36
          else none := by
      unfold hX4_parse_41b
      rw [kfI kp, gl_bs, h.o.ax, kfI kp, gl_bs, h.o.x.fn, if_neg (by rw [pI_le (by omega) (by omega)]; omega), kfI kp, gl_bs, h.o.fx, if_neg (by rw [show (20 : Int32) = nI 20 from rfl, pI_le (by decide) (by omega)]; exact hF), if_pos (of_eq_true (kis kp (by decide)))]
    have X1 : hX4_reads G (some c.p) α = zcase (hX4_clause G (some c.p) (zwI α 40 4 c.p (nI 0))) (fun p2 => some (1, p2.2)) (fun p3 => if zthr p3.2 p3.1 3 = true then hX4_reads_11 G ((some p3.1)) p3.2 else none) := by
      unfold hX4_reads
      rw [kpI kp, gl_bs]
      show (if zis G (zwI α 40 4 c.p (nI 0)) (some c.p) 41 = true then _ else _) = _
      rw [if_pos (of_eq_true (kis kp' (by decide)))]
      rfl
    have M0 : gX26_parse_56b x1 s = (gX26_clause (us s 43 (nI 0))).bind fun p31 => xlet (ls p31.2 43) fun x32 => if ¬ x32 = 0 then xlet (ls p31.2 42) fun x33 => xlet (us p31.2 41 x33) fun s34 => gX26_parse_103 x1 s34 else some (.inl (x1), p31.2) := by
      unfold gX26_parse_56b
      rw [gl_x, h.o.am, gl_x, h.o.m.fn, if_neg (by rw [pI_le (by omega) (by omega)]; omega), gl_x, h.o.fm, if_neg (by rw [show (20 : Int32) = nI 20 from rfl, pI_le (by decide) (by omega)]; exact hF), nl0, gpN0, gl_bs]
    rcases cl_all (G := G) h (by omega) (by omega) with ⟨β, s', D', L', a', N', g', F', y1, y2, y3, y4, y5, y6, y7⟩ | ⟨e, β, s', wh, w, y1, y2, y3, y4⟩
    · obtain ⟨δ, s2, D2, L2, a2, N2, F2, g2, w1, w2, w3, w4, w5, w6, w7⟩ := ih (Fx := fx) (Fm := fm) (by omega) (by omega) (by omega) y4 (hJ h (by omega) hj y1 y4.o.fx y6.1 (by omega))
      refine ⟨δ, s2, D2, L2, a2, N2, F2, g2, ?_, ?_, w3, pDk.tr y7 w4, by omega, w6, w7⟩
      · rw [zloop_step (a' := some c.p) (α' := β)]
        · exact w1
        · rw [X0, X1, y1, zc_l, gl_bs, if_pos (show ¬ (1 : Int32) = 0 from by decide)]
      · rw [gl_step (a' := x1) (s' := s')]
        · exact w2
        · rw [M0, y2, gl_bs, gl_x, y3, if_neg (show ¬ ¬ nI 0 = 0 from fun z => z rfl)]
    · obtain ⟨_, NT, K, N2, n2, V2⟩ := h.fault (G := G) (wh := wh) (w := w) (by omega) y4 (fun k hk => by rw [ls_us, if_neg (by omega)]) (fun _ => rfl)
      have w1 : w ≤ c.n := y4.w1
      have w2 : a ≤ w := y4.w2
      have xb : zI β 40 5 c.p = nI w := y4.xb
      have xw : zI β 40 6 c.p = nI wh := y4.xw
      obtain ⟨δ, s3, k3, z1, z2, z3, z4, z5⟩ := parS (G := G) (x1 := x1) (c.n - w) (Fx := xLim) (Fm := xLim) (Nat.le_refl _) (zlim (by omega)) (zlim (by omega)) w1 V2
      obtain ⟨ε, s4, D4, L4, a4, N4, F4, g4, u1, u2, u3, u4, u5, u6, u7⟩ := ih (Fx := fx) (Fm := fm) (by omega) (by omega) (by omega) z3 (hJ1 _ _ (by omega))
      refine ⟨ε, s4, D4, L4, a4, N4, F4, g4, ?_, ?_, u3, u4, by omega, u6, u7⟩
      · rw [zloop_step (a' := some c.p) (α' := δ)]
        · exact u1
        · rw [X0, X1, y1, zc_r, if_pos y2]
          unfold hX4_reads_11
          rw [gl_bs, if_neg (show ¬ ¬ (0 : Int32) = 0 from fun z => z rfl), kfI K, gl_bs, xw, kfI K, gl_bs, xb, if_pos (of_eq_true (kis K (by decide))), NT, gl_bs]
          have K2 : zkd (zwI (zsI (zsI β D.fa (upd (zaI β D.fa) F (nI wh))) D.fb (upd (zaI β D.fb) F (nI w))) 40 7 c.p (nI (F + 1))) c.p = 41 := by rw [zkd_zwI, zkd_zsI, zkd_zsI]; exact K
          rw [kfI K2, gl_bs, zI_zwI, if_neg (show ¬ ((40 : Nat) = 40 ∧ (5 : Nat) = 7 ∧ c.p = c.p) from fun z => absurd z.2.1 (by decide)), zI_zsI, zI_zsI, xb, kpI K2, gl_bs]
          exact z1
      · rw [gl_step (a' := x1) (s' := s3)]
        · exact u2
        · rw [M0, y3, gl_bs, gl_x, y4.b1, if_pos (show ¬ nI 1 = 0 from n1n), gl_x, y4.b2, gl_x]
          exact z2
end PAZZY
