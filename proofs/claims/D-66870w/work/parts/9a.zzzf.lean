/-! THE PURE LAYER: the parser: a parse, whole. -/
/-- no words -/
def pC.nil (c : pC) : pC := (c.p, c.ka, c.va, 0, c.ks, c.vs, c.a0, c.s0, c.N0, c.at0, c.lv)
section PAZZZF
variable {L L2 : Nat → Prop} {c : pC} {D D' : pD} {G : xQ} {α β γ α0 : zS} {s s' s0 s1 : zM} {B a a1 b d e f l m n N N' F F' p q t to u x y k i j w wh lv S r al W : Nat} {g g' g2 : pG} {v v' x1 x3 : Int32} {rt vis cs stk l1 l2 A1 B1 : List Nat} {fn : Nat → Nat} {r0 : Option Nat}
/-- the parser waits again -/
theorem pIdl.nx (h : pIdl c D al B α s) (hn : zn α ≤ zn β) (kd : ∀ x, x ≤ B → zkd β x = zkd α x) (A : ∀ k, k ≠ 11 → zA β 40 k c.p = zA α 40 k c.p) (fn : zI β 40 2 c.p = nI 0) (ln : ∀ x, x ≤ B → zln β x = zln α x) (m1 : ls s' 1 = nI 0) : pIdl c.nil D al B β s' := by
  have x := h.x
  have B1 := h.B1
  refine pIdl.mk (Nat.zero_le _) (fun i hi => absurd hi (Nat.not_lt_zero _)) (fun i hi => absurd hi (Nat.not_lt_zero _)) (fun i hi => absurd hi (Nat.not_lt_zero _)) h.p h.ka h.va h.aB h.bB h.uB h.rB h.lB (by omega) (pxW.mk ?_ ?_ ?_ fn ?_ ?_ ?_ ?_ (fun i hi => absurd hi (Nat.not_lt_zero _)) (fun i hi => absurd hi (Nat.not_lt_zero _))) m1 (fun i hi => absurd hi (Nat.not_lt_zero _)) (fun i hi => absurd hi (Nat.not_lt_zero _)) ?_ ?_ ?_ ?_ ?_ ?_ ?_ ?_ ?_ h.ne ?_ ?_ ?_ h.nl h.kv
  · exact (kd _ h.p).trans x.kp
  · exact (A 0 (by decide)).trans x.fk
  · exact (A 1 (by decide)).trans x.fv
  · exact (kd _ h.ka).trans x.kk
  · exact (kd _ h.va).trans x.kv
  · exact (ln _ h.ka).trans x.lk
  · exact (ln _ h.va).trans x.lv
  · exact (A 9 (by decide)).trans h.fa
  · exact (A 10 (by decide)).trans h.fb
  · exact (A 12 (by decide)).trans h.fu
  · exact (A 13 (by decide)).trans h.fr
  · exact (A 14 (by decide)).trans h.fl
  · exact (kd _ h.aB).trans h.ak
  · exact (kd _ h.bB).trans h.bk
  · exact (ln _ h.aB).trans h.an
  · exact (ln _ h.bB).trans h.bn
  · exact (kd _ h.uB).trans h.uk
  · exact (kd _ h.rB).trans h.rk
  · exact (kd _ h.lB).trans h.lk
/-- what a good parse leaves -/
def pGood (G : xQ) (c : pC) (D : pD) (al B : Nat) (α : zS) (s : zM) (D' : pD) (L : Nat → Prop) (g : pG) (N : Nat) (β1 β : zS) (s1 s' : zM) : Prop := hX4_parse G (some c.p) α = some (.inl (nI D'.nu), β) ∧ gX26_parse s = some (nI D'.nu, s') ∧ ls s' 0 = nI 0 ∧ (∃ a, pV c D' L B a N 0 g β1 s1) ∧ pDk (D.zero (xS0 c D al α)) D' ∧ (∃ W, nX g al (zwI β1 40 2 c.p (nI 0)) β W (preo g.ch N D'.rt) []) ∧ nM (us s1 0 (nI 0)) s' (preo g.ch N D'.rt) ∧ nO L D'.rt g.ch (preo g.ch N D'.rt) []
/-- what a bad parse leaves -/
def pBad (G : xQ) (c : pC) (D : pD) (al B : Nat) (α : zS) (s : zM) (D' : pD) (L : Nat → Prop) (g : pG) (N F : Nat) (β1 β : zS) (s1 : zM) : Prop := (∃ e, hX4_parse G (some c.p) α = some (.inr e, β) ∧ zthr β e 3 = true) ∧ gX26_parse s = some (nI 0, us (us s1 0 (nI 1)) 20 (nI 0)) ∧ 0 < F ∧ (∃ a, pV c D' L B a N F g β1 s1) ∧ pDk (D.zero (xS0 c D al α)) D' ∧ zn β1 ≤ zn β ∧ (∀ x, x < zn β1 → x ≠ c.p → x ≠ D.lu → β.2 x = β1.2 x) ∧ zkd β D.lu = 3 ∧ zL β D.lu = [] ∧ zkd β c.p = 41 ∧ (∀ k, k ≠ 2 → zI β 40 k c.p = zI β1 40 k c.p) ∧ zI β 40 2 c.p = nI 0 ∧ (∀ k, zA β 40 k c.p = zA β1 40 k c.p) ∧ zc β ≤ zc β1 + 1 ∧ zw β ≤ zw β1 + 6
theorem par_all {J : Nat → zS → Prop} (hJ : ∀ {D : pD} {L : Nat → Prop} {a N F F' : Nat} {g : pG} {α β : zS} {s : zM}, pV c D L B a N F g α s → a < c.n → J F α → hX4_clause G (some c.p) (zwI α 40 4 c.p (nI 0)) = some (.inl (), β) → zI β 40 7 c.p = nI F' → F ≤ F' → F' ≤ 21 → J F' β) (hJ1 : ∀ F β, F ≠ 0 → J F β) (hJ0 : J 0 (xS0 c D al α)) (h : pIdl c D al B α s) : (∃ D' L g N β1 β s1 s', pGood G c D al B α s D' L g N β1 β s1 s' ∧ pEn D' ∧ J 0 β1) ∨ (∃ D' L g N F β1 β s1, pBad G c D al B α s D' L g N F β1 β s1) := by
  obtain ⟨p1, p2, V0, lal⟩ := h.start (G := G)
  have n5 := h.n
  obtain ⟨β, s2, D2, L2, a2, N2, F2, g2, y1, y2, V2, K2, f2, _, j2⟩ := parL (G := G) (x1 := nI 0) hJ hJ1 c.n (Fx := xLim) (Fm := xLim) (by omega) (zlim (by omega)) (zlim (by omega)) V0 hJ0
  obtain ⟨β1, s1, F, z1, z2, V, fF, e0⟩ := parE (G := G) (x1 := nI 0) V2
  have XA : hX4_parse G (some c.p) α = hX4_parse_192 G (some c.p) β1 := by
    rw [p1]
    unfold hX4_parse_41
    rw [y1, z1]
  have MA : gX26_parse s = gX26_parse_225 (nI 0) s1 := by
    rw [p2]
    unfold gX26_parse_56
    rw [y2, z2]
  have v0 := V.o
  have kp := v0.x.kp
  have f20 := v0.f20
  have eu : D2.lu = D.lu := K2.2.2.2.2.2.1
  have er : D2.lr = D.lr := K2.2.2.2.2.2.2
  have ea0 : D2.a0 = xS0 c D al α := K2.2.2.1
  have k1 : zkd (zwI β1 40 2 c.p (nI 0)) c.p = 41 := by rw [zkd_zwI]; exact kp
  have fr1 : ∀ x, x ≠ c.p → (zwI β1 40 2 c.p (nI 0)).2 x = β1.2 x := fun x hx => zwI_ne hx
  have pu : D.lu ≠ c.p := fun z => by have := h.uk; rw [z, h.x.kp] at this; omega
  have N0 := v0.N0
  have al' := v0.al
  have x7 : zI (zwI β1 40 2 c.p (nI 0)) 40 7 c.p = nI F := by
    rw [zI_zwI, if_neg (fun z => absurd z.2.1 (by decide))]; exact v0.fx
  by_cases z : F = 0
  · subst z
    refine .inl ?_
    have f0 : F2 = 0 := by omega
    subst f0
    obtain ⟨en, eb⟩ := e0 rfl
    have pB := h.p
    have B1 := v0.B1
    have zz : zn (zwI β1 40 2 c.p (nI 0)) = zn β1 := rfl
    have alp : al ≠ c.p := fun z => by have := h.lk; rw [z, h.x.kp] at this; omega
    obtain ⟨n1, n2, n3⟩ := h.nl
    have ea : β1.2 al = (xS0 c D al α).2 al := by
      rw [v0.fr al h.lB alp (fun z => by
        have e1 : D2.fa = D.fa := K2.2.2.2.1
        have := h.ak
        rw [← e1, ← z, h.lk] at this
        omega) (fun z => by
        have e1 : D2.fb = D.fb := K2.2.2.2.2.1
        have := h.bk
        rw [← e1, ← z, h.lk] at this
        omega) (by rw [eu]; exact fun z => n2 z.symm) (by rw [er]; exact fun z => n3 z.symm), ea0]
    have hW : gW L2 N2 B g2 (zwI β1 40 2 c.p (nI 0)) (us s1 0 (nI 0)) := V.g.fr (Nat.le_refl _) (fun _ _ _ _ _ => rfl) (fun t ht => by
      have lo := (V.g.nd t ht).lo
      exact ⟨fr1 _ (by omega), fr1 _ (by omega)⟩) (Nat.le_refl _)
    have pal : zA (zwI β1 40 2 c.p (nI 0)) 40 14 c.p = some al := by
      rw [zA_zwI, v0.fe, ea0]
      unfold xS0
      rw [zA_zwI, zA_zwI, zA_zwI, zA_zwA, if_neg (fun z => absurd z.2.1 (by decide)), zA_eq (xCl_fr (fun z => alp z.symm)), zA_eq (xCl_fr (fun z => by have := h.rk; rw [← z, h.x.kp] at this; omega)), zA_eq (xCl_fr (fun z => pu z.symm))]
      exact h.fl
    have eal := fr1 al alp
    have elr := fr1 D2.lr (by rw [er]; exact fun z => by have := h.rk; rw [z, h.x.kp] at this; omega)
    have kal : zkd (zwI β1 40 2 c.p (nI 0)) al = 3 := by
      rw [zkd_eq eal, zkd_eq ea]
      unfold xS0
      rw [zkd_zwI, zkd_zwI, zkd_zwI, zkd_zwA, xCl_kd, xCl_kd, xCl_kd]; exact h.lk
    obtain ⟨γ, s3, W, w1, w2, w3, w4, w5⟩ := parN (G := G) (p := c.p) (k := D2.lr) (rt := D2.rt) (al := al) hW v0.N1 (by omega) k1 h.p (by omega) (by rw [zA_zwI]; exact V.lr) (by rw [zkd_eq elr]; exact V.rk) V.rB (by rw [zL_eq elr]; exact V.rl) V.rh V.rx (fun u hu => by
      obtain ⟨r1, r2, r3⟩ := V.rm u hu
      have lo := (V.g.nd u r1).lo
      exact ⟨r1, by rw [zA_eq (fr1 _ (by omega))]; exact r2, r3⟩) V.rd v0.t19 pal kal (by rw [zL_eq eal, zL_eq ea]; exact lal) h.lB
    refine ⟨D2, L2, g2, N2, β1, γ, s1, s3, ⟨?_, ?_, ?_, ⟨_, V⟩, K2, ⟨W, w3⟩, w4, w5⟩, en, by rw [eb]; exact j2⟩
    · rw [XA]
      unfold hX4_parse_192
      have luB := V.uB
      have lup : D2.lu ≠ c.p := by rw [eu]; exact pu
      have lual : D2.lu ≠ al := by rw [eu]; exact n2
      rw [kpI kp, gl_bs]
      show Option.bind (zfI (zwI β1 40 2 c.p (nI 0)) (some c.p) 40 7) _ = _
      rw [kfI k1, gl_bs, x7, if_pos (show nI 0 ≤ 0 from by decide)]
      show (if zis G (zwI β1 40 2 c.p (nI 0)) (some c.p) 41 = true then _ else _) = _
      rw [if_pos (of_eq_true (kis k1 (by decide)))]
      show Option.bind (hX4_number G (some c.p) (zwI β1 40 2 c.p (nI 0))) _ = _
      rw [w1, gl_bs, kfA (by rw [w3.kd _ (by omega)]; exact k1), gl_bs, w3.A _ _ _ (by omega) (fun z => alp z.symm), zA_zwI, V.lu, kpLs (by rw [w3.kd _ (by omega), zkd_zwI]; exact V.uk), gl_bs, w3.Ls _ (by omega) lual, zL_zwI, V.ul, List.length_map, List.length_range]
    · rw [MA]
      unfold gX26_parse_225 gX26_parse_238
      rw [gl_x, v0.fm, if_pos (show nI 0 ≤ 0 from by decide), gl_x, gl_x]
      show (if ls (us s1 0 (nI 0)) 5 ≤ 0 then (gX26_numberAll (nI 0) (us s1 0 (nI 0))).bind _ else _) = _
      rw [if_pos (by rw [show ls (us s1 0 (nI 0)) 5 = nI 0 from v0.fm]; decide), w2, gl_bs, gl_x, w4.I 20 (by decide) (by decide), show ls (us s1 0 (nI 0)) 20 = nI D2.nu from V.nm]
    · rw [w4.I 0 (by decide) (by decide)]
      rfl
  · refine .inr ?_
    have k2 : zkd (zwI β1 40 2 c.p (nI 0)) D.lu = 3 := by rw [zkd_zwI, ← eu]; exact V.uk
    have k3 : zkd (xCl (zwI β1 40 2 c.p (nI 0)) D.lu) c.p = 41 := by rw [xCl_kd]; exact k1
    have nz : zn (xCl (zwI β1 40 2 c.p (nI 0)) D.lu) = zn β1 := rfl
    have B1 := v0.B1
    have pB := h.p
    have uB := h.uB
    have e : zkd (zmk (xCl (zwI β1 40 2 c.p (nI 0)) D.lu) 2004 0 6) (zn β1) = 2004 := by rw [zkd_zmk]; exact if_pos rfl
    have ez : zXi (zmk (xCl (zwI β1 40 2 c.p (nI 0)) D.lu) 2004 0 6) (some (zn β1)) = some ((), zraw (zmk (xCl (zwI β1 40 2 c.p (nI 0)) D.lu) 2004 0 6) (zn β1) 4 0 0 0 0 0 [] []) := by
      unfold zXi
      simp only [e]
      rfl
    have th : zthr (zraw (zmk (xCl (zwI β1 40 2 c.p (nI 0)) D.lu) 2004 0 6) (zn β1) 4 0 0 0 0 0 [] []) (zn β1) 3 = true := by
      unfold zthr
      rw [zkd_raw, if_pos rfl]
      rfl
    have fr : ∀ x, x < zn β1 → (zraw (zmk (xCl (zwI β1 40 2 c.p (nI 0)) D.lu) 2004 0 6) (zn β1) 4 0 0 0 0 0 [] []).2 x = (xCl (zwI β1 40 2 c.p (nI 0)) D.lu).2 x := fun x hx => by
      rw [zraw_ne (by omega)]
      exact zup_ne (by rw [nz]; omega)
    have frp := fr c.p (by omega)
    have fru := fr D.lu (by omega)
    have ep : (xCl (zwI β1 40 2 c.p (nI 0)) D.lu).2 c.p = (zwI β1 40 2 c.p (nI 0)).2 c.p := xCl_fr (fun z => pu z.symm)
    refine ⟨D2, L2, g2, N2, F, β1, zraw (zmk (xCl (zwI β1 40 2 c.p (nI 0)) D.lu) 2004 0 6) (zn β1) 4 0 0 0 0 0 [] [], s1, ⟨zn β1, ?_, th⟩, ?_, by omega, ⟨_, V⟩, K2, ?_, (fun x h1 h2 h3 => by rw [fr x h1, xCl_fr h3, fr1 x h2]), ?_, ?_, ?_, (fun k hk => ?_), ?_, (fun k => ?_), ?_, ?_⟩
    · rw [XA]
      unfold hX4_parse_192
      rw [kpI kp, gl_bs]
      show Option.bind (zfI (zwI β1 40 2 c.p (nI 0)) (some c.p) 40 7) _ = _
      rw [kfI k1, gl_bs, x7, if_neg (by rw [nl0, pI_le (by omega) (by decide)]; omega)]
      show Option.bind (zfA (zwI β1 40 2 c.p (nI 0)) (some c.p) 40 12) _ = _
      rw [kfA k1, gl_bs, zA_zwI, V.lu, eu]
      show Option.bind (zLclear (zwI β1 40 2 c.p (nI 0)) (some D.lu)) _ = _
      rw [xCl_e k2, gl_bs]
      show Option.bind (zXi (zmk (xCl (zwI β1 40 2 c.p (nI 0)) D.lu) 2004 0 6) (some (zn β1))) _ = _
      rw [ez, gl_bs]
      show Option.bind (some (zn β1)) _ = _
      rw [gl_bs, if_pos th]
    · rw [MA]
      unfold gX26_parse_225 gX26_parse_238
      rw [gl_x, v0.fm, if_neg (by rw [nl0, pI_le (by omega) (by decide)]; omega), gl_x, gl_x]
      show (if ls (us s1 0 (nI 1)) 5 ≤ 0 then _ else xlet (us (us s1 0 (nI 1)) 20 (nI 0)) _) = _
      rw [if_neg (by rw [show ls (us s1 0 (nI 1)) 5 = nI F from v0.fm, nl0, pI_le (by omega) (by decide)]; omega), gl_x]
      rfl
    · show zn β1 ≤ zn β1 + 1 + 0
      omega
    · rw [zkd_eq fru, xCl_kd]; exact k2
    · rw [zL_eq fru]; exact xCl_ls
    · rw [zkd_eq frp]; exact k3
    · rw [zI_eq frp, zI_eq ep, zI_zwI, if_neg (fun z => hk z.2.1)]
    · rw [zI_eq frp, zI_eq ep, zI_zwI, if_pos ⟨rfl, rfl, rfl⟩]
    · rw [zA_eq frp, zA_eq ep, zA_zwI]
    · show zc β1 + 1 + 0 ≤ _
      omega
    · show zw β1 + 6 + 0 ≤ _
      omega
end PAZZZF
