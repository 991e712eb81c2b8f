/-! THE PURE LAYER: the parser: a root; a new unit is open. -/
section PAZZJ
variable {L L2 : Nat → Prop} {c : pC} {D D' : pD} {G : xQ} {α β : zS} {s s' s1 : zM} {B at' a a1 b d f N N' F F' p q t to u x y k i j w wh lv m S r : Nat} {g g' g2 : pG} {v v' : Int32}
/-- a unit that stands in none is a root -/
theorem pV_rta (h : pV c D L B a N F g α s) (hN : N ≤ 8000) (h3 : L t) (hl : la s 16 t = nI 0) (h6 : zA α 44 6 (g.oa t) = none) (hrt : t ∉ D.rt) (hz : zc α + 1 ≤ D.z0 + 40 * a + 250 * F) (hw : zw α + 7 ≤ D.w0 + 200 * a + 1100 * F) : ∃ β, zLadd α (some D.lr) (some (g.oa t)) = some (1, β) ∧ gX26_attach (nI 0) (nI t) s = some ((), mAtS s 0 D.rt t) ∧ pV c (D.rta t) L B a N F g β (mAtS s 0 D.rt t) ∧ zn α ≤ zn β ∧ (∀ x, x ≠ D.lr → β.2 x = α.2 x) ∧ zc β = zc α + 1 ∧ zw β = zw α + 7 := by
  have h0 := h.o
  have b3 := h.g.bd t h3
  have rb : ∀ u, u ∈ D.rt → 1 ≤ u ∧ u < N := fun u hu => h.g.bd u (h.rm u hu).1
  have len : D.rt.length ≤ N := nodup_len h.rd fun u hu => (rb u hu).2
  obtain ⟨β, z1, z2, z3, z4, z5, z6, z7, z8⟩ := zLadd_at (x := some (g.oa t)) h.rk (by rw [h.rl, List.length_map]; omega)
  have M : gX26_attach (nI 0) (nI t) s = some ((), mAtS s 0 D.rt t) := M_att (by
    by_cases e : D.rt = []
    · exact .inl e
    · have m1 := rb _ (last_mem e)
      have m2 := rb (D.rt.headD 0) (by cases h : D.rt with
        | nil => exact absurd h e
        | cons p l => simp)
      exact .inr ⟨e, by omega, by omega, by omega⟩) h.rh h.rz (by decide) (by omega)
  have A := mAtS_at (s := s) (to := 0) (l := D.rt) (t := t)
  have kd : ∀ x, zkd β x = zkd α x := fun x => by
    by_cases e : x = D.lr
    · rw [e, z2, h.rk]
    · rw [zkd_eq (z4 _ e)]
  have p := h0.p
  have rB := h.rB
  have ep : β.2 c.p = α.2 c.p := z4 _ (fun z => by have := h.rk; rw [← z, h0.x.kp] at this; omega)
  have eg : ∀ w, L w → β.2 (g.oa w) = α.2 (g.oa w) ∧ β.2 (g.oa w + 1) = α.2 (g.oa w + 1) := fun w w1 => by
    have lo := (h.g.nd w w1).lo
    exact ⟨z4 _ (by omega), z4 _ (by omega)⟩
  have eu : ∀ k, k < D.nu → β.2 (D.ou k) = α.2 (D.ou k) ∧ β.2 (D.ou k + 1) = α.2 (D.ou k + 1) := fun k hk => by
    have lo := (h.u k hk).lo
    exact ⟨z4 _ (by omega), z4 _ (by omega)⟩
  have el : β.2 D.lu = α.2 D.lu := z4 _ h.ne
  have zb := h0.zb
  have wb := h0.wb
  have V0 : pV0 c (D.rta t) B a N F β (mAtS s 0 D.rt t) := h0.old h.uk h.rk rfl rfl rfl rfl rfl rfl rfl (fun y _ _ _ y4 => z4 y y4) (by rw [kd]; exact h0.x.kp) (fun k _ => zI_eq ep 40 k) (fun k _ => zA_eq ep 40 k) z5 (by omega) (by omega) (fun k _ => mAtS_ls) (fun k hk => mAtS_la (by omega))
  have lt : ∀ w, L w → t ∉ g.ch w := fun w w1 => h.g.loose hN hl w1
  have rt' : ∀ w, L w → ∀ u, u ∈ g.ch w → u ∉ D.rt := fun w w1 u hu z => by
    have r3 := (h.rm u z).2.2
    have := ((h.g.nd w w1).mem u hu).2.1
    have bw := h.g.bd w w1
    rw [r3, pI_inj (by decide) (by omega)] at this
    omega
  have m16 : ∀ u, la (mAtS s 0 D.rt t) 16 u = la s 16 u := fun u => by
    rw [A.r16]
    by_cases e : u = t
    · rw [e, upd_same, hl]
    · rw [upd_other e]
  have W : gW L N B g β (mAtS s 0 D.rt t) := by
    refine gW.mk h.g.bd (fun w w1 => ?_) h.g.inj
    have o := h.g.nd w w1
    have e := eg w w1
    have bw := h.g.bd w w1
    refine wOk.mk o.lo (by have := o.hi; omega) (by rw [kd]; exact o.kn) (by rw [zA_eq e.1]; exact o.fl) (by rw [kd]; exact o.kl) ?_ ?_ ?_ ?_ (by rw [zL_eq e.2]; exact o.ls) o.nd ?_ ?_ ?_ ?_
    · rw [zI_eq e.1, A.r9 9 (by decide) (by decide)]; exact o.kd
    · rw [zI_eq e.1, A.r9 10 (by decide) (by decide)]; exact o.vl
    · rw [zI_eq e.1, A.r9 11 (by decide) (by decide)]; exact o.wd
    · rw [zI_eq e.1, zA_eq e.1, A.r9 9 (by decide) (by decide), A.r9 12 (by decide) (by decide)]; exact o.ex
    · intro u hu
      obtain ⟨u1, u2, u3, u4⟩ := o.mem u hu
      exact ⟨u1, by rw [m16]; exact u2, by rw [zA_eq (eg u u1).1]; exact u3, u4⟩
    · rw [A.r13]
      split
      · rw [upd_other (by omega)]; exact o.hd
      · exact o.hd
    · rw [A.r14, upd_other (by omega)]; exact o.lt
    · refine pCh_fr o.nx fun u hu => ?_
      have n1 : u ≠ t := fun z => lt w w1 (z ▸ hu)
      rw [A.r15]
      split
      · rw [upd_other n1]
      · rename_i z
        have n2 : u ≠ D.rt.getLastD 0 := fun y => rt' w w1 u hu (by rw [y]; exact last_mem z)
        rw [upd_other n2, upd_other n1]
  refine ⟨β, z1, M, pV.mk V0 W ?_ ?_ ?_ h.d10 ?_ h.nb ?_ ?_ ?_ ?_ h.uB rB h.ne ?_ ?_ ?_ ?_ ?_ ?_ ?_ ?_ h.ui ?_ h.oi h.o12 ?_, z5, z4, z7, z8⟩
  · rw [zA_eq ep]; exact h.cu
  · rw [zI_eq ep]; exact h.dx
  · rw [mAtS_ls]; exact h.dm
  · rw [mAtS_ls]; exact h.nm
  · rw [zA_eq ep]; exact h.lu
  · rw [zA_eq ep]; exact h.lr
  · rw [kd]; exact h.uk
  · rw [kd]; exact h.rk
  · show zL β D.lu = _
    rw [zL_eq el]; exact h.ul
  · show zL β D.lr = (D.rt ++ [t]).map _
    rw [z3, h.rl, List.map_append]
    rfl
  · show _ = nI ((D.rt ++ [t]).headD 0)
    rw [A.r13]
    by_cases e : D.rt = []
    · rw [if_pos e, upd_same, e]; rfl
    · rw [if_neg e, head_add e]; exact h.rh
  · show _ = nI ((D.rt ++ [t]).getLastD 0)
    rw [A.r14, upd_same, last_add]
  · show pCh _ (D.rt ++ [t])
    by_cases e : D.rt = []
    · rw [e]
      show la (mAtS s 0 [] t) 15 t = nI 0
      have A' := mAtS_at (s := s) (to := 0) (l := []) (t := t)
      rw [A'.r15, if_pos rfl, upd_same]
    · have lm := last_mem e
      have ltn : D.rt.getLastD 0 ≠ t := fun z => hrt (z ▸ lm)
      refine pCh_add h.rx e h.rd ?_ ?_ ?_
      · rw [A.r15, if_neg e, upd_same]
      · rw [A.r15, if_neg e, upd_other (fun z => ltn z.symm), upd_same]
      · intro u hu hne
        have n2 : u ≠ t := fun z => hrt (by rw [← z]; exact hu)
        rw [A.r15, if_neg e, upd_other hne, upd_other n2]
  · intro u hu
    have hu' : u ∈ D.rt ++ [t] := hu
    rw [List.mem_append, List.mem_singleton] at hu'
    rcases hu' with hu | hu
    · obtain ⟨r1, r2, r3⟩ := h.rm u hu
      exact ⟨r1, by rw [zA_eq (eg u r1).1]; exact r2, by rw [m16]; exact r3⟩
    · rw [hu]
      exact ⟨h3, by rw [zA_eq (eg t h3).1]; exact h6, by rw [m16]; exact hl⟩
  · show (D.rt ++ [t]).Nodup
    rw [List.nodup_append]
    refine ⟨h.rd, by simp, fun a ha b hb => ?_⟩
    rw [List.mem_singleton] at hb
    rw [hb]
    exact fun z => hrt (z ▸ ha)
  · intro k hk
    have o := h.u k hk
    obtain ⟨e1, e2⟩ := eu k hk
    refine uOk.mk o.lo (by show D.ou k + 1 < _; have := o.hi; omega) ?_ ?_ ?_ ?_ ?_ ?_ ?_ ?_ ?_ ?_ ?_ o.lu o.le o.ld o.lp
    · rw [kd]; exact o.kn
    · show zA β 43 13 (D.ou k) = _
      rw [zA_eq e1]; exact o.fl
    · rw [kd]; exact o.kl
    · show zA β 43 1 (D.ou k) = _
      rw [zA_eq e1]; exact o.xu
    · show zA β 43 4 (D.ou k) = _
      rw [zA_eq e1]; exact o.xe
    · show zA β 43 5 (D.ou k) = _
      rw [zA_eq e1]; exact o.xd
    · show zA β 43 8 (D.ou k) = _
      rw [zA_eq e1]; exact o.xp
    · rw [mAtS_la (by decide)]; exact o.mu
    · rw [mAtS_la (by decide)]; exact o.me
    · rw [mAtS_la (by decide)]; exact o.md
    · rw [mAtS_la (by decide)]; exact o.mp
  · intro j hj
    have o := h.op j hj
    have e1 := (eu _ o.u).1
    refine oOk.mk o.u ?_ ?_ ?_ ?_ ?_ ?_ ?_ ?_ ?_ ?_ o.s12 o.f1 o.h1 o.nb o.rk
    · show zA β 43 0 (D.ou (D.os j)) = _
      rw [zA_eq e1]; exact o.up
    · show zI β 43 2 (D.ou (D.os j)) = _
      rw [zI_eq e1]; exact o.xh
    · show zI β 43 3 (D.ou (D.os j)) = _
      rw [zI_eq e1]; exact o.xs
    · rw [mAtS_la (by decide)]; exact o.ms
    · rw [mAtS_la (by decide)]; exact o.mo
    · rw [mAtS_la (by decide)]; exact o.mf
    · rw [mAtS_la (by decide)]; exact o.mh
    · rw [mAtS_la (by decide)]; exact o.mn
    · rw [mAtS_la (by decide)]; exact o.kd
    · rw [mAtS_la (by decide)]; exact o.vl
  · intro hd
    have hd' : D.dp ≠ 0 := hd
    have oi := h.op (D.dp - 1) (by omega)
    obtain ⟨e1, e2⟩ := eu _ oi.u
    have I := (h.inn hd').fr (s' := mAtS s 0 D.rt t) e1 e2 (fun k _ _ => mAtS_ls) (fun t _ => by rw [mAtS_la (by decide)]) (fun k k1 k2 => mAtS_la (by omega))
    exact iOk.mk I.en I.da I.pr I.fi I.ho I.lt I.it I.de I.se I.pa I.s8
/-- a new unit, its node alive, is the innermost open one -/
theorem pV_opn (h : pV c D L B a N F g α s) (h10 : D.dp < 10) (hn3 : 3 * (D.nu + 1) ≤ a) (ht : L t) (rk : g.r t = 10000000 * (12 - D.dp)) (k9 : la s 9 t = nI 1)
    (q1 : B < q) (q2 : q + 1 < zn α) (q3 : ∀ k, k < D.nu → D.ou k ≠ q) (kn : zkd α q = 44) (fl : zA α 43 13 q = some (q + 1)) (kl : zkd α (q + 1) = 3) (up : zA α 43 0 q = if D.dp = 0 then none else some (D.ou (D.os (D.dp - 1)))) (xn : zA α 43 1 q = some (g.oa t)) (xA : ∀ k, k ≠ 0 → k ≠ 1 → k ≠ 13 → zA α 43 k q = none) (xI : ∀ k, zI α 43 k q = nI 0) (e12 : ∀ i, D.dp = i + 1 → D.st i = 12)
    (hz : zc α + 1 ≤ D.z0 + 40 * a + 250 * F) (hw : zw α + 7 ≤ D.w0 + 200 * a + 1100 * F)
    (hl : ∀ k, k ≠ 20 → k ≠ 26 → ls s' k = ls s k) (l20 : ls s' 20 = nI (D.nu + 1)) (l26 : ls s' 26 = nI (D.dp + 1)) (m22 : la s' 22 = upd (la s 22) D.nu (nI t)) (m23 : la s' 23 = upd (la s 23) D.nu (nI 0)) (m24 : la s' 24 = upd (la s 24) D.nu (nI 0)) (m25 : la s' 25 = upd (la s 25) D.nu (nI 0)) (m27 : la s' 27 = upd (la s 27) D.dp (nI 0)) (m29 : la s' 29 = upd (la s 29) D.dp (nI D.nu)) (m30 : la s' 30 = upd (la s 30) D.dp (nI 0)) (m31 : la s' 31 = upd (la s 31) D.dp (nI 0)) (hm : ∀ k, ¬ (22 ≤ k ∧ k ≤ 25 ∨ k = 27 ∨ 29 ≤ k ∧ k ≤ 31) → la s' k = la s k) : ∃ β, zLadd (zwA α 40 11 c.p (some q)) (some D.lu) (some q) = some (1, β) ∧ zkd β c.p = 41 ∧ zI β 40 8 c.p = nI D.dp ∧ pV c (D.opn q t) L B a N F g (zwI β 40 8 c.p (nI (D.dp + 1))) s' := by
  have h0 := h.o
  have kp := h0.x.kp
  have p := h0.p
  have uB := h.uB
  have rB := h.rB
  have nb := h.nb
  have al := h0.al
  have n5 := h0.n
  have pu : D.lu ≠ c.p := fun z => by have := h.uk; rw [z, kp] at this; omega
  obtain ⟨β, z1, z2, z3, z4, z5, z6, z7, z8⟩ := zLadd_at (α := zwA α 40 11 c.p (some q)) (a := D.lu) (x := some q) (by rw [zkd_zwA]; exact h.uk) (by rw [zL_zwA, h.ul, List.length_map, List.length_range]; omega)
  have eP : β.2 c.p = (zwA α 40 11 c.p (some q)).2 c.p := z4 _ (fun z => pu z.symm)
  have kpβ : zkd β c.p = 41 := by rw [zkd_eq eP, zkd_zwA]; exact kp
  have d8 : zI β 40 8 c.p = nI D.dp := by rw [zI_eq eP, zI_zwA]; exact h.dx
  have fr : ∀ x, x ≠ c.p → x ≠ D.lu → (zwI β 40 8 c.p (nI (D.dp + 1))).2 x = α.2 x := fun x x1 x2 => by rw [zwI_ne x1, z4 x x2, zwA_ne x1]
  have lu' : zL (zwI β 40 8 c.p (nI (D.dp + 1))) D.lu = zL α D.lu ++ [some q] := by rw [zL_zwI, z3, zL_zwA]
  have ku' : zkd (zwI β 40 8 c.p (nI (D.dp + 1))) D.lu = 3 := by rw [zkd_zwI]; exact z2
  have I : ∀ k, k ≠ 8 → zI (zwI β 40 8 c.p (nI (D.dp + 1))) 40 k c.p = zI α 40 k c.p := fun k hk => by rw [zI_zwI, if_neg (fun z => hk z.2.1), zI_eq eP, zI_zwA]
  have I8 : zI (zwI β 40 8 c.p (nI (D.dp + 1))) 40 8 c.p = nI (D.dp + 1) := by rw [zI_zwI, if_pos ⟨rfl, rfl, rfl⟩]
  have A : ∀ k, k ≠ 11 → zA (zwI β 40 8 c.p (nI (D.dp + 1))) 40 k c.p = zA α 40 k c.p := fun k hk => by rw [zA_zwI, zA_eq eP, zA_zwA, if_neg (fun z => hk z.2.1)]
  have A11 : zA (zwI β 40 8 c.p (nI (D.dp + 1))) 40 11 c.p = some q := by rw [zA_zwI, zA_eq eP, zA_zwA, if_pos ⟨rfl, rfl, rfl⟩]
  have kp' : zkd (zwI β 40 8 c.p (nI (D.dp + 1))) c.p = 41 := by rw [zkd_zwI]; exact kpβ
  have nz : zn α ≤ zn (zwI β 40 8 c.p (nI (D.dp + 1))) := z5
  have cz : zc (zwI β 40 8 c.p (nI (D.dp + 1))) = zc α + 1 := z7
  have wz : zw (zwI β 40 8 c.p (nI (D.dp + 1))) = zw α + 7 := z8
  refine ⟨β, z1, kpβ, d8, ?_⟩
  generalize zwI β 40 8 c.p (nI (D.dp + 1)) = γ at *
  have zb := h0.zb
  have wb := h0.wb
  have V0 : pV0 c (D.opn q t) B a N F γ s' := h0.old h.uk h.rk rfl rfl rfl rfl rfl rfl rfl (fun y _ y2 y3 _ => fr y y2 y3) kp' (fun k hk => I k (by omega)) (fun k hk => A k (by omega)) nz (by omega) (by omega) (fun k hk => hl k (by omega) (by omega)) (fun k hk => hm k (by omega))
  have eg : ∀ w, L w → γ.2 (g.oa w) = α.2 (g.oa w) ∧ γ.2 (g.oa w + 1) = α.2 (g.oa w + 1) := fun w w1 => by
    have lo := (h.g.nd w w1).lo
    exact ⟨fr _ (by omega) (by omega), fr _ (by omega) (by omega)⟩
  have W : gW L N B g γ s' := h.g.fr (Nat.le_refl _) (fun k t k1 k2 _ => by rw [hm k (by omega)]) eg nz
  have er : γ.2 D.lr = α.2 D.lr := fr _ (fun z => by have := h.rk; rw [z, kp] at this; omega) (fun z => h.ne z.symm)
  have eq : γ.2 q = α.2 q := fr _ (by omega) (by omega)
  have eq1 : γ.2 (q + 1) = α.2 (q + 1) := fr _ (by omega) (by omega)
  have eu : ∀ k, k < D.nu → γ.2 (D.ou k) = α.2 (D.ou k) ∧ γ.2 (D.ou k + 1) = α.2 (D.ou k + 1) := fun k hk => by
    have lo := (h.u k hk).lo
    exact ⟨fr _ (by omega) (by omega), fr _ (by omega) (by omega)⟩
  refine pV.mk V0 W ?_ ?_ ?_ ?_ ?_ hn3 ?_ ?_ ?_ ?_ uB rB h.ne ?_ ?_ ?_ ?_ ?_ ?_ h.rd ?_ ?_ ?_ ?_ ?_ ?_
  · show _ = if D.dp + 1 = 0 then none else some (va_up D.ou D.nu q (va_up D.os D.dp D.nu (D.dp + 1 - 1)))
    rw [A11, if_neg (by omega), Nat.add_sub_cancel]
    show some q = some (if (if D.dp = D.dp then D.nu else D.os D.dp) = D.nu then q else _)
    rw [if_pos rfl, if_pos rfl]
  · exact I8
  · exact l26
  · show D.dp + 1 ≤ 10
    omega
  · exact l20
  · rw [A 12 (by decide)]; exact h.lu
  · rw [A 13 (by decide)]; exact h.lr
  · exact ku'
  · show zkd γ D.lr = 3
    rw [zkd_eq er]; exact h.rk
  · show zL γ D.lu = (List.range (D.nu + 1)).map fun k => some (if k = D.nu then q else D.ou k)
    rw [lu', h.ul, List.range_succ, List.map_append]
    refine congr (congrArg _ (List.map_congr_left fun k hk => ?_)) ?_
    · rw [List.mem_range] at hk
      rw [if_neg (by omega)]
    · show [some q] = [some (if D.nu = D.nu then q else _)]
      rw [if_pos rfl]
  · show zL γ D.lr = _
    rw [zL_eq er]; exact h.rl
  · rw [hm 13 (by decide)]; exact h.rh
  · rw [hm 14 (by decide)]; exact h.rz
  · rw [hm 15 (by decide)]; exact h.rx
  · intro u hu
    obtain ⟨r1, r2, r3⟩ := h.rm u hu
    exact ⟨r1, by rw [zA_eq (eg u r1).1]; exact r2, by rw [hm 16 (by decide)]; exact r3⟩
  · intro k hk
    have hk' : k < D.nu + 1 := hk
    by_cases e : k = D.nu
    · subst e
      have ou : (D.opn q t).ou D.nu = q := if_pos rfl
      have un : (D.opn q t).un D.nu = t := if_pos rfl
      have en : (D.opn q t).en D.nu = 0 := if_pos rfl
      have da : (D.opn q t).da D.nu = 0 := if_pos rfl
      have pr : (D.opn q t).pr D.nu = 0 := if_pos rfl
      refine uOk.mk ?_ ?_ ?_ ?_ ?_ ?_ ?_ ?_ ?_ ?_ ?_ ?_ ?_ ?_ ?_ ?_ ?_
      · rw [ou]; exact q1
      · rw [ou]; omega
      · rw [ou, zkd_eq eq]; exact kn
      · rw [ou, zA_eq eq]; exact fl
      · rw [ou, zkd_eq eq1]; exact kl
      · rw [ou, un, zA_eq eq]; exact xn
      · rw [ou, en, zA_eq eq]; exact xA 4 (by decide) (by decide) (by decide)
      · rw [ou, da, zA_eq eq]; exact xA 5 (by decide) (by decide) (by decide)
      · rw [ou, pr, zA_eq eq]; exact xA 8 (by decide) (by decide) (by decide)
      · rw [un, m22, upd_same]
      · rw [en, m23, upd_same]
      · rw [da, m24, upd_same]
      · rw [pr, m25, upd_same]
      · rw [un]; exact ht
      · rw [en]; exact .inl rfl
      · rw [da]; exact .inl rfl
      · rw [pr]; exact .inl rfl
    · have hk2 : k < D.nu := by omega
      have o := h.u k hk2
      obtain ⟨e1, e2⟩ := eu k hk2
      have ou : (D.opn q t).ou k = D.ou k := if_neg e
      have un : (D.opn q t).un k = D.un k := if_neg e
      have en : (D.opn q t).en k = D.en k := if_neg e
      have da : (D.opn q t).da k = D.da k := if_neg e
      have pr : (D.opn q t).pr k = D.pr k := if_neg e
      refine uOk.mk ?_ ?_ ?_ ?_ ?_ ?_ ?_ ?_ ?_ ?_ ?_ ?_ ?_ ?_ ?_ ?_ ?_
      · rw [ou]; exact o.lo
      · rw [ou]; have := o.hi; omega
      · rw [ou, zkd_eq e1]; exact o.kn
      · rw [ou, zA_eq e1]; exact o.fl
      · rw [ou, zkd_eq e2]; exact o.kl
      · rw [ou, un, zA_eq e1]; exact o.xu
      · rw [ou, en, zA_eq e1]; exact o.xe
      · rw [ou, da, zA_eq e1]; exact o.xd
      · rw [ou, pr, zA_eq e1]; exact o.xp
      · rw [un, m22, upd_other e]; exact o.mu
      · rw [en, m23, upd_other e]; exact o.me
      · rw [da, m24, upd_other e]; exact o.md
      · rw [pr, m25, upd_other e]; exact o.mp
      · rw [un]; exact o.lu
      · rw [en]; exact o.le
      · rw [da]; exact o.ld
      · rw [pr]; exact o.lp
  · intro j k hj hk
    have hj' : j < D.nu + 1 := hj
    have hk' : k < D.nu + 1 := hk
    show (if j = D.nu then q else D.ou j) = (if k = D.nu then q else D.ou k) → j = k
    by_cases e1 : j = D.nu
    · by_cases e2 : k = D.nu
      · exact fun _ => e1.trans e2.symm
      · rw [if_pos e1, if_neg e2]
        exact fun z => absurd z.symm (q3 k (by omega))
    · by_cases e2 : k = D.nu
      · rw [if_neg e1, if_pos e2]
        exact fun z => absurd z (q3 j (by omega))
      · rw [if_neg e1, if_neg e2]
        exact h.ui j k (by omega) (by omega)
  · intro i hi
    have hi' : i < D.dp + 1 := hi
    by_cases e : i = D.dp
    · subst e
      have os : (D.opn q t).os D.dp = D.nu := if_pos rfl
      have ou : (D.opn q t).ou D.nu = q := if_pos rfl
      have un : (D.opn q t).un D.nu = t := if_pos rfl
      have st : (D.opn q t).st D.dp = 0 := if_pos rfl
      have nm : (D.opn q t).nm D.dp = 0 := if_pos rfl
      have fu : (D.opn q t).fu D.dp = 0 := if_pos rfl
      have hd : (D.opn q t).hd D.dp = 0 := if_pos rfl
      refine oOk.mk ?_ ?_ ?_ ?_ ?_ ?_ ?_ ?_ ?_ ?_ ?_ ?_ ?_ ?_ ?_ ?_
      · rw [os]; exact Nat.lt_succ_self _
      · rw [os, ou, zA_eq eq, up]
        by_cases z : D.dp = 0
        · rw [if_pos z, if_pos z]
        · rw [if_neg z, if_neg z]
          show some _ = some (if (if D.dp - 1 = D.dp then D.nu else D.os (D.dp - 1)) = D.nu then q else D.ou (if D.dp - 1 = D.dp then D.nu else D.os (D.dp - 1)))
          have := (h.op (D.dp - 1) (by omega)).u
          rw [if_neg (show ¬ D.dp - 1 = D.dp by omega), if_neg (show ¬ D.os (D.dp - 1) = D.nu by omega)]
      · rw [os, ou, hd, zI_eq eq]; exact xI 2
      · rw [os, ou, st, zI_eq eq]; exact xI 3
      · rw [st, m27, upd_same]
      · rw [os, m29, upd_same]
      · rw [fu, m30, upd_same]
      · rw [hd, m31, upd_same]
      · rw [st]; exact fun z => absurd rfl z
      · rw [os, un, fu, hm 9 (by decide)]; exact k9
      · rw [st]; exact fun z => absurd rfl z
      · rw [st]; decide
      · rw [fu]; decide
      · rw [hd]; decide
      · rw [nm]; decide
      · rw [os, un]; exact rk
    · have hi2 : i < D.dp := by omega
      have o := h.op i hi2
      have ou' := o.u
      have os : (D.opn q t).os i = D.os i := if_neg e
      have ou : (D.opn q t).ou (D.os i) = D.ou (D.os i) := if_neg (by omega)
      have un : (D.opn q t).un (D.os i) = D.un (D.os i) := if_neg (by omega)
      have st : (D.opn q t).st i = D.st i := if_neg e
      have nm : (D.opn q t).nm i = D.nm i := if_neg e
      have fu : (D.opn q t).fu i = D.fu i := if_neg e
      have hd : (D.opn q t).hd i = D.hd i := if_neg e
      obtain ⟨e1, e2⟩ := eu _ ou'
      refine oOk.mk ?_ ?_ ?_ ?_ ?_ ?_ ?_ ?_ ?_ ?_ ?_ ?_ ?_ ?_ ?_ ?_
      · rw [os]; exact Nat.lt_succ_of_lt ou'
      · rw [os, ou, zA_eq e1, o.up]
        by_cases z : i = 0
        · rw [if_pos z, if_pos z]
        · rw [if_neg z, if_neg z]
          show some _ = some (if (if i - 1 = D.dp then D.nu else D.os (i - 1)) = D.nu then q else D.ou (if i - 1 = D.dp then D.nu else D.os (i - 1)))
          have := (h.op (i - 1) (by omega)).u
          rw [if_neg (show ¬ i - 1 = D.dp by omega), if_neg (show ¬ D.os (i - 1) = D.nu by omega)]
      · rw [os, ou, hd, zI_eq e1]; exact o.xh
      · rw [os, ou, st, zI_eq e1]; exact o.xs
      · rw [st, m27, upd_other e]; exact o.ms
      · rw [os, m29, upd_other e]; exact o.mo
      · rw [fu, m30, upd_other e]; exact o.mf
      · rw [hd, m31, upd_other e]; exact o.mh
      · rw [st, nm, hm 28 (by decide)]; exact o.mn
      · rw [os, un, fu, hm 9 (by decide)]; exact o.kd
      · rw [os, un, st, nm, hm 10 (by decide)]; exact o.vl
      · rw [st]; exact o.s12
      · rw [fu]; exact o.f1
      · rw [hd]; exact o.h1
      · rw [nm]; exact o.nb
      · rw [os, un]; exact o.rk
  · intro i j hi hj
    have hi' : i < D.dp + 1 := hi
    have hj' : j < D.dp + 1 := hj
    show (if i = D.dp then D.nu else D.os i) = (if j = D.dp then D.nu else D.os j) → i = j
    by_cases e1 : i = D.dp
    · by_cases e2 : j = D.dp
      · exact fun _ => e1.trans e2.symm
      · rw [if_pos e1, if_neg e2]
        have := (h.op j (by omega)).u
        exact fun z => by omega
    · by_cases e2 : j = D.dp
      · rw [if_neg e1, if_pos e2]
        have := (h.op i (by omega)).u
        exact fun z => by omega
      · rw [if_neg e1, if_neg e2]
        exact h.oi i j (by omega) (by omega)
  · intro j hj
    have hj' : j + 1 < D.dp + 1 := hj
    show (if j = D.dp then 0 else D.st j) = 12
    rw [if_neg (by omega)]
    by_cases e : D.dp = j + 1
    · exact e12 j e
    · exact h.o12 j (by omega)
  · intro _
    have os : (D.opn q t).os D.dp = D.nu := if_pos rfl
    have ou : (D.opn q t).ou D.nu = q := if_pos rfl
    have st : (D.opn q t).st D.dp = 0 := if_pos rfl
    have dp : (D.opn q t).dp - 1 = D.dp := Nat.add_sub_cancel ..
    rw [dp, os, ou, st]
    refine iOk.mk (fun z1 z2 => absurd z1 (by decide)) (fun z1 z2 => absurd z1 (by decide)) (fun z1 z2 => absurd z1 (by decide)) (fun z1 z2 => absurd z1 (by decide)) (fun z1 z2 => absurd z1 (by decide)) (fun z1 z2 => absurd z1 (by decide)) (fun z1 z2 => absurd z1 (by decide)) (fun z => absurd z (by decide)) (fun z1 z2 => absurd z1 (by decide)) (fun z1 z2 => absurd z1 (by decide)) (fun _ => ?_)
    rw [zA_eq eq, zA_eq eq]
    exact ⟨xA 10 (by decide) (by decide) (by decide), xA 11 (by decide) (by decide) (by decide)⟩
/-- M's rows of a new unit -/
theorem M_id172 (h20 : ls s 20 = nI u) (h26 : ls s 26 = nI i) (hu : u < 600) (hi : i < 11) : gX26_identified_172 v s = some ((), us (us (ua (ua (ua (ua (ua (ua (ua (ua s 22 (upd (la s 22) u v)) 23 (upd (la s 23) u (nI 0))) 24 (upd (la s 24) u (nI 0))) 25 (upd (la s 25) u (nI 0))) 27 (upd (la s 27) i (nI 0))) 29 (upd (la s 29) i (nI u))) 30 (upd (la s 30) i (nI 0))) 31 (upd (la s 31) i (nI 0))) 26 (nI (i + 1))) 20 (nI (u + 1))) := by
  have B : (600 : Nat) < 2 ^ 31 := by decide
  have B' : (11 : Nat) < 2 ^ 31 := by decide
  have v0 : vp_nar .boolean (0 : Int32) = nI 0 := rfl
  unfold gX26_identified_172
  simp only [v0, gl_x, gl_bs, ls_ua, h20, h26, pgst hu B, pgst hi B', ls_us, if_neg (show ¬ (20 : Nat) = 26 by decide)]
  rw [pI_succ, pI_succ]
  rfl
end PAZZJ
