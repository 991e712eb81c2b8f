/-! THE PURE LAYER: the parser: behind a fault both sides note it and go on behind the next period. -/
/-- X's store behind the note of a fault and the way back to its word -/
def xFt (c : pC) (D : pD) (β : zS) (F wh w : Nat) : zS := zwI (zwI (zsI (zsI β D.fa (upd (zaI β D.fa) F (nI wh))) D.fb (upd (zaI β D.fb) F (nI w))) 40 7 c.p (nI (F + 1))) 40 3 c.p (nI w)
section PAZO
variable {L : Nat → Prop} {c : pC} {D : pD} {G : xQ} {α β : zS} {s s' s1 : zM} {B at' a a1 N N' F F' p q t to u x k i j w wh lv : Nat} {g g' : pG} {v : Int32}
theorem pV.fault (h : pV c D L B at' N F g α s) (hF : F < 20) (e : pE (c.on (zwI α 40 4 c.p (nI 0)) s1 N at' lv) wh w β s') (h1 : ∀ k, k < 42 → ls s1 k = ls s k) (h2 : ∀ k, la s1 k = la s k) : (hX4_note G (some c.p) (nI wh) (nI w) β).bind (fun p => (zpI p.2 (some c.p) 40 3 (nI w)).bind fun σ => some σ) = some (xFt c D β F wh w) ∧ hX4_note G (some c.p) (nI wh) (nI w) β = some ((), zwI (zsI (zsI β D.fa (upd (zaI β D.fa) F (nI wh))) D.fb (upd (zaI β D.fb) F (nI w))) 40 7 c.p (nI (F + 1))) ∧ zkd β c.p = 41 ∧ ∃ N', N ≤ N' ∧ pV c D L B w N' (F + 1) g (xFt c D β F wh w) (us s' 41 (nI w)) := by
  have h0 := h.o
  have B1 := h0.B1
  have p := h0.p
  have aB := h0.aB
  have bB := h0.bB
  have kaB := h0.ka
  have vaB := h0.va
  have N1 := h0.N1
  have x := h0.x
  have hx := e.x
  have nz : zn α ≤ zn β := hx.n
  have fr : ∀ q, q < zn α → q ≠ c.p → β.2 q = α.2 q := fun q h1 h2 => by
    have e := hx.fr q (.inl h1) h2
    rw [e]
    exact zwI_ne h2
  have I : ∀ k, ¬ (3 ≤ k ∧ k ≤ 6 ∨ k = 16) → zI β 40 k c.p = zI α 40 k c.p := fun k hk => (hx.I k hk).trans (by
    show zI (zwI α 40 4 c.p (nI 0)) 40 k c.p = _
    rw [zI_zwI, if_neg (by omega)])
  have A : ∀ k, k ≠ 15 → zA β 40 k c.p = zA α 40 k c.p := fun k hk => (hx.A k hk).trans (by
    show zA (zwI α 40 4 c.p (nI 0)) 40 k c.p = _
    rw [zA_zwI])
  have K : zkd β c.p = 41 := hx.kd.trans (by
    show zkd (zwI α 40 4 c.p (nI 0)) c.p = _
    rw [zkd_zwI]; exact x.kp)
  have pa : c.p ≠ D.fa := fun z => by have := h0.ak; rw [← z, x.kp] at this; omega
  have pb : c.p ≠ D.fb := fun z => by have := h0.bk; rw [← z, x.kp] at this; omega
  have pk : c.p ≠ c.ka := fun z => by have := x.kk; rw [← z, x.kp] at this; omega
  have pv : c.p ≠ c.va := fun z => by have := x.kv; rw [← z, x.kp] at this; omega
  obtain ⟨n1, n2, n3, n4, n5⟩ := h0.ne
  have ek := fr c.ka (by omega) (fun z => pk z.symm)
  have ev := fr c.va (by omega) (fun z => pv z.symm)
  have ea := fr D.fa (by omega) (fun z => pa z.symm)
  have eb := fr D.fb (by omega) (fun z => pb z.symm)
  have ak : zkd β D.fa = 1001 := by rw [zkd_eq ea]; exact h0.ak
  have bk : zkd β D.fb = 1001 := by rw [zkd_eq eb]; exact h0.bk
  have an : zln β D.fa = 20 := by rw [zln_eq ea]; exact h0.an
  have bn : zln β D.fb = 20 := by rw [zln_eq eb]; exact h0.bn
  have f7 : zI β 40 7 c.p = nI F := by rw [I 7 (by decide)]; exact h0.fx
  have NT : hX4_note G (some c.p) (nI wh) (nI w) β = some ((), zwI (zsI (zsI β D.fa (upd (zaI β D.fa) F (nI wh))) D.fb (upd (zaI β D.fb) F (nI w))) 40 7 c.p (nI (F + 1))) := by
    have k2 : zkd (zsI β D.fa (upd (zaI β D.fa) F (nI wh))) c.p = 41 := by rw [zkd_zsI]; exact K
    have k3 : zkd (zsI (zsI β D.fa (upd (zaI β D.fa) F (nI wh))) D.fb (upd (zaI β D.fb) F (nI w))) c.p = 41 := by rw [zkd_zsI]; exact k2
    have b2 : zaI (zsI β D.fa (upd (zaI β D.fa) F (nI wh))) D.fb = zaI β D.fb := by rw [zaI_zsIf, if_neg (fun z => n1 z.symm)]
    unfold hX4_note
    rw [kfI K, gl_bs, f7, if_pos (show ¬ nI F = 20 from by rw [show (20 : Int32) = nI 20 from rfl, pI_inj (by omega) (by decide)]; omega), kfA K, gl_bs, A 9 (by decide), h0.fa, gl_bs, pkia ak (by omega) (by rw [an]; decide), gl_bs, kfA k2, gl_bs, zA_zsI, A 10 (by decide), h0.fb, kfI k2, gl_bs, zI_zsI, f7, pkia (by rw [zkd_zsI]; exact bk) (by rw [zln_zsI]; omega) (by rw [zln_zsI, bn]; decide), gl_bs, b2, kfI k3, gl_bs, zI_zsI, zI_zsI, f7, kpI k3, gl_bs, show nI F + 1 = nI (F + 1) from pI_succ F]
  obtain ⟨N', m1, m2, m3⟩ := e.N
  have m2' : N ≤ N' := m2
  obtain ⟨F', t1, t2, t3, t4, t5⟩ := e.nt
  have q5 : F' = F := by
    have e5 : ls s1 5 = nI F' := t1
    rw [h1 5 (by decide), h0.fm, pI_inj (by omega) (by omega)] at e5
    exact e5.symm
  subst q5
  have t4' : la s' 6 = upd (la s 6) F' (nI wh) := t4.trans (by show upd (la s1 6) F' _ = _; rw [h2 6])
  have t5' : la s' 7 = upd (la s 7) F' (nI w) := t5.trans (by show upd (la s1 7) F' _ = _; rw [h2 7])
  have nX : zn (xFt c D β F' wh w) = zn β := rfl
  have frX : ∀ q, q ≠ c.p → q ≠ D.fa → q ≠ D.fb → (xFt c D β F' wh w).2 q = β.2 q := fun q q1 q2 q3 => by
    unfold xFt
    rw [zwI_ne q1, zwI_ne q1, zsI_ne q3, zsI_ne q2]
  have rI : ∀ k, k ≠ 3 → k ≠ 7 → zI (xFt c D β F' wh w) 40 k c.p = zI β 40 k c.p := fun k k1 k2 => by
    unfold xFt
    rw [zI_zwI, if_neg (fun z => k1 z.2.1), zI_zwI, if_neg (fun z => k2 z.2.1), zI_zsI, zI_zsI]
  have rA : ∀ k, zA (xFt c D β F' wh w) 40 k c.p = zA β 40 k c.p := fun k => by
    unfold xFt
    rw [zA_zwI, zA_zwI, zA_zsI, zA_zsI]
  have rK : ∀ q, zkd (xFt c D β F' wh w) q = zkd β q := fun q => by
    unfold xFt
    rw [zkd_zwI, zkd_zwI, zkd_zsI, zkd_zsI]
  have rL : ∀ q, zln (xFt c D β F' wh w) q = zln β q := fun q => by
    unfold xFt
    rw [zln_zwI, zln_zwI, zln_zsI, zln_zsI]
  have ra : zaI (xFt c D β F' wh w) D.fa = upd (zaI β D.fa) F' (nI wh) := by
    unfold xFt
    funext i
    rw [zaI_zwI, zaI_zwI, zaI_zsI, if_neg n1, zaI_zsI, if_pos rfl]
  have rb : zaI (xFt c D β F' wh w) D.fb = upd (zaI β D.fb) F' (nI w) := by
    unfold xFt
    funext i
    rw [zaI_zwI, zaI_zwI, zaI_zsI, if_pos rfl]
  have rq : ∀ q i, q ≠ D.fa → q ≠ D.fb → zaI (xFt c D β F' wh w) q i = zaI β q i := fun q i q1 q2 => by
    unfold xFt
    rw [zaI_zwI, zaI_zwI, zaI_zsI, if_neg q2, zaI_zsI, if_neg q1]
  have eI : ∀ k, ¬ (k = 5 ∨ k = 8 ∨ 41 ≤ k ∧ k ≤ 45 ∨ k = 49 ∨ 54 ≤ k ∧ k ≤ 57) → k < 42 → ls s' k = ls s k := fun k k1 k2 => (e.I k k1).trans (h1 k k2)
  have eB : ∀ k, ¬ (k = 6 ∨ k = 7 ∨ 9 ≤ k ∧ k ≤ 16 ∨ 46 ≤ k ∧ k ≤ 48 ∨ 50 ≤ k ∧ k ≤ 53 ∨ 58 ≤ k ∧ k ≤ 64) → la s' k = la s k := fun k k1 => (e.B k k1).trans (h2 k)
  have w1 : w ≤ c.n := e.w1
  have w2 : at' ≤ w := e.w2
  have m3' : N' + 10 * at' ≤ N + 10 * w + 70 := m3
  have N0 := h0.N0
  have zcb : zc β + 30 * at' ≤ zc α + 30 * w + 220 := e.zcb
  have zwb : zw β + 140 * at' ≤ zw α + 140 * w + 1000 := e.zwb
  have zb := h0.zb
  have wb := h0.wb
  have V0 : pV0 c D B w N' (F' + 1) (xFt c D β F' wh w) (us s' 41 (nI w)) := by
    refine pV0.mk h0.n h0.ks h0.vs h0.nm p kaB vaB (by rw [nX]; omega) (pxW.mk ?_ ?_ ?_ ?_ ?_ ?_ ?_ ?_ (fun i hi => ?_) (fun i hi => ?_)) (mWd.mk ?_ (fun i hi => ?_) (fun i hi => ?_)) ?_ rfl (by omega) m1 (by omega) (by omega) ?_ t3 (by omega) ?_ ?_ ?_ ?_ ?_ ?_ aB bB h0.ne (fun i hi => ?_) (fun i hi => ?_) ?_ ?_ (fun q q1 q2 q3 q4 q5 q6 => ((frX q q2 q3 q4).trans (fr q (by omega) q2)).trans (h0.fr q q1 q2 q3 q4 q5 q6)) ((rA 14).trans ((A 14 (by decide)).trans h0.fe)) ((eI 19 (by decide) (by decide)).trans h0.t19) ((eI 1 (by decide) (by decide)).trans h0.t1)
    · rw [rK]; exact K
    · rw [rA, A 0 (by decide)]; exact x.fk
    · rw [rA, A 1 (by decide)]; exact x.fv
    · rw [rI 2 (by decide) (by decide), I 2 (by decide)]; exact x.fn
    · rw [rK, zkd_eq ek]; exact x.kk
    · rw [rK, zkd_eq ev]; exact x.kv
    · rw [rL, zln_eq ek]; exact x.lk
    · rw [rL, zln_eq ev]; exact x.lv
    · rw [rq _ _ (fun z => n2 z.symm) (fun z => n4 z.symm), zaI_eq ek]; exact x.rk i hi
    · rw [rq _ _ (fun z => n3 z.symm) (fun z => n5 z.symm), zaI_eq ev]; exact x.rv i hi
    · show ls s' 4 = _
      rw [eI 4 (by decide) (by decide)]; exact h0.m.fn
    · show la s' 2 i = _
      rw [eB 2 (by decide)]; exact h0.m.rk i hi
    · show la s' 3 i = _
      rw [eB 3 (by decide)]; exact h0.m.rv i hi
    · unfold xFt
      rw [zI_zwI, if_pos ⟨rfl, rfl, rfl⟩]
    · unfold xFt
      rw [zI_zwI, if_neg (fun z => absurd z.2.1 (by decide)), zI_zwI, if_pos ⟨rfl, rfl, rfl⟩]
    · rw [rA, A 9 (by decide)]; exact h0.fa
    · rw [rA, A 10 (by decide)]; exact h0.fb
    · rw [rK]; exact ak
    · rw [rK]; exact bk
    · rw [rL]; exact an
    · rw [rL]; exact bn
    · show _ = la s' 6 i
      rw [ra, t4']
      by_cases z : i = F'
      · rw [z, upd_same, upd_same]
      · rw [upd_other z, upd_other z, zaI_eq ea]; exact h0.ra i (by omega)
    · show _ = la s' 7 i
      rw [rb, t5']
      by_cases z : i = F'
      · rw [z, upd_same, upd_same]
      · rw [upd_other z, upd_other z, zaI_eq eb]; exact h0.rb i (by omega)
    · show zc β ≤ _
      omega
    · show zw β ≤ _
      omega
  have ex : xFt c D β F' wh w = zwI (zwI (zsI (zsI β D.fa (upd (zaI β D.fa) F' (nI wh))) D.fb (upd (zaI β D.fb) F' (nI w))) 40 7 c.p (nI (F' + 1))) 40 3 c.p (nI w) := rfl
  refine ⟨?_, NT, K, N', m2, ?_⟩
  · rw [NT, gl_bs, kpI (by rw [zkd_zwI, zkd_zsI, zkd_zsI]; exact K), gl_bs]
    rfl
  · refine h.keep V0 m2 w2 (by rw [nX]; exact nz) (fun q q1 q2 q3 q4 => by rw [frX q q2 q3 q4]; exact fr q q1 q2) (by rw [rI 8 (by decide) (by decide)]; exact I 8 (by decide)) (fun k k1 k2 => by rw [rA]; exact A k (by omega)) (fun k hk => ?_) (fun k t k1 k2 ht => ?_) (fun k hk => ?_)
    · rw [ls_us, if_neg (by omega)]
      exact eI k (by omega) (by omega)
    · exact (e.A k t k1 k2 ht).trans (by rw [show (c.on (zwI α 40 4 c.p (nI 0)) s1 N at' lv).s0 = s1 from rfl, h2 k])
    · exact eB k (by omega)
end PAZO
