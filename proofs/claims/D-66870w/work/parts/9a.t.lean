/-! THE PURE LAYER: the parser: conditions, rows of ANDs and of ORs. -/
/-- what stays: marks below m, brackets below jn, of bracket jn the rows from 59 + 3 o on -/
def qO (o m jn : Nat) (s s' : zM) : Prop := ls s' 54 = ls s 54 ∧ ls s' 57 = ls s 57 ∧ (∀ i, i < m → la s' 58 i = la s 58 i) ∧ (∀ i j, 59 ≤ i → i ≤ 64 → j < jn → la s' i j = la s i j) ∧ ∀ i, 59 + 3 * o ≤ i → i ≤ 64 → la s' i jn = la s i jn
/-- X's factor (0), row of ANDs (1), row of ORs (2) -/
def xFo (c : pC) (G : xQ) (o f : Nat) (α : zS) : zF ((Option Nat) ⊕ Nat) := if o = 0 then (rrX4_factor G f).1 (some c.p) α else (rrX4_factor G f).2 (some c.p) (nI (o - 1)) α
/-- both read a part of a condition (M is at T, then at what P says), or both fail -/
def qG (c : pC) (a d b N y : Nat) (g : pG) (α : zS) (s : zM) (F : Nat) (fX : zF ((Option Nat) ⊕ Nat)) (T : gF Int32) (P : Nat → Nat → Nat → Nat → zM → Prop) : Prop := (∃ β t F1' F' s' a' b' N' g', fX = some (.inl (some (g'.oa t)), β) ∧ P F1' F' a' t s' ∧ pQ c a d b N y g α s a' b' N' t g' β s' ∧ F + a ≤ F' + a' ∧ xLim + a ≤ F1' + a') ∨ (∃ e β u s' wh w, fX = some (.inr e, β) ∧ zthr β e 3 = true ∧ T = some (u, s') ∧ pE c wh w β s' ∧ pPl s s')
def cG (c : pC) (G : xQ) (o f : Nat) : Prop := ∀ (a d b N y : Nat) (g : pG) (α : zS) (s : zM) (m jn F : Nat), pR c a d b N y g α s → pB c b a 20 → cSb c N g α s → ls s 54 = nI m → ls s 57 = nI (jn + 1) → m ≤ d → jn ≤ m → (m = 0 ∨ la s 58 (m - 1) = (- 1 : Int32)) → (1 ≤ o → la s 61 jn = nI 0) → (2 ≤ o → la s 64 jn = nI 0) → c.n - a + 5 ≤ F → 3 * (40 - d) + 1 + o ≤ f → qG c a d b N y g α s F (xFo c G o f α) (mC F (nI 0) s) (fun F1' F' _ t s' => mC F (nI 0) s = mBk F1' F' (gP o jn (nI t) s') ∧ qO o m jn s s')
section PAT
variable {c : pC} {G : xQ} {α β γ αs : zS} {s s' s2 ss : zM} {a a1 a' d b b' N N' N2 Ns as bs k t t2 u w wh q r F F1 F' Fs f y to m n jn o : Nat} {g g' g2 gs : pG} {v v' kv : Int32} {l ts : List Nat}
theorem qO.rf : qO o m jn s s := ⟨rfl, rfl, fun _ _ => rfl, fun _ _ _ _ _ => rfl, fun _ _ _ => rfl⟩
theorem qO.tr (h : qO o m jn s s') (h' : qO o m jn s' s2) : qO o m jn s s2 := ⟨h'.1.trans h.1, h'.2.1.trans h.2.1, fun i hi => (h'.2.2.1 i hi).trans (h.2.2.1 i hi), fun i j h1 h2 h3 => (h'.2.2.2.1 i j h1 h2 h3).trans (h.2.2.2.1 i j h1 h2 h3), fun i h1 h2 => (h'.2.2.2.2 i h1 h2).trans (h.2.2.2.2 i h1 h2)⟩
theorem qO.le {o' : Nat} (h : qO o m jn s s') (ho : o ≤ o') : qO o' m jn s s' := ⟨h.1, h.2.1, h.2.2.1, h.2.2.2.1, fun i h1 h2 => h.2.2.2.2 i (by omega) h2⟩
theorem qT.qo (h : qT m (jn + 1) s s') : qO 0 m jn s s' := ⟨h.1, h.2.1, h.2.2.1, fun i j h1 h2 h3 => h.2.2.2 i j h1 h2 (by omega), fun i h1 h2 => h.2.2.2 i jn (by omega) h2 (Nat.lt_succ_self jn)⟩
theorem mOt.qo (h : mOt s s') : qO o m jn s s' := ⟨h.1 54 (by decide), h.1 57 (by decide), fun i _ => by rw [h.2 58 (by decide)], fun i j h1 h2 _ => by rw [h.2 i (by omega)], fun i h1 h2 => by rw [h.2 i (by omega)]⟩
theorem mAts_ot {l : List Nat} : mOt s (mAts s to l ts) := ⟨fun _ _ => mAts_ls, fun j hj => mAts_la (by omega)⟩
theorem mLn.qo (h : mLn s o jn l t s') (ho : o ≤ 1) : qO (o + 1) m jn s s' := by
  refine ⟨h.nls 54, h.nls 57, fun i _ => by rw [h.nla 58 (by decide) (by decide)], fun i j h1 h2 h3 => h.row i j h1 h2 (by omega), fun i h1 h2 => ?_⟩
  have : o = 0 := by omega
  exact h.ot this i (by omega) h2
/-- rows of loose nodes are linked -/
theorem pgO.nx15 (h : pgO c N g α s y) (hm : ∀ k, 9 ≤ k → k ≤ 16 → k ≠ 15 → la s' k = la s k) (h15 : ∀ w u, c.N0 ≤ w → w < N → u ∈ g.ch w → la s' 15 u = la s 15 u) (hp : ∀ t, pPd s t → pPd s' t) : pgO c N g α s' y := by
  refine pgO.mk (fun w h1 h2 => ?_) h.inj
  have o := h.nd w h1 h2
  refine nOk.mk o.lo o.hi o.kn o.fl o.kl ?_ ?_ ?_ ?_ o.ls o.nd (fun u hu => ?_) ?_ ?_ (pCh_fr o.nx fun u hu => h15 w u h1 h2 hu)
  · rw [hm 9 (by decide) (by decide) (by decide)]; exact o.kd
  · rw [hm 10 (by decide) (by decide) (by decide), hm 9 (by decide) (by decide) (by decide)]; exact o.vl.imp id (fun z => ⟨z.1, z.2.1, hp _ z.2.2⟩)
  · rw [hm 11 (by decide) (by decide) (by decide)]; exact o.wd
  · rw [hm 9 (by decide) (by decide) (by decide), hm 12 (by decide) (by decide) (by decide)]; exact o.ex
  · rw [hm 16 (by decide) (by decide) (by decide)]; exact o.mem u hu
  · rw [hm 13 (by decide) (by decide) (by decide)]; exact o.hd
  · rw [hm 14 (by decide) (by decide) (by decide)]; exact o.lt
theorem mLn.n15 (h : mLn s o jn l t s') (h1 : u ≠ t) (h2 : u ∉ l) : la s' 15 u = la s 15 u := by
  rw [h.r15]
  split
  · exact upd_other h1
  · rename_i z
    rw [upd_other (fun e => h2 (by rw [e]; exact last_mem z)), upd_other h1]
theorem pR.link (h : pR c a d b N y g α s) (hN : N ≤ 8000) (hm : mLn s o jn l t s') (h1 : c.N0 ≤ t) (h2 : t < N) (h0 : la s 16 t = nI 0) (hl : ∀ u, u ∈ l → c.N0 ≤ u ∧ u < N ∧ la s 16 u = nI 0) : pR c a d b N y g α s' := by
  have N1 := h.k.N1
  refine pR.mk h.k h.x (mKp.mk (fun k hk => ?_) (fun k i k1 k2 hi => ?_) (fun k hk => ?_)) h.ax h.nx ?_ ?_ ?_ ?_ h.al h.a0 h.nl h.N0 h.Nb h.zcb h.zwb h.yN (h.g.nx15 (fun k k1 k2 k3 => hm.nla k k3 (by omega)) (fun w u w1 w2 hu => ?_) (fun x z => by
    obtain ⟨k, i, e1, e2, e3, e4, e5⟩ := z
    exact ⟨k, i, by rw [hm.nls]; exact e1, e2, e3, by rw [hm.nla 46 (by decide) (by decide)]; exact e4, by rw [hm.nla 47 (by decide) (by decide)]; exact e5⟩))
  · rw [hm.nls]; exact h.m.I k hk
  · by_cases e : k = 15
    · subst e
      rw [hm.n15 (by omega) (fun z => by have := (hl i z).1; omega)]; exact h.m.A 15 i k1 k2 hi
    · rw [hm.nla k e (by omega)]; exact h.m.A k i k1 k2 hi
  · rw [hm.nla k (by omega) (by omega)]; exact h.m.B k hk
  · rw [hm.nls]; exact h.am
  · intro z; rw [hm.nls]; exact h.nm z
  · rw [hm.nls]; exact h.bm
  · rw [hm.nls]; exact h.Nm
  · refine hm.n15 (fun z => h.g.loose N1 hN h0 w1 w2 (z ▸ hu)) (fun z => h.g.loose N1 hN (hl u z).2.2 w1 w2 hu)
theorem pY.link (h : pY c Ns gs αs ss N g α s) (hm : mLn s o jn l t s') (h1 : Ns ≤ t) (hl : ∀ u, u ∈ l → Ns ≤ u) : pY c Ns gs αs ss N g α s' := by
  have pl : pPl s s' := ⟨hm.nls 45, hm.nla 46 (by decide) (by decide), hm.nla 47 (by decide) (by decide), hm.nla 48 (by decide) (by decide)⟩
  refine pY.mk (h.x.m (fun i _ => by rw [hm.nla 16 (by decide) (by decide)]) (fun i _ => by rw [hm.nla 9 (by decide) (by decide)]) pl (fun i _ _ => by rw [hm.nla 10 (by decide) (by decide)])) h.nn h.fx (fun j i j1 j2 hi => ?_) h.fc h.nw
  by_cases e : j = 15
  · subst e
    rw [hm.n15 (by omega) (fun z => by have := hl i z; omega)]; exact h.fm 15 i j1 j2 hi
  · rw [hm.nla j e (by omega)]; exact h.fm j i j1 j2 hi
theorem cSb.ln (h : cSb c N g α s) (hm : mLn s o jn l t s') : cSb c N g α s' := h.go (Nat.le_refl _) (fun _ _ => rfl) xOt.rf (hm.nls 55) (hm.nls 56)
/-- M's row ends here -/
theorem M_end (ho : o ≤ 1) (hj : jn < 64) (h : pR c a d b N y g α s) (h57 : ls s 57 = nI (jn + 1)) (hw : wW c a (65 + o) = false) : gKK o jn s = (gX26_whole (nI (51 - o)) (la s (59 + 3 * o) jn) (la s (60 + 3 * o) jn) (la s (61 + 3 * o) jn) s).bind fun p => gP (o + 1) jn p.1 p.2 := by
  have h6 : (64 : Nat) < 2 ^ 31 := by decide
  have mm := M_meets h (w := 65 + o) (by omega)
  rw [if_neg (by rw [hw]; decide)] at mm
  have : o = 0 ∨ o = 1 := by omega
  rcases this with rfl | rfl
  · show gM1 (nI jn) s = _
    unfold gM1
    rw [nl65, mm, gl_bs, if_pos (show (nI 0, s).1 = 0 from rfl)]
    unfold gX26_closeAnds
    show Option.bind (xlet (ls s 57) _) _ = _
    rw [gl_x, h57, nl1, pI_sub (by omega), Nat.add_sub_cancel, gl_x, pgld hj h6, gl_bs, pgld hj h6, gl_bs, pgld hj h6, gl_bs, Option.bind_assoc, nl51]
    rfl
  · show gM2 (nI jn) s = _
    unfold gM2
    rw [nl66, mm, gl_bs, if_pos (show (nI 0, s).1 = 0 from rfl)]
    show ((gld s 62 64 (nI jn)).bind _) = _
    rw [pgld hj h6, gl_bs, pgld hj h6, gl_bs, pgld hj h6, gl_bs, nl50]
    rfl
/-- M's row goes on -/
theorem M_more (ho : o ≤ 1) (h : pR c a d b N y g α s) (hw : wW c a (65 + o) = true) : mBk F1 F (gKK o jn s) = mC F (nI 0) (maS s a) := by
  have mm := M_meets h (w := 65 + o) (by omega)
  rw [if_pos hw] at mm
  have : o = 0 ∨ o = 1 := by omega
  rcases this with rfl | rfl
  · show mBk F1 F (gM1 (nI jn) s) = _
    unfold gM1
    rw [nl65, mm, gl_bs, if_neg (by first | decide | exact bT | exact n1n)]
    rfl
  · show mBk F1 F (gM2 (nI jn) s) = _
    unfold gM2
    rw [nl66, mm, gl_bs, if_neg (by first | decide | exact bT | exact n1n)]
    rfl
/-- one turn of X's loop -/
theorem X_75b (ho : o ≤ 1) (h : pR c a d b N y g α s) : hX4_row_75b G (rrX4_factor G f).1 (rrX4_factor G f).2 (some c.p) (nI o) (nI (65 + o)) (some q) α = if wW c a (65 + o) = true then zcase (xFo c G o f (xaS c α a)) (fun p3 => if zis G p3.2 (some q) 45 = true then (hX43_add G (some q) p3.1 p3.2).bind fun p1 => some (.inl (some c.p, nI o, nI (65 + o), some q), p1.2) else none) (fun p4 => if zthr p4.2 p4.1 3 = true then some (.inr (.inr p4.1), p4.2) else none) else some (.inr (.inl (some q)), α) := by
  have kp := h.kp
  have mm := X_meets (G := G) h (w := 65 + o) (by omega)
  have kx : zkd (xaS c α a) c.p = 41 := by unfold xaS; rw [zkd_zwI]; exact kp
  unfold hX4_row_75b
  rw [if_pos (of_eq_true (kis kp (by decide))), mm]
  by_cases e : wW c a (65 + o) = true
  · rw [if_pos e, if_pos e, gl_bs, if_neg (by first | decide | exact bT | exact n1n)]
    have : o = 0 ∨ o = 1 := by omega
    rcases this with rfl | rfl
    · rw [if_pos (by first | decide | exact bF | exact bT | exact n1n)]
      show (if zis G (xaS c α a) (some c.p) 41 = true then _ else _) = _
      rw [if_pos (of_eq_true (kis kx (by decide)))]
      rfl
    · rw [if_neg (by first | decide | exact bT | exact n1n)]
      show (if zis G (xaS c α a) (some c.p) 41 = true then _ else _) = _
      rw [if_pos (of_eq_true (kis kx (by decide)))]
      rfl
  · rw [if_neg e, if_neg e, gl_bs, if_pos (show (nI 0, α).1 = 0 from rfl)]
    rfl
theorem map_oa (h : ∀ t, t ∈ ts → g'.oa t = g.oa t) : ts.map g'.oa = ts.map g.oa := List.map_congr_left h
theorem mAts_16 (h : N ∉ ts) : la (mAts (mMk s N kv v v') N [] ts) 16 N = nI 0 := by
  have key : ∀ {ts l : List Nat} {s : zM}, N ∉ ts → la (mAts s N l ts) 16 N = la s 16 N := by
    intro ts
    induction ts with
    | nil => intro l s _; rfl
    | cons x ts ih =>
      intro l s hn
      rw [List.mem_cons] at hn
      show la (mAts (mAtS s N l x) N (l ++ [x]) ts) 16 N = _
      rw [ih (fun z => hn (.inr z)), (mAtS_at (l := l)).r16, upd_other (fun z => hn (.inl z))]
  rw [key h]
  exact mMk_16
/-- a row ends: M makes its node -/
theorem rowStop (ho : o ≤ 1) (g1 : c.N0 ≤ Ns) (hjn : jn ≤ 40) (hyN : y < Ns) (h : pR c a d b N y g α s) (hS : cSb c N g α s) (hY : pY c Ns gs αs ss N g α s) (hlo : pxL c α q (nI (51 - o)) (nI 0) v (ts.map g.oa)) (hq : ∀ t, c.N0 ≤ t → t < N → g.oa t ≠ q) (hqs : zn αs ≤ q) (hd : ts.Nodup) (hts : ∀ t, t ∈ ts → Ns ≤ t ∧ t < N ∧ la s 16 t = nI 0 ∧ g.r t + 1 < 2 * (a - as)) (hv : la s 11 (ts.headD 0) = v) (hch : pCh (la s 15) ts) (hhd : la s (59 + 3 * o) jn = nI (ts.headD 0)) (hln : la s (61 + 3 * o) jn = nI ts.length) (has : as < a) (i1 : 2 ≤ ts.length) (i3 : b + 1 + 10 * as ≤ bs + 10 * a) (i4 : pB c b a 20) (h57 : ls s 57 = nI (jn + 1)) (hO : qO (o + 1) m jn ss s) (hFs : Fs + as ≤ F + a) (hF1 : xLim + as ≤ F1 + a) (ew : wW c a (65 + o) = false) : ∃ t s' b' N' g', q = g'.oa t ∧ mBk F1 F (gKK o jn s) = mBk F1 F (gP (o + 1) jn (nI t) s') ∧ qO (o + 1) m jn ss s' ∧ pQ c as d bs Ns y gs αs ss a b' N' t g' α s' := by
  have N1 := h.k.N1
  have N0 := h.N0
  have hN := h.N8 i4
  have xn := hY.x.n
  have hlen : ts.length ≤ N := nodup_len hd fun x hx => (hts x hx).2.1
  have W := M_whole (kv := nI (51 - o)) (v := la s (60 + 3 * o) jn) h.Nm (by omega) i1 (by omega) hd (fun t ht => by have := hts t ht; omega) hch
  have E := M_end ho (by omega) h h57 ew
  rw [hhd, hln, W, gl_bs] at E
  have k53 : nI (51 - o) ≠ nI 53 := by rw [ne_eq, pI_inj (by omega) (by decide)]; omega
  subst hv
  have h' := h.bup (b' := b + 1) (by omega)
  have Nb := h.Nb
  obtain ⟨y1, y2, y3⟩ := h'.manyY (y := y) (r := 2 * (a - as) - 1) (by omega) (by omega) k53 hlo hq hd (fun t ht => by
    have := hts t ht
    exact ⟨by omega, this.2.1, by omega, this.2.2.1, by omega⟩)
  have eo : (gAdds (g.push N q (2 * (a - as) - 1)) N ts).oa N = q := by rw [gAdds_oa, push_oa, if_pos rfl]
  have er : (gAdds (g.push N q (2 * (a - as) - 1)) N ts).r N = 2 * (a - as) - 1 := by rw [gAdds_r, push_r, if_pos rfl]
  have ot : mOt s (mAts (mMk s N (nI (51 - o)) (nI 0) (la s 11 (ts.headD 0))) N [] ts) := mOt.mk0.tr mAts_ot
  have nin : N ∉ ts := fun z => by have := hts N z; omega
  refine ⟨N, _, b + 1, N + 1, _, eo.symm, by rw [E], hO.tr ot.qo, pQ.mk y1 (hY.many (fun t ht => (hts t ht).1) hqs) (hS.go (Nat.le_succ N) (fun t ht => by rw [gAdds_oa, push_oa, if_neg (by omega)]) xOt.rf (ot.1 55 (by decide)) (ot.1 56 (by decide))) xn (Nat.lt_succ_self N) ?_ (by rw [er]; omega) has i3⟩
  exact mAts_16 nin
/-- a row: X's loop against M's links -/
theorem rowLoop (ho : o ≤ 1) (hc : cG c G o f) (g1 : c.N0 ≤ Ns) (hf : 3 * (40 - d) + 1 + o ≤ f) (hmd : m ≤ d) (hjm : jn ≤ m) (hyN : y < Ns) (mm : Nat) : ∀ {a b N : Nat} {g : pG} {α : zS} {s : zM} {F1 F Fx : Nat} {ts : List Nat}, c.n - a ≤ mm → mm < Fx → pR c a d b N y g α s → cSb c N g α s → pY c Ns gs αs ss N g α s → pxL c α q (nI (51 - o)) (nI 0) v (ts.map g.oa) → (∀ t, c.N0 ≤ t → t < N → g.oa t ≠ q) → zn αs ≤ q → ts ≠ [] → ts.Nodup → (∀ t, t ∈ ts → Ns ≤ t ∧ t < N ∧ la s 16 t = nI 0 ∧ g.r t < 2 * (a - as)) → la s 11 (ts.headD 0) = v → pCh (la s 15) ts → la s (59 + 3 * o) jn = nI (ts.headD 0) → la s (60 + 3 * o) jn = nI (ts.getLastD 0) → la s (61 + 3 * o) jn = nI ts.length → (o = 1 → la s 61 jn = nI 0) → as < a → ((wW c a (65 + o) = true ∧ b + 10 * as ≤ bs + 10 * a + 3 ∧ pB c b a 11) ∨ (2 ≤ ts.length ∧ (∀ t, t ∈ ts → g.r t + 1 < 2 * (a - as)) ∧ b + 1 + 10 * as ≤ bs + 10 * a ∧ pB c b a 20)) → ls s 54 = nI m → ls s 57 = nI (jn + 1) → (m = 0 ∨ la s 58 (m - 1) = (- 1 : Int32)) → qO (o + 1) m jn ss s → c.n - a + 5 ≤ F → Fs + as ≤ F + a → xLim + as ≤ F1 + a → qG c as d bs Ns y gs αs ss Fs (zloop (fun (a : ((Option Nat) × Int32 × Int32 × (Option Nat))) σ => hX4_row_75b G (rrX4_factor G f).1 (rrX4_factor G f).2 a.1 a.2.1 a.2.2.1 a.2.2.2 σ) Fx (some c.p, nI o, nI (65 + o), some q) α) (mBk F1 F (gKK o jn s)) (fun F1' F' _ t s' => mBk F1 F (gKK o jn s) = mBk F1' F' (gP (o + 1) jn (nI t) s') ∧ qO (o + 1) m jn ss s') := by
  induction mm with
  | zero =>
    intro a b N g α s F1 F Fx ts hn hFx h hS hY hlo hq hqs hne hd hts hv hch hhd hlt hln h61 has hI h54 h57 htop hO hF hFs hF1
    obtain ⟨fx, rfl⟩ : ∃ x, Fx = x + 1 := ⟨Fx - 1, by omega⟩
    have ew : wW c a (65 + o) = false := by
      rw [← Bool.not_eq_true]
      exact fun z => by have := (wW_i z).1; omega
    have nl := h.nl
    rcases hI with ⟨i1, _⟩ | ⟨i1, i2, i3, i4⟩
    · rw [ew] at i1; exact absurd i1 (by decide)
    obtain ⟨t, s', b', N', g', z1, z2, z3, z4⟩ := rowStop (bs := bs) (Fs := Fs) ho g1 (by omega) hyN h hS hY hlo hq hqs hd (fun t ht => by
      have := hts t ht
      exact ⟨this.1, this.2.1, this.2.2.1, i2 t ht⟩) hv hch hhd hln has i1 i3 i4 h57 hO hFs hF1 ew
    refine .inl ⟨α, t, F1, F, s', a, b', N', g', ?_, ⟨z2, z3⟩, z4, hFs, hF1⟩
    rw [← z1]
    refine zloop_in ?_
    show hX4_row_75b G (rrX4_factor G f).1 (rrX4_factor G f).2 (some c.p) (nI o) (nI (65 + o)) (some q) α = _
    rw [X_75b ho h, if_neg (by rw [ew]; decide)]
    rfl
  | succ mm ih =>
    intro a b N g α s F1 F Fx ts hn hFx h hS hY hlo hq hqs hne hd hts hv hch hhd hlt hln h61 has hI h54 h57 htop hO hF hFs hF1
    obtain ⟨fx, rfl⟩ : ∃ x, Fx = x + 1 := ⟨Fx - 1, by omega⟩
    have nl := h.nl
    have hp := h.k.p
    rcases ew : wW c a (65 + o) with _ | _
    · rcases hI with ⟨i1, _⟩ | ⟨i1, i2, i3, i4⟩
      · rw [ew] at i1; exact absurd i1 (by decide)
      obtain ⟨t, s', b', N', g', z1, z2, z3, z4⟩ := rowStop (bs := bs) (Fs := Fs) ho g1 (by omega) hyN h hS hY hlo hq hqs hd (fun t ht => by
        have := hts t ht
        exact ⟨this.1, this.2.1, this.2.2.1, i2 t ht⟩) hv hch hhd hln has i1 i3 i4 h57 hO hFs hF1 ew
      refine .inl ⟨α, t, F1, F, s', a, b', N', g', ?_, ⟨z2, z3⟩, z4, hFs, hF1⟩
      rw [← z1]
      refine zloop_in ?_
      show hX4_row_75b G (rrX4_factor G f).1 (rrX4_factor G f).2 (some c.p) (nI o) (nI (65 + o)) (some q) α = _
      rw [X_75b ho h, if_neg (by rw [ew]; decide)]
      rfl
    · have ha := (wW_i ew).1
      have M0 := M_more (F1 := F1) (F := F) (jn := jn) ho h ew
      have h1 := h.adv ha
      have hb1 : pB c b (a + 1) 21 := by
        rcases hI with ⟨_, _, i⟩ | ⟨_, _, _, i⟩
        · unfold pB at *; omega
        · unfold pB at *; omega
      have hbb : b + 10 * as + 7 ≤ bs + 10 * (a + 1) := by
        rcases hI with ⟨_, i, _⟩ | ⟨_, _, i, _⟩
        · omega
        · omega
      have Y1 := hY.adv (a := a)
      have S1 : cSb c N g (xaS c α a) (maS s a) := hS.go (Nat.le_refl _) (fun _ _ => rfl) xOt.xa rfl rfl
      have lo1 := hlo.fr (β := xaS c α a) (fun x _ hx => zwI_ne hx) (Nat.le_refl _) hp h.kp
      have X1 : ∀ R, xFo c G o f (xaS c α a) = R → hX4_row_75b G (rrX4_factor G f).1 (rrX4_factor G f).2 (some c.p) (nI o) (nI (65 + o)) (some q) α = zcase R (fun p3 => if zis G p3.2 (some q) 45 = true then (hX43_add G (some q) p3.1 p3.2).bind fun p1 => some (.inl (some c.p, nI o, nI (65 + o), some q), p1.2) else none) (fun p4 => if zthr p4.2 p4.1 3 = true then some (.inr (.inr p4.1), p4.2) else none) := fun R hR => by
        rw [X_75b ho h, if_pos ew, hR]
      rcases hc (a + 1) d b N y g (xaS c α a) (maS s a) m jn F h1 (hb1.le (by omega)) S1 h54 h57 hmd hjm htop (fun z => h61 (by omega)) (fun z => by omega) (by omega) hf with ⟨β, t2, F1', F2, s2, a', b', N', g', y1, ⟨y2, y3⟩, y5, y6, y7⟩ | ⟨e, β, u, s2, wh, w, y1, y2, y3, y4, y5⟩
      · have hR := y5.R
        have YY := Y1.tr y5.Y
        have a1' := y5.a1
        have b1 := y5.b1
        have r1 := y5.t4
        have tN := y5.t1
        have t2N := y5.t2
        have t20 := y5.t3
        have nn := y5.Y.nn
        have xn := y5.Y.x.n
        have xs := hY.x.n
        have hbR : pB c b' a' 21 := hb1.go (by omega)
        have hN' := hR.N8 hbR
        have oat : ∀ t, t ∈ ts → g'.oa t = g.oa t := fun t ht => y5.Y.x.oa t (hts t ht).2.1
        have lo2 := lo1.fr (β := β) y5.Y.fx nn hp h1.kp
        rw [← map_oa oat] at lo2
        have up : ∀ t, t ∈ ts → la s2 16 t = nI 0 := fun t ht => (y5.Y.x.up t (hts t ht).2.1).trans (hts t ht).2.2.1
        have fm : ∀ j t, 9 ≤ j → j ≤ 16 → t ∈ ts → la s2 j t = la s j t := fun j t h1 h2 ht => y5.Y.fm j t h1 h2 (hts t ht).2.1
        have hhm : ts.headD 0 ∈ ts := by
          cases ts with
          | nil => exact absurd rfl hne
          | cons x l => exact List.mem_cons_self
        have hlm := last_mem hne
        have nin : t2 ∉ ts := fun z => by have := hts _ z; omega
        have hlen : ts.length ≤ N := nodup_len hd fun x hx => (hts x hx).2.1
        have q2 : qO (o + 1) m jn ss s2 := hO.tr (y3.le (by omega))
        have l57 : ls s2 57 = nI (jn + 1) := y3.2.1.trans h57
        have l54 : ls s2 54 = nI m := y3.1.trans h54
        obtain ⟨s3, m1, m2⟩ := M_link (s := s2) (t := t2) (l := ts) ho (by omega) l57 (by omega) (fun _ => by have := hts _ hlm; omega) (by omega) (fun _ => (y3.2.2.2.2 (60 + 3 * o) (by omega) (by omega)).trans hlt) ((y3.2.2.2.2 (61 + 3 * o) (by omega) (by omega)).trans hln)
        have hR3 := hR.link (by omega) m2 (by have := h.N0; omega) t2N t20 (fun u hu => ⟨by have := hts u hu; omega, by have := hts u hu; omega, up u hu⟩)
        have up3 : ∀ t, la s3 16 t = la s2 16 t := fun t => by rw [m2.nla 16 (by decide) (by decide)]
        have noq : ∀ t, c.N0 ≤ t → t < N' → g'.oa t ≠ q := fun x z1 z2 => by
          by_cases z : x < N
          · rw [y5.Y.x.oa x z]; exact hq x z1 z
          · intro e
            have w1 := y5.Y.nw x (by omega) z2
            have w2 := lo1.hi
            have w3 : zn (xaS c α a) = zn α := rfl
            omega
        have nin' : g'.oa t2 ∉ ts.map g'.oa := fun z => by
          rw [List.mem_map] at z
          obtain ⟨x, x1, x2⟩ := z
          have hx := hts x x1
          exact nin (hR.g.inj x t2 (by omega) (by omega) (by have := h.N0; omega) t2N x2 ▸ x1)
        obtain ⟨γ, z1, z2, z3, z4, z5⟩ := hR3.ladd (G := G) lo2 (by rw [List.length_map]; omega) (by have := h.N0; omega) t2N (by omega) (by rw [up3]; exact t20) noq nin'
        have el : ts.map g'.oa ++ [g'.oa t2] = (ts ++ [t2]).map g'.oa := by rw [List.map_append]; rfl
        rw [el] at z3
        have w1 := lo1.lo
        have t5 := YY.nw t2 (by omega) t2N
        have Y3 : pY c Ns gs αs ss N' g' γ s3 := ((YY.link m2 (by omega) (fun u hu => (hts u hu).1)).xs (fun x x1 x2 => z5 x (by omega) (by omega)) z4)
        have S3 : cSb c N' g' γ s3 := (y5.S.ln m2).go (Nat.le_refl _) (fun _ _ => rfl) (xOt.eq (z5 _ (by omega) (fun z => by have := hR.old (t := t2) (by have := h.N0; omega) t2N; omega))) rfl rfl
        have hg : ∀ t, t ∈ ts ++ [t2] → Ns ≤ t ∧ t < N' ∧ la s3 16 t = nI 0 ∧ g'.r t + 1 < 2 * (a' - as) := fun t ht => by
          rw [List.mem_append, List.mem_singleton] at ht
          rcases ht with ht | rfl
          · have hx := hts t ht
            have := y5.Y.x.r t hx.2.1
            exact ⟨hx.1, by omega, by rw [up3]; exact up t ht, by omega⟩
          · exact ⟨by omega, t2N, by rw [up3]; exact t20, by omega⟩
        have R := ih (g := g') (α := γ) (s := s3) (F1 := F1') (F := F2) (Fx := fx) (ts := ts ++ [t2]) (by omega) (by omega) z2 S3 Y3 z3 noq hqs (by simp) (List.nodup_append.mpr ⟨hd, by simp, fun x hx z hz => by
            rw [List.mem_singleton] at hz
            exact fun e => nin (by rw [← hz, ← e]; exact hx)⟩) (fun t ht => by
            have := hg t ht
            exact ⟨this.1, this.2.1, this.2.2.1, by omega⟩) (by
            rw [head_add hne, m2.nla 11 (by decide) (by decide), fm 11 _ (by decide) (by decide) hhm]; exact hv) (pCh_link (pCh_fr hch (fun u hu => fm 15 u (by decide) (by decide) hu)) hd nin m2.r15) (by
            rw [m2.hd, if_neg hne, head_add hne]
            exact (y3.2.2.2.2 (59 + 3 * o) (by omega) (by omega)).trans hhd) (by rw [m2.lt, last_add]) (by rw [m2.ln, List.length_append]; rfl) m2.z (by omega) (.inr ⟨by
            have : ts.length ≠ 0 := fun z => hne (List.length_eq_zero_iff.mp z)
            rw [List.length_append]
            show 2 ≤ ts.length + 1
            omega, fun t ht => (hg t ht).2.2.2, by omega, by unfold pB at *; omega⟩) (by rw [m2.nls]; exact l54) (by rw [m2.nls]; exact l57) (by
            rcases htop with z | z
            · exact .inl z
            · by_cases m0 : m = 0
              · exact .inl m0
              · refine .inr ?_
                rw [m2.nla 58 (by decide) (by decide), y3.2.2.1 (m - 1) (by omega)]; exact z) (q2.tr (m2.qo ho)) (by have := hR.al; omega) (by omega) (by omega)
        rw [M0, y2, m1, zloop_step (a' := (some c.p, nI o, nI (65 + o), some q)) (α' := γ)]
        · exact R
        · show hX4_row_75b G _ _ (some c.p) (nI o) (nI (65 + o)) (some q) α = _
          rw [X1 _ y1, zc_l, if_pos (of_eq_true (kis lo2.kn (by decide)))]
          show ((hX43_add G (some q) (some (g'.oa t2)) β).bind _) = _
          rw [z1, gl_bs]
      · refine .inr ⟨e, β, u, s2, wh, w, ?_, y2, by rw [M0]; exact y3, y4, Y1.x.pl.tr y5⟩
        refine zloop_inr ?_
        show hX4_row_75b G _ _ (some c.p) (nI o) (nI (65 + o)) (some q) α = _
        rw [X1 _ y1, zc_r, if_pos y2]
end PAT
