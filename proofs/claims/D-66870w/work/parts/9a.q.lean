/-! THE PURE LAYER: the parser: a relation that begins with an operand, on both sides. -/
section PAQ
variable {c : pC} {G : xQ} {α β γ αs : zS} {s s' s2 ss : zM} {a a1 a' d b b' N N' N2 Ns k t t2 u w wh q r F F1 F' f y to m n jn o : Nat} {g g' g2 gs : pG} {v v' kv : Int32} {l ts : List Nat}
/-- M makes the node that X has made, with all that lies below it -/
theorem pR.manyY (h : pR c a d b N y g α s) (hb : N + 1 ≤ b) (hN : N < 8000) (hk : kv ≠ nI 53) (hl : pxL c α q kv v v' (ts.map g.oa)) (hq : ∀ t, c.N0 ≤ t → t < N → g.oa t ≠ q) (hd : ts.Nodup) (hts : ∀ t, t ∈ ts → c.N0 ≤ t ∧ t < N ∧ g.r t < r ∧ la s 16 t = nI 0 ∧ t ≠ y) : pR c a d b (N + 1) y (gAdds (g.push N q r) N ts) α (mAts (mMk s N kv v v') N [] ts) ∧ pX N g s (N + 1) (gAdds (g.push N q r) N ts) (mMk s N kv v v') ∧ (∀ t, t < N → (gAdds (g.push N q r) N ts).ch t = g.ch t) := by
  have N0 := h.N0
  have yN := h.yN
  have N1 := h.k.N1
  have la0 := fun j (h1 : 9 ≤ j) (h2 : j ≤ 16) i => mMk_la (s := s) (N := N) (kv := kv) (v := v) (v' := v') h1 h2 i
  have kl := hl.kl
  have lo := hl.lo
  have hi := hl.hi
  have g0 : pgO c (N + 1) (g.push N q r) (zvL α (q + 1) []) (mMk s N kv v v') y := by
    have nq : ∀ t, c.N0 ≤ t → t < N → g.oa t ≠ q + 1 := fun t h1 h2 z => by
      have := (h.g.nd t h1 h2).kn
      rw [z, kl] at this
      omega
    have e1 : (zvL α (q + 1) []).2 q = α.2 q := zvL_ne (by omega)
    -- as long as q isn't a node, its list doesn't matter
    have gg : pgO c N g (zvL α (q + 1) []) s y := h.g.fr (fun _ _ _ _ _ _ => rfl) (fun t h1 h2 => ⟨zvL_ne (nq t h1 h2), zvL_ne (fun z => hq t h1 h2 (by omega))⟩) (Nat.le_refl _)
    refine pgO.mk (fun t h3 h4 => ?_) (fun t u h3 h4 h5 h6 e => ?_)
    · by_cases e : t = N
      · subst e
        have eo : (g.push t q r).oa t = q := by rw [push_oa, if_pos rfl]
        have ec : (g.push t q r).ch t = [] := by rw [push_ch, if_pos rfl]
        refine nOk.mk ?_ ?_ ?_ ?_ ?_ ?_ ?_ ?_ ?_ ?_ ?_ ?_ ?_ ?_ ?_
        · rw [eo]; exact lo
        · rw [eo]; exact hi
        · rw [eo, zkd_eq e1]; exact hl.kn
        · rw [eo, zA_eq e1]; exact hl.fl
        · rw [eo]; unfold zvL; rw [zkd_zsL]; exact kl
        · rw [eo, zI_eq e1, hl.kd, la0 9 (by decide) (by decide), if_pos rfl, if_pos rfl]
        · rw [eo]
          refine .inl ?_
          rw [zI_eq e1, hl.vl, la0 10 (by decide) (by decide), if_pos rfl]; rfl
        · rw [eo, zI_eq e1, hl.wd, la0 11 (by decide) (by decide), if_pos rfl]; rfl
        · rw [eo, zI_eq e1, hl.fg, la0 9 (by decide) (by decide), if_pos rfl, if_pos rfl, la0 12 (by decide) (by decide), if_pos rfl]
          exact .inr ⟨hk, rfl⟩
        · rw [eo, ec]; unfold zvL; rw [zL_zsL, if_pos rfl]; rfl
        · rw [ec]; exact List.nodup_nil
        · rw [ec]; intro u hu; simp at hu
        · rw [ec, la0 13 (by decide) (by decide), if_pos rfl]; rfl
        · rw [ec, la0 14 (by decide) (by decide), if_pos rfl]; rfl
        · rw [ec]; trivial
      · have g1 := gg.fr (s' := mMk s N kv v v') (β := zvL α (q + 1) []) (fun k t k1 k2 _ h4 => by rw [la0 k k1 k2, if_neg (by omega)]) (fun _ _ _ => ⟨rfl, rfl⟩) (Nat.le_refl _)
        have o := g1.nd t h3 (by omega)
        have eo : (g.push N q r).oa t = g.oa t := by rw [push_oa, if_neg e]
        have ec : (g.push N q r).ch t = g.ch t := by rw [push_ch, if_neg e]
        refine nOk.mk ?_ ?_ ?_ ?_ ?_ ?_ ?_ ?_ ?_ ?_ ?_ ?_ ?_ ?_ ?_
        · rw [eo]; exact o.lo
        · rw [eo]; exact o.hi
        · rw [eo]; exact o.kn
        · rw [eo]; exact o.fl
        · rw [eo]; exact o.kl
        · rw [eo]; exact o.kd
        · rw [eo]; exact o.vl
        · rw [eo]; exact o.wd
        · rw [eo]
          rcases o.ex with ⟨z1, u, z2, z3, z4, z5⟩ | z
          · exact .inl ⟨z1, u, z2, by omega, z4, by rw [push_oa, if_neg (by omega)]; exact z5⟩
          · exact .inr z
        · rw [eo, ec, o.ls]
          refine List.map_congr_left fun u hu => ?_
          have := (o.mem u (List.mem_filter.mp hu).1).2.1
          rw [push_oa, if_neg (by omega)]
        · rw [ec]; exact o.nd
        · rw [ec]
          intro u hu
          obtain ⟨u1, u2, u3, u4, u5⟩ := o.mem u hu
          refine ⟨u1, by omega, u3, fun z => ?_, ?_⟩
          · rw [eo, push_oa, if_neg (by omega)]; exact u4 z
          · rw [push_r, push_r, if_neg (by omega), if_neg e]; exact u5
        · rw [ec]; exact o.hd
        · rw [ec]; exact o.lt
        · rw [ec]; exact o.nx
    · rw [push_oa, push_oa] at e
      by_cases e1 : t = N
      · by_cases e2 : u = N
        · omega
        · rw [if_pos e1, if_neg e2] at e
          exact absurd e.symm (hq u h5 (by omega))
      · by_cases e2 : u = N
        · rw [if_neg e1, if_pos e2] at e
          exact absurd e (hq t h3 (by omega))
        · rw [if_neg e1, if_neg e2] at e
          exact h.g.inj t u h3 (by omega) h5 (by omega) e
  have oa : ∀ t, t ∈ ts → (g.push N q r).oa t = g.oa t := fun t ht => by
    have := (hts t ht).2.1
    rw [push_oa, if_neg (by omega)]
  have g1 := pgO.adds (β := α) (q := q) (to := N) (ts := ts) (l := []) (g := g.push N q r) (s := mMk s N kv v v') g0 N1 (by omega) N0 (Nat.lt_succ_self N) (by rw [push_oa, if_pos rfl]) (by rw [push_ch, if_pos rfl]) hd (fun t ht => by
    obtain ⟨t1, t2, t3, t4, t5⟩ := hts t ht
    refine ⟨t1, by omega, ?_, ?_, t5, ?_⟩
    · rw [push_r, push_r, if_pos rfl, if_neg (by omega)]; exact t3
    · rw [la0 16 (by decide) (by decide), if_neg (by omega)]; exact t4
    · rw [oa t ht]; exact (hl.up _ (List.mem_map_of_mem ht)).2.2)
  have el : ([] ++ ts).map (fun u => some ((g.push N q r).oa u)) = zL α (q + 1) := by
    rw [List.nil_append, hl.ls, List.map_map]
    exact List.map_congr_left fun u hu => by
      show some ((g.push N q r).oa u) = some (g.oa u)
      rw [oa u hu]
  rw [el, zvL_self] at g1
  have nts : ∀ i, i < c.N0 → i ∉ ts := fun i hi hm => by
    have := (hts i hm).1
    omega
  have m0 := h.m.mk0 (kv := kv) (v := v) (v' := v') N0
  refine ⟨pR.mk h.k h.x (mKp.mk (fun k hk => ?_) (fun k i k1 k2 hi => ?_) (fun k hk => ?_)) h.ax h.nx ?_ ?_ ?_ ?_ h.al h.a0 h.nl (by omega) hb h.zcb h.zwb (by omega) g1, pX.mk (Nat.le_succ _) (fun t ht => ?_) (fun t ht => ?_) (fun t ht => ?_) (fun t ht => ?_) mMk_pl (fun t ht _ => by rw [la0 10 (by decide) (by decide), if_neg (by omega)]), fun t ht => ?_⟩
  · rw [mAts_ls]; exact m0.I k hk
  · rw [mAts_old (by omega) (nts i hi) (by simp)]; exact m0.A k i k1 k2 hi
  · rw [mAts_la (by omega)]; exact m0.B k hk
  · rw [mAts_ls]; exact h.am
  · intro z; rw [mAts_ls]; exact h.nm z
  · rw [mAts_ls]; exact h.bm
  · rw [mAts_ls]; rfl
  · rw [gAdds_oa, push_oa, if_neg (by omega)]
  · rw [gAdds_r, push_r, if_neg (by omega)]
  · rw [la0 9 (by decide) (by decide), if_neg (by omega)]
  · rw [la0 16 (by decide) (by decide), if_neg (by omega)]
  · rw [gAdds_ch (by omega), push_ch, if_neg (by omega)]
/-- an operand, with frames -/
theorem pR.opY (h : pR c a d b N y g α s) (hb : pB c b a 0) : (wO c a = true ∧ ∃ β, hX4_operand G (some c.p) (nI 1) α = some (.inl (some (zn α)), β) ∧ gX26_operand s = some (nI N, mOp c s N a) ∧ pR c (a + 1) d (b + 2) (N + 1) y (g.push N (zn α) 0) β (mOp c s N a) ∧ pY c N g α s (N + 1) (g.push N (zn α) 0) β (mOp c s N a) ∧ xOt c α β ∧ (∀ x, x < zn α → x ≠ c.p → β.2 x = α.2 x) ∧ zn α < zn β) ∨ pFl c s (hX4_operand G (some c.p) (nI 1) α) (gX26_operand s) := by
  rcases h.operand (G := G) hb with ⟨v, β, u, s', x1, x2, x3, _⟩ | F
  · refine .inl ⟨x3, ?_⟩
    obtain ⟨β, y1, y2, y3, y4⟩ := h.op1 (G := G) (nm := true) x3 (.inl rfl)
    have y1' : hX4_operand G (some c.p) (nI 1) α = some (.inl (some (zn α)), β) := y1
    have hN := h.N8 hb
    have e2 : (g.push N (zn α) 0).oa N = zn α := by rw [push_oa, if_pos rfl]
    have zb : zn α + 2 < zn β := by
      have := (y2.g.nd N h.N0 (Nat.lt_succ_self N)).hi
      rw [e2] at this; exact this
    refine ⟨β, y1', M_op h x3 (by omega), y2, ?_, xOt.xa.tr (xOt.eq y4), y3, by omega⟩
    exact (pY.rf.m (s2 := maS s a) (fun _ _ _ => rfl) maS_pl).new (fun x z1 z2 => y3 x z1 z2) (by omega) (Nat.le_refl _) (fun j i z1 z2 z3 => by unfold mOp; rw [mMk_la z1 z2, if_neg (by omega)]) mMk_pl
  · exact .inr F
/-- X's store has grown, M's object is as it was -/
theorem pR.grow (h : pR c a d b N y g α s) {y' : Nat} (h' : pR c a d b' N' y' g' β s') (hb : b ≤ b') (hx : ∀ x, x < zn α → x ≠ c.p → β.2 x = α.2 x) (hn : zn α ≤ zn β) : pR c a d b' N y g β s := by
  have Nb := h.Nb
  have hp := h.k.p
  refine pR.mk h.k h'.x h.m h'.ax h'.nx h.am h.nm h.bm h.Nm h.al h.a0 h.nl h.N0 (by omega) h'.zcb h'.zwb h.yN (h.g.fr (fun _ _ _ _ _ _ => rfl) (fun t h1 h2 => ?_) hn)
  have lo := (h.g.nd t h1 h2).lo
  have hi := (h.g.nd t h1 h2).hi
  exact ⟨hx _ (by omega) (by omega), hx _ (by omega) (by omega)⟩
theorem M_passedW (o : pOk c) (hw : mWd c s) (am : ls s 41 = nI (a + 1)) (ha : a < c.n) : gX26_passed s = some (nI (c.vs a), s) := by
  have n5 := o.n
  have rv := hw.rv a ha
  unfold gX26_passed gX26_passed_22
  simp (disch := omega) only [gld, gst, glj, gsj, gpN0, gpN1, gl_x, gl_gi, pI_in', pI_clamp, pI_add, pI_mul, pI_sub, pI_succ, nmod_eq, pI_div, ni_neg, zn_neg, gnar0, gnar1, eq_self, ni_lt, ni_le, ni_eq, ni_zlt, ni_zle, ni_zeq, zn_lt, zn_le, zn_eq, zz_lt, zz_le, zz_eq, ni_zadd, zn_add, ni_zsub, zn_sub, ni_zmul, zn_mul, nZ_add, nZ_sub, nZ_mul, upd_same, upd_other, upd_upd, gl_bi, gl_mi, gl_bs, gl_ms, gl_bn, gl_mn, if_true, if_false, ↓reduceIte, not_true_eq_false, not_false_eq_true, true_and, and_true, false_and, and_false, and_self, or_false, false_or, or_self, or_true, true_or, Nat.not_lt_zero, Nat.reduceAdd, Nat.reduceMul, Nat.add_zero, Nat.zero_add, Nat.mul_zero, Nat.zero_mul, Nat.reduceEqDiff, Nat.reduceLT, Nat.reduceLeDiff, Nat.succ_ne_zero, ua_ua, us_us, tn_le, tn_nle, tn_lt, tn_nlt, tn_eq, tn_ne, tz_le, tz_nle, tz_lt, tz_nlt, tz_eq, tz_ne, ls_us, ls_uj, ls_ua, ls_ub, lj_us, lj_uj, lj_ua, lj_ub, la_us, la_uj, la_ua, la_ub, lb_us, lb_uj, lb_ua, lb_ub, nl0, nl1, nl2, nl3, nl4, nl5, nl6, nl7, nl8, nl9, nl10, nl11, nl12, nl13, nl14, nl15, nl16, nl17, nl18, nl19, nl20, nl21, nl22, nl23, nl24, nl25, nl26, nl27, nl28, nl29, nl30, nl31, nl32, nl33, nl34, nl35, nl36, nl37, nl38, nl39, nl40, nl41, nl42, nl43, nl44, nl45, nl46, nl47, nl48, nl49, nl50, nl51, nl52, nl53, nl54, nl55, nl56, nl57, nl58, nl59, nl60, nl61, nl62, nl63, nl64, nl65, nl66, nl67, nl68, nl69, nl70, nl71, nl72, nl73, nl74, nl75, nl76, nl77, nl78, nl79, nl80, nl82, nl83, nl84, nl85, nl86, nl88, nl90, nl96, nl97, nl99, nl100, nl101, nl104, nl112, nl115, nl120, nl121, nl122, nl126, nl127, nl128, nl160, nl200, nl201, nl202, nl255, nl256, nl300, nl320, nl322, nl400, nl500, nl600, nl640, nl732, nl968, nl999, nl1000, nl1001, nl1040, nl1440, nl1500, nl1501, nl1600, nl2000, nl2240, nl3131, nl4000, nl4095, nl4096, nl4960, nl5000, nl6000, nl6001, nl8000, nl9999, nl10000, nl10200, nl13520, nl14000, nl20000, nl32768, nl40000, nl46000, nl64000, nl65536, nl78000, nl100000, nl128000, nl400000, nl730000, am, rv, Nat.add_sub_cancel]
/-- M's operand becomes a condition's name -/
theorem m54_eq : ua (ua (mOp c s N a) 9 (upd (la (mOp c s N a) 9) N (nI 54))) 10 (upd (la (mOp c s N a) 10) N (nI n)) = mMk (maS s a) N (nI 54) (nI n) (nI a) := by
  refine zM_eq (fun k => rfl) (fun k i => ?_) rfl rfl
  by_cases hk : 9 ≤ k ∧ k ≤ 16
  · rw [mMk_la hk.1 hk.2]
    by_cases e10 : k = 10
    · subst e10
      show upd (upd (la (maS s a) 10) N (nI (100000 * c.ks a + c.vs a))) N (nI n) i = _
      rw [upd_upd]
      unfold upd
      rfl
    · rw [la_ua, if_neg e10]
      by_cases e9 : k = 9
      · subst e9
        show upd (upd (la (maS s a) 9) N (nI 41)) N (nI 54) i = _
        rw [upd_upd]
        unfold upd
        rfl
      · rw [la_ua, if_neg e9]
        unfold mOp
        rw [mMk_la hk.1 hk.2]
        by_cases ei : i = N
        · rw [if_pos ei, if_pos ei, if_neg e9, if_neg e9, if_neg e10, if_neg e10]
        · rw [if_neg ei, if_neg ei]
  · rw [la_ua, if_neg (by omega), la_ua, if_neg (by omega)]
    unfold mOp
    rw [mOt.mk0.2 k hk, mOt.mk0.2 k hk]
/-- M's node of a relation, made ahead of compare, with its first operand -/
def mRB (s : zM) (N : Nat) (w : Int32) (o : Nat) : zM := us (ua (mAtS (mMk s N (nI 53) (nI 0) w) N [] o) 12 (upd (la (mAtS (mMk s N (nI 53) (nI 0) w) N [] o) 12) N (nI o))) 55 (nI o)
theorem mRB_eq (ho : o ≠ N) : ua (mCmp (mRB s N v o) a' n) 10 (upd (la (mRB s N v o) 10) N (nI n)) = mAtS (mM53 (us (mCmp s a' n) 55 (nI o)) N (nI n) v o) N [] o := by
  have r1 : ∀ k, ¬ (13 ≤ k ∧ k ≤ 16) → la (mAtS (mMk s N (nI 53) (nI 0) v) N [] o) k = la (mMk s N (nI 53) (nI 0) v) k := fun k hk => mAtS_la hk
  refine zM_eq (fun k => ?_) (fun k i => ?_) rfl rfl
  · rw [mAtS_ls]
    show (if k = 56 then nI n else if k = 41 then nI a' else if k = 55 then nI o else ls (mAtS (mMk s N (nI 53) (nI 0) v) N [] o) k) = (if k = 8 then nI (N + 1) else if k = 55 then nI o else if k = 56 then nI n else if k = 41 then nI a' else ls s k)
    rw [mAtS_ls]
    show (if k = 56 then nI n else if k = 41 then nI a' else if k = 55 then nI o else if k = 8 then nI (N + 1) else ls s k) = _
    by_cases e1 : k = 8
    · rw [if_neg (by omega), if_neg (by omega), if_neg (by omega), if_pos e1, if_pos e1]
    · rw [if_neg e1, if_neg e1]
      by_cases e2 : k = 55
      · rw [if_neg (by omega), if_neg (by omega), if_pos e2, if_pos e2]
      · rw [if_neg e2, if_neg e2]
  · have B := mAtS_at (s := mM53 (us (mCmp s a' n) 55 (nI o)) N (nI n) v o) (to := N) (l := []) (t := o)
    have A := mAtS_at (s := mMk s N (nI 53) (nI 0) v) (to := N) (l := []) (t := o)
    have e0 : ∀ k, k ≠ 10 → k ≠ 12 → la (ua (mCmp (mRB s N v o) a' n) 10 (upd (la (mRB s N v o) 10) N (nI n))) k = la (mAtS (mMk s N (nI 53) (nI 0) v) N [] o) k := fun k h1 h2 => by
      rw [la_ua, if_neg h1]
      show la (ua (mAtS (mMk s N (nI 53) (nI 0) v) N [] o) 12 _) k = _
      rw [la_ua, if_neg h2]
    by_cases e10 : k = 10
    · subst e10
      rw [la_ua, if_pos rfl, mAtS_la (by decide)]
      show upd (la (mAtS (mMk s N (nI 53) (nI 0) v) N [] o) 10) N (nI n) i = upd (la s 10) N (nI n) i
      rw [r1 10 (by decide)]
      show upd (upd (la s 10) N (nI 0)) N (nI n) i = _
      rw [upd_upd]
    by_cases e12 : k = 12
    · subst e12
      rw [la_ua, if_neg (by first | decide | exact bT | exact n1n), mAtS_la (by decide)]
      show upd (la (mAtS (mMk s N (nI 53) (nI 0) v) N [] o) 12) N (nI o) i = _
      rw [r1 12 (by decide)]
      rfl
    rw [e0 k e10 e12]
    by_cases hk : 13 ≤ k ∧ k ≤ 16
    · have : k = 13 ∨ k = 14 ∨ k = 15 ∨ k = 16 := by omega
      rcases this with rfl | rfl | rfl | rfl
      · rw [A.r13, B.r13]; rfl
      · rw [A.r14, B.r14]; rfl
      · rw [A.r15, B.r15]; rfl
      · rw [A.r16, B.r16]; rfl
    · rw [r1 k hk, mAtS_la hk]
      by_cases hk2 : 9 ≤ k ∧ k ≤ 16
      · have : k = 9 ∨ k = 11 := by omega
        rcases this with rfl | rfl <;> rfl
      · rw [mOt.mk0.2 k hk2, mOt.m53.2 k hk2]
        rfl
theorem mRB_K (h : mKp c s) (hN : c.N0 ≤ N) (ho : c.N0 ≤ o) (ho' : o ≠ N) : mKp c (mRB s N v o) := by
  have h1 := h.mk0 (kv := nI 53) (v := nI 0) (v' := v) hN
  refine mKp.us1 (mKp.mk (fun k hk => ?_) (fun k t k1 k2 ht => ?_) (fun k hk => ?_)) (by decide)
  · show ls (mAtS (mMk s N (nI 53) (nI 0) v) N [] o) k = _
    rw [mAtS_ls]; exact h1.I k hk
  · rw [la_ua]
    have e : ∀ k, la (mAtS (mMk s N (nI 53) (nI 0) v) N [] o) k t = la (mMk s N (nI 53) (nI 0) v) k t := fun k => mAtS_old (by omega) (by omega) (fun z => absurd rfl z)
    split
    · rename_i z
      subst z
      rw [upd_other (by omega), e]; exact h1.A 12 t k1 k2 ht
    · rw [e]; exact h1.A k t k1 k2 ht
  · rw [la_ua, if_neg (by omega), mAtS_la (by omega)]; exact h1.B k hk
theorem mRB_pl : pPl s (mRB s N v o) := by
  refine (mMk_pl (s := s) (N := N) (kv := nI 53) (v := nI 0) (v' := v)).tr ((mAtS_pl (to := N) (l := []) (t := o)).tr ⟨rfl, ?_, ?_, ?_⟩)
  · show la (ua _ 12 _) 46 = _
    rw [la_ua, if_neg (by first | decide | exact bT | exact n1n)]
  · show la (ua _ 12 _) 47 = _
    rw [la_ua, if_neg (by first | decide | exact bT | exact n1n)]
  · show la (ua _ 12 _) 48 = _
    rw [la_ua, if_neg (by first | decide | exact bT | exact n1n)]
/-- M behind an operand and ahead of a comparison -/
theorem M_FO1 (h8 : ls s 8 = nI N) (hN : N < 8000) (ho : o < N) (h11 : la s 11 o = v) : gFO1 (nI o) s = (gX26_compare (nI N) (mRB s N v o)).bind fun p => some (nI N, p.2) := by
  have mk := M_make (s := s) (N := N) (kv := nI 53) (v := nI 0) (v' := v) h8 hN
  have r13 : la (mMk s N (nI 53) (nI 0) v) 13 N = nI (([] : List Nat).headD 0) := by rw [mMk_la (by decide) (by decide), if_pos rfl]; rfl
  have r14 : la (mMk s N (nI 53) (nI 0) v) 14 N = nI (([] : List Nat).getLastD 0) := by rw [mMk_la (by decide) (by decide), if_pos rfl]; rfl
  have at1 := M_att (s := mMk s N (nI 53) (nI 0) v) (to := N) (t := o) (l := []) (.inl rfl) r13 r14 hN (by omega)
  unfold gFO1
  rw [pgld (by omega) (by decide), gl_bs, h11, nl53, nl0, mk, gl_bs]
  show ((gX26_attach (nI N) (nI o) (mMk s N (nI 53) (nI 0) v)).bind _) = _
  rw [at1, gl_bs]
  show ((gst (mAtS (mMk s N (nI 53) (nI 0) v) N [] o) 12 8000 (nI N) (nI o)).bind _) = _
  rw [pgst (by omega) (by decide), gl_bs, gl_x]
  rfl
/-- X's relation behind its operand -/
theorem X_rel1 (h : pR c a d b N y g α s) (hw : wX c a = false) {y' : Nat} (h1 : pR c (a + 1) d b' N' y' g' β s') (x1 : hX4_operand G (some c.p) (nI 1) α = some (.inl (some q), β)) : hX4_relation G (some c.p) α = if wX c (a + 1) = true then zcase (hX4_compare G (some c.p) (zwA β 40 15 c.p (some q))) (fun p19 => hX4_relation_65 G (some c.p) (nI a) (some q) p19.2) (fun p20 => if zthr p20.2 p20.1 3 = true then some (.inr p20.1, p20.2) else none) else zcase (hX4_alone G (some c.p) (some q) β) (fun p21 => some (.inl (p21.1), p21.2)) (fun p22 => if zthr p22.2 p22.1 3 = true then some (.inr p22.1, p22.2) else none) := by
  have kp := h.kp
  have ax := h.ax
  have a5 := h.a5
  have a51 := h1.a5
  have kp1 := h1.kp
  have xX := X_isX (G := G) h.k h.xw ax (by omega)
  have xX1 := X_isX (G := G) h1.k h1.xw h1.ax (by omega)
  have kp2 : zkd (zwA β 40 15 c.p (some q)) c.p = 41 := by rw [zkd_zwA]; exact kp1
  unfold hX4_relation
  rw [kfI kp, gl_bs, ax, if_pos (of_eq_true (kis kp (by decide))), xX, gl_bs, hw, if_pos (by exact bF)]
  show (if zis G α (some c.p) 41 = true then _ else _) = _
  rw [if_pos (of_eq_true (kis kp (by decide))), nl1, x1, zc_l]
  show (if zis G β (some c.p) 41 = true then _ else _) = _
  rw [if_pos (of_eq_true (kis kp1 (by decide))), xX1, gl_bs]
  rcases e : wX c (a + 1) with _ | _
  · rw [if_neg (fun z => z rfl)]
    show (if zis G β (some c.p) 41 = true then _ else _) = _
    rw [if_pos (of_eq_true (kis kp1 (by decide))), if_neg (by decide)]
  · rw [if_pos (by exact bT)]
    show ((zpA β (some c.p) 40 15 (some q)).bind _) = _
    rw [kpA kp1, gl_bs, if_pos (of_eq_true (kis kp2 (by decide))), if_pos rfl]
end PAQ
