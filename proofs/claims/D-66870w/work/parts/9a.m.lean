/-! THE PURE LAYER: the parser: relations in conditions. -/
/-- where a comparison ends (from word a on), and its number; else where it fails -/
def wCm (c : pC) (a : Nat) : (Nat × Nat) ⊕ Nat :=
  let a1 := if wW c a 67 = true then a + 1 else a
  let a2 := if wW c a1 64 = true then a1 + 1 else a1
  let nt := if wW c a1 64 = true then 3 else 0
  if wR c a2 = true then
    if c.ks a2 = 5 then .inl (a2 + 1, nt + (c.vs a2 - 2))
    else .inl (if wW c (a2 + 1) (if c.vs a2 = 68 then 48 else 71) = true then a2 + 2 else a2 + 1, nt + (if c.vs a2 = 68 then 0 else if c.vs a2 = 69 then 2 else 1))
  else .inr a2
/-- the subject of relations -/
def cSb (c : pC) (N : Nat) (g : pG) (α : zS) (s : zM) : Prop := (ls s 55 = nI 0 ∧ zA α 40 15 c.p = none) ∨ ∃ u, c.N0 ≤ u ∧ u < N ∧ ls s 55 = nI u ∧ zA α 40 15 c.p = some (g.oa u) ∧ zI α 40 16 c.p = ls s 56
section PAM
variable {c : pC} {G : xQ} {α β γ αs : zS} {s s' s2 ss : zM} {a a1 a' d b b' N N' N2 k t t2 u w wh q r F F1 F' f y to m : Nat} {g g' g2 gs : pG} {v v' kv : Int32} {l ts : List Nat}
theorem zM_eq (h1 : ∀ k, ls s k = ls s' k) (h2 : ∀ k i, la s k i = la s' k i) (h3 : s.2.1 = s'.2.1) (h4 : s.2.2.2 = s'.2.2.2) : s = s' := Prod.ext (funext h1) (Prod.ext h3 (Prod.ext (funext fun k => funext fun i => h2 k i) h4))
/-- M's reading of words alone -/
theorem M_meetsW (o : pOk c) (hw : mWd c s) (am : ls s 41 = nI a) (bm : ls s 43 = nI 0) (ha : a ≤ 505) (hk : k < 1000) : gX26_meets (nI k) s = if wW c a k = true then some (nI 1, us s 41 (nI (a + 1))) else some (nI 0, s) := by
  unfold gX26_meets gX26_meets_19
  rcases e : wW c a k with _ | _ <;> simp (disch := omega) only [gld, gst, glj, gsj, gpN0, gpN1, gl_x, gl_gi, pI_in', pI_clamp, pI_add, pI_mul, pI_sub, pI_succ, nmod_eq, pI_div, ni_neg, zn_neg, gnar0, gnar1, eq_self, ni_lt, ni_le, ni_eq, ni_zlt, ni_zle, ni_zeq, zn_lt, zn_le, zn_eq, zz_lt, zz_le, zz_eq, ni_zadd, zn_add, ni_zsub, zn_sub, ni_zmul, zn_mul, nZ_add, nZ_sub, nZ_mul, upd_same, upd_other, upd_upd, gl_bi, gl_mi, gl_bs, gl_ms, gl_bn, gl_mn, if_true, if_false, ↓reduceIte, not_true_eq_false, not_false_eq_true, true_and, and_true, false_and, and_false, and_self, or_false, false_or, or_self, or_true, true_or, Nat.not_lt_zero, Nat.reduceAdd, Nat.reduceMul, Nat.add_zero, Nat.zero_add, Nat.mul_zero, Nat.zero_mul, Nat.reduceEqDiff, Nat.reduceLT, Nat.reduceLeDiff, Nat.succ_ne_zero, ua_ua, us_us, tn_le, tn_nle, tn_lt, tn_nlt, tn_eq, tn_ne, tz_le, tz_nle, tz_lt, tz_nlt, tz_eq, tz_ne, ls_us, ls_uj, ls_ua, ls_ub, lj_us, lj_uj, lj_ua, lj_ub, la_us, la_uj, la_ua, la_ub, lb_us, lb_uj, lb_ua, lb_ub, nl0, nl1, nl2, nl3, nl4, nl5, nl6, nl7, nl8, nl9, nl10, nl11, nl12, nl13, nl14, nl15, nl16, nl17, nl18, nl19, nl20, nl21, nl22, nl23, nl24, nl25, nl26, nl27, nl28, nl29, nl30, nl31, nl32, nl33, nl34, nl35, nl36, nl37, nl38, nl39, nl40, nl41, nl42, nl43, nl44, nl45, nl46, nl47, nl48, nl49, nl50, nl51, nl52, nl53, nl54, nl55, nl56, nl57, nl58, nl59, nl60, nl61, nl62, nl63, nl64, nl65, nl66, nl67, nl68, nl69, nl70, nl71, nl72, nl73, nl74, nl75, nl76, nl77, nl78, nl79, nl80, nl82, nl83, nl84, nl85, nl86, nl88, nl90, nl96, nl97, nl99, nl100, nl101, nl104, nl112, nl115, nl120, nl121, nl122, nl126, nl127, nl128, nl160, nl200, nl201, nl202, nl255, nl256, nl300, nl320, nl322, nl400, nl500, nl600, nl640, nl732, nl968, nl999, nl1000, nl1001, nl1040, nl1440, nl1500, nl1501, nl1600, nl2000, nl2240, nl3131, nl4000, nl4095, nl4096, nl4960, nl5000, nl6000, nl6001, nl8000, nl9999, nl10000, nl10200, nl13520, nl14000, nl20000, nl32768, nl40000, nl46000, nl64000, nl65536, nl78000, nl100000, nl128000, nl400000, nl730000, am, bm, M_isW o hw, e, b2n_t, b2n_f, Bool.false_eq_true]
theorem mWd.us1 {j : Nat} (hw : mWd c s) (hj : j ≠ 4) : mWd c (us s j v) := mWd.mk (by rw [ls_us, if_neg (by omega)]; exact hw.fn) hw.rk hw.rv
/-- M's compare ends in this -/
def mCmp (s : zM) (a' n : Nat) : zM := us (us s 41 (nI a')) 56 (nI n)
theorem M_cmp153 {x3 x6 n : Nat} (h41 : ls s 41 = nI a') (hn : n = x6 + x3) (ht : t < 8000) : gX26_compare_153 (nI t) (nI x3) (nI x6) s = (gX26_operandOf (nI t) (ua (us s 56 (nI n)) 10 (upd (la s 10) t (nI n)))).bind fun p => some ((), p.2) := by
  unfold gX26_compare_153
  rw [gl_x, gl_x, pI_add, ← hn, pgst ht (by decide), gl_bs]
  rfl
theorem M_compare (o : pOk c) (hw : mWd c s) (am : ls s 41 = nI a) (bm : ls s 43 = nI 0) (ha : a ≤ c.n) (ht : t < 8000) : gX26_compare (nI t) s = match wCm c a with
    | .inl (a', n) => (gX26_operandOf (nI t) (ua (mCmp s a' n) 10 (upd (la s 10) t (nI n)))).bind fun p => some ((), p.2)
    | .inr a' => (gX26_fail (nI 1) (nI a') (us s 41 (nI a'))).bind fun p => some ((), p.2) := by
  have n5 := o.n
  -- behind IS and NOT
  have key : ∀ (s : zM) (a2 nt : Nat), mWd c s → ls s 41 = nI a2 → ls s 43 = nI 0 → a2 ≤ 506 → nt ≤ 3 → gX26_compare_21 (nI t) (nI nt) s = if wR c a2 = true then (if c.ks a2 = 5 then (gX26_operandOf (nI t) (ua (mCmp s (a2 + 1) (nt + (c.vs a2 - 2))) 10 (upd (la s 10) t (nI (nt + (c.vs a2 - 2)))))).bind fun p => some ((), p.2) else (gX26_operandOf (nI t) (ua (mCmp s (if wW c (a2 + 1) (if c.vs a2 = 68 then 48 else 71) = true then a2 + 2 else a2 + 1) (nt + (if c.vs a2 = 68 then 0 else if c.vs a2 = 69 then 2 else 1))) 10 (upd (la s 10) t (nI (nt + (if c.vs a2 = 68 then 0 else if c.vs a2 = 69 then 2 else 1)))))).bind fun p => some ((), p.2)) else (gX26_fail (nI 1) (nI a2) s).bind fun p => some ((), p.2) := by
    intro s a2 nt hw am bm ha2 hnt
    unfold gX26_compare_21 gX26_compare_40
    rcases e : wR c a2 with _ | _
    · rw [if_neg (by decide)]
      simp (disch := omega) only [gld, gst, glj, gsj, gpN0, gpN1, gl_x, gl_gi, pI_in', pI_clamp, pI_add, pI_mul, pI_sub, pI_succ, nmod_eq, pI_div, ni_neg, zn_neg, gnar0, gnar1, eq_self, ni_lt, ni_le, ni_eq, ni_zlt, ni_zle, ni_zeq, zn_lt, zn_le, zn_eq, zz_lt, zz_le, zz_eq, ni_zadd, zn_add, ni_zsub, zn_sub, ni_zmul, zn_mul, nZ_add, nZ_sub, nZ_mul, upd_same, upd_other, upd_upd, gl_bi, gl_mi, gl_bs, gl_ms, gl_bn, gl_mn, if_true, if_false, ↓reduceIte, not_true_eq_false, not_false_eq_true, true_and, and_true, false_and, and_false, and_self, or_false, false_or, or_self, or_true, true_or, Nat.not_lt_zero, Nat.reduceAdd, Nat.reduceMul, Nat.add_zero, Nat.zero_add, Nat.mul_zero, Nat.zero_mul, Nat.reduceEqDiff, Nat.reduceLT, Nat.reduceLeDiff, Nat.succ_ne_zero, ua_ua, us_us, tn_le, tn_nle, tn_lt, tn_nlt, tn_eq, tn_ne, tz_le, tz_nle, tz_lt, tz_nlt, tz_eq, tz_ne, ls_us, ls_uj, ls_ua, ls_ub, lj_us, lj_uj, lj_ua, lj_ub, la_us, la_uj, la_ua, la_ub, lb_us, lb_uj, lb_ua, lb_ub, nl0, nl1, nl2, nl3, nl4, nl5, nl6, nl7, nl8, nl9, nl10, nl11, nl12, nl13, nl14, nl15, nl16, nl17, nl18, nl19, nl20, nl21, nl22, nl23, nl24, nl25, nl26, nl27, nl28, nl29, nl30, nl31, nl32, nl33, nl34, nl35, nl36, nl37, nl38, nl39, nl40, nl41, nl42, nl43, nl44, nl45, nl46, nl47, nl48, nl49, nl50, nl51, nl52, nl53, nl54, nl55, nl56, nl57, nl58, nl59, nl60, nl61, nl62, nl63, nl64, nl65, nl66, nl67, nl68, nl69, nl70, nl71, nl72, nl73, nl74, nl75, nl76, nl77, nl78, nl79, nl80, nl82, nl83, nl84, nl85, nl86, nl88, nl90, nl96, nl97, nl99, nl100, nl101, nl104, nl112, nl115, nl120, nl121, nl122, nl126, nl127, nl128, nl160, nl200, nl201, nl202, nl255, nl256, nl300, nl320, nl322, nl400, nl500, nl600, nl640, nl732, nl968, nl999, nl1000, nl1001, nl1040, nl1440, nl1500, nl1501, nl1600, nl2000, nl2240, nl3131, nl4000, nl4095, nl4096, nl4960, nl5000, nl6000, nl6001, nl8000, nl9999, nl10000, nl10200, nl13520, nl14000, nl20000, nl32768, nl40000, nl46000, nl64000, nl65536, nl78000, nl100000, nl128000, nl400000, nl730000, am, bm, M_isR o hw, e, b2n_f]
    · rw [if_pos rfl]
      obtain ⟨r1, r2⟩ := wR_i e
      have rk := hw.rk a2 r1
      have rv := hw.rv a2 r1
      have v5 := o.vs a2 r1
      have e41 : ls (us s 41 (nI (a2 + 1))) 41 = nI (a2 + 1) := rfl
      have w1 := hw.us1 (v := nI (a2 + 1)) (j := 41) (by decide)
      by_cases e5 : c.ks a2 = 5
      · rw [if_pos e5]
        have := M_cmp153 (s := us s 41 (nI (a2 + 1))) (a' := a2 + 1) (x3 := nt) (x6 := c.vs a2 - 2) (n := nt + (c.vs a2 - 2)) (t := t) e41 (by omega) ht
        unfold gX26_compare_69 gX26_compare_127
        simp (disch := omega) only [gld, gst, glj, gsj, gpN0, gpN1, gl_x, gl_gi, pI_in', pI_clamp, pI_add, pI_mul, pI_sub, pI_succ, nmod_eq, pI_div, ni_neg, zn_neg, gnar0, gnar1, eq_self, ni_lt, ni_le, ni_eq, ni_zlt, ni_zle, ni_zeq, zn_lt, zn_le, zn_eq, zz_lt, zz_le, zz_eq, ni_zadd, zn_add, ni_zsub, zn_sub, ni_zmul, zn_mul, nZ_add, nZ_sub, nZ_mul, upd_same, upd_other, upd_upd, gl_bi, gl_mi, gl_bs, gl_ms, gl_bn, gl_mn, if_true, if_false, ↓reduceIte, not_true_eq_false, not_false_eq_true, true_and, and_true, false_and, and_false, and_self, or_false, false_or, or_self, or_true, true_or, Nat.not_lt_zero, Nat.reduceAdd, Nat.reduceMul, Nat.add_zero, Nat.zero_add, Nat.mul_zero, Nat.zero_mul, Nat.reduceEqDiff, Nat.reduceLT, Nat.reduceLeDiff, Nat.succ_ne_zero, ua_ua, us_us, tn_le, tn_nle, tn_lt, tn_nlt, tn_eq, tn_ne, tz_le, tz_nle, tz_lt, tz_nlt, tz_eq, tz_ne, ls_us, ls_uj, ls_ua, ls_ub, lj_us, lj_uj, lj_ua, lj_ub, la_us, la_uj, la_ua, la_ub, lb_us, lb_uj, lb_ua, lb_ub, nl0, nl1, nl2, nl3, nl4, nl5, nl6, nl7, nl8, nl9, nl10, nl11, nl12, nl13, nl14, nl15, nl16, nl17, nl18, nl19, nl20, nl21, nl22, nl23, nl24, nl25, nl26, nl27, nl28, nl29, nl30, nl31, nl32, nl33, nl34, nl35, nl36, nl37, nl38, nl39, nl40, nl41, nl42, nl43, nl44, nl45, nl46, nl47, nl48, nl49, nl50, nl51, nl52, nl53, nl54, nl55, nl56, nl57, nl58, nl59, nl60, nl61, nl62, nl63, nl64, nl65, nl66, nl67, nl68, nl69, nl70, nl71, nl72, nl73, nl74, nl75, nl76, nl77, nl78, nl79, nl80, nl82, nl83, nl84, nl85, nl86, nl88, nl90, nl96, nl97, nl99, nl100, nl101, nl104, nl112, nl115, nl120, nl121, nl122, nl126, nl127, nl128, nl160, nl200, nl201, nl202, nl255, nl256, nl300, nl320, nl322, nl400, nl500, nl600, nl640, nl732, nl968, nl999, nl1000, nl1001, nl1040, nl1440, nl1500, nl1501, nl1600, nl2000, nl2240, nl3131, nl4000, nl4095, nl4096, nl4960, nl5000, nl6000, nl6001, nl8000, nl9999, nl10000, nl10200, nl13520, nl14000, nl20000, nl32768, nl40000, nl46000, nl64000, nl65536, nl78000, nl100000, nl128000, nl400000, nl730000, am, bm, M_isR o hw, e, b2n_t, rk, e5, rv, this]
        rfl
      · rw [if_neg e5]
        have e0 : c.ks a2 = 0 := by omega
        unfold gX26_compare_69 gX26_compare_127 gX26_compare_149
        by_cases e68 : c.vs a2 = 68
        · rw [if_pos e68, if_pos e68]
          have mm := M_meetsW o w1 e41 (show ls (us s 41 (nI (a2 + 1))) 43 = nI 0 from bm) (by omega) (k := 48) (by decide)
          rcases e48 : wW c (a2 + 1) 48 with _ | _
          · rw [if_neg (by rw [e48]; decide)] at mm
            have := M_cmp153 (s := us s 41 (nI (a2 + 1))) (a' := a2 + 1) (x3 := nt) (x6 := 0) (n := nt + 0) (t := t) e41 (by omega) ht
            rw [if_neg (by decide)]
            simp (disch := omega) only [gld, gst, glj, gsj, gpN0, gpN1, gl_x, gl_gi, pI_in', pI_clamp, pI_add, pI_mul, pI_sub, pI_succ, nmod_eq, pI_div, ni_neg, zn_neg, gnar0, gnar1, eq_self, ni_lt, ni_le, ni_eq, ni_zlt, ni_zle, ni_zeq, zn_lt, zn_le, zn_eq, zz_lt, zz_le, zz_eq, ni_zadd, zn_add, ni_zsub, zn_sub, ni_zmul, zn_mul, nZ_add, nZ_sub, nZ_mul, upd_same, upd_other, upd_upd, gl_bi, gl_mi, gl_bs, gl_ms, gl_bn, gl_mn, if_true, if_false, ↓reduceIte, not_true_eq_false, not_false_eq_true, true_and, and_true, false_and, and_false, and_self, or_false, false_or, or_self, or_true, true_or, Nat.not_lt_zero, Nat.reduceAdd, Nat.reduceMul, Nat.add_zero, Nat.zero_add, Nat.mul_zero, Nat.zero_mul, Nat.reduceEqDiff, Nat.reduceLT, Nat.reduceLeDiff, Nat.succ_ne_zero, ua_ua, us_us, tn_le, tn_nle, tn_lt, tn_nlt, tn_eq, tn_ne, tz_le, tz_nle, tz_lt, tz_nlt, tz_eq, tz_ne, ls_us, ls_uj, ls_ua, ls_ub, lj_us, lj_uj, lj_ua, lj_ub, la_us, la_uj, la_ua, la_ub, lb_us, lb_uj, lb_ua, lb_ub, nl0, nl1, nl2, nl3, nl4, nl5, nl6, nl7, nl8, nl9, nl10, nl11, nl12, nl13, nl14, nl15, nl16, nl17, nl18, nl19, nl20, nl21, nl22, nl23, nl24, nl25, nl26, nl27, nl28, nl29, nl30, nl31, nl32, nl33, nl34, nl35, nl36, nl37, nl38, nl39, nl40, nl41, nl42, nl43, nl44, nl45, nl46, nl47, nl48, nl49, nl50, nl51, nl52, nl53, nl54, nl55, nl56, nl57, nl58, nl59, nl60, nl61, nl62, nl63, nl64, nl65, nl66, nl67, nl68, nl69, nl70, nl71, nl72, nl73, nl74, nl75, nl76, nl77, nl78, nl79, nl80, nl82, nl83, nl84, nl85, nl86, nl88, nl90, nl96, nl97, nl99, nl100, nl101, nl104, nl112, nl115, nl120, nl121, nl122, nl126, nl127, nl128, nl160, nl200, nl201, nl202, nl255, nl256, nl300, nl320, nl322, nl400, nl500, nl600, nl640, nl732, nl968, nl999, nl1000, nl1001, nl1040, nl1440, nl1500, nl1501, nl1600, nl2000, nl2240, nl3131, nl4000, nl4095, nl4096, nl4960, nl5000, nl6000, nl6001, nl8000, nl9999, nl10000, nl10200, nl13520, nl14000, nl20000, nl32768, nl40000, nl46000, nl64000, nl65536, nl78000, nl100000, nl128000, nl400000, nl730000, am, bm, M_isR o hw, e, b2n_t, rk, e0, rv, e68, mm, this]
            rfl
          · rw [if_pos e48] at mm
            have := M_cmp153 (s := us (us s 41 (nI (a2 + 1))) 41 (nI (a2 + 1 + 1))) (a' := a2 + 2) (x3 := nt) (x6 := 0) (n := nt + 0) (t := t) rfl (by omega) ht
            rw [if_pos rfl]
            rw [us_us] at this mm
            simp (disch := omega) only [gld, gst, glj, gsj, gpN0, gpN1, gl_x, gl_gi, pI_in', pI_clamp, pI_add, pI_mul, pI_sub, pI_succ, nmod_eq, pI_div, ni_neg, zn_neg, gnar0, gnar1, eq_self, ni_lt, ni_le, ni_eq, ni_zlt, ni_zle, ni_zeq, zn_lt, zn_le, zn_eq, zz_lt, zz_le, zz_eq, ni_zadd, zn_add, ni_zsub, zn_sub, ni_zmul, zn_mul, nZ_add, nZ_sub, nZ_mul, upd_same, upd_other, upd_upd, gl_bi, gl_mi, gl_bs, gl_ms, gl_bn, gl_mn, if_true, if_false, ↓reduceIte, not_true_eq_false, not_false_eq_true, true_and, and_true, false_and, and_false, and_self, or_false, false_or, or_self, or_true, true_or, Nat.not_lt_zero, Nat.reduceAdd, Nat.reduceMul, Nat.add_zero, Nat.zero_add, Nat.mul_zero, Nat.zero_mul, Nat.reduceEqDiff, Nat.reduceLT, Nat.reduceLeDiff, Nat.succ_ne_zero, ua_ua, us_us, tn_le, tn_nle, tn_lt, tn_nlt, tn_eq, tn_ne, tz_le, tz_nle, tz_lt, tz_nlt, tz_eq, tz_ne, ls_us, ls_uj, ls_ua, ls_ub, lj_us, lj_uj, lj_ua, lj_ub, la_us, la_uj, la_ua, la_ub, lb_us, lb_uj, lb_ua, lb_ub, nl0, nl1, nl2, nl3, nl4, nl5, nl6, nl7, nl8, nl9, nl10, nl11, nl12, nl13, nl14, nl15, nl16, nl17, nl18, nl19, nl20, nl21, nl22, nl23, nl24, nl25, nl26, nl27, nl28, nl29, nl30, nl31, nl32, nl33, nl34, nl35, nl36, nl37, nl38, nl39, nl40, nl41, nl42, nl43, nl44, nl45, nl46, nl47, nl48, nl49, nl50, nl51, nl52, nl53, nl54, nl55, nl56, nl57, nl58, nl59, nl60, nl61, nl62, nl63, nl64, nl65, nl66, nl67, nl68, nl69, nl70, nl71, nl72, nl73, nl74, nl75, nl76, nl77, nl78, nl79, nl80, nl82, nl83, nl84, nl85, nl86, nl88, nl90, nl96, nl97, nl99, nl100, nl101, nl104, nl112, nl115, nl120, nl121, nl122, nl126, nl127, nl128, nl160, nl200, nl201, nl202, nl255, nl256, nl300, nl320, nl322, nl400, nl500, nl600, nl640, nl732, nl968, nl999, nl1000, nl1001, nl1040, nl1440, nl1500, nl1501, nl1600, nl2000, nl2240, nl3131, nl4000, nl4095, nl4096, nl4960, nl5000, nl6000, nl6001, nl8000, nl9999, nl10000, nl10200, nl13520, nl14000, nl20000, nl32768, nl40000, nl46000, nl64000, nl65536, nl78000, nl100000, nl128000, nl400000, nl730000, am, bm, M_isR o hw, e, b2n_t, rk, e0, rv, e68, mm, this]
            rfl
        · rw [if_neg e68, if_neg e68]
          have mm := M_meetsW o w1 e41 (show ls (us s 41 (nI (a2 + 1))) 43 = nI 0 from bm) (by omega) (k := 71) (by decide)
          by_cases e69 : c.vs a2 = 69
          · rw [if_pos e69]
            rcases e71 : wW c (a2 + 1) 71 with _ | _
            · rw [if_neg (by rw [e71]; decide)] at mm
              have := M_cmp153 (s := us s 41 (nI (a2 + 1))) (a' := a2 + 1) (x3 := nt) (x6 := 2) (n := nt + 2) (t := t) e41 (by omega) ht
              rw [if_neg (by decide)]
              simp (disch := omega) only [gld, gst, glj, gsj, gpN0, gpN1, gl_x, gl_gi, pI_in', pI_clamp, pI_add, pI_mul, pI_sub, pI_succ, nmod_eq, pI_div, ni_neg, zn_neg, gnar0, gnar1, eq_self, ni_lt, ni_le, ni_eq, ni_zlt, ni_zle, ni_zeq, zn_lt, zn_le, zn_eq, zz_lt, zz_le, zz_eq, ni_zadd, zn_add, ni_zsub, zn_sub, ni_zmul, zn_mul, nZ_add, nZ_sub, nZ_mul, upd_same, upd_other, upd_upd, gl_bi, gl_mi, gl_bs, gl_ms, gl_bn, gl_mn, if_true, if_false, ↓reduceIte, not_true_eq_false, not_false_eq_true, true_and, and_true, false_and, and_false, and_self, or_false, false_or, or_self, or_true, true_or, Nat.not_lt_zero, Nat.reduceAdd, Nat.reduceMul, Nat.add_zero, Nat.zero_add, Nat.mul_zero, Nat.zero_mul, Nat.reduceEqDiff, Nat.reduceLT, Nat.reduceLeDiff, Nat.succ_ne_zero, ua_ua, us_us, tn_le, tn_nle, tn_lt, tn_nlt, tn_eq, tn_ne, tz_le, tz_nle, tz_lt, tz_nlt, tz_eq, tz_ne, ls_us, ls_uj, ls_ua, ls_ub, lj_us, lj_uj, lj_ua, lj_ub, la_us, la_uj, la_ua, la_ub, lb_us, lb_uj, lb_ua, lb_ub, nl0, nl1, nl2, nl3, nl4, nl5, nl6, nl7, nl8, nl9, nl10, nl11, nl12, nl13, nl14, nl15, nl16, nl17, nl18, nl19, nl20, nl21, nl22, nl23, nl24, nl25, nl26, nl27, nl28, nl29, nl30, nl31, nl32, nl33, nl34, nl35, nl36, nl37, nl38, nl39, nl40, nl41, nl42, nl43, nl44, nl45, nl46, nl47, nl48, nl49, nl50, nl51, nl52, nl53, nl54, nl55, nl56, nl57, nl58, nl59, nl60, nl61, nl62, nl63, nl64, nl65, nl66, nl67, nl68, nl69, nl70, nl71, nl72, nl73, nl74, nl75, nl76, nl77, nl78, nl79, nl80, nl82, nl83, nl84, nl85, nl86, nl88, nl90, nl96, nl97, nl99, nl100, nl101, nl104, nl112, nl115, nl120, nl121, nl122, nl126, nl127, nl128, nl160, nl200, nl201, nl202, nl255, nl256, nl300, nl320, nl322, nl400, nl500, nl600, nl640, nl732, nl968, nl999, nl1000, nl1001, nl1040, nl1440, nl1500, nl1501, nl1600, nl2000, nl2240, nl3131, nl4000, nl4095, nl4096, nl4960, nl5000, nl6000, nl6001, nl8000, nl9999, nl10000, nl10200, nl13520, nl14000, nl20000, nl32768, nl40000, nl46000, nl64000, nl65536, nl78000, nl100000, nl128000, nl400000, nl730000, am, bm, M_isR o hw, e, b2n_t, rk, e0, rv, e69, mm, this]
              rfl
            · rw [if_pos e71] at mm
              have := M_cmp153 (s := us (us s 41 (nI (a2 + 1))) 41 (nI (a2 + 1 + 1))) (a' := a2 + 2) (x3 := nt) (x6 := 2) (n := nt + 2) (t := t) rfl (by omega) ht
              rw [if_pos rfl]
              rw [us_us] at this mm
              simp (disch := omega) only [gld, gst, glj, gsj, gpN0, gpN1, gl_x, gl_gi, pI_in', pI_clamp, pI_add, pI_mul, pI_sub, pI_succ, nmod_eq, pI_div, ni_neg, zn_neg, gnar0, gnar1, eq_self, ni_lt, ni_le, ni_eq, ni_zlt, ni_zle, ni_zeq, zn_lt, zn_le, zn_eq, zz_lt, zz_le, zz_eq, ni_zadd, zn_add, ni_zsub, zn_sub, ni_zmul, zn_mul, nZ_add, nZ_sub, nZ_mul, upd_same, upd_other, upd_upd, gl_bi, gl_mi, gl_bs, gl_ms, gl_bn, gl_mn, if_true, if_false, ↓reduceIte, not_true_eq_false, not_false_eq_true, true_and, and_true, false_and, and_false, and_self, or_false, false_or, or_self, or_true, true_or, Nat.not_lt_zero, Nat.reduceAdd, Nat.reduceMul, Nat.add_zero, Nat.zero_add, Nat.mul_zero, Nat.zero_mul, Nat.reduceEqDiff, Nat.reduceLT, Nat.reduceLeDiff, Nat.succ_ne_zero, ua_ua, us_us, tn_le, tn_nle, tn_lt, tn_nlt, tn_eq, tn_ne, tz_le, tz_nle, tz_lt, tz_nlt, tz_eq, tz_ne, ls_us, ls_uj, ls_ua, ls_ub, lj_us, lj_uj, lj_ua, lj_ub, la_us, la_uj, la_ua, la_ub, lb_us, lb_uj, lb_ua, lb_ub, nl0, nl1, nl2, nl3, nl4, nl5, nl6, nl7, nl8, nl9, nl10, nl11, nl12, nl13, nl14, nl15, nl16, nl17, nl18, nl19, nl20, nl21, nl22, nl23, nl24, nl25, nl26, nl27, nl28, nl29, nl30, nl31, nl32, nl33, nl34, nl35, nl36, nl37, nl38, nl39, nl40, nl41, nl42, nl43, nl44, nl45, nl46, nl47, nl48, nl49, nl50, nl51, nl52, nl53, nl54, nl55, nl56, nl57, nl58, nl59, nl60, nl61, nl62, nl63, nl64, nl65, nl66, nl67, nl68, nl69, nl70, nl71, nl72, nl73, nl74, nl75, nl76, nl77, nl78, nl79, nl80, nl82, nl83, nl84, nl85, nl86, nl88, nl90, nl96, nl97, nl99, nl100, nl101, nl104, nl112, nl115, nl120, nl121, nl122, nl126, nl127, nl128, nl160, nl200, nl201, nl202, nl255, nl256, nl300, nl320, nl322, nl400, nl500, nl600, nl640, nl732, nl968, nl999, nl1000, nl1001, nl1040, nl1440, nl1500, nl1501, nl1600, nl2000, nl2240, nl3131, nl4000, nl4095, nl4096, nl4960, nl5000, nl6000, nl6001, nl8000, nl9999, nl10000, nl10200, nl13520, nl14000, nl20000, nl32768, nl40000, nl46000, nl64000, nl65536, nl78000, nl100000, nl128000, nl400000, nl730000, am, bm, M_isR o hw, e, b2n_t, rk, e0, rv, e69, mm, this]
              rfl
          · rw [if_neg e69]
            rcases e71 : wW c (a2 + 1) 71 with _ | _
            · rw [if_neg (by rw [e71]; decide)] at mm
              have := M_cmp153 (s := us s 41 (nI (a2 + 1))) (a' := a2 + 1) (x3 := nt) (x6 := 1) (n := nt + 1) (t := t) e41 (by omega) ht
              rw [if_neg (by decide)]
              simp (disch := omega) only [gld, gst, glj, gsj, gpN0, gpN1, gl_x, gl_gi, pI_in', pI_clamp, pI_add, pI_mul, pI_sub, pI_succ, nmod_eq, pI_div, ni_neg, zn_neg, gnar0, gnar1, eq_self, ni_lt, ni_le, ni_eq, ni_zlt, ni_zle, ni_zeq, zn_lt, zn_le, zn_eq, zz_lt, zz_le, zz_eq, ni_zadd, zn_add, ni_zsub, zn_sub, ni_zmul, zn_mul, nZ_add, nZ_sub, nZ_mul, upd_same, upd_other, upd_upd, gl_bi, gl_mi, gl_bs, gl_ms, gl_bn, gl_mn, if_true, if_false, ↓reduceIte, not_true_eq_false, not_false_eq_true, true_and, and_true, false_and, and_false, and_self, or_false, false_or, or_self, or_true, true_or, Nat.not_lt_zero, Nat.reduceAdd, Nat.reduceMul, Nat.add_zero, Nat.zero_add, Nat.mul_zero, Nat.zero_mul, Nat.reduceEqDiff, Nat.reduceLT, Nat.reduceLeDiff, Nat.succ_ne_zero, ua_ua, us_us, tn_le, tn_nle, tn_lt, tn_nlt, tn_eq, tn_ne, tz_le, tz_nle, tz_lt, tz_nlt, tz_eq, tz_ne, ls_us, ls_uj, ls_ua, ls_ub, lj_us, lj_uj, lj_ua, lj_ub, la_us, la_uj, la_ua, la_ub, lb_us, lb_uj, lb_ua, lb_ub, nl0, nl1, nl2, nl3, nl4, nl5, nl6, nl7, nl8, nl9, nl10, nl11, nl12, nl13, nl14, nl15, nl16, nl17, nl18, nl19, nl20, nl21, nl22, nl23, nl24, nl25, nl26, nl27, nl28, nl29, nl30, nl31, nl32, nl33, nl34, nl35, nl36, nl37, nl38, nl39, nl40, nl41, nl42, nl43, nl44, nl45, nl46, nl47, nl48, nl49, nl50, nl51, nl52, nl53, nl54, nl55, nl56, nl57, nl58, nl59, nl60, nl61, nl62, nl63, nl64, nl65, nl66, nl67, nl68, nl69, nl70, nl71, nl72, nl73, nl74, nl75, nl76, nl77, nl78, nl79, nl80, nl82, nl83, nl84, nl85, nl86, nl88, nl90, nl96, nl97, nl99, nl100, nl101, nl104, nl112, nl115, nl120, nl121, nl122, nl126, nl127, nl128, nl160, nl200, nl201, nl202, nl255, nl256, nl300, nl320, nl322, nl400, nl500, nl600, nl640, nl732, nl968, nl999, nl1000, nl1001, nl1040, nl1440, nl1500, nl1501, nl1600, nl2000, nl2240, nl3131, nl4000, nl4095, nl4096, nl4960, nl5000, nl6000, nl6001, nl8000, nl9999, nl10000, nl10200, nl13520, nl14000, nl20000, nl32768, nl40000, nl46000, nl64000, nl65536, nl78000, nl100000, nl128000, nl400000, nl730000, am, bm, M_isR o hw, e, b2n_t, rk, e0, rv, mm, this]
              rfl
            · rw [if_pos e71] at mm
              have := M_cmp153 (s := us (us s 41 (nI (a2 + 1))) 41 (nI (a2 + 1 + 1))) (a' := a2 + 2) (x3 := nt) (x6 := 1) (n := nt + 1) (t := t) rfl (by omega) ht
              rw [if_pos rfl]
              rw [us_us] at this mm
              simp (disch := omega) only [gld, gst, glj, gsj, gpN0, gpN1, gl_x, gl_gi, pI_in', pI_clamp, pI_add, pI_mul, pI_sub, pI_succ, nmod_eq, pI_div, ni_neg, zn_neg, gnar0, gnar1, eq_self, ni_lt, ni_le, ni_eq, ni_zlt, ni_zle, ni_zeq, zn_lt, zn_le, zn_eq, zz_lt, zz_le, zz_eq, ni_zadd, zn_add, ni_zsub, zn_sub, ni_zmul, zn_mul, nZ_add, nZ_sub, nZ_mul, upd_same, upd_other, upd_upd, gl_bi, gl_mi, gl_bs, gl_ms, gl_bn, gl_mn, if_true, if_false, ↓reduceIte, not_true_eq_false, not_false_eq_true, true_and, and_true, false_and, and_false, and_self, or_false, false_or, or_self, or_true, true_or, Nat.not_lt_zero, Nat.reduceAdd, Nat.reduceMul, Nat.add_zero, Nat.zero_add, Nat.mul_zero, Nat.zero_mul, Nat.reduceEqDiff, Nat.reduceLT, Nat.reduceLeDiff, Nat.succ_ne_zero, ua_ua, us_us, tn_le, tn_nle, tn_lt, tn_nlt, tn_eq, tn_ne, tz_le, tz_nle, tz_lt, tz_nlt, tz_eq, tz_ne, ls_us, ls_uj, ls_ua, ls_ub, lj_us, lj_uj, lj_ua, lj_ub, la_us, la_uj, la_ua, la_ub, lb_us, lb_uj, lb_ua, lb_ub, nl0, nl1, nl2, nl3, nl4, nl5, nl6, nl7, nl8, nl9, nl10, nl11, nl12, nl13, nl14, nl15, nl16, nl17, nl18, nl19, nl20, nl21, nl22, nl23, nl24, nl25, nl26, nl27, nl28, nl29, nl30, nl31, nl32, nl33, nl34, nl35, nl36, nl37, nl38, nl39, nl40, nl41, nl42, nl43, nl44, nl45, nl46, nl47, nl48, nl49, nl50, nl51, nl52, nl53, nl54, nl55, nl56, nl57, nl58, nl59, nl60, nl61, nl62, nl63, nl64, nl65, nl66, nl67, nl68, nl69, nl70, nl71, nl72, nl73, nl74, nl75, nl76, nl77, nl78, nl79, nl80, nl82, nl83, nl84, nl85, nl86, nl88, nl90, nl96, nl97, nl99, nl100, nl101, nl104, nl112, nl115, nl120, nl121, nl122, nl126, nl127, nl128, nl160, nl200, nl201, nl202, nl255, nl256, nl300, nl320, nl322, nl400, nl500, nl600, nl640, nl732, nl968, nl999, nl1000, nl1001, nl1040, nl1440, nl1500, nl1501, nl1600, nl2000, nl2240, nl3131, nl4000, nl4095, nl4096, nl4960, nl5000, nl6000, nl6001, nl8000, nl9999, nl10000, nl10200, nl13520, nl14000, nl20000, nl32768, nl40000, nl46000, nl64000, nl65536, nl78000, nl100000, nl128000, nl400000, nl730000, am, bm, M_isR o hw, e, b2n_t, rk, e0, rv, mm, this]
              rfl
  have fin : ∀ (s0 : zM) (a2 nt : Nat), s0 = us s 41 (nI a2) → a2 ≤ 506 → nt ≤ 3 → gX26_compare_21 (nI t) (nI nt) s0 = match (if wR c a2 = true then (if c.ks a2 = 5 then (.inl (a2 + 1, nt + (c.vs a2 - 2)) : (Nat × Nat) ⊕ Nat) else .inl (if wW c (a2 + 1) (if c.vs a2 = 68 then 48 else 71) = true then a2 + 2 else a2 + 1, nt + (if c.vs a2 = 68 then 0 else if c.vs a2 = 69 then 2 else 1))) else .inr a2) with
      | .inl (a', n) => (gX26_operandOf (nI t) (ua (mCmp s a' n) 10 (upd (la s 10) t (nI n)))).bind fun p => some ((), p.2)
      | .inr a' => (gX26_fail (nI 1) (nI a') (us s 41 (nI a'))).bind fun p => some ((), p.2) := by
    intro s0 a2 nt h0 h2 hnt
    subst h0
    rw [key (us s 41 (nI a2)) a2 nt (hw.us1 (by decide)) rfl bm h2 hnt]
    have e : ∀ x y, mCmp (us s 41 (nI a2)) x y = mCmp s x y := fun x y => by unfold mCmp; rw [us_us]
    by_cases e1 : wR c a2 = true
    · rw [if_pos e1, if_pos e1]
      by_cases e2 : c.ks a2 = 5
      · rw [if_pos e2, if_pos e2, e]; rfl
      · rw [if_neg e2, if_neg e2, e]; rfl
    · rw [if_neg e1, if_neg e1]
  unfold gX26_compare wCm
  have m1 := M_meetsW o hw am bm (by omega) (k := 67) (by decide)
  rw [nl67, m1]
  by_cases e1 : wW c a 67 = true
  · have a1 := (wW_i e1).1
    simp only [if_pos e1]
    rw [gl_bs]
    have m2 := M_meetsW o (hw.us1 (v := nI (a + 1)) (j := 41) (by decide)) (show ls (us s 41 (nI (a + 1))) 41 = nI (a + 1) from rfl) (show ls (us s 41 (nI (a + 1))) 43 = nI 0 from bm) (by omega) (k := 64) (by decide)
    rw [nl64, m2]
    by_cases e2 : wW c (a + 1) 64 = true
    · simp only [if_pos e2]
      rw [gl_bs, us_us]
      exact fin _ (a + 2) 3 rfl (by omega) (by omega)
    · simp only [if_neg e2]
      rw [gl_bs]
      exact fin _ (a + 1) 0 rfl (by omega) (by omega)
  · simp only [if_neg e1]
    rw [gl_bs]
    have m2 := M_meetsW o hw am bm (by omega) (k := 64) (by decide)
    rw [nl64, m2]
    by_cases e2 : wW c a 64 = true
    · have a2 := (wW_i e2).1
      simp only [if_pos e2]
      rw [gl_bs]
      exact fin _ (a + 1) 3 rfl (by omega) (by omega)
    · simp only [if_neg e2]
      rw [gl_bs]
      exact fin s a 0 (us_self am).symm (by omega) (by omega)
end PAM
