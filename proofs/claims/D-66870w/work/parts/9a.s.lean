/-! THE PURE LAYER: the parser: conditions, M's rows of factors. -/
/-- M's loop over factors; and from behind a factor on -/
def mC (F : Nat) (x : Int32) (s : zM) : gF Int32 := gloop (fun (a : (Int32)) s => gX26_condition_16b a s) F x s
def mCk (F : Nat) (o : gF (Int32 ⊕ Int32)) : gF Int32 := match o with
  | some (.inl t, s) => mC F t s
  | some (.inr r, s) => some (r, s)
  | none => none
def mB (F1 F : Nat) (x : Int32) (s : zM) : gF Int32 := (gloop (fun (a : (Int32)) s => gX26_behindFactor_2b a s) F1 x s).bind fun p => mC F p.1 p.2
def mBk (F1 F : Nat) (o : gF (Int32 ⊕ Int32)) : gF Int32 := match o with
  | some (.inl t, s) => mB F1 F t s
  | some (.inr r, s) => mC F r s
  | none => none
/-- a bracket's condition is whole -/
def gE (t : Int32) (s : zM) : gF (Int32 ⊕ Int32) :=
  xlet (ls s 54) fun x16 =>
  if ¬ x16 = 0 then
    xlet (ls s 41) fun x17 =>
    (gX26_isSign x17 1 s).bind fun p18 =>
    if ¬ p18.1 = 0 then
      xlet (ls p18.2 41) fun x19 =>
      xlet (us p18.2 41 (x19 + (1 : Int32))) fun s20 =>
      xlet (ls s20 54) fun x21 =>
      xlet (us s20 54 (x21 - (1 : Int32))) fun s22 =>
      xlet (ls s22 44) fun x23 =>
      xlet (us s22 44 (x23 - (1 : Int32))) fun s24 =>
      xlet (ls s24 57) fun x25 =>
      xlet (us s24 57 (x25 - (1 : Int32))) fun s26 =>
      xlet (us s26 55 (0 : Int32)) fun s27 =>
      some (.inl (t), s27)
    else
      ginr (
        xlet (ls p18.2 41) fun x28 =>
        (gX26_fail 1 x28 p18.2).bind fun p29 =>
        some (0, p29.2))
  else
    ginr (
      some (t, s))
/-- behind a row of ANDs -/
def gM2 (x_3 : Int32) (s : zM) : gF (Int32 ⊕ Int32) :=
  (gX26_meets 66 s).bind fun p8 =>
  if p8.1 = 0 then
    (gld p8.2 62 64 x_3).bind fun x10 =>
    (gld p8.2 63 64 x_3).bind fun x12 =>
    (gld p8.2 64 64 x_3).bind fun x14 =>
    (gX26_whole 50 x10 x12 x14 p8.2).bind fun p15 =>
    gE p15.1 p15.2
  else
    ginr (
      some (0, p8.2))
/-- behind a factor in its row -/
def gM1 (x_3 : Int32) (s : zM) : gF (Int32 ⊕ Int32) :=
  (gX26_meets 65 s).bind fun p6 =>
  if p6.1 = 0 then
    (gX26_closeAnds p6.2).bind fun p7 =>
    gM2 x_3 p7.2
  else
    ginr (
      some (0, p6.2))
/-- a row of ANDs goes into the row of ORs -/
def gT2 (x_7 t : Int32) (s : zM) : gF Unit :=
  (gst s 61 64 x_7 (0 : Int32)).bind fun s16 =>
  (gst s16 15 8000 t (0 : Int32)).bind fun s18 =>
  (gld s18 64 64 x_7).bind fun x20 =>
  if ¬ x20 = 0 then
    (gld s18 63 64 x_7).bind fun x23 =>
    (gst s18 15 8000 x23 t).bind fun s24 =>
    gX26_closeAnds_77 x_7 t s24
  else
    (gst s18 62 64 x_7 t).bind fun s26 =>
    gX26_closeAnds_77 x_7 t s26
def gKK (o j : Nat) (s : zM) : gF (Int32 ⊕ Int32) := if o = 0 then gM1 (nI j) s else gM2 (nI j) s
/-- M ahead of a link (0: of a factor, 1: of a row of ANDs), and with a whole condition (2) -/
def gP (o j : Nat) (t : Int32) (s : zM) : gF (Int32 ⊕ Int32) := if o = 0 then gX26_behindFactor_72 t s else if o = 1 then (gT2 (nI j) t s).bind fun p => gM2 (nI j) p.2 else gE t s
/-- t is linked behind the row l of bracket j -/
def mLn (s : zM) (o j : Nat) (l : List Nat) (t : Nat) (s' : zM) : Prop := (∀ k, ls s' k = ls s k) ∧ (∀ k, k ≠ 15 → ¬ (59 ≤ k ∧ k ≤ 64) → la s' k = la s k) ∧ (la s' 15 = if l = [] then upd (la s 15) t (nI 0) else upd (upd (la s 15) t (nI 0)) (l.getLastD 0) (nI t)) ∧ (∀ k i, 59 ≤ k → k ≤ 64 → i ≠ j → la s' k i = la s k i) ∧ (la s' (59 + 3 * o) j = if l = [] then nI t else la s (59 + 3 * o) j) ∧ (la s' (60 + 3 * o) j = nI t) ∧ (la s' (61 + 3 * o) j = nI (l.length + 1)) ∧ (o = 1 → la s' 61 j = nI 0) ∧ (o = 0 → ∀ k, 62 ≤ k → k ≤ 64 → la s' k j = la s k j)
theorem mLn.nls {s : zM} {o j : Nat} {l : List Nat} {t : Nat} {s' : zM} (h : mLn s o j l t s') : ∀ k, ls s' k = ls s k := by
  unfold mLn at h
  exact h.1
theorem mLn.nla {s : zM} {o j : Nat} {l : List Nat} {t : Nat} {s' : zM} (h : mLn s o j l t s') : ∀ k, k ≠ 15 → ¬ (59 ≤ k ∧ k ≤ 64) → la s' k = la s k := by
  unfold mLn at h
  exact h.2.1
theorem mLn.r15 {s : zM} {o j : Nat} {l : List Nat} {t : Nat} {s' : zM} (h : mLn s o j l t s') : la s' 15 = if l = [] then upd (la s 15) t (nI 0) else upd (upd (la s 15) t (nI 0)) (l.getLastD 0) (nI t) := by
  unfold mLn at h
  exact h.2.2.1
theorem mLn.row {s : zM} {o j : Nat} {l : List Nat} {t : Nat} {s' : zM} (h : mLn s o j l t s') : ∀ k i, 59 ≤ k → k ≤ 64 → i ≠ j → la s' k i = la s k i := by
  unfold mLn at h
  exact h.2.2.2.1
theorem mLn.hd {s : zM} {o j : Nat} {l : List Nat} {t : Nat} {s' : zM} (h : mLn s o j l t s') : la s' (59 + 3 * o) j = if l = [] then nI t else la s (59 + 3 * o) j := by
  unfold mLn at h
  exact h.2.2.2.2.1
theorem mLn.lt {s : zM} {o j : Nat} {l : List Nat} {t : Nat} {s' : zM} (h : mLn s o j l t s') : la s' (60 + 3 * o) j = nI t := by
  unfold mLn at h
  exact h.2.2.2.2.2.1
theorem mLn.ln {s : zM} {o j : Nat} {l : List Nat} {t : Nat} {s' : zM} (h : mLn s o j l t s') : la s' (61 + 3 * o) j = nI (l.length + 1) := by
  unfold mLn at h
  exact h.2.2.2.2.2.2.1
theorem mLn.z {s : zM} {o j : Nat} {l : List Nat} {t : Nat} {s' : zM} (h : mLn s o j l t s') : o = 1 → la s' 61 j = nI 0 := by
  unfold mLn at h
  exact h.2.2.2.2.2.2.2.1
theorem mLn.ot {s : zM} {o j : Nat} {l : List Nat} {t : Nat} {s' : zM} (h : mLn s o j l t s') : o = 0 → ∀ k, 62 ≤ k → k ≤ 64 → la s' k j = la s k j := by
  unfold mLn at h
  exact h.2.2.2.2.2.2.2.2
theorem mLn.mk {s : zM} {o j : Nat} {l : List Nat} {t : Nat} {s' : zM} (x0 : ∀ k, ls s' k = ls s k) (x1 : ∀ k, k ≠ 15 → ¬ (59 ≤ k ∧ k ≤ 64) → la s' k = la s k) (x2 : la s' 15 = if l = [] then upd (la s 15) t (nI 0) else upd (upd (la s 15) t (nI 0)) (l.getLastD 0) (nI t)) (x3 : ∀ k i, 59 ≤ k → k ≤ 64 → i ≠ j → la s' k i = la s k i) (x4 : la s' (59 + 3 * o) j = if l = [] then nI t else la s (59 + 3 * o) j) (x5 : la s' (60 + 3 * o) j = nI t) (x6 : la s' (61 + 3 * o) j = nI (l.length + 1)) (x7 : o = 1 → la s' 61 j = nI 0) (x8 : o = 0 → ∀ k, 62 ≤ k → k ≤ 64 → la s' k j = la s k j) : mLn s o j l t s' := by
  unfold mLn
  exact ⟨x0, x1, x2, x3, x4, x5, x6, x7, x8⟩
section PAS
variable {c : pC} {G : xQ} {α β γ αs : zS} {s s' s2 ss : zM} {a a1 a' d b b' N N' N2 Ns k t t2 u w wh q r F F1 F' f y to m n jn : Nat} {g g' g2 gs : pG} {v v' kv : Int32} {l ts : List Nat}
theorem mB_s : mB (F1 + 1) F v s = mBk F1 F (gX26_behindFactor_2b v s) := by
  unfold mB mBk
  rcases h : gX26_behindFactor_2b v s with _ | ⟨_ | _, _⟩
  · simp only [gloop, h, gl_bn]
  · simp only [gloop, h]
    rfl
  · simp only [gloop, h, gl_bs]
theorem mC_s : mC (F + 1) v s = mCk F (gX26_condition_16b v s) := by
  unfold mC mCk
  rcases h : gX26_condition_16b v s with _ | ⟨_ | _, _⟩
  · simp only [gloop, h]
  · simp only [gloop, h]
    rfl
  · simp only [gloop, h]
theorem mC_bad (h : ls s 43 = nI 1) (hF : 0 < F) : ∃ u, mC F v s = some (u, s) := by
  obtain ⟨f, rfl⟩ : ∃ f, F = f + 1 := ⟨F - 1, by omega⟩
  refine ⟨v, ?_⟩
  unfold mC
  refine gl_done ?_
  unfold gX26_condition_16b gX26_condition_52
  by_cases e : v = nI 0
  · rw [e]
    simp (disch := omega) only [gld, gst, glj, gsj, gpN0, gpN1, gl_x, gl_gi, pI_in', pI_clamp, pI_add, pI_mul, pI_sub, pI_succ, nmod_eq, pI_div, ni_neg, zn_neg, gnar0, gnar1, eq_self, ni_lt, ni_le, ni_eq, ni_zlt, ni_zle, ni_zeq, zn_lt, zn_le, zn_eq, zz_lt, zz_le, zz_eq, ni_zadd, zn_add, ni_zsub, zn_sub, ni_zmul, zn_mul, nZ_add, nZ_sub, nZ_mul, upd_same, upd_other, upd_upd, gl_bi, gl_mi, gl_bs, gl_ms, gl_bn, gl_mn, if_true, if_false, ↓reduceIte, not_true_eq_false, not_false_eq_true, true_and, and_true, false_and, and_false, and_self, or_false, false_or, or_self, or_true, true_or, Nat.not_lt_zero, Nat.reduceAdd, Nat.reduceMul, Nat.add_zero, Nat.zero_add, Nat.mul_zero, Nat.zero_mul, Nat.reduceEqDiff, Nat.reduceLT, Nat.reduceLeDiff, Nat.succ_ne_zero, ua_ua, us_us, tn_le, tn_nle, tn_lt, tn_nlt, tn_eq, tn_ne, tz_le, tz_nle, tz_lt, tz_nlt, tz_eq, tz_ne, ls_us, ls_uj, ls_ua, ls_ub, lj_us, lj_uj, lj_ua, lj_ub, la_us, la_uj, la_ua, la_ub, lb_us, lb_uj, lb_ua, lb_ub, nl0, nl1, nl2, nl3, nl4, nl5, nl6, nl7, nl8, nl9, nl10, nl11, nl12, nl13, nl14, nl15, nl16, nl17, nl18, nl19, nl20, nl21, nl22, nl23, nl24, nl25, nl26, nl27, nl28, nl29, nl30, nl31, nl32, nl33, nl34, nl35, nl36, nl37, nl38, nl39, nl40, nl41, nl42, nl43, nl44, nl45, nl46, nl47, nl48, nl49, nl50, nl51, nl52, nl53, nl54, nl55, nl56, nl57, nl58, nl59, nl60, nl61, nl62, nl63, nl64, nl65, nl66, nl67, nl68, nl69, nl70, nl71, nl72, nl73, nl74, nl75, nl76, nl77, nl78, nl79, nl80, nl82, nl83, nl84, nl85, nl86, nl88, nl90, nl96, nl97, nl99, nl100, nl101, nl104, nl112, nl115, nl120, nl121, nl122, nl126, nl127, nl128, nl160, nl200, nl201, nl202, nl255, nl256, nl300, nl320, nl322, nl400, nl500, nl600, nl640, nl732, nl968, nl999, nl1000, nl1001, nl1040, nl1440, nl1500, nl1501, nl1600, nl2000, nl2240, nl3131, nl4000, nl4095, nl4096, nl4960, nl5000, nl6000, nl6001, nl8000, nl9999, nl10000, nl10200, nl13520, nl14000, nl20000, nl32768, nl40000, nl46000, nl64000, nl65536, nl78000, nl100000, nl128000, nl400000, nl730000, h]
  · have : ¬ v = 0 := e
    rw [if_pos this]
    rfl
/-- one turn of M's loop: a factor with a node -/
theorem mC_node (hb : ls s 43 = nI 0) (hf : gX26_factor s = some (nI t, s')) (hb' : ls s' 43 = nI 0) (ht : 0 < t) (ht' : t < 8000) : mC (F + 1) (nI 0) s = mB xLim F (nI t) s' := by
  have e : gX26_condition_16b (nI 0) s = (gX26_behindFactor (nI t) s').bind fun p4 => some (.inl p4.1, p4.2) := by
    unfold gX26_condition_16b gX26_condition_49
    rw [if_neg (fun z => z rfl), gl_x, hb, if_neg (fun z => z rfl), hf, gl_bs, if_neg (by rw [nl0, pI_le (by omega) (by decide)]; omega), gl_x, hb', if_neg (fun z => z rfl)]
  rw [mC_s, e]
  unfold gX26_behindFactor gX26_behindFactor_2 mB mCk
  rcases gloop (fun (a : (Int32)) s => gX26_behindFactor_2b a s) xLim (nI t) s' with _ | ⟨_, _⟩
  · rfl
  · rfl
/-- without one -/
theorem mC_none (hb : ls s 43 = nI 0) (hf : gX26_factor s = some (nI 0, s')) : mC (F + 1) (nI 0) s = mC F (nI 0) s' := by
  unfold mC
  refine gl_step ?_
  unfold gX26_condition_16b gX26_condition_49
  rw [if_neg (fun z => z rfl), gl_x, hb, if_neg (fun z => z rfl), hf, gl_bs, if_pos (show (nI 0, s').1 ≤ 0 from Int32.le_refl _)]
/-- a factor that fails -/
theorem mC_fail (hb : ls s 43 = nI 0) (hf : gX26_factor s = some (v, s')) (hb' : ls s' 43 = nI 1) (hF : 0 < F) : ∃ u, mC (F + 1) (nI 0) s = some (u, s') := by
  have e : gX26_condition_16b (nI 0) s = some (.inl (nI 0), s') := by
    unfold gX26_condition_16b gX26_condition_49
    rw [if_neg (fun z => z rfl), gl_x, hb, if_neg (fun z => z rfl), hf, gl_bs]
    by_cases h : v ≤ 0
    · rw [if_pos h]
    · rw [if_neg h, gl_x, hb', if_pos (by first | decide | exact bF | exact bT | exact n1n)]
  obtain ⟨u, hu⟩ := mC_bad (v := nI 0) (s := s') hb' hF
  refine ⟨u, ?_⟩
  unfold mC at hu ⊢
  rw [gl_step e]
  exact hu
/-- the condition is whole -/
theorem mC_done (ht : v ≠ nI 0) : mC (F + 1) v s = some (v, s) := by
  unfold mC
  refine gl_done ?_
  unfold gX26_condition_16b gX26_condition_52
  have : ¬ v = 0 := ht
  rw [if_pos this]
  rfl
/-! links -/
theorem M_117 : gX26_behindFactor_117 v v' s = (gst s 60 64 v' v).bind fun s2 => (gld s2 61 64 v').bind fun x4 => (gst s2 61 64 v' (x4 + (1 : Int32))).bind fun s5 => gM1 v' s5 := rfl
theorem M_link0 (hj : jn < 64) (h57 : ls s 57 = nI (jn + 1)) (ht : t < 8000) (hl : l ≠ [] → l.getLastD 0 < 8000) (hn : l.length < 8000) (h60 : l ≠ [] → la s 60 jn = nI (l.getLastD 0)) (h61 : la s 61 jn = nI l.length) : ∃ s', gX26_behindFactor_72 (nI t) s = gM1 (nI jn) s' ∧ mLn s 0 jn l t s' := by
  have h8 : (8000 : Nat) < 2 ^ 31 := by decide
  have h6 : (64 : Nat) < 2 ^ 31 := by decide
  by_cases e : l = []
  · refine ⟨ua (ua (ua (ua s 15 (upd (la s 15) t (nI 0))) 59 (upd (la s 59) jn (nI t))) 60 (upd (la s 60) jn (nI t))) 61 (upd (la s 61) jn (nI (l.length + 1))), ?_, mLn.mk (fun k => rfl) (fun k h1 h2 => ?_) ?_ (fun k i h1 h2 h3 => ?_) ?_ ?_ ?_ (fun z => absurd z (by decide)) (fun _ k h1 h2 => ?_)⟩
    · unfold gX26_behindFactor_72
      rw [gl_x, h57, nl1, pI_sub (by omega), Nat.add_sub_cancel, gl_x, pgst ht h8, gl_bs, pgld hj h6, gl_bs]
      show (if ¬ la s 61 jn = 0 then _ else _) = _
      rw [h61, e, if_neg (fun z => z rfl), pgst hj h6, gl_bs, M_117, pgst hj h6, gl_bs, pgld hj h6, gl_bs, pgst hj h6, gl_bs]
      show gM1 (nI jn) (ua _ 61 (upd (la s 61) jn (la s 61 jn + 1))) = _
      rw [h61, e]
      rfl
    · rw [la_ua, if_neg (by omega), la_ua, if_neg (by omega), la_ua, if_neg (by omega), la_ua, if_neg (by omega)]
    · rw [if_pos e]; rfl
    · rw [la_ua]
      split
      · rename_i z; subst z; exact upd_other h3
      · rw [la_ua]
        split
        · rename_i z; subst z; exact upd_other h3
        · rw [la_ua]
          split
          · rename_i z; subst z; exact upd_other h3
          · rw [la_ua, if_neg (by omega)]
    · rw [if_pos e, la_ua, if_neg (by first | decide | exact bT | exact n1n), la_ua, if_neg (by first | decide | exact bT | exact n1n), la_ua, if_pos rfl, upd_same]
    · rw [la_ua, if_neg (by first | decide | exact bT | exact n1n), la_ua, if_pos rfl, upd_same]
    · rw [la_ua, if_pos rfl, upd_same]
    · rw [la_ua, if_neg (by omega), la_ua, if_neg (by omega), la_ua, if_neg (by omega), la_ua, if_neg (by omega)]
  · have hl8 := hl e
    have h60' := h60 e
    have hlen : l.length ≠ 0 := fun z => e (List.length_eq_zero_iff.mp z)
    refine ⟨ua (ua (ua s 15 (upd (upd (la s 15) t (nI 0)) (l.getLastD 0) (nI t))) 60 (upd (la s 60) jn (nI t))) 61 (upd (la s 61) jn (nI (l.length + 1))), ?_, mLn.mk (fun k => rfl) (fun k h1 h2 => ?_) ?_ (fun k i h1 h2 h3 => ?_) ?_ ?_ ?_ (fun z => absurd z (by decide)) (fun _ k h1 h2 => ?_)⟩
    · unfold gX26_behindFactor_72
      rw [gl_x, h57, nl1, pI_sub (by omega), Nat.add_sub_cancel, gl_x, pgst ht h8, gl_bs, pgld hj h6, gl_bs]
      show (if ¬ la s 61 jn = 0 then _ else _) = _
      rw [h61, if_pos (by rw [nl0, pI_inj (by omega) (by decide)]; exact hlen), pgld hj h6, gl_bs]
      show ((gst _ 15 8000 (la s 60 jn) (nI t)).bind _) = _
      rw [h60', pgst hl8 h8, gl_bs, M_117, pgst hj h6, gl_bs, pgld hj h6, gl_bs, pgst hj h6, gl_bs, ua_ua]
      show gM1 (nI jn) (ua (ua (ua s 15 _) 60 _) 61 (upd (la s 61) jn (la s 61 jn + 1))) = _
      rw [h61, pI_succ]
      rfl
    · rw [la_ua, if_neg (by omega), la_ua, if_neg (by omega), la_ua, if_neg (by omega)]
    · rw [if_neg e]; rfl
    · rw [la_ua]
      split
      · rename_i z; subst z; exact upd_other h3
      · rw [la_ua]
        split
        · rename_i z; subst z; exact upd_other h3
        · rw [la_ua, if_neg (by omega)]
    · rw [if_neg e, la_ua, if_neg (by first | decide | exact bT | exact n1n), la_ua, if_neg (by first | decide | exact bT | exact n1n), la_ua, if_neg (by first | decide | exact bT | exact n1n)]
    · rw [la_ua, if_neg (by first | decide | exact bT | exact n1n), la_ua, if_pos rfl, upd_same]
    · rw [la_ua, if_pos rfl, upd_same]
    · rw [la_ua, if_neg (by omega), la_ua, if_neg (by omega), la_ua, if_neg (by omega)]
theorem M_link1 (hj : jn < 64) (ht : t < 8000) (hl : l ≠ [] → l.getLastD 0 < 8000) (hn : l.length < 8000) (h63 : l ≠ [] → la s 63 jn = nI (l.getLastD 0)) (h64 : la s 64 jn = nI l.length) : ∃ s', ((gT2 (nI jn) (nI t) s).bind fun p => gM2 (nI jn) p.2) = gM2 (nI jn) s' ∧ mLn s 1 jn l t s' := by
  have h8 : (8000 : Nat) < 2 ^ 31 := by decide
  have h6 : (64 : Nat) < 2 ^ 31 := by decide
  by_cases e : l = []
  · refine ⟨ua (ua (ua (ua (ua s 61 (upd (la s 61) jn (nI 0))) 15 (upd (la s 15) t (nI 0))) 62 (upd (la s 62) jn (nI t))) 63 (upd (la s 63) jn (nI t))) 64 (upd (la s 64) jn (nI (l.length + 1))), ?_, mLn.mk (fun k => rfl) (fun k h1 h2 => ?_) ?_ (fun k i h1 h2 h3 => ?_) ?_ ?_ ?_ (fun _ => ?_) (fun z => absurd z (by decide))⟩
    · unfold gT2 gX26_closeAnds_77
      rw [pgst hj h6, gl_bs, pgst ht h8, gl_bs, pgld hj h6, gl_bs]
      show Option.bind (if ¬ la s 64 jn = 0 then _ else _) _ = _
      rw [h64, e, if_neg (fun z => z rfl), pgst hj h6, gl_bs, pgst hj h6, gl_bs, pgld hj h6, gl_bs, pgst hj h6, gl_bs, gl_bs]
      show gM2 (nI jn) (ua _ 64 (upd (la s 64) jn (la s 64 jn + 1))) = _
      rw [h64, e]
      rfl
    · rw [la_ua, if_neg (by omega), la_ua, if_neg (by omega), la_ua, if_neg (by omega), la_ua, if_neg (by omega), la_ua, if_neg (by omega)]
    · rw [if_pos e]; rfl
    · rw [la_ua]
      split
      · rename_i z; subst z; exact upd_other h3
      · rw [la_ua]
        split
        · rename_i z; subst z; exact upd_other h3
        · rw [la_ua]
          split
          · rename_i z; subst z; exact upd_other h3
          · rw [la_ua, if_neg (by omega), la_ua]
            split
            · rename_i z; subst z; exact upd_other h3
            · rfl
    · rw [if_pos e, la_ua, if_neg (by first | decide | exact bT | exact n1n), la_ua, if_neg (by first | decide | exact bT | exact n1n), la_ua, if_pos rfl, upd_same]
    · rw [la_ua, if_neg (by first | decide | exact bT | exact n1n), la_ua, if_pos rfl, upd_same]
    · rw [la_ua, if_pos rfl, upd_same]
    · rw [la_ua, if_neg (by first | decide | exact bT | exact n1n), la_ua, if_neg (by first | decide | exact bT | exact n1n), la_ua, if_neg (by first | decide | exact bT | exact n1n), la_ua, if_neg (by first | decide | exact bT | exact n1n), la_ua, if_pos rfl, upd_same]
  · have hl8 := hl e
    have h60' := h63 e
    have hlen : l.length ≠ 0 := fun z => e (List.length_eq_zero_iff.mp z)
    refine ⟨ua (ua (ua (ua s 61 (upd (la s 61) jn (nI 0))) 15 (upd (upd (la s 15) t (nI 0)) (l.getLastD 0) (nI t))) 63 (upd (la s 63) jn (nI t))) 64 (upd (la s 64) jn (nI (l.length + 1))), ?_, mLn.mk (fun k => rfl) (fun k h1 h2 => ?_) ?_ (fun k i h1 h2 h3 => ?_) ?_ ?_ ?_ (fun _ => ?_) (fun z => absurd z (by decide))⟩
    · unfold gT2 gX26_closeAnds_77
      rw [pgst hj h6, gl_bs, pgst ht h8, gl_bs, pgld hj h6, gl_bs]
      show Option.bind (if ¬ la s 64 jn = 0 then _ else _) _ = _
      rw [h64, if_pos (by rw [nl0, pI_inj (by omega) (by decide)]; exact hlen), pgld hj h6, gl_bs]
      show ((gst _ 15 8000 (la s 63 jn) (nI t)).bind _).bind _ = _
      rw [h60', pgst hl8 h8, gl_bs, pgst hj h6, gl_bs, pgld hj h6, gl_bs, pgst hj h6, gl_bs, gl_bs, ua_ua]
      show gM2 (nI jn) (ua (ua (ua (ua s 61 _) 15 _) 63 _) 64 (upd (la s 64) jn (la s 64 jn + 1))) = _
      rw [h64, pI_succ]
      rfl
    · rw [la_ua, if_neg (by omega), la_ua, if_neg (by omega), la_ua, if_neg (by omega), la_ua, if_neg (by omega)]
    · rw [if_neg e]; rfl
    · rw [la_ua]
      split
      · rename_i z; subst z; exact upd_other h3
      · rw [la_ua]
        split
        · rename_i z; subst z; exact upd_other h3
        · rw [la_ua, if_neg (by omega), la_ua]
          split
          · rename_i z; subst z; exact upd_other h3
          · rfl
    · rw [if_neg e, la_ua, if_neg (by first | decide | exact bT | exact n1n), la_ua, if_neg (by first | decide | exact bT | exact n1n), la_ua, if_neg (by first | decide | exact bT | exact n1n), la_ua, if_neg (by first | decide | exact bT | exact n1n)]
    · rw [la_ua, if_neg (by first | decide | exact bT | exact n1n), la_ua, if_pos rfl, upd_same]
    · rw [la_ua, if_pos rfl, upd_same]
    · rw [la_ua, if_neg (by first | decide | exact bT | exact n1n), la_ua, if_neg (by first | decide | exact bT | exact n1n), la_ua, if_neg (by first | decide | exact bT | exact n1n), la_ua, if_pos rfl, upd_same]
/-- both kinds -/
theorem M_link {o : Nat} (ho : o ≤ 1) (hj : jn < 64) (h57 : ls s 57 = nI (jn + 1)) (ht : t < 8000) (hl : l ≠ [] → l.getLastD 0 < 8000) (hn : l.length < 8000) (h60 : l ≠ [] → la s (60 + 3 * o) jn = nI (l.getLastD 0)) (h61 : la s (61 + 3 * o) jn = nI l.length) : ∃ s', gP o jn (nI t) s = gKK o jn s' ∧ mLn s o jn l t s' := by
  have : o = 0 ∨ o = 1 := by omega
  rcases this with rfl | rfl
  · obtain ⟨s', x1, x2⟩ := M_link0 hj h57 ht hl hn h60 h61
    exact ⟨s', x1, x2⟩
  · obtain ⟨s', x1, x2⟩ := M_link1 hj ht hl hn h60 h61
    exact ⟨s', x1, x2⟩
/-- the row of nodes behind a link -/
theorem pCh_link {f f' : Nat → Int32} (h : pCh f l) (hd : l.Nodup) (ht : t ∉ l) (hf : f' = if l = [] then upd f t (nI 0) else upd (upd f t (nI 0)) (l.getLastD 0) (nI t)) : pCh f' (l ++ [t]) := by
  by_cases e : l = []
  · subst e
    rw [if_pos rfl] at hf
    subst hf
    show upd f t (nI 0) t = nI 0
    rw [upd_same]
  · rw [if_neg e] at hf
    have hm := last_mem e
    subst hf
    refine pCh_add h e hd upd_same ?_ (fun u hu hne => ?_)
    · rw [upd_other (fun z => ht (by rw [z]; exact hm)), upd_same]
    · rw [upd_other hne, upd_other (fun z => ht (by rw [← z]; exact hu))]
/-! nodes in a row become one -/
theorem M_whl : ∀ {r l : List Nat} {s : zM} {F : Nat}, n = l.length + r.length → n < 8000 → r.length < F → to < 8000 → (l ++ r).Nodup → (∀ t, t ∈ l ++ r → 0 < t ∧ t < 8000) → la s 13 to = nI (l.headD 0) → la s 14 to = nI (l.getLastD 0) → pCh (la s 15) r → gloop (fun (a : (Int32 × Int32 × Int32 × Int32)) s => gX26_whole_28b a.1 a.2.1 a.2.2.1 a.2.2.2 s) F (nI n, nI to, nI (r.headD 0), nI l.length) s = some (nI to, mAts s to l r)
  | [], l, s, F, hn, hn1, hF, _, _, _, _, _, _ => by
    obtain ⟨f, rfl⟩ : ∃ f, F = f + 1 := ⟨F - 1, by omega⟩
    refine gl_done ?_
    unfold gX26_whole_28b
    have : n = l.length := by simpa using hn
    rw [this, if_pos (Int32.le_refl _)]
    rfl
  | t :: r, l, s, F, hn, hn1, hF, hto, hd, hm, h13, h14, hc => by
    obtain ⟨f, rfl⟩ : ∃ f, F = f + 1 := ⟨F - 1, by omega⟩
    rw [List.length_cons] at hn hF
    have mt := hm t (by simp)
    have at1 := M_att (s := s) (to := to) (t := t) (l := l) (by
      by_cases e : l = []
      · exact .inl e
      · have h1 := hm _ (List.mem_append_left (t :: r) (last_mem e))
        have h2 : l.headD 0 ∈ l := by
          cases l with
          | nil => exact absurd rfl e
          | cons x l => exact List.mem_cons_self
        have h3 := hm _ (List.mem_append_left (t :: r) h2)
        exact .inr ⟨e, by omega, h3.2, h1.2⟩) h13 h14 hto mt.2
    have A := mAtS_at (s := s) (to := to) (t := t) (l := l)
    have hd' := hd
    rw [List.nodup_append] at hd'
    obtain ⟨d1, d2, d3⟩ := hd'
    rw [List.nodup_cons] at d2
    have nxt : la s 15 t = nI (r.headD 0) := by
      cases r with
      | nil => exact hc
      | cons x r => exact hc.1
    have step : gX26_whole_28b (nI n) (nI to) (nI t) (nI l.length) s = some (.inl (nI n, nI to, nI (r.headD 0), nI (l ++ [t]).length), mAtS s to l t) := by
      unfold gX26_whole_28b
      rw [if_neg (by rw [pI_le (by omega) (by omega)]; omega), pgld mt.2 (by decide), gl_bs, nxt, at1, gl_bs, pI_succ, List.length_append, List.length_singleton]
    have hc' : pCh (la (mAtS s to l t) 15) r := by
      have h0 : pCh (la s 15) r := by
        cases r with
        | nil => trivial
        | cons x r => exact hc.2
      refine pCh_fr h0 (fun u hu => ?_)
      have u1 : u ≠ t := fun z => d2.1 (z ▸ hu)
      rw [A.r15]
      split
      · exact upd_other u1
      · rename_i z
        rw [upd_other (fun e => d3 _ (last_mem z) u (List.mem_cons_of_mem _ hu) e.symm), upd_other u1]
    have R := M_whl (r := r) (l := l ++ [t]) (s := mAtS s to l t) (F := f) (by rw [List.length_append, List.length_singleton]; omega) hn1 (by omega) hto (by rw [List.append_assoc]; exact hd) (fun u hu => hm u (by rw [List.append_assoc] at hu; exact hu)) ?_ ?_ hc'
    · rw [gl_step (a' := (nI n, nI to, nI (r.headD 0), nI (l ++ [t]).length)) (s' := mAtS s to l t) step]
      exact R
    · rw [A.r13]
      by_cases e : l = []
      · subst e
        rw [if_pos rfl, upd_same]; rfl
      · rw [if_neg e, head_add e]; exact h13
    · rw [A.r14, upd_same, last_add]
theorem M_whole1 : gX26_whole v v' kv (nI 1) s = some (v', s) := by
  unfold gX26_whole
  rw [if_neg (fun z => z rfl)]
theorem M_whole (h8 : ls s 8 = nI N) (hN : N < 8000) (hl : 2 ≤ l.length) (hl1 : l.length < 8000) (hd : l.Nodup) (hm : ∀ t, t ∈ l → 0 < t ∧ t < N) (hc : pCh (la s 15) l) : gX26_whole kv (nI (l.headD 0)) v (nI l.length) s = some (nI N, mAts (mMk s N kv (nI 0) (la s 11 (l.headD 0))) N [] l) := by
  have hh : l.headD 0 ∈ l := by
    cases l with
    | nil => simp at hl
    | cons x l => exact List.mem_cons_self
  have h1 := hm _ hh
  have mk := M_make (s := s) (N := N) (kv := kv) (v := nI 0) (v' := la s 11 (l.headD 0)) h8 hN
  have L := M_whl (n := l.length) (to := N) (r := l) (l := []) (s := mMk s N kv (nI 0) (la s 11 (l.headD 0))) (F := xLim) (by simp) hl1 (by have : xLim = 1000000000 := rfl; omega) hN hd (fun t ht => by have := hm t ht; omega) (by rw [mMk_la (by decide) (by decide), if_pos rfl]; rfl) (by rw [mMk_la (by decide) (by decide), if_pos rfl]; rfl) (pCh_fr hc (fun u hu => by have := hm u hu; rw [mMk_la (by decide) (by decide), if_neg (by omega)]))
  unfold gX26_whole
  rw [if_pos (by rw [nl1, pI_inj (by omega) (by decide)]; omega), pgld (by omega) (by decide), gl_bs, nl0, mk, gl_bs]
  exact L
end PAS
