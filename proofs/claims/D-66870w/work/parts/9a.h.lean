/-! THE PURE LAYER: the parser: sums, X's descent against M's rows of brackets. -/
def wG (c : pC) (k : Nat) : Nat := if k < c.n ∧ c.ks k = 5 ∧ 5 ≤ c.vs k ∧ c.vs k ≤ 8 then c.vs k else 0
/-- M's loop over units; and from behind a unit on -/
def mW (F : Nat) (x : Int32) (s : zM) : gF Int32 := gloop (fun (a : (Int32)) s => gX26_sum_11b a s) F x s
def mV (F1 F : Nat) (x : Int32) (s : zM) : gF Int32 := (gloop (fun (a : (Int32)) s => gX26_behindUnit_2b a s) F1 x s).bind fun p => mW F p.1 p.2
def mKf (F1 F : Nat) (o : gF (Int32 ⊕ Int32)) : gF Int32 := match o with
  | some (.inl t, s) => mV F1 F t s
  | some (.inr r, s) => mW F r s
  | none => none
/-- a bracket's sum is whole -/
def mSe (k : Int32) (s : zM) : gF (Int32 ⊕ Int32) :=
  if ¬ k = 0 then
    xlet (ls s 41) fun x12 =>
    (gX26_isSign x12 1 s).bind fun p13 =>
    if ¬ p13.1 = 0 then
      xlet (ls p13.2 41) fun x14 =>
      xlet (us p13.2 41 (x14 + (1 : Int32))) fun s15 =>
      (gld s15 50 64 k).bind fun x17 =>
      xlet (ls s15 49) fun x18 =>
      xlet (us s15 49 (x18 - (1 : Int32))) fun s19 =>
      xlet (ls s19 44) fun x20 =>
      xlet (us s19 44 (x20 - (1 : Int32))) fun s21 =>
      some (.inl (x17), s21)
    else
      ginr (
        xlet (ls p13.2 41) fun x22 =>
        (gX26_fail 1 x22 p13.2).bind fun p23 =>
        some (0, p23.2))
  else
    ginr (
      (gld s 50 64 (0 : Int32)).bind fun x25 =>
      some (x25, s))
/-- what stays of the brackets' rows below m -/
def pT (m : Nat) (s s' : zM) : Prop := ls s' 49 = ls s 49 ∧ ∀ i j, 50 ≤ i → i ≤ 53 → j < m → la s' i j = la s i j
/-- a part of a sum was read, from word a to a': node t -/
def pZ (c : pC) (a d b N : Nat) (g : pG) (α : zS) (s : zM) (F : Nat) (F1' F' a' b' N' t : Nat) (g' : pG) (β : zS) (s' : zM) : Prop := (pR c a' d b' N' 0 g' β s') ∧ (pY c N g α s N' g' β s') ∧ (N ≤ t) ∧ (t < N') ∧ (la s' 16 t = nI 0) ∧ (g'.r t < 2 * (a' - a)) ∧ (zn α ≤ g'.oa t) ∧ (a < a') ∧ (b' + 10 * a ≤ b + 10 * a') ∧ (F + a ≤ F' + a') ∧ (xLim + a ≤ F1' + a')
theorem pZ.R {c : pC} {a d b N : Nat} {g : pG} {α : zS} {s : zM} {F : Nat} {F1' F' a' b' N' t : Nat} {g' : pG} {β : zS} {s' : zM} (h : pZ c a d b N g α s F F1' F' a' b' N' t g' β s') : pR c a' d b' N' 0 g' β s' := by
  unfold pZ at h
  exact h.1
theorem pZ.Y {c : pC} {a d b N : Nat} {g : pG} {α : zS} {s : zM} {F : Nat} {F1' F' a' b' N' t : Nat} {g' : pG} {β : zS} {s' : zM} (h : pZ c a d b N g α s F F1' F' a' b' N' t g' β s') : pY c N g α s N' g' β s' := by
  unfold pZ at h
  exact h.2.1
theorem pZ.t1 {c : pC} {a d b N : Nat} {g : pG} {α : zS} {s : zM} {F : Nat} {F1' F' a' b' N' t : Nat} {g' : pG} {β : zS} {s' : zM} (h : pZ c a d b N g α s F F1' F' a' b' N' t g' β s') : N ≤ t := by
  unfold pZ at h
  exact h.2.2.1
theorem pZ.t2 {c : pC} {a d b N : Nat} {g : pG} {α : zS} {s : zM} {F : Nat} {F1' F' a' b' N' t : Nat} {g' : pG} {β : zS} {s' : zM} (h : pZ c a d b N g α s F F1' F' a' b' N' t g' β s') : t < N' := by
  unfold pZ at h
  exact h.2.2.2.1
theorem pZ.t3 {c : pC} {a d b N : Nat} {g : pG} {α : zS} {s : zM} {F : Nat} {F1' F' a' b' N' t : Nat} {g' : pG} {β : zS} {s' : zM} (h : pZ c a d b N g α s F F1' F' a' b' N' t g' β s') : la s' 16 t = nI 0 := by
  unfold pZ at h
  exact h.2.2.2.2.1
theorem pZ.t4 {c : pC} {a d b N : Nat} {g : pG} {α : zS} {s : zM} {F : Nat} {F1' F' a' b' N' t : Nat} {g' : pG} {β : zS} {s' : zM} (h : pZ c a d b N g α s F F1' F' a' b' N' t g' β s') : g'.r t < 2 * (a' - a) := by
  unfold pZ at h
  exact h.2.2.2.2.2.1
theorem pZ.t5 {c : pC} {a d b N : Nat} {g : pG} {α : zS} {s : zM} {F : Nat} {F1' F' a' b' N' t : Nat} {g' : pG} {β : zS} {s' : zM} (h : pZ c a d b N g α s F F1' F' a' b' N' t g' β s') : zn α ≤ g'.oa t := by
  unfold pZ at h
  exact h.2.2.2.2.2.2.1
theorem pZ.a1 {c : pC} {a d b N : Nat} {g : pG} {α : zS} {s : zM} {F : Nat} {F1' F' a' b' N' t : Nat} {g' : pG} {β : zS} {s' : zM} (h : pZ c a d b N g α s F F1' F' a' b' N' t g' β s') : a < a' := by
  unfold pZ at h
  exact h.2.2.2.2.2.2.2.1
theorem pZ.b1 {c : pC} {a d b N : Nat} {g : pG} {α : zS} {s : zM} {F : Nat} {F1' F' a' b' N' t : Nat} {g' : pG} {β : zS} {s' : zM} (h : pZ c a d b N g α s F F1' F' a' b' N' t g' β s') : b' + 10 * a ≤ b + 10 * a' := by
  unfold pZ at h
  exact h.2.2.2.2.2.2.2.2.1
theorem pZ.f1 {c : pC} {a d b N : Nat} {g : pG} {α : zS} {s : zM} {F : Nat} {F1' F' a' b' N' t : Nat} {g' : pG} {β : zS} {s' : zM} (h : pZ c a d b N g α s F F1' F' a' b' N' t g' β s') : F + a ≤ F' + a' := by
  unfold pZ at h
  exact h.2.2.2.2.2.2.2.2.2.1
theorem pZ.f2 {c : pC} {a d b N : Nat} {g : pG} {α : zS} {s : zM} {F : Nat} {F1' F' a' b' N' t : Nat} {g' : pG} {β : zS} {s' : zM} (h : pZ c a d b N g α s F F1' F' a' b' N' t g' β s') : xLim + a ≤ F1' + a' := by
  unfold pZ at h
  exact h.2.2.2.2.2.2.2.2.2.2
theorem pZ.mk {c : pC} {a d b N : Nat} {g : pG} {α : zS} {s : zM} {F : Nat} {F1' F' a' b' N' t : Nat} {g' : pG} {β : zS} {s' : zM} (x0 : pR c a' d b' N' 0 g' β s') (x1 : pY c N g α s N' g' β s') (x2 : N ≤ t) (x3 : t < N') (x4 : la s' 16 t = nI 0) (x5 : g'.r t < 2 * (a' - a)) (x6 : zn α ≤ g'.oa t) (x7 : a < a') (x8 : b' + 10 * a ≤ b + 10 * a') (x9 : F + a ≤ F' + a') (x10 : xLim + a ≤ F1' + a') : pZ c a d b N g α s F F1' F' a' b' N' t g' β s' := by
  unfold pZ
  exact ⟨x0, x1, x2, x3, x4, x5, x6, x7, x8, x9, x10⟩
/-- both read a part of a sum (M is at T, then at what P says), or both fail -/
def sG (c : pC) (a d b N : Nat) (g : pG) (α : zS) (s : zM) (F : Nat) (fX : zF ((Option Nat) ⊕ Nat)) (T : gF Int32) (P : Nat → Nat → Nat → Nat → zM → Prop) : Prop := (∃ β t F1' F' s' a' b' N' g', fX = some (.inl (some (g'.oa t)), β) ∧ P F1' F' a' t s' ∧ pZ c a d b N g α s F F1' F' a' b' N' t g' β s') ∨ (∃ e β u s' wh w, fX = some (.inr e, β) ∧ zthr β e 3 = true ∧ T = some (u, s') ∧ pE c wh w β s' ∧ pPl s s')
section PAH
variable {c : pC} {G : xQ} {α β γ αs : zS} {s s' s2 ss : zM} {a a1 a' d b b' N N' N2 Ns as bs k t t2 u w wh q r F F1 F' sg f y to : Nat} {g g' g2 gs : pG} {v v' kv : Int32} {l ts : List Nat}
theorem mV_s : mV (F1 + 1) F v s = mKf F1 F (gX26_behindUnit_2b v s) := by
  unfold mV mKf
  rcases h : gX26_behindUnit_2b v s with _ | ⟨_ | _, _⟩
  · simp only [gloop, h, gl_bn]
  · simp only [gloop, h]
    rfl
  · simp only [gloop, h, gl_bs]
theorem pT.rf {m : Nat} : pT m s s := ⟨rfl, fun _ _ _ _ _ => rfl⟩
theorem pT.tr {m : Nat} (h : pT m s s') (h' : pT m s' s2) : pT m s s2 := ⟨h'.1.trans h.1, fun i j h1 h2 h3 => (h'.2 i j h1 h2 h3).trans (h.2 i j h1 h2 h3)⟩
theorem pT.le {m m' : Nat} (h : pT m s s') (hm : m' ≤ m) : pT m' s s' := ⟨h.1, fun i j h1 h2 h3 => h.2 i j h1 h2 (by omega)⟩
/-- bad states: temporary things may change -/
theorem pE.tmp (h : pE c wh w β s) (h1 : ∀ k, ¬ (k = 41 ∨ k = 44 ∨ k = 45 ∨ k = 49 ∨ 54 ≤ k ∧ k ≤ 57) → ls s' k = ls s k) (h2 : ∀ k, ¬ (46 ≤ k ∧ k ≤ 48 ∨ 50 ≤ k ∧ k ≤ 53 ∨ 58 ≤ k ∧ k ≤ 64) → la s' k = la s k) : pE c wh w β s' := by
  obtain ⟨F, f1, f2, f3, f4, f5⟩ := h.nt
  obtain ⟨N, n1, n2, n3⟩ := h.N
  refine pE.mk h.x h.xb h.xw (fun k hk => ?_) (fun k t k1 k2 ht => ?_) (fun k hk => ?_) ?_ ?_ ⟨F, f1, f2, ?_, ?_, ?_⟩ h.w1 h.w2 h.wh ⟨N, ?_, n2, n3⟩ h.zcb h.zwb
  · rw [h1 k (by omega)]; exact h.I k hk
  · rw [h2 k (by omega)]; exact h.A k t k1 k2 ht
  · rw [h2 k (by omega)]; exact h.B k hk
  · rw [h1 43 (by decide)]; exact h.b1
  · rw [h1 42 (by decide)]; exact h.b2
  · rw [h1 5 (by decide)]; exact f3
  · rw [h2 6 (by decide)]; exact f4
  · rw [h2 7 (by decide)]; exact f5
  · rw [h1 8 (by decide)]; exact n1
/-- M's loop ends in a bad state -/
theorem mW_bad (h : ls s 43 = nI 1) (hF : 0 < F) : ∃ u, mW F v s = some (u, s) := by
  obtain ⟨f, rfl⟩ : ∃ f, F = f + 1 := ⟨F - 1, by omega⟩
  refine ⟨v, ?_⟩
  unfold mW
  refine gl_done ?_
  unfold gX26_sum_11b gX26_sum_129
  by_cases e : v = nI 0
  · rw [e]
    simp (disch := omega) only [gld, gst, glj, gsj, gpN0, gpN1, gl_x, gl_gi, pI_in', pI_clamp, pI_add, pI_mul, pI_sub, pI_succ, nmod_eq, pI_div, ni_neg, zn_neg, gnar0, gnar1, eq_self, ni_lt, ni_le, ni_eq, ni_zlt, ni_zle, ni_zeq, zn_lt, zn_le, zn_eq, zz_lt, zz_le, zz_eq, ni_zadd, zn_add, ni_zsub, zn_sub, ni_zmul, zn_mul, nZ_add, nZ_sub, nZ_mul, upd_same, upd_other, upd_upd, gl_bi, gl_mi, gl_bs, gl_ms, gl_bn, gl_mn, if_true, if_false, ↓reduceIte, not_true_eq_false, not_false_eq_true, true_and, and_true, false_and, and_false, and_self, or_false, false_or, or_self, or_true, true_or, Nat.not_lt_zero, Nat.reduceAdd, Nat.reduceMul, Nat.add_zero, Nat.zero_add, Nat.mul_zero, Nat.zero_mul, Nat.reduceEqDiff, Nat.reduceLT, Nat.reduceLeDiff, Nat.succ_ne_zero, ua_ua, us_us, tn_le, tn_nle, tn_lt, tn_nlt, tn_eq, tn_ne, tz_le, tz_nle, tz_lt, tz_nlt, tz_eq, tz_ne, ls_us, ls_uj, ls_ua, ls_ub, lj_us, lj_uj, lj_ua, lj_ub, la_us, la_uj, la_ua, la_ub, lb_us, lb_uj, lb_ua, lb_ub, nl0, nl1, nl2, nl3, nl4, nl5, nl6, nl7, nl8, nl9, nl10, nl11, nl12, nl13, nl14, nl15, nl16, nl17, nl18, nl19, nl20, nl21, nl22, nl23, nl24, nl25, nl26, nl27, nl28, nl29, nl30, nl31, nl32, nl33, nl34, nl35, nl36, nl37, nl38, nl39, nl40, nl41, nl42, nl43, nl44, nl45, nl46, nl47, nl48, nl49, nl50, nl51, nl52, nl53, nl54, nl55, nl56, nl57, nl58, nl59, nl60, nl61, nl62, nl63, nl64, nl65, nl66, nl67, nl68, nl69, nl70, nl71, nl72, nl73, nl74, nl75, nl76, nl77, nl78, nl79, nl80, nl82, nl83, nl84, nl85, nl86, nl88, nl90, nl96, nl97, nl99, nl100, nl101, nl104, nl112, nl115, nl120, nl121, nl122, nl126, nl127, nl128, nl160, nl200, nl201, nl202, nl255, nl256, nl300, nl320, nl322, nl400, nl500, nl600, nl640, nl732, nl968, nl999, nl1000, nl1001, nl1040, nl1440, nl1500, nl1501, nl1600, nl2000, nl2240, nl3131, nl4000, nl4095, nl4096, nl4960, nl5000, nl6000, nl6001, nl8000, nl9999, nl10000, nl10200, nl13520, nl14000, nl20000, nl32768, nl40000, nl46000, nl64000, nl65536, nl78000, nl100000, nl128000, nl400000, nl730000, h]
  · have : ¬ v = 0 := e
    rw [if_pos this]
    rfl
theorem mKf_bad (h : ls s 43 = nI 1) (hF : 0 < F) {x : Int32} : ∃ u, mKf F1 F (some (.inr x, s)) = some (u, s) := mW_bad h hF
/-- X's changes that a start doesn't see -/
theorem pY.xs (h : pY c N g α s N' g' β s') (hx : ∀ q, q < zn α → q ≠ c.p → γ.2 q = β.2 q) (hn : zn β ≤ zn γ) : pY c N g α s N' g' γ s' := pY.mk h.x (by have := h.nn; omega) (fun q h1 h2 => (hx q h1 h2).trans (h.fx q h1 h2)) h.fm h.fc h.nw
theorem pY.many (h : pY c N g α s N2 g2 β s2) (hts : ∀ t, t ∈ ts → N ≤ t) (hq : zn α ≤ q) : pY c N g α s (N2 + 1) (gAdds (g2.push N2 q r) N2 ts) β (mAts (mMk s2 N2 kv v v') N2 [] ts) := by
  have n := h.x.n
  have la0 := fun j (h1 : 9 ≤ j) (h2 : j ≤ 16) i => mMk_la (s := s2) (N := N2) (kv := kv) (v := v) (v' := v') h1 h2 i
  have old : ∀ j i, 9 ≤ j → j ≤ 16 → i < N → la (mAts (mMk s2 N2 kv v v') N2 [] ts) j i = la s2 j i := fun j i h1 h2 h3 => by
    rw [mAts_old (by omega) (fun z => by have := hts i z; omega) (by simp), la0 j h1 h2, if_neg (by omega)]
  refine pY.mk (pX.mk (by omega) (fun t ht => ?_) (fun t ht => ?_) (fun t ht => ?_) (fun t ht => ?_) (h.x.pl.tr (mMk_pl.tr mAts_pl)) (fun t ht e => (old 10 t (by decide) (by decide) ht).trans (h.x.w10 t ht e))) h.nn h.fx (fun j i h1 h2 h3 => (old j i h1 h2 h3).trans (h.fm j i h1 h2 h3)) (fun t ht => ?_) (fun t ht ht' => ?_)
  · rw [gAdds_oa, push_oa, if_neg (by omega)]; exact h.x.oa t ht
  · rw [gAdds_r, push_r, if_neg (by omega)]; exact h.x.r t ht
  · exact (old 9 t (by decide) (by decide) ht).trans (h.x.kd t ht)
  · exact (old 16 t (by decide) (by decide) ht).trans (h.x.up t ht)
  · rw [gAdds_ch (by omega), push_ch, if_neg (by omega)]; exact h.fc t ht
  · rw [gAdds_oa, push_oa]
    split
    · exact hq
    · exact h.nw t ht (by omega)
/-- the sign behind a unit -/
theorem M_sg (h : pR c a d b N y g α s) : (wG c a = 0 ∧ wS c a 5 = false ∧ wS c a 6 = false ∧ wS c a 7 = false ∧ wS c a 8 = false) ∨ (a < c.n ∧ 5 ≤ wG c a ∧ wG c a ≤ 8 ∧ c.ks a = 5 ∧ c.vs a = wG c a ∧ wS c a (wG c a) = true) := by
  by_cases e : a < c.n ∧ c.ks a = 5 ∧ 5 ≤ c.vs a ∧ c.vs a ≤ 8
  · have : wG c a = c.vs a := if_pos e
    rw [this]
    exact .inr ⟨e.1, e.2.2.1, e.2.2.2, e.2.1, rfl, wS_t e.1 e.2.1 rfl⟩
  · have : wG c a = 0 := if_neg e
    exact .inl ⟨this, wS_f (by omega), wS_f (by omega), wS_f (by omega), wS_f (by omega)⟩
theorem wS_one (h : wS c a k = true) (hk : k ≠ w) : wS c a w = false := wS_f (fun z => by have := (wS_i h).2.2; omega)
/-- M joins two nodes -/
theorem M_join (h : pR c a d b N 0 g α s) (hN : N < 8000) (h1 : c.N0 ≤ t) (h2 : t < N) (h3 : t2 < N) (hsg : 0 < sg) (hs9 : sg < 100) : gX26_joined (nI t) (nI sg) (nI t2) s = (gX26_attach (nI N) (nI t) (mMk s N (nI 55) (nI sg) (la s 11 t))).bind fun p4 => (gX26_attach (nI N) (nI t2) p4.2).bind fun p5 => some (nI N, p5.2) := by
  have hd : t < 8000 := by omega
  unfold gX26_joined
  rw [if_pos (by rw [nl0, pI_inj (by omega) (by decide)]; omega), pgld hd (by decide), gl_bs, nl55, M_make h.Nm hN, gl_bs]
/-- M's attach by what its rows hold of node to -/
theorem M_att (hl : l = [] ∨ (l ≠ [] ∧ l.headD 0 ≠ 0 ∧ l.headD 0 < 8000 ∧ l.getLastD 0 < 8000)) (h13 : la s 13 to = nI (l.headD 0)) (h14 : la s 14 to = nI (l.getLastD 0)) (h1 : to < 8000) (h2 : t < 8000) : gX26_attach (nI to) (nI t) s = some ((), mAtS s to l t) := by
  have h8 : (8000 : Nat) < 2 ^ 31 := by decide
  unfold gX26_attach gX26_attach_45 mAtS
  rw [pgst h2 h8, gl_bs, pgst h2 h8, gl_bs, pgld h1 h8, gl_bs]
  rcases hl with e | ⟨e, e1, e2, e3⟩
  · have hd' : la s 13 to = nI 0 := by rw [h13, e]; rfl
    rw [if_neg (fun z => z (by show la s 13 to = 0; rw [hd']; rfl)), pgst h1 h8, gl_bs, pgst h1 h8, gl_bs]
    simp only [if_pos e]
    rfl
  · rw [if_pos (by show ¬ la s 13 to = 0; rw [h13, nl0, pI_inj (by omega) (by omega)]; exact e1), pgld h1 h8, gl_bs]
    show ((gst _ 15 8000 (la s 14 to) (nI t)).bind _) = _
    rw [h14, pgst e3 h8, gl_bs, pgst h1 h8, gl_bs]
    simp only [if_neg e]
    rfl
theorem M_joined (h : pR c a d b N 0 g α s) (hN : N < 8000) (h1 : c.N0 ≤ t) (h2 : t < N) (h3 : t2 < N) (hsg : 0 < sg) (hs9 : sg < 100) : gX26_joined (nI t) (nI sg) (nI t2) s = some (nI N, mAts (mMk s N (nI 55) (nI sg) (la s 11 t)) N [] [t, t2]) := by
  have N1 := h.k.N1
  have N0 := h.N0
  have A := mAtS_at (s := mMk s N (nI 55) (nI sg) (la s 11 t)) (to := N) (l := []) (t := t)
  rw [M_join h hN h1 h2 h3 hsg hs9, M_att (l := []) (.inl rfl) ?_ ?_ (by omega) (by omega), gl_bs, M_att (l := [t]) (.inr ⟨by simp, ?_, ?_, ?_⟩) ?_ ?_ (by omega) (by omega), gl_bs]
  · rfl
  · show t ≠ 0; omega
  · show t < 8000; omega
  · show t < 8000; omega
  · rw [A.r13, if_pos rfl, upd_same]; rfl
  · rw [A.r14, upd_same]; rfl
  · rw [mMk_la (by decide) (by decide), if_pos rfl]; rfl
  · rw [mMk_la (by decide) (by decide), if_pos rfl]; rfl
end PAH
