/-! THE PURE LAYER: the parser: a clause, whole. -/
/-- X's clause hands on what its parts answer -/
def wr (R : zF (Unit ⊕ Nat)) : zF (Unit ⊕ Nat) := zcase R (fun p => some (.inl (), p.2)) (fun p => if zthr p.2 p.1 3 = true then some (.inr p.1, p.2) else none)
section PAZZX
variable {L L2 : Nat → Prop} {c : pC} {D D' : pD} {G : xQ} {α β : zS} {s s' s1 : zM} {B at' a a1 b d dp e f l tp N N' F F' lo hi p q t to u x y k i j w wh lv m S r : Nat} {g g' g2 : pG} {v v' x1 x2 x3 x5 : Int32} {it : List Nat}
theorem M_inN (h1 : 0 < lo) (h2 : lo < 100) (h3 : hi < 100) : gX26_in (-1) (nI lo) (nI hi) s = some (nI 0, s) := by
  unfold gX26_in gX26_in_14 gX26_in_15
  rw [if_pos (show (-1 : Int32) < nI lo from Int32.lt_of_lt_of_le (show (-1 : Int32) < nI 0 from by decide) (by rw [pI_le (by decide) (by omega)]; omega)), if_pos (by decide)]
  rfl
theorem M_247_4 (am : ls s 41 = nI a) : gX26_reserved_247 v (nI 4) (nI a) (nI 0) s = (gX26_division2 (nI 4) (nI a) (maS s a)).bind fun p => some ((), p.2) := by
  have us1 : us s 41 (nI (a + 1)) = maS s a := rfl
  unfold gX26_reserved_247
  rw [if_pos (show nI 0 = 0 from rfl), if_pos (by decide), gl_x, am, gl_x, pI_succ, us1, if_pos (by decide)]
  rfl
theorem M_247_12 (am : ls s 41 = nI a) : gX26_reserved_247 v (nI 12) (nI a) (nI 0) s = (gX26_division2 (nI 12) (nI a) (maS s a)).bind fun p => some ((), p.2) := by
  have us1 : us s 41 (nI (a + 1)) = maS s a := rfl
  unfold gX26_reserved_247
  rw [if_pos (show nI 0 = 0 from rfl), if_pos (by decide), gl_x, am, gl_x, pI_succ, us1, if_pos (by decide)]
  rfl
theorem M_247_13 (am : ls s 41 = nI a) : gX26_reserved_247 v (nI 13) (nI a) (nI 0) s = (gX26_division2 (nI 13) (nI a) (maS s a)).bind fun p => some ((), p.2) := by
  have us1 : us s 41 (nI (a + 1)) = maS s a := rfl
  unfold gX26_reserved_247
  rw [if_pos (show nI 0 = 0 from rfl), if_pos (by decide), gl_x, am, gl_x, pI_succ, us1, if_pos (by decide)]
  rfl
theorem M_247_14 (am : ls s 41 = nI a) : gX26_reserved_247 v (nI 14) (nI a) (nI 0) s = (gX26_division2 (nI 14) (nI a) (maS s a)).bind fun p => some ((), p.2) := by
  have us1 : us s 41 (nI (a + 1)) = maS s a := rfl
  unfold gX26_reserved_247
  rw [if_pos (show nI 0 = 0 from rfl), if_pos (by decide), gl_x, am, gl_x, pI_succ, us1, if_pos (by decide)]
  rfl
theorem M_247_15 (am : ls s 41 = nI a) : gX26_reserved_247 v (nI 15) (nI a) (nI 0) s = (gX26_division2 (nI 15) (nI a) (maS s a)).bind fun p => some ((), p.2) := by
  have us1 : us s 41 (nI (a + 1)) = maS s a := rfl
  unfold gX26_reserved_247
  rw [if_pos (show nI 0 = 0 from rfl), if_pos (by decide), gl_x, am, gl_x, pI_succ, us1, if_pos (by decide)]
  rfl
theorem M_247_2 (am : ls s 41 = nI a) : gX26_reserved_247 v (nI 2) (nI a) (nI 0) s = (gX26_unitNamed (nI 0) (maS s a)).bind fun p => some ((), p.2) := by
  have us1 : us s 41 (nI (a + 1)) = maS s a := rfl
  unfold gX26_reserved_247
  rw [if_pos (show nI 0 = 0 from rfl), if_pos (by decide), gl_x, am, gl_x, pI_succ, us1, if_neg (by decide), if_pos (by decide)]
  unfold gX26_reserved_344 gX26_reserved_355
  rw [if_pos (by decide)]
  rfl
theorem M_247_3 (am : ls s 41 = nI a) : gX26_reserved_247 v (nI 3) (nI a) (nI 0) s = (gX26_unitNamed (nI 1) (maS s a)).bind fun p => some ((), p.2) := by
  have us1 : us s 41 (nI (a + 1)) = maS s a := rfl
  unfold gX26_reserved_247
  rw [if_pos (show nI 0 = 0 from rfl), if_pos (by decide), gl_x, am, gl_x, pI_succ, us1, if_neg (by decide), if_neg (by decide), if_pos (by decide)]
  unfold gX26_reserved_344 gX26_reserved_355
  rw [if_neg (by decide)]
  rfl
theorem M_247_5 (am : ls s 41 = nI a) : gX26_reserved_247 v (nI 5) (nI a) (nI 0) s = (gX26_select (nI a) (maS s a)).bind fun p => some ((), p.2) := by
  have us1 : us s 41 (nI (a + 1)) = maS s a := rfl
  unfold gX26_reserved_247
  rw [if_pos (show nI 0 = 0 from rfl), if_pos (by decide), gl_x, am, gl_x, pI_succ, us1, if_neg (by decide), if_neg (by decide), if_neg (by decide), if_pos (by decide)]
  rfl
theorem M_247_17 (am : ls s 41 = nI a) : gX26_reserved_247 v (nI 17) (nI a) (nI 0) s = (gX26_described (nI a) (maS s a)).bind fun p => some ((), p.2) := by
  have us1 : us s 41 (nI (a + 1)) = maS s a := rfl
  unfold gX26_reserved_247
  rw [if_pos (show nI 0 = 0 from rfl), if_pos (by decide), gl_x, am, gl_x, pI_succ, us1, if_neg (by decide), if_neg (by decide), if_neg (by decide), if_neg (by decide), if_pos (by decide)]
  rfl
theorem M_247_30 (am : ls s 41 = nI a) : gX26_reserved_247 v (nI 30) (nI a) (nI 0) s = (gX26_begun (nI a) (maS s a)).bind fun p => some ((), p.2) := by
  have us1 : us s 41 (nI (a + 1)) = maS s a := rfl
  unfold gX26_reserved_247
  rw [if_pos (show nI 0 = 0 from rfl), if_pos (by decide), gl_x, am, gl_x, pI_succ, us1, if_neg (by decide), if_neg (by decide), if_neg (by decide), if_neg (by decide), if_neg (by decide), if_pos (by decide)]
  rfl
theorem M_247_33 (am : ls s 41 = nI a) : gX26_reserved_247 v (nI 33) (nI a) (nI 0) s = (gX26_ended v (maS s a)).bind fun p => some ((), p.2) := by
  have us1 : us s 41 (nI (a + 1)) = maS s a := rfl
  unfold gX26_reserved_247
  rw [if_pos (show nI 0 = 0 from rfl), if_pos (by decide), gl_x, am, gl_x, pI_succ, us1, if_neg (by decide), if_neg (by decide), if_neg (by decide), if_neg (by decide), if_neg (by decide), if_neg (by decide), if_neg (by decide), if_pos (by decide)]
  rfl
theorem M_n209 (hw : w < 100000) : gX26_reserved_209 (-1) (nI w) x3 x5 s = gX26_reserved_223 (-1) (nI w) x3 x5 s := by
  unfold gX26_reserved_209
  by_cases z : w = 33
  · rw [if_neg (show ¬ ¬ nI w = 33 from fun y => y (by rw [z]; rfl))]
    rw [if_pos (by decide)]
  · rw [if_pos (show ¬ nI w = 33 from fun y => z ((pI_inj (b := 33) (by omega) (by decide)).mp y))]
theorem M_n197 (hw : w < 100000) : gX26_reserved_197 (-1) (nI w) x3 x5 s = gX26_reserved_209 (-1) (nI w) x3 x5 s := by
  unfold gX26_reserved_197
  by_cases z : w = 32
  · rw [if_neg (show ¬ ¬ nI w = 32 from fun y => y (by rw [z]; rfl))]
    rw [if_neg (by decide)]
  · rw [if_pos (show ¬ nI w = 32 from fun y => z ((pI_inj (b := 32) (by omega) (by decide)).mp y))]
theorem M_n181 (hw : w < 100000) : gX26_reserved_181 (-1) (nI w) x3 x5 s = gX26_reserved_197 (-1) (nI w) x3 x5 s := by
  unfold gX26_reserved_181
  by_cases z : w = 30
  · rw [if_neg (show ¬ ¬ nI w = 30 from fun y => y (by rw [z]; rfl))]
    show Option.bind (gX26_in (-1) (nI 1) (nI 7) s) _ = _
    rw [M_inN (by decide) (by decide) (by decide), gl_bs, if_neg (show ¬ ¬ nI 0 = 0 from fun z => z rfl)]
  · rw [if_pos (show ¬ nI w = 30 from fun y => z ((pI_inj (b := 30) (by omega) (by decide)).mp y))]
theorem M_n165 (hw : w < 100000) : gX26_reserved_165 (-1) (nI w) x3 x5 s = gX26_reserved_181 (-1) (nI w) x3 x5 s := by
  unfold gX26_reserved_165
  by_cases z : w = 15
  · rw [if_neg (show ¬ ¬ nI w = 15 from fun y => y (by rw [z]; rfl))]
    show Option.bind (gX26_in (-1) (nI 3) (nI 6) s) _ = _
    rw [M_inN (by decide) (by decide) (by decide), gl_bs, if_neg (show ¬ ¬ nI 0 = 0 from fun z => z rfl)]
  · rw [if_pos (show ¬ nI w = 15 from fun y => z ((pI_inj (b := 15) (by omega) (by decide)).mp y))]
theorem M_n150 (hw : w < 100000) : gX26_reserved_150 (-1) (nI w) x3 x5 s = gX26_reserved_165 (-1) (nI w) x3 x5 s := by
  unfold gX26_reserved_150
  by_cases z : w = 14
  · rw [if_neg (show ¬ ¬ nI w = 14 from fun y => y (by rw [z]; rfl))]
    show Option.bind (gX26_in (-1) (nI 3) (nI 5) s) _ = _
    rw [M_inN (by decide) (by decide) (by decide), gl_bs, if_neg (show ¬ ¬ nI 0 = 0 from fun z => z rfl)]
  · rw [if_pos (show ¬ nI w = 14 from fun y => z ((pI_inj (b := 14) (by omega) (by decide)).mp y))]
theorem M_n127 (hw : w < 100000) : gX26_reserved_127 (-1) (nI w) x3 x5 s = gX26_reserved_150 (-1) (nI w) x3 x5 s := by
  unfold gX26_reserved_127 gX26_reserved_128
  rw [if_neg (by decide)]
  by_cases z : w = 17
  · rw [if_neg (show ¬ ¬ nI w = 17 from fun y => y (by rw [z]; rfl))]
    show Option.bind (gX26_in (-1) (nI 4) (nI 5) s) _ = _
    rw [M_inN (by decide) (by decide) (by decide), gl_bs, if_neg (show ¬ ¬ nI 0 = 0 from fun z => z rfl)]
  · rw [if_pos (show ¬ nI w = 17 from fun y => z ((pI_inj (b := 17) (by omega) (by decide)).mp y))]
theorem M_n112 (hw : w < 100000) : gX26_reserved_112 (-1) (nI w) x3 x5 s = gX26_reserved_127 (-1) (nI w) x3 x5 s := by
  unfold gX26_reserved_112
  by_cases z : w = 13
  · rw [if_neg (show ¬ ¬ nI w = 13 from fun y => y (by rw [z]; rfl))]
    rw [if_pos (by decide)]
  · rw [if_pos (show ¬ nI w = 13 from fun y => z ((pI_inj (b := 13) (by omega) (by decide)).mp y))]
theorem M_n97 (hw : w < 100000) : gX26_reserved_97 (-1) (nI w) x3 x5 s = gX26_reserved_112 (-1) (nI w) x3 x5 s := by
  unfold gX26_reserved_97
  by_cases z : w = 12
  · rw [if_neg (show ¬ ¬ nI w = 12 from fun y => y (by rw [z]; rfl))]
    show Option.bind (gX26_in (-1) (nI 1) (nI 2) s) _ = _
    rw [M_inN (by decide) (by decide) (by decide), gl_bs, if_neg (show ¬ ¬ nI 0 = 0 from fun z => z rfl)]
  · rw [if_pos (show ¬ nI w = 12 from fun y => z ((pI_inj (b := 12) (by omega) (by decide)).mp y))]
theorem M_n87 (hw : w < 100000) : gX26_reserved_87 (-1) (nI w) x3 x5 s = gX26_reserved_97 (-1) (nI w) x3 x5 s := by
  unfold gX26_reserved_87
  by_cases z : w = 5
  · rw [if_neg (show ¬ ¬ nI w = 5 from fun y => y (by rw [z]; rfl))]
    rw [if_neg (by decide)]
  · rw [if_pos (show ¬ nI w = 5 from fun y => z ((pI_inj (b := 5) (by omega) (by decide)).mp y))]
theorem M_n77 (hw : w < 100000) : gX26_reserved_77 (-1) (nI w) x3 x5 s = gX26_reserved_87 (-1) (nI w) x3 x5 s := by
  unfold gX26_reserved_77
  by_cases z : w = 4
  · rw [if_neg (show ¬ ¬ nI w = 4 from fun y => y (by rw [z]; rfl))]
    rw [if_neg (by decide)]
  · rw [if_pos (show ¬ nI w = 4 from fun y => z ((pI_inj (b := 4) (by omega) (by decide)).mp y))]
theorem M_n60 (hw : w < 100000) : gX26_reserved_60 (-1) (nI w) x3 x5 s = gX26_reserved_77 (-1) (nI w) x3 x5 s := by
  unfold gX26_reserved_60
  by_cases z : w = 3
  · rw [if_neg (show ¬ ¬ nI w = 3 from fun y => y (by rw [z]; rfl))]
    rw [if_pos (by decide)]
  · rw [if_pos (show ¬ nI w = 3 from fun y => z ((pI_inj (b := 3) (by omega) (by decide)).mp y))]
/-- a statement's word -/
theorem M_res1 (hw : w < 100000) (hn : ¬ (w = 0 ∨ w = 2 ∨ w = 3 ∨ w = 4 ∨ w = 5 ∨ w = 12 ∨ w = 13 ∨ w = 14 ∨ w = 15 ∨ w = 17 ∨ w = 30 ∨ w = 32 ∨ w = 33)) : gX26_reserved_45 v (nI w) x3 (nI 1) s = (gX26_sentence v s).bind fun p => some ((), p.2) := by
  have ne : ∀ k, k < 100 → w ≠ k → ¬ nI w = nI k := fun k hk z y => z ((pI_inj (by omega) (by omega)).mp y)
  unfold gX26_reserved_45 gX26_reserved_60 gX26_reserved_77 gX26_reserved_87 gX26_reserved_97 gX26_reserved_112 gX26_reserved_127 gX26_reserved_128 gX26_reserved_150 gX26_reserved_165 gX26_reserved_181 gX26_reserved_197 gX26_reserved_209 gX26_reserved_223 gX26_reserved_224
  rw [if_neg (show ¬ nI w = 0 from ne 0 (by decide) (by omega)), if_pos (show ¬ nI w = 2 from ne 2 (by decide) (by omega)), if_pos (show ¬ nI w = 3 from ne 3 (by decide) (by omega)), if_pos (show ¬ nI w = 4 from ne 4 (by decide) (by omega)), if_pos (show ¬ nI w = 5 from ne 5 (by decide) (by omega)), if_pos (show ¬ nI w = 12 from ne 12 (by decide) (by omega)), if_pos (show ¬ nI w = 13 from ne 13 (by decide) (by omega)), if_neg (by decide), if_pos (show ¬ nI w = 17 from ne 17 (by decide) (by omega)), if_pos (show ¬ nI w = 14 from ne 14 (by decide) (by omega)), if_pos (show ¬ nI w = 15 from ne 15 (by decide) (by omega)), if_pos (show ¬ nI w = 30 from ne 30 (by decide) (by omega)), if_pos (show ¬ nI w = 32 from ne 32 (by decide) (by omega)), if_pos (show ¬ nI w = 33 from ne 33 (by decide) (by omega)), if_neg (by decide), if_pos (by decide)]
  unfold gX26_reserved_247
  rw [if_neg (by decide)]
/-- without a unit no word but ID -/
theorem M_resN (hw : w < 100000) (h0 : w ≠ 0) : gX26_reserved_45 (-1) (nI w) x3 (nI 0) s = (gX26_fail (nI 1) (ls s 41) s).bind fun p => some ((), p.2) := by
  unfold gX26_reserved_45
  rw [if_neg (show ¬ nI w = 0 from fun y => h0 ((pI_inj (b := 0) (by omega) (by decide)).mp y))]
  have E : gX26_reserved_60 (-1) (nI w) x3 (nI 0) s = (gX26_fail (nI 1) (ls s 41) s).bind fun p => some ((), p.2) := by
    rw [M_n60 hw, M_n77 hw, M_n87 hw, M_n97 hw, M_n112 hw, M_n127 hw, M_n150 hw, M_n165 hw, M_n181 hw, M_n197 hw, M_n209 hw, M_r223]
  by_cases z : w = 2
  · rw [if_neg (show ¬ ¬ nI w = 2 from fun y => y (by rw [z]; rfl)), if_neg (by decide)]
    exact E
  · rw [if_pos (show ¬ nI w = 2 from fun y => z ((pI_inj (b := 2) (by omega) (by decide)).mp y))]
    exact E
theorem cQ.wrX {X : zF (Unit ⊕ Nat)} {M : gF Unit} (h : cQ c D B at' N F α s X M) : cQ c D B at' N F α s (wr X) M := by
  rcases h with ⟨β, s', D', L', a, N', g', F', h1, h2, h3⟩ | ⟨e, β, s', wh, w, h1, h2, h3, h4⟩
  · exact .inl ⟨β, s', D', L', a, N', g', F', by unfold wr; rw [h1, zc_l], h2, h3⟩
  · exact .inr ⟨e, β, s', wh, w, by unfold wr; rw [h1, zc_r, if_pos h2], h2, h3, h4⟩
theorem cQ.mb {X : zF (Unit ⊕ Nat)} {M : gF Unit} (h : cQ c D B at' N F α s X M) : cQ c D B at' N F α s X (M.bind fun p => some ((), p.2)) := by
  rcases h with ⟨β, s', D', L', a, N', g', F', h1, h2, h3⟩ | ⟨e, β, s', wh, w, h1, h2, h3, h4⟩
  · exact .inl ⟨β, s', D', L', a, N', g', F', h1, by rw [h2, gl_bs], h3⟩
  · exact .inr ⟨e, β, s', wh, w, h1, h2, by rw [h3, gl_bs], h4⟩
/-- both refuse -/
theorem cl_no {X : zF (Unit ⊕ Nat)} (h : pV c D L B at' N F g α s) (ha : at' < c.n) (hF : F < 20) (hX : ∀ e β, hX4_must G (some c.p) (nI 0) (zwI α 40 4 c.p (nI 0)) = some (.inr e, β) → zthr β e 3 = true → X = some (.inr e, β)) : cQ c D B at' N F α s X ((gX26_fail (nI 1) (nI at') (us s 43 (nI 0))).bind fun p => some ((), p.2)) := by
  have h0 := h.o
  have R0 := h0.start (s' := us s 43 (nI 0)) (lv := 0) ha hF (fun k hk => by
    rw [ls_us] at hk
    split at hk
    · omega
    · exact absurd rfl hk) (fun _ => rfl) rfl (fun z => absurd z (by decide))
  have hb0 : pB (c.on (zwI α 40 4 c.p (nI 0)) (us s 43 (nI 0)) N at' 0) N at' 0 := (on_pB (k := 4) (by decide) (.inl (by decide))).le (by decide)
  obtain ⟨e, β, s', w, y1, y2, m1, y3⟩ := R0.no (G := G) hb0
  exact .inr ⟨e, β, s', 1, w, hX e β y1 y2, y2, by rw [m1, gl_bs], y3⟩
/-- a word that begins no clause here -/
theorem X_hdF (kp : zkd α c.p = 41) (cu' : zA α 40 11 c.p = some q) (ku' : zkd α q = 44) (xs' : zI α 43 3 q = nI S) (S12 : S ≤ 12) (up : dp ≠ 1 → zA α 43 0 q ≠ none) (w0 : w ≠ 0) (hw : w < 100000) (my : ¬ mMay S w dp) (y1 : hX4_must G (some c.p) (nI 0) α = some (.inr e, β)) (y2 : zthr β e 3 = true) (St : ∀ lo hi, lo < 100 → hi < 100 → ¬ (lo ≤ S ∧ S ≤ hi) → hX4_state G (some c.p) (nI lo) (nI hi) α = some (.inr e, β)) : hX4_header G (some c.p) (nI w) α = some (.inr e, β) := by
  have m2 : ¬ (w = 2 ∧ S = 0) := fun z => my (.inr (.inl z))
  have m3 : ¬ (w = 3 ∧ S = 0 ∧ dp = 1) := fun z => my (.inr (.inr (.inl z)))
  have m4 : ¬ (w = 4 ∧ S = 1) := fun z => my (.inr (.inr (.inr (.inl z))))
  have m5 : ¬ (w = 5 ∧ S = 2) := fun z => my (.inr (.inr (.inr (.inr (.inl z)))))
  have m12 : ¬ (w = 12 ∧ 1 ≤ S ∧ S ≤ 2) := fun z => my (.inr (.inr (.inr (.inr (.inr (.inl z))))))
  have m13 : ¬ (w = 13 ∧ S = 3) := fun z => my (.inr (.inr (.inr (.inr (.inr (.inr (.inl z)))))))
  have m17 : ¬ (w = 17 ∧ 4 ≤ S ∧ S ≤ 5) := fun z => my (.inr (.inr (.inr (.inr (.inr (.inr (.inr (.inl z))))))))
  have m14 : ¬ (w = 14 ∧ 3 ≤ S ∧ S ≤ 5) := fun z => my (.inr (.inr (.inr (.inr (.inr (.inr (.inr (.inr (.inl z)))))))))
  have m15 : ¬ (w = 15 ∧ 3 ≤ S ∧ S ≤ 6) := fun z => my (.inr (.inr (.inr (.inr (.inr (.inr (.inr (.inr (.inr (.inl z))))))))))
  have m30 : ¬ (w = 30 ∧ 1 ≤ S ∧ S ≤ 7) := fun z => my (.inr (.inr (.inr (.inr (.inr (.inr (.inr (.inr (.inr (.inr (.inl z)))))))))))
  have m32 : ¬ (w = 32 ∧ S = 8) := fun z => my (.inr (.inr (.inr (.inr (.inr (.inr (.inr (.inr (.inr (.inr (.inr (.inl z))))))))))))
  have m33 : ¬ (w = 33 ∧ 0 < S) := fun z => my (.inr (.inr (.inr (.inr (.inr (.inr (.inr (.inr (.inr (.inr (.inr (.inr z))))))))))))
  clear my
  obtain ⟨H4, H5, H12, H13, H14, H15, H17, H30, H32⟩ := X_hSt (G := G) kp cu' y2
  by_cases h2 : w = 2
  · rw [h2]
    exact X_h148F (f := 0) (S := S) kp ku' xs' S12 (by decide) (fun zS => absurd ⟨h2, zS⟩ m2) cu' y1 y2
  by_cases h3 : w = 3
  · rw [h3]
    exact X_h148F (f := 1) (S := S) kp ku' xs' S12 (by decide) (fun zS => ⟨rfl, up fun zd => m3 ⟨h3, zS, zd⟩⟩) cu' y1 y2
  by_cases h4 : w = 4
  · rw [h4]; exact H4 (St 1 1 (by decide) (by decide) fun z => m4 ⟨h4, Nat.le_antisymm z.2 z.1⟩)
  by_cases h5 : w = 5
  · rw [h5]; exact H5 (St 2 2 (by decide) (by decide) fun z => m5 ⟨h5, Nat.le_antisymm z.2 z.1⟩)
  by_cases h12 : w = 12
  · rw [h12]; exact H12 (St 1 2 (by decide) (by decide) fun z => m12 ⟨h12, z⟩)
  by_cases h13 : w = 13
  · rw [h13]; exact H13 (St 3 3 (by decide) (by decide) fun z => m13 ⟨h13, Nat.le_antisymm z.2 z.1⟩)
  by_cases h14 : w = 14
  · rw [h14]; exact H14 (St 3 5 (by decide) (by decide) fun z => m14 ⟨h14, z⟩)
  by_cases h15 : w = 15
  · rw [h15]; exact H15 (St 3 6 (by decide) (by decide) fun z => m15 ⟨h15, z⟩)
  by_cases h17 : w = 17
  · rw [h17]; exact H17 (St 4 5 (by decide) (by decide) fun z => m17 ⟨h17, z⟩)
  by_cases h30 : w = 30
  · rw [h30]; exact H30 (St 1 7 (by decide) (by decide) fun z => m30 ⟨h30, z⟩)
  by_cases h32 : w = 32
  · rw [h32]; exact H32 (St 8 8 (by decide) (by decide) fun z => m32 ⟨h32, Nat.le_antisymm z.2 z.1⟩)
  rw [X_h640 kp cu' hw (fun y => by
    rcases y with y | y | y | y | y | y | y | y | y | y | y | y
    · exact w0 y
    · exact h2 y
    · exact h3 y
    · exact h4 y
    · exact h5 y
    · exact h12 y
    · exact h13 y
    · exact h14 y
    · exact h15 y
    · exact h17 y
    · exact h30 y
    · exact h32 y)]
  exact X_h640F kp ku' xs' hw (fun y => Nat.eq_zero_of_not_pos fun z => m33 ⟨y, z⟩) y1 y2
theorem cl_all (h : pV c D L B at' N F g α s) (ha : at' < c.n) (hF : F < 20) : cQ c D B at' N F α s (hX4_clause G (some c.p) (zwI α 40 4 c.p (nI 0))) (gX26_clause (us s 43 (nI 0))) := by
  have h0 := h.o
  have R0 := h0.start (s' := us s 43 (nI 0)) (lv := 0) ha hF (fun k hk => by
    rw [ls_us] at hk
    split at hk
    · omega
    · exact absurd rfl hk) (fun _ => rfl) rfl (fun z => absurd z (by decide))
  have kp : zkd (zwI α 40 4 c.p (nI 0)) c.p = 41 := R0.kp
  have ax' : zI (zwI α 40 4 c.p (nI 0)) 40 3 c.p = nI at' := R0.ax
  have am' : ls (us s 43 (nI 0)) 41 = nI at' := R0.am
  have n5 := h0.n
  have k5 := h0.ks _ ha
  have v9 := h0.vs _ ha
  have d26 : ls (us s 43 (nI 0)) 26 = nI D.dp := h.dm
  have d10 := h.d10
  have rk : la (us s 43 (nI 0)) 2 at' = nI (c.ks at') := R0.mw.rk at' ha
  have rv : la (us s 43 (nI 0)) 3 at' = nI (c.vs at') := R0.mw.rv at' ha
  obtain ⟨v1, v2⟩ := X_wv R0 ha
  have v1' : zfA (zwI α 40 4 c.p (nI 0)) (some c.p) 40 1 = some (some c.va) := v1
  have v2' : ziald (zwI α 40 4 c.p (nI 0)) (some c.va) (nI at') = some (nI (c.vs at')) := v2
  have B0 : ∀ k, wK (c.on (zwI α 40 4 c.p (nI 0)) (us s 43 (nI 0)) N at' 0) at' k = decide (c.ks at' = k) := fun k => by
    show decide (at' < c.n ∧ c.ks at' = k) = _
    by_cases z : c.ks at' = k
    · rw [decide_eq_true ⟨ha, z⟩, decide_eq_true z]
    · rw [decide_eq_false (fun y => z y.2), decide_eq_false z]
  have KX : ∀ k, k < 6 → hX4_isKind G (some c.p) (nI at') (nI k) (zwI α 40 4 c.p (nI 0)) = some (nI (b2n (decide (c.ks at' = k))), zwI α 40 4 c.p (nI 0)) := fun k hk => by
    have := X_isK (c := c.on (zwI α 40 4 c.p (nI 0)) (us s 43 (nI 0)) N at' 0) (G := G) R0.k R0.xw (k := at') (a := k) (by omega) (by omega)
    rw [B0] at this
    exact this
  have WX : hX4_isWord G (some c.p) (nI at') (nI 0) (zwI α 40 4 c.p (nI 0)) = some (nI (b2n (decide (c.ks at' = 0 ∧ c.vs at' = 0))), zwI α 40 4 c.p (nI 0)) := by
    have := X_isW (c := c.on (zwI α 40 4 c.p (nI 0)) (us s 43 (nI 0)) N at' 0) (G := G) R0.k R0.xw (k := at') (a := 0) (by omega) (by omega)
    rw [show wW (c.on (zwI α 40 4 c.p (nI 0)) (us s 43 (nI 0)) N at' 0) at' 0 = decide (c.ks at' = 0 ∧ c.vs at' = 0) from by
      show decide (at' < c.n ∧ c.ks at' = 0 ∧ c.vs at' = 0) = _
      by_cases z : c.ks at' = 0 ∧ c.vs at' = 0
      · rw [decide_eq_true ⟨ha, z⟩, decide_eq_true z]
      · rw [decide_eq_false (fun y => z y.2), decide_eq_false z]] at this
    exact this
  have BX : hX4_isStatement G (some c.p) (zwI α 40 4 c.p (nI 0)) = some (nI (b2n (wB c at')), zwI α 40 4 c.p (nI 0)) := X_isB (c := c.on (zwI α 40 4 c.p (nI 0)) (us s 43 (nI 0)) N at' 0) (G := G) R0.k R0.xw R0.ax (by omega)
  have BM : gX26_begins (nI at') (us s 43 (nI 0)) = some (nI (b2n (wB c at')), us s 43 (nI 0)) := M_begins (c := c.on (zwI α 40 4 c.p (nI 0)) (us s 43 (nI 0)) N at' 0) R0.k R0.mw (by omega)
  have XB : (c.ks at' = 0 ∧ c.vs at' = 0) → hX4_clause G (some c.p) (zwI α 40 4 c.p (nI 0)) = wr (hX4_begin G (some c.p) (zwI α 40 4 c.p (nI 0))) := fun z => by
    unfold hX4_clause
    rw [kfI kp, gl_bs, ax', if_pos (of_eq_true (kis kp (by decide)))]
    show Option.bind (hX4_isWord G (some c.p) (nI at') (nI 0) (zwI α 40 4 c.p (nI 0))) _ = _
    rw [WX, gl_bs, decide_eq_true z, if_neg (show ¬ nI (b2n true) = 0 from bT), if_pos (of_eq_true (kis kp (by decide)))]
    rfl
  have XN : ¬ (c.ks at' = 0 ∧ c.vs at' = 0) → hX4_clause G (some c.p) (zwI α 40 4 c.p (nI 0)) = if D.dp = 0 then hX4_clause_30 G (some c.p) 0 (some c.p) (zwI α 40 4 c.p (nI 0)) else hX4_clause_30 G (some c.p) 1 (some c.p) (zwI α 40 4 c.p (nI 0)) := fun z => by
    unfold hX4_clause
    rw [kfI kp, gl_bs, ax', if_pos (of_eq_true (kis kp (by decide)))]
    show Option.bind (hX4_isWord G (some c.p) (nI at') (nI 0) (zwI α 40 4 c.p (nI 0))) _ = _
    rw [WX, gl_bs, decide_eq_false z, if_pos (show nI (b2n false) = 0 from rfl), kfA kp, gl_bs, zA_zwI, h.cu]
    by_cases z0 : D.dp = 0
    · rw [if_pos z0, if_pos rfl, if_pos z0]
    · rw [if_neg z0, if_neg (by simp), if_neg z0]
  have e0 : nI (c.ks at') = (0 : Int32) ↔ c.ks at' = 0 := by rw [nl0, pI_inj (by omega) (by decide)]
  have e1 : nI (c.ks at') = (1 : Int32) ↔ c.ks at' = 1 := by rw [nl1, pI_inj (by omega) (by decide)]
  have e2 : nI (c.ks at') = (2 : Int32) ↔ c.ks at' = 2 := by rw [show (2 : Int32) = nI 2 from rfl, pI_inj (by omega) (by decide)]
  have M85 : ∀ v, gX26_clause_85 v (us s 43 (nI 0)) = if c.ks at' = 0 then (gX26_reserved v (nI (c.vs at')) (us s 43 (nI 0))).bind fun p => some ((), p.2) else (gX26_fail (nI 1) (nI at') (us s 43 (nI 0))).bind fun p => some ((), p.2) := fun v => by
    unfold gX26_clause_85
    rw [gl_x, am', pgld (by omega) (by decide), gl_bs, rk]
    by_cases z : c.ks at' = 0
    · rw [if_pos (e0.mpr z), if_pos z, gl_x, pgld (by omega) (by decide), gl_bs, rv]
      rfl
    · rw [if_neg (fun y => z (e0.mp y)), if_neg z, gl_x]
      rfl
  have MM : ∀ {A : Type} (m : gF A), ((m.bind fun p => some ((), p.2)).bind fun (p : Unit × zM) => some ((), p.2)) = m.bind fun p => some ((), p.2) := fun {A} m => by
    rcases m with _ | ⟨_, m⟩
    · rfl
    · rfl
  have M0 : ∀ v, gX26_reserved_45 v (nI 0) (nI at') (nI 0) (us s 43 (nI 0)) = (gX26_identified v (us s 43 (nI 0))).bind fun p => some ((), p.2) := fun v => by
    unfold gX26_reserved_45
    rw [if_pos (show nI 0 = 0 from rfl), M_r123]
    unfold gX26_reserved_247
    rw [if_pos (show nI 0 = 0 from rfl), if_neg (show ¬ ¬ nI 0 = 0 from fun z => z rfl)]
  by_cases hd0 : D.dp = 0
  · have MC : gX26_clause (us s 43 (nI 0)) = gX26_clause_85 (-1) (us s 43 (nI 0)) := by
      unfold gX26_clause
      rw [gl_x, d26, hd0, if_neg (show ¬ ¬ nI 0 = 0 from fun z => z rfl)]
      unfold gX26_clause_22
      rw [gl_x, am', pgld (by omega) (by decide), gl_bs, rk]
      have E53 : gX26_clause_53 (-1) (us s 43 (nI 0)) = gX26_clause_85 (-1) (us s 43 (nI 0)) := by
        unfold gX26_clause_53
        rw [gl_x, am', pgld (by omega) (by decide), gl_bs, rk]
        by_cases z : c.ks at' = 1
        · rw [if_neg (fun y => y (e1.mpr z))]
          show Option.bind (gX26_in (-1) (nI 8) (nI 11) (us s 43 (nI 0))) _ = _
          rw [M_inN (by decide) (by decide) (by decide), gl_bs, if_pos (show nI 0 = 0 from rfl)]
        · rw [if_pos (fun y => z (e1.mp y))]
      by_cases z : c.ks at' = 2
      · rw [if_neg (fun y => y (e2.mpr z))]
        show Option.bind (gX26_in (-1) (nI 5) (nI 7) (us s 43 (nI 0))) _ = _
        rw [M_inN (by decide) (by decide) (by decide), gl_bs, if_pos (show nI 0 = 0 from rfl), E53]
      · rw [if_pos (fun y => z (e2.mp y)), E53]
    have MR : gX26_reserved (-1) (nI (c.vs at')) (us s 43 (nI 0)) = gX26_reserved_45 (-1) (nI (c.vs at')) (nI at') (nI 0) (us s 43 (nI 0)) := by
      unfold gX26_reserved
      rw [gl_x, gl_x, am', BM, gl_bs]
      rcases wB c at' with _ | _
      · rw [if_pos (show nI (b2n false) = 0 from rfl)]
        rfl
      · rw [if_neg (show ¬ nI (b2n true) = 0 from bT)]
        show Option.bind (gX26_in (-1) (nI 8) (nI 11) (us s 43 (nI 0))) _ = _
        rw [M_inN (by decide) (by decide) (by decide), gl_bs, if_pos (show nI 0 = 0 from rfl)]
        rfl
    rw [MC, M85]
    by_cases z : c.ks at' = 0 ∧ c.vs at' = 0
    · rw [XB z, if_pos z.1, MR, z.2, M0, MM]
      have hv : ∀ i, D.dp = i + 1 → (-1 : Int32) = nI (D.st i) := fun i hi => by omega
      exact (cl_begT h ha hF hv (.inl hd0) (by omega)).wrX.mb
    · rw [XN z, if_pos hd0]
      have X30 : ∀ e β, hX4_must G (some c.p) (nI 0) (zwI α 40 4 c.p (nI 0)) = some (.inr e, β) → zthr β e 3 = true → hX4_clause_30 G (some c.p) 0 (some c.p) (zwI α 40 4 c.p (nI 0)) = some (.inr e, β) := fun e β y1 y2 => by
        unfold hX4_clause_30
        rw [if_pos (of_eq_true (kis kp (by decide)))]
        show zcase (hX4_must G (some c.p) (nI 0) (zwI α 40 4 c.p (nI 0))) _ _ = _
        rw [y1, zc_r, if_pos y2]
      by_cases z0 : c.ks at' = 0
      · rw [if_pos z0, MR, M_resN (by omega) (fun y => z ⟨z0, y⟩), am', MM]
        exact cl_no (G := G) h ha hF X30
      · rw [if_neg z0]
        exact cl_no (G := G) h ha hF X30
  obtain ⟨i, hd⟩ : ∃ i, D.dp = i + 1 := ⟨D.dp - 1, by omega⟩
  obtain ⟨i10, hu, cu, ku, xs, _, r29, r22, u2⟩ := h.cur hd
  have oK := h.op i (by omega)
  have S12 := oK.s12
  have U0 := h.u _ hu
  have I0 := h.inn (by omega)
  rw [hd, Nat.add_sub_cancel] at I0
  have cu' : zA (zwI α 40 4 c.p (nI 0)) 40 11 c.p = some (D.ou (D.os i)) := by rw [zA_zwI]; exact cu
  have ku' : zkd (zwI α 40 4 c.p (nI 0)) (D.ou (D.os i)) = 44 := by rw [zkd_zwI]; exact ku
  have xs' : zI (zwI α 40 4 c.p (nI 0)) 43 3 (D.ou (D.os i)) = nI (D.st i) := by rw [zI_zwI, if_neg (fun z => absurd z.1 (by decide))]; exact xs
  have r27 : la (us s 43 (nI 0)) 27 i = nI (D.st i) := oK.ms
  generalize hS : D.st i = S at *
  have MC : gX26_clause (us s 43 (nI 0)) = gX26_clause_22 (nI S) (us s 43 (nI 0)) := by
    unfold gX26_clause
    rw [gl_x, d26, if_pos (show ¬ nI D.dp = 0 from by rw [nl0, pI_inj (by omega) (by decide)]; exact hd0), gl_x, hd, nl1, pI_sub (by omega), Nat.add_sub_cancel, pgld (by omega) (by decide), gl_bs, r27]
  have M53 : gX26_clause_53 (nI S) (us s 43 (nI 0)) = if c.ks at' = 1 ∧ 8 ≤ S ∧ S ≤ 11 then (gX26_named (nI S) (us s 43 (nI 0))).bind fun p => some ((), p.2) else gX26_clause_85 (nI S) (us s 43 (nI 0)) := by
    unfold gX26_clause_53
    rw [gl_x, am', pgld (by omega) (by decide), gl_bs, rk]
    by_cases z : c.ks at' = 1
    · rw [if_neg (fun y => y (e1.mpr z))]
      show Option.bind (gX26_in (nI S) (nI 8) (nI 11) (us s 43 (nI 0))) _ = _
      rw [M_in (by omega) (by decide) (by decide), gl_bs]
      by_cases z2 : 8 ≤ S ∧ S ≤ 11
      · rw [decide_eq_true z2, if_neg (show ¬ nI (b2n true) = 0 from bT), if_pos ⟨z, z2⟩]
        rfl
      · rw [decide_eq_false z2, if_pos (show nI (b2n false) = 0 from rfl), if_neg (fun y => z2 y.2)]
    · rw [if_pos (fun y => z (e1.mp y)), if_neg (fun y => z y.1)]
  have M22 : gX26_clause_22 (nI S) (us s 43 (nI 0)) = if c.ks at' = 2 ∧ 5 ≤ S ∧ S ≤ 7 then (gX26_item (us s 43 (nI 0))).bind fun p => some ((), p.2) else gX26_clause_53 (nI S) (us s 43 (nI 0)) := by
    unfold gX26_clause_22
    rw [gl_x, am', pgld (by omega) (by decide), gl_bs, rk]
    by_cases z : c.ks at' = 2
    · rw [if_neg (fun y => y (e2.mpr z))]
      show Option.bind (gX26_in (nI S) (nI 5) (nI 7) (us s 43 (nI 0))) _ = _
      rw [M_in (by omega) (by decide) (by decide), gl_bs]
      by_cases z2 : 5 ≤ S ∧ S ≤ 7
      · rw [decide_eq_true z2, if_neg (show ¬ nI (b2n true) = 0 from bT), if_pos ⟨z, z2⟩]
        rfl
      · rw [decide_eq_false z2, if_pos (show nI (b2n false) = 0 from rfl), if_neg (fun y => z2 y.2)]
    · rw [if_pos (fun y => z (e2.mp y)), if_neg (fun y => z y.1)]
  have se35 : 8 ≤ S → S ≤ 11 → ls (us s 43 (nI 0)) 35 = nI D.se ∧ D.se < 100000 ∧ zA (zwI α 40 4 c.p (nI 0)) 43 10 (D.ou (D.os i)) = pN g D.se := fun z1 z2 => by
    obtain ⟨q1, q2, q3⟩ := I0.se z1 z2
    refine ⟨q2, ?_, by rw [zA_zwI]; exact q1⟩
    rcases q3 with q3 | q3
    · omega
    · have := (h.g.bd _ q3.1).2
      have := h0.N0
      omega
  have MR : gX26_reserved (nI S) (nI (c.vs at')) (us s 43 (nI 0)) = if wB c at' = true ∧ (8 ≤ S ∧ S ≤ 11) ∧ (S ≠ 9 ∨ D.se ≠ 0) then gX26_reserved_45 (nI S) (nI (c.vs at')) (nI at') (nI 1) (us s 43 (nI 0)) else gX26_reserved_45 (nI S) (nI (c.vs at')) (nI at') (nI 0) (us s 43 (nI 0)) := by
    unfold gX26_reserved
    rw [gl_x, gl_x, am', BM, gl_bs]
    rcases hB : wB c at' with _ | _
    · rw [if_pos (show nI (b2n false) = 0 from rfl), if_neg (fun z => absurd z.1 (by decide))]
      rfl
    · rw [if_neg (show ¬ nI (b2n true) = 0 from bT)]
      show Option.bind (gX26_in (nI S) (nI 8) (nI 11) (us s 43 (nI 0))) _ = _
      rw [M_in (by omega) (by decide) (by decide), gl_bs]
      by_cases z2 : 8 ≤ S ∧ S ≤ 11
      · rw [decide_eq_true z2, if_neg (show ¬ nI (b2n true) = 0 from bT)]
        by_cases z9 : S = 9
        · obtain ⟨q1, q2, _⟩ := se35 z2.1 z2.2
          rw [if_neg (show ¬ ¬ nI S = 9 from fun y => y (by rw [z9]; rfl)), gl_x, q1]
          by_cases zs : D.se = 0
          · rw [zs, if_pos (show nI 0 ≤ 0 from by decide), if_neg (fun y => by omega)]
            rfl
          · rw [if_neg (by rw [nl0, pI_le (by omega) (by decide)]; omega), if_pos ⟨rfl, z2, .inr zs⟩]
            rfl
        · rw [if_pos (show ¬ nI S = 9 from by rw [nl9, pI_inj (by omega) (by decide)]; exact z9), if_pos ⟨rfl, z2, .inl z9⟩]
          rfl
      · rw [decide_eq_false z2, if_pos (show nI (b2n false) = 0 from rfl), if_neg (fun y => z2 y.2.1)]
        rfl
  have X30 : hX4_clause_30 G (some c.p) 1 (some c.p) (zwI α 40 4 c.p (nI 0)) = if c.ks at' = 2 then wr (hX4_item G (some c.p) (zwI α 40 4 c.p (nI 0))) else if c.ks at' = 1 then wr (hX4_named G (some c.p) (zwI α 40 4 c.p (nI 0))) else if wB c at' = true then wr (hX4_sentence G (some c.p) (zwI α 40 4 c.p (nI 0))) else if c.ks at' = 0 then wr (hX4_header G (some c.p) (nI (c.vs at')) (zwI α 40 4 c.p (nI 0))) else wr (hX4_header G (some c.p) (-1) (zwI α 40 4 c.p (nI 0))) := by
    unfold hX4_clause_30
    rw [if_pos (of_eq_true (kis kp (by decide)))]
    show zcase (hX4_must G (some c.p) (nI 1) (zwI α 40 4 c.p (nI 0))) _ _ = _
    rw [X_must1, zc_l, kfI kp, gl_bs, ax', if_pos (of_eq_true (kis kp (by decide)))]
    show Option.bind (hX4_isKind G (some c.p) (nI at') (nI 2) (zwI α 40 4 c.p (nI 0))) _ = _
    rw [KX 2 (by decide), gl_bs]
    by_cases z2 : c.ks at' = 2
    · rw [decide_eq_true z2, if_neg (show ¬ nI (b2n true) = 0 from bT), if_pos z2, if_pos (of_eq_true (kis kp (by decide)))]
      rfl
    · rw [decide_eq_false z2, if_pos (show nI (b2n false) = 0 from rfl), if_neg z2]
      show Option.bind (zfI (zwI α 40 4 c.p (nI 0)) (some c.p) 40 3) _ = _
      rw [kfI kp, gl_bs, ax', if_pos (of_eq_true (kis kp (by decide)))]
      show Option.bind (hX4_isKind G (some c.p) (nI at') (nI 1) (zwI α 40 4 c.p (nI 0))) _ = _
      rw [KX 1 (by decide), gl_bs]
      by_cases z1 : c.ks at' = 1
      · rw [decide_eq_true z1, if_neg (show ¬ nI (b2n true) = 0 from bT), if_pos z1, if_pos (of_eq_true (kis kp (by decide)))]
        rfl
      · rw [decide_eq_false z1, if_pos (show nI (b2n false) = 0 from rfl), if_neg z1, if_pos (of_eq_true (kis kp (by decide)))]
        show Option.bind (hX4_isStatement G (some c.p) (zwI α 40 4 c.p (nI 0))) _ = _
        rw [BX, gl_bs]
        rcases wB c at' with _ | _
        · rw [if_pos (show nI (b2n false) = 0 from rfl), if_neg (show ¬ false = true from by decide)]
          show Option.bind (zfI (zwI α 40 4 c.p (nI 0)) (some c.p) 40 3) _ = _
          rw [kfI kp, gl_bs, ax', if_pos (of_eq_true (kis kp (by decide)))]
          show Option.bind (hX4_isKind G (some c.p) (nI at') (nI 0) (zwI α 40 4 c.p (nI 0))) _ = _
          rw [KX 0 (by decide), gl_bs]
          by_cases z0 : c.ks at' = 0
          · rw [decide_eq_true z0, if_neg (show ¬ nI (b2n true) = 0 from bT), if_pos z0]
            show Option.bind (zfA (zwI α 40 4 c.p (nI 0)) (some c.p) 40 1) _ = _
            rw [v1', gl_bs]
            show Option.bind (zfI (zwI α 40 4 c.p (nI 0)) (some c.p) 40 3) _ = _
            rw [kfI kp, gl_bs, ax', v2', gl_bs]
            unfold hX4_clause_111
            rw [if_pos (of_eq_true (kis kp (by decide)))]
            rfl
          · rw [decide_eq_false z0, if_pos (show nI (b2n false) = 0 from rfl), if_neg z0]
            unfold hX4_clause_111
            rw [if_pos (of_eq_true (kis kp (by decide)))]
            rfl
        · rw [if_neg (show ¬ nI (b2n true) = 0 from bT), if_pos rfl, if_pos (of_eq_true (kis kp (by decide)))]
          rfl
  have St : ∀ lo hi e β, lo < 100 → hi < 100 → ¬ (lo ≤ S ∧ S ≤ hi) → hX4_must G (some c.p) (nI 0) (zwI α 40 4 c.p (nI 0)) = some (.inr e, β) → zthr β e 3 = true → hX4_state G (some c.p) (nI lo) (nI hi) (zwI α 40 4 c.p (nI 0)) = some (.inr e, β) := fun lo hi e β h1 h2 h3 y1 y2 => by
    rw [X_state (k := S) kp cu' ku' xs' (by omega) h1 h2, if_neg h3, y1, zc_r, if_pos y2]
  have Wr : ∀ {R : zF (Unit ⊕ Nat)} {e β}, R = some (.inr e, β) → zthr β e 3 = true → wr R = some (.inr e, β) := fun {R e β} y1 y2 => by
    unfold wr
    rw [y1, zc_r, if_pos y2]
  have hv : ∀ j, D.dp = j + 1 → nI S = nI (D.st j) := fun j hj => by
    rw [show j = i from by omega, hS]
  rw [MC, M22]
  by_cases z00 : c.ks at' = 0 ∧ c.vs at' = 0
  · have nB : wB c at' = false := decide_eq_false (by omega)
    rw [if_neg (fun y => by omega), M53, if_neg (fun y => by omega), M85, if_pos z00.1, MR, if_neg (fun y => by rw [nB] at y; exact absurd y.1 (by decide)), z00.2, M0, MM, XB z00]
    by_cases b1 : pBg D
    · by_cases b2 : D.dp = 10
      · exact (cl_begF h ha hF hv (.inr b2)).wrX.mb
      · exact (cl_begT h ha hF hv b1 (by omega)).wrX.mb
    · exact (cl_begF h ha hF hv (.inl b1)).wrX.mb
  rw [XN z00, if_neg hd0, X30]
  by_cases k2 : c.ks at' = 2
  · rw [if_pos k2]
    by_cases z : 5 ≤ S ∧ S ≤ 7
    · rw [if_pos ⟨k2, z⟩]
      exact (cl_itm h ha hF hd hS z.1 z.2).wrX.mb
    · rw [if_neg (fun y => z y.2), M53, if_neg (fun y => by omega), M85, if_neg (by omega)]
      refine cl_no (G := G) h ha hF fun e β y1 y2 => Wr ?_ y2
      unfold hX4_item
      rw [kfA kp, gl_bs, cu', if_pos (of_eq_true (kis kp (by decide)))]
      show zcase (hX4_state G (some c.p) (nI 5) (nI 7) (zwI α 40 4 c.p (nI 0))) _ _ = _
      rw [St 5 7 e β (by decide) (by decide) z y1 y2, zc_r, if_pos y2]
  rw [if_neg k2, if_neg (show ¬ (c.ks at' = 2 ∧ 5 ≤ S ∧ S ≤ 7) from fun y => k2 y.1), M53]
  by_cases k1 : c.ks at' = 1
  · rw [if_pos k1]
    have hw : wK c at' 1 = true := wK_t ha k1
    by_cases z : 8 ≤ S ∧ S ≤ 11
    · rw [if_pos ⟨k1, z⟩]
      rcases hn : wW c (at' + 1) 16 with _ | _
      · by_cases z4 : wK c (at' + 1) 4 = true ∧ (S = 9 → D.se ≠ 0)
        · exact (cl_par h ha hF hd hS z.1 z.2 z4.2 hw hn z4.1).wrX.mb
        · refine (cl_parF h ha hF hd hS z.1 z.2 hw hn ?_).wrX.mb
          rcases h4 : wK c (at' + 1) 4 with _ | _
          · exact .inl rfl
          · refine .inr ?_
            by_cases z9 : S = 9
            · refine ⟨z9, ?_⟩
              by_cases zs : D.se = 0
              · exact zs
              · exact absurd ⟨h4, fun _ => zs⟩ z4
            · exact absurd ⟨h4, fun y => absurd y z9⟩ z4
      · exact (cl_scn h ha hF hd hS z.1 z.2 hw hn).wrX.mb
    · rw [if_neg (fun y => z y.2), M85, if_neg (by omega)]
      refine cl_no (G := G) h ha hF fun e β y1 y2 => Wr ?_ y2
      unfold hX4_named
      rw [kfA kp, gl_bs, cu', if_pos (of_eq_true (kis kp (by decide)))]
      show zcase (hX4_state G (some c.p) (nI 8) (nI 11) (zwI α 40 4 c.p (nI 0))) _ _ = _
      rw [St 8 11 e β (by decide) (by decide) z y1 y2, zc_r, if_pos y2]
  rw [if_neg k1, if_neg (show ¬ (c.ks at' = 1 ∧ 8 ≤ S ∧ S ≤ 11) from fun y => k1 y.1), M85]
  by_cases k0 : c.ks at' = 0
  · rw [if_pos k0, MR]
    have w0 : c.vs at' ≠ 0 := fun y => z00 ⟨k0, y⟩
    obtain ⟨RS1, RS2⟩ := M_resS (s := us s 43 (nI 0)) (x3 := nI at') (w := c.vs at') d26 S12 (by omega) d10
    rcases hB : wB c at' with _ | _
    · rw [if_neg (show ¬ false = true from by decide), if_pos k0, if_neg (fun y => absurd y.1 (by decide))]
      by_cases my : mMay S (c.vs at') D.dp
      · rw [RS1 my]
        refine cQ.mb ?_
        generalize hw : c.vs at' = w at *
        unfold mMay at my
        rcases my with m | ⟨m, m1⟩ | ⟨m, m1, m2⟩ | ⟨m, m1⟩ | ⟨m, m1⟩ | ⟨m, m1, m2⟩ | ⟨m, m1⟩ | ⟨m, m1, m2⟩ | ⟨m, m1, m2⟩ | ⟨m, m1, m2⟩ | ⟨m, m1, m2⟩ | ⟨m, m1⟩ | ⟨m, m1⟩
        · exact absurd m w0
        · rw [m, M_247_2 am']
          exact (cl_pid (f := 0) h ha hF hd (hS.trans m1) (by decide) (fun y => absurd y (by decide))).wrX.mb
        · rw [m, M_247_3 am']
          exact (cl_pid (f := 1) h ha hF hd (hS.trans m1) (by decide) (fun _ => by omega)).wrX.mb
        · rw [m, M_247_4 am']
          exact (cl_env h ha hF hd (hS.trans m1)).wrX.mb
        · rw [m, M_247_5 am']
          exact (cl_sel h ha hF hd (hS.trans m1)).wrX.mb
        · rw [m, M_247_12 am']
          exact (cl_dat h ha hF hd hS m1 m2).wrX.mb
        · rw [m, M_247_13 am']
          exact (cl_fil h ha hF hd (hS.trans m1)).wrX.mb
        · rw [m, M_247_17 am']
          exact (cl_fd h ha hF hd hS m1 m2).wrX.mb
        · rw [m, M_247_14 am']
          exact (cl_wrk h ha hF hd hS m1 m2).wrX.mb
        · rw [m, M_247_15 am']
          exact (cl_lnk h ha hF hd hS m1 m2).wrX.mb
        · rw [m, M_247_30 am']
          exact (cl_prc h ha hF hd hS m1 m2).wrX.mb
        · rw [m]
          exact (cl_dcl h ha hF hd (hS.trans m1)).wrX
        · rw [m, M_247_33 am']
          by_cases z9 : S = 9
          · rw [z9]
            exact (cl_edc h ha hF hd (hS.trans z9)).wrX.mb
          · exact (cl_eun h ha hF hd hS (by omega) z9).wrX.mb
      · rw [RS2 my, am', MM]
        refine cl_no (G := G) h ha hF fun e β y1 y2 => Wr ?_ y2
        exact X_hdF (S := S) (dp := D.dp) kp cu' ku' xs' S12 (fun zd => by
          rw [zA_zwI, oK.up, if_neg (fun z => zd (by rw [hd, z]))]
          simp) w0 (Nat.lt_succ_of_le v9) my y1 y2 (fun lo hi h1 h2 h3 => St lo hi e β h1 h2 h3 y1 y2)
    · have hB' : c.vs at' = 29 ∨ 36 ≤ c.vs at' ∧ c.vs at' ≤ 47 := (of_decide_eq_true hB).2.2
      rw [if_pos rfl]
      by_cases z : (8 ≤ S ∧ S ≤ 11) ∧ (S ≠ 9 ∨ D.se ≠ 0)
      · rw [if_pos k0, if_pos (show true = true ∧ (8 ≤ S ∧ S ≤ 11) ∧ (S ≠ 9 ∨ D.se ≠ 0) from ⟨rfl, z⟩), M_res1 (by omega) (by omega), MM]
        exact (cl_sen h ha hF hd hS z.1.1 z.1.2 (fun y => z.2.resolve_left fun x => x y) hB).wrX.mb
      · rw [if_pos k0, if_neg (show ¬ (true = true ∧ (8 ≤ S ∧ S ≤ 11) ∧ (S ≠ 9 ∨ D.se ≠ 0)) from fun y => z y.2), RS2 (by unfold mMay; omega), am', MM]
        refine cl_no (G := G) h ha hF fun e β y1 y2 => Wr ?_ y2
        unfold hX4_sentence
        rw [kfA kp, gl_bs, cu', if_pos (of_eq_true (kis kp (by decide)))]
        show zcase (hX4_state G (some c.p) (nI 8) (nI 11) (zwI α 40 4 c.p (nI 0))) _ _ = _
        by_cases z8 : 8 ≤ S ∧ S ≤ 11
        · obtain ⟨_, _, q3⟩ := se35 z8.1 z8.2
          have z9 : S = 9 ∧ D.se = 0 := by
            constructor
            · exact Classical.byContradiction fun y => z ⟨z8, .inl y⟩
            · exact Classical.byContradiction fun y => z ⟨z8, .inr y⟩
          rw [X_state (k := S) kp cu' ku' xs' (by omega) (by decide) (by decide), if_pos z8, zc_l]
          show Option.bind (zfI (zwI α 40 4 c.p (nI 0)) (some (D.ou (D.os i))) 43 3) _ = _
          rw [kfI ku', gl_bs, xs', z9.1, if_neg (show ¬ ¬ nI 9 = 9 from fun z => z rfl)]
          show Option.bind (zfA (zwI α 40 4 c.p (nI 0)) (some (D.ou (D.os i))) 43 10) _ = _
          rw [kfA ku', gl_bs, q3, z9.2, if_pos (show pN g 0 = none from rfl)]
          unfold hX4_sentence_35
          rw [if_pos (of_eq_true (kis kp (by decide)))]
          show zcase (hX4_must G (some c.p) (nI 0) (zwI α 40 4 c.p (nI 0))) _ _ = _
          rw [y1, zc_r, if_pos y2]
        · rw [St 8 11 e β (by decide) (by decide) z8 y1 y2, zc_r, if_pos y2]
  · have nB : wB c at' = false := decide_eq_false (by omega)
    rw [if_neg k0, nB, if_neg (show ¬ false = true from by decide), if_neg k0]
    refine cl_no (G := G) h ha hF fun e β y1 y2 => Wr ?_ y2
    unfold hX4_header hX4_header_640 hX4_header_658 hX4_header_659
    rw [kfA kp, gl_bs, cu', kfI kp, gl_bs, if_pos (by decide), if_pos (by decide), if_pos (of_eq_true (kis kp (by decide)))]
    show zcase (hX4_must G (some c.p) (nI 0) (zwI α 40 4 c.p (nI 0))) _ _ = _
    rw [y1, zc_r, if_pos y2]
end PAZZX
