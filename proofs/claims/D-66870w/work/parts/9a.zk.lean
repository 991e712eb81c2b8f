/-! THE PURE LAYER: the parser: all statements. -/
section PAZK
variable {c : pC} {G : xQ} {α β γ αs δ ε : zS} {s s' s2 ss : zM} {a a1 a' d b b' N N' N2 Ns as bs k t t2 u w wh q r F F1 F' Fs f y to n jn o K p Rk : Nat} {g g' g2 gs : pG} {v v' kv : Int32} {l ts : List Nat}
/-- a verb's statement from its verb on -/
theorem verbS (hl1 : cLi c G (f + 1)) (hl0 : cLi c G f) (h : pR c a d b N 0 g α s) (hb : pB c b a 20) (h1 : c.N0 ≤ t) (h2 : t < N) (hr : g.r t = rS d) {x : Nat} (hx : x = 29 ∨ 36 ≤ x ∧ x ≤ 47) (hk : la s 9 t = nI (vK x)) (h45 : ls s 45 = nI K) (hK : K ≤ 2 * d + 1) (hF : 10 * (c.n - a) + 22 ≤ F) (hf : 3 * (40 - d) + 1 ≤ f) : sS c a d b t g s K F 0 0 4 (xVf c G (f + 1) x (g.oa t) α) ((mVb (nI x) (nI t) s).bind fun p => mS F p.2) := by
  have nl := h.nl
  have hN := h.N8 hb
  have rS1 : 1400 ≤ rS d := by unfold rS; omega
  have k53 : ∀ y : Nat, y < 50 → nI y ≠ nI 53 := fun y hy => by rw [ne_eq, pI_inj (by omega) (by decide)]; omega
  have k29 : ∀ y : Nat, y < 50 → (y ≠ 29 ∧ y ≠ 12) → ¬ pW (nI y) := fun y hy h9 z => by
    rcases z with z | z
    · rw [pI_inj (by omega) (by decide)] at z; omega
    · rw [pI_inj (by omega) (by decide)] at z; omega
  have : x = 29 ∨ x = 36 ∨ x = 37 ∨ x = 38 ∨ x = 39 ∨ x = 40 ∨ x = 41 ∨ x = 42 ∨ x = 43 ∨ x = 44 ∨ x = 45 ∨ x = 46 ∨ x = 47 := by omega
  rcases this with rfl | rfl | rfl | rfl | rfl | rfl | rfl | rfl | rfl | rfl | rfl | rfl | rfl
  · exact ((st_29 h (hb.le (by omega)) h1 h2 (by omega) h45 (by omega)).ef (by omega)).dn (by omega)
  · exact ((st_36 h (hb.le (by omega)) h1 h2 (by omega) h45 (by omega)).ef (by omega)).dn (by omega)
  · exact ((st_37 hl0 h hb h1 h2 (by omega) (by omega) (by rw [hk]; exact k53 27 (by decide)) (by rw [hk]; exact k29 27 (by decide) (by decide)) h45 hK hF hf).ef (by omega)).dn (by omega)
  · exact ((st_38 hl0 h hb h1 h2 (by omega) (by omega) (by rw [hk]; exact k53 28 (by decide)) h45 hK hF hf).ef (by omega)).dn (by omega)
  · exact (st_39 hl0 h hb h1 h2 (by omega) hk h45 hK hF hf).ef (by omega)
  · exact ((st_40 hl0 h hb h1 h2 (by omega) (by omega) (by rw [hk]; exact k53 30 (by decide)) h45 hK hF hf).ef (by omega)).dn (by omega)
  · exact ((st_41 hl1 h hb h1 h2 (by omega) (by rw [hk]; exact k53 31 (by decide)) (by rw [hk]; exact k29 31 (by decide) (by decide)) h45 hK hF (by omega)).ef (by omega)).dn (by omega)
  · exact ((st_42 hl1 h hb h1 h2 (by omega) (by omega) (by rw [hk]; exact k53 32 (by decide)) h45 hK hF (by omega)).ef (by omega)).dn (by omega)
  · exact ((st_43 h (hb.le (by omega)) h1 h2 (by omega) (by rw [hk]; exact k29 34 (by decide) (by decide)) h45 (by omega)).ef (by omega)).dn (by omega)
  · exact ((st_44 h (hb.le (by omega)) h45 (by omega)).ef (by omega)).dn (by omega)
  · exact ((st_45 h h45).ef (by omega)).dn (by omega)
  · exact ((st_46 h h45).ef (by omega)).dn (by omega)
  · exact ((st_47 h (hb.le (by omega)) h1 h2 (by omega) (by rw [hk]; exact k53 38 (by decide)) (by rw [hk]; exact k29 38 (by decide) (by decide)) h45 (by omega)).ef (by omega)).dn (by omega)
theorem stat_of (hl1 : cLi c G (f + 1)) (hl0 : cLi c G f) : cSt c G (f + 2) := by
  intro a d b N g α s k to F h hb hB h1 h2 hr h45 hk h46 h47 hF hf
  obtain ⟨F, rfl⟩ : ∃ x, F = x + 1 := ⟨F - 1, by omega⟩
  obtain ⟨i1, i2, i3⟩ := wB_i hB
  have nl := h.nl
  have T := mS_st (F := F) h h45 (by omega) h46 hB
  rw [h47] at T
  obtain ⟨α', s', g', x1, x2, x3, x4, x5, x6, x7⟩ := (h.p48 (k := k) (v := nI 1)).verb (G := G) (f := f + 1) hb hB h1 h2 hr
  have R := verbS (G := G) (F := F) (K := k + 1) (t := N) hl1 hl0 x3 (by unfold pB at *; omega) h.N0 (Nat.lt_succ_self N) x5 i3 x6 (x4.pl.1.trans h45) (by omega) (by omega) (by omega)
  rw [T, x2]
  show sS c a d b N g (ua s 48 (upd (la s 48) k (nI 1))) (k + 1) (F + 1) 1 5 0 (hX4_statement_r G (rrX4_add G (f + 1)).1 (rrX4_add G (f + 1)).2.1 (rrX4_add G (f + 1)).2.2.1 (rrX4_add G (f + 1)).2.2.2.1 (rrX4_add G (f + 1)).2.2.2.2.1 (rrX4_add G (f + 1)).2.2.2.2.2 (some c.p) (some (g.oa to)) α) _
  rw [x1]
  have L : pLo (k + 1) (ua s 48 (upd (la s 48) k (nI 1))) s' := (x4.pl.pv (k := k + 1) h45).lo
  rcases R with ⟨γ, F4, s4, a4, b4, N4, g4, y1, y2, y3⟩ | E
  · have y5 := y3.a1
    have y6 := y3.b1
    have y8 := y3.f1
    have z := y3.X
    have X := x4.x0
    have n1 := z.n
    exact .inl ⟨γ, F4, s4, a4, b4, N4, g4, y1, y2, sQ.mk y3.R (pX0.mk z.n (fun t ht => (z.oa t ht).trans (X.oa t ht)) (fun t ht => (z.r t ht).trans (X.r t ht)) (fun t ht => (z.kd t ht).trans (X.kd t ht)) (fun t ht => (z.up t ht).trans (X.up t ht)) (fun t ht e => (z.w10 t ht ((X.kd t ht).trans e)).trans (X.w10 t ht e))) ⟨y3.V.1, L.tr y3.V.lo⟩ (by omega) (by omega) (by omega)⟩
  · exact .inr E
theorem stats_all : ∀ f, cSt c G f ∧ cLi c G f := by
  have key : ∀ f, (∀ f', f' < f → cSt c G f' ∧ cLi c G f') → cSt c G f ∧ cLi c G f := fun f ih => by
    refine ⟨?_, ?_⟩
    · by_cases e : f < 2
      · intro a d b N g α s k to F h hb hB h1 h2 hr h45 hk h46 h47 hF hf
        have := h.nl
        omega
      · obtain ⟨x, rfl⟩ : ∃ x, f = x + 2 := ⟨f - 2, by omega⟩
        exact stat_of (ih (x + 1) (by omega)).2 (ih x (by omega)).2
    · by_cases e : f = 0
      · intro a d b N g α s k t F h hb h1 h2 hr h45 hk hF hf
        omega
      · obtain ⟨x, rfl⟩ : ∃ x, f = x + 1 := ⟨f - 1, by omega⟩
        exact list_of (ih x (by omega)).1
  intro f
  exact Nat.strongRecOn f key
/-- the statements of a sentence: X's loop ends at a period or fails there -/
theorem senLoop {R : (Option Nat) → (Option Nat) → zS → zF (Unit ⊕ Nat)} (m : Nat) : ∀ {a b N : Nat} {g : pG} {α : zS} {s : zM} {F Fx : Nat} {ou : Option Nat}, c.n - a ≤ m → m < Fx → pR c a 0 b N 0 g α s → pB c b a 14 → c.N0 ≤ t → t < N → rS 0 < g.r t → ls s 45 = nI 1 → la s 46 0 = nI 0 → la s 47 0 = nI t → (wB c a = true ∨ la s 48 0 = nI 1) → 10 * (c.n - a) + 20 ≤ F → (∃ β s' a' b' N' g', zloop (fun (a : ((Option Nat) × (Option Nat) × (Option Nat))) σ => hX4_sentence_53b G a.1 a.2.1 a.2.2 σ) Fx (some c.p, ou, some (g.oa t)) α = (zcase (hX4_period G (some c.p) β) (fun p2 =>
            if zis G p2.2 ou 44 = true then
              (hX42_sentences G ou p2.2).bind fun p3 =>
              if zis G p3.2 p3.1 45 = true then
                (hX43_add G p3.1 (some (g.oa t)) p3.2).bind fun p4 =>
                if zis G p4.2 ou 44 = true then
                  (hX42_goOn G ou p4.2).bind fun p5 =>
                  some (.inl (()), p5.2)
                else none
              else none
            else none) (fun p6 =>
            if zthr p6.2 p6.1 3 = true then
              some (.inr p6.1, p6.2)
            else none)) ∧ mS F s = some ((), us (us s' 45 (nI 0)) 44 (nI 0 - nI 1)) ∧ pR c a' 0 b' N' 0 g' β s' ∧ pX0 N g s N' g' s' ∧ ls s' 45 = nI 1 ∧ la s' 46 0 = nI 0 ∧ a ≤ a' ∧ b' + 10 * a ≤ b + 10 * a') ∨ sE c (zloop (fun (a : ((Option Nat) × (Option Nat) × (Option Nat))) σ => hX4_sentence_53b G a.1 a.2.1 a.2.2 σ) Fx (some c.p, ou, some (g.oa t)) α) (mS F s) := by
  have stop : ∀ {a b N : Nat} {g : pG} {α : zS} {s : zM} {F Fx : Nat} {ou : Option Nat}, pR c a 0 b N 0 g α s → c.lv = 1 → ls s 45 = nI 1 → la s 46 0 = nI 0 → la s 48 0 = nI 1 → 10 * (c.n - a) + 20 ≤ F → wB c a = false → (∃ β s' a' b' N' g', zloop (fun (a : ((Option Nat) × (Option Nat) × (Option Nat))) σ => hX4_sentence_53b G a.1 a.2.1 a.2.2 σ) (Fx + 1) (some c.p, ou, some (g.oa t)) α = (zcase (hX4_period G (some c.p) β) (fun p2 =>
            if zis G p2.2 ou 44 = true then
              (hX42_sentences G ou p2.2).bind fun p3 =>
              if zis G p3.2 p3.1 45 = true then
                (hX43_add G p3.1 (some (g.oa t)) p3.2).bind fun p4 =>
                if zis G p4.2 ou 44 = true then
                  (hX42_goOn G ou p4.2).bind fun p5 =>
                  some (.inl (()), p5.2)
                else none
              else none
            else none) (fun p6 =>
            if zthr p6.2 p6.1 3 = true then
              some (.inr p6.1, p6.2)
            else none)) ∧ mS F s = some ((), us (us s' 45 (nI 0)) 44 (nI 0 - nI 1)) ∧ pR c a' 0 b' N' 0 g' β s' ∧ pX0 N g s N' g' s' ∧ ls s' 45 = nI 1 ∧ la s' 46 0 = nI 0 ∧ a ≤ a' ∧ b' + 10 * a ≤ b + 10 * a') := by
    intro a b N g α s F Fx ou h hv h45 h46 h48 hF hB
    obtain ⟨F0, rfl⟩ : ∃ x, F = x + 2 := ⟨F - 2, by omega⟩
    have a5 := h.a5
    have M := mS_pop (F := F0 + 1) (k := 0) h h45 (by omega) h46 hB h48 hv
    have X1 : hX4_sentence_53b G (some c.p) ou (some (g.oa t)) α = zinr (zcase (hX4_period G (some c.p) α) (fun p2 =>
            if zis G p2.2 ou 44 = true then
              (hX42_sentences G ou p2.2).bind fun p3 =>
              if zis G p3.2 p3.1 45 = true then
                (hX43_add G p3.1 (some (g.oa t)) p3.2).bind fun p4 =>
                if zis G p4.2 ou 44 = true then
                  (hX42_goOn G ou p4.2).bind fun p5 =>
                  some (.inl (()), p5.2)
                else none
              else none
            else none) (fun p6 =>
            if zthr p6.2 p6.1 3 = true then
              some (.inr p6.1, p6.2)
            else none)) := by
      unfold hX4_sentence_53b
      rw [if_pos (of_eq_true (kis h.kp (by decide))), X_isB h.k h.xw h.ax (by omega), gl_bs, hB, if_pos (show nI (b2n false) = 0 from rfl)]
      show zinr (if zis G α (some c.p) 41 = true then _ else none) = _
      rw [if_pos (of_eq_true (kis h.kp (by decide)))]
    refine ⟨α, s, a, b, N, g, ?_, ?_, h, pX0.rf, h45, h46, Nat.le_refl _, Nat.le_refl _⟩
    · generalize hz : zcase (hX4_period G (some c.p) α) _ _ = R at X1 ⊢
      rcases R with _ | ⟨v, β⟩
      · simp only [zloop, X1]
        rfl
      · exact zloop_done X1
    · rw [M]
      exact mS_end rfl
  have xl : xRec = 300 := rfl
  induction m with
  | zero =>
    intro a b N g α s F Fx ou hn hFx h hb h1 h2 hr h45 h46 h47 hI hF
    obtain ⟨fx, rfl⟩ : ∃ x, Fx = x + 1 := ⟨Fx - 1, by omega⟩
    have hB : wB c a = false := by
      rw [← Bool.not_eq_true]
      exact fun z => by have := (wB_i z).1; omega
    rcases hI with i1 | i1
    · rw [hB] at i1; exact absurd i1 (by decide)
    · exact .inl (stop h (by unfold pB at hb; omega) h45 h46 i1 hF hB)
  | succ m ih =>
    intro a b N g α s F Fx ou hn hFx h hb h1 h2 hr h45 h46 h47 hI hF
    obtain ⟨fx, rfl⟩ : ∃ x, Fx = x + 1 := ⟨Fx - 1, by omega⟩
    rcases hB : wB c a with _ | _
    · rcases hI with i1 | i1
      · rw [hB] at i1; exact absurd i1 (by decide)
      · exact .inl (stop h (by unfold pB at hb; omega) h45 h46 i1 hF hB)
    · have a5 := h.a5
      have X1 : ∀ R, (rrX4_add G xRec).2.2.2.2.2 (some c.p) (some (g.oa t)) α = R → hX4_sentence_53b G (some c.p) ou (some (g.oa t)) α = zcase R (fun p7 => some (.inl (some c.p, ou, some (g.oa t)), p7.2)) (fun p8 => if zthr p8.2 p8.1 3 = true then some (.inr (.inr p8.1), p8.2) else none) := fun R hR => by
        unfold hX4_sentence_53b
        rw [if_pos (of_eq_true (kis h.kp (by decide))), X_isB h.k h.xw h.ax (by omega), gl_bs, hB, if_neg (show ¬ nI (b2n true) = 0 from bT)]
        show (if zis G α (some c.p) 41 = true then _ else none) = _
        rw [if_pos (of_eq_true (kis h.kp (by decide))), ← hR]
        rfl
      rcases (stats_all (c := c) (G := G) xRec).1 a 0 b N g α s 0 t F h hb hB h1 h2 hr h45 (Nat.zero_le _) h46 h47 hF (by omega) with ⟨β, F', s', a', b', N', g', x1, x2, x3⟩ | ⟨e, β, s', wh, w, x1, x2, x3, x4⟩
      · have hR := x3.R
        have a1 := x3.a1
        have b1 := x3.b1
        have f1 := x3.f1
        have X := x3.X
        have V := x3.V
        have o1 := X.oa t h2
        have r1 := X.r t h2
        have n1 := X.n
        have ar := hR.al
        have VK := V.2 0 (by omega)
        have R := ih (F := F') (Fx := fx) (ou := ou) (by omega) (by omega) hR (hb.go (by omega)) h1 (by omega) (by rw [r1]; exact hr) V.1 (VK.1.trans h46) (VK.2.1.trans h47) (.inr (VK.2.2.trans (by rw [la_ua, if_pos rfl, upd_same]))) (by omega)
        rw [o1] at R
        rw [zloop_step (a' := (some c.p, ou, some (g.oa t))) (α' := β), x2]
        · rcases R with ⟨β2, s2, a2, b2, N2, g2, y1, y2, y3, y4, y5, y6, y7, y8⟩ | R
          · exact .inl ⟨β2, s2, a2, b2, N2, g2, y1, y2, y3, ((pX0.p48 (k := 0) (v := nI 1)).tr X).tr y4, y5, y6, by omega, by omega⟩
          · exact .inr R
        · rw [X1 _ x1, zc_l]
      · refine .inr ⟨e, β, s', wh, w, ?_, x2, x3, x4⟩
        refine zloop_inr ?_
        rw [X1 _ x1, zc_r, if_pos x2]
end PAZK
