/-! THE PURE LAYER: the parser: lists behind a word, and ends of statements. -/
/-- X: a statement's end; a list and the end; perhaps a list behind one or two words, and the end -/
def xSc (c : pC) (G : xQ) (w : Int32) (r : Option Nat) (α : zS) : zF (Unit ⊕ Nat) :=
  if zis G α (some c.p) 41 = true then
    (hX4_scopeEnd G (some c.p) r w α).bind fun p1 =>
    some (.inl (()), p1.2)
  else none
def xLs (c : pC) (G : xQ) (f : Nat) (w : Int32) (r : Option Nat) (α : zS) : zF (Unit ⊕ Nat) :=
  if zis G α (some c.p) 41 = true then
    zcase ((rrX4_add G f).2.2.2.1 (some c.p) r α) (fun p4 =>
      xSc c G w r p4.2) (fun p5 =>
      if zthr p5.2 p5.1 3 = true then
        some (.inr p5.1, p5.2)
      else none)
  else none
def xAk2 (c : pC) (G : xQ) (f : Nat) (one two w : Int32) (r : Option Nat) (α : zS) : zF (Unit ⊕ Nat) :=
  if zis G α (some c.p) 41 = true then
    (hX4_meets G (some c.p) one α).bind fun p2 =>
    if p2.1 = 0 then
      xSc c G w r p2.2
    else
      if zis G p2.2 (some c.p) 41 = true then
        zcase (hX4_need G (some c.p) two p2.2) (fun p3 =>
          xLs c G f w r p3.2) (fun p6 =>
          if zthr p6.2 p6.1 3 = true then
            some (.inr p6.1, p6.2)
          else none)
      else none
  else none
def xAk1 (c : pC) (G : xQ) (f : Nat) (one w : Int32) (r : Option Nat) (α : zS) : zF (Unit ⊕ Nat) :=
  if zis G α (some c.p) 41 = true then
    (hX4_meets G (some c.p) one α).bind fun p2 =>
    if p2.1 = 0 then
      xSc c G w r p2.2
    else
      xLs c G f w r p2.2
  else none
def aW (q : Nat) : Int32 × Int32 × Int32 := if q = 37 then (50, 51, 72) else if q = 41 then (61, 33, 76) else (62, -1, 77)
/-- the word at a statement's end -/
def aE (q : Nat) : Nat := if q = 37 then 72 else if q = 38 then 73 else if q = 40 then 75 else if q = 41 then 76 else 77
section PAZC
variable {c : pC} {G : xQ} {α β γ αs δ : zS} {s s' s2 ss : zM} {a a1 a' d b b' N N' N2 Ns as bs k t t2 u w wh q r F F1 F' Fs f y to n jn o K p : Nat} {g g' g2 gs : pG} {v v' kv : Int32} {l ts : List Nat}
theorem M_goA (hq : q = 37 ∨ q = 41 ∨ q = 42) (hK : K < 100) (h46 : la s 46 K = nI q) (h48 : la s 48 K = nI p) : gX26_goOn (nI K) v s = gX26_asked v (nI p) (aW q).1 (aW q).2.1 (aW q).2.2 (ua s 48 (upd (la s 48) K (nI (p + 1)))) := by
  unfold gX26_goOn gX26_goOn_144
  rw [pgld (by omega) (by decide), gl_bs, pgst (by omega) (by decide), gl_bs, pgld (by omega) (by decide), gl_bs, h48, pI_1, show la (ua s 48 (upd (la s 48) K (nI (p + 1)))) 46 K = nI q from h46]
  rcases hq with rfl | rfl | rfl
  · rw [if_neg (by decide), if_pos (by decide), gu_id]
    rfl
  · rw [if_neg (by decide), if_neg (by decide), if_neg (by decide), if_neg (by decide), if_neg (by decide), if_pos (by decide), gu_id]
    rfl
  · rw [if_neg (by decide), if_neg (by decide), if_neg (by decide), if_neg (by decide), if_neg (by decide), if_neg (by decide), if_pos (by decide), gu_id]
    rfl
theorem aE_A (hq : q = 37 ∨ q = 41 ∨ q = 42) : (aW q).2.2 = nI (aE q) ∧ aE q < 100 := by
  rcases hq with rfl | rfl | rfl
  · exact ⟨rfl, by decide⟩
  · exact ⟨rfl, by decide⟩
  · exact ⟨rfl, by decide⟩
/-- a statement ends: both sides -/
theorem scS (h : pR c a d b N 0 g α s) (h1 : c.N0 ≤ t) (h2 : t < N) (hN : N ≤ 8000) (hk : la s 9 t ≠ nI 53) (hw : w < 100) (h45 : ls s 45 = nI (K + 1)) (hK : K < 100) (h46 : la s 46 K ≠ nI 39) : sS c a d b N g s K F 0 0 0 (xSc c G (nI w) (some (g.oa t)) α) ((gX26_scope (nI t) (nI w) 0 s).bind fun p => mS F p.2) := by
  obtain ⟨a', β, s', x1, x2, x3, x4, x5, x6⟩ := h.scope (G := G) h1 h2 hN hk (w := w) (by omega) h45 hK h46
  have V := x5.pv h45
  refine .inl ⟨β, F, us s' 45 (nI K), a', b, N, g, ?_, ?_, sQ.mk x3 x6 ⟨rfl, fun i hi => V.2 i (by omega)⟩ (by omega) (by omega) (by omega)⟩
  · unfold xSc
    rw [if_pos (of_eq_true (kis h.kp (by decide))), x1, gl_bs]
  · rw [x2, gl_bs]
/-- a list and the end of its statement -/
theorem lsS (hli : cLi c G f) (h : pR c a d b N 0 g α s) (hb : pB c b a 20) (h1 : c.N0 ≤ t) (h2 : t < N) (hr : rS d < g.r t + 5) (hk : la s 9 t ≠ nI 53) (h45 : ls s 45 = nI (K + 1)) (hK : K ≤ 2 * d + 1) (hq : q = 37 ∨ q = 41 ∨ q = 42) (h46 : la s 46 K = nI q) (h47 : la s 47 K = nI t) (h48 : la s 48 K = nI 1) (hF : 10 * (c.n - a) + 20 ≤ F) (hf : 3 * (40 - d) + 1 ≤ f) : sS c a d b N g s K F 1 0 2 (xLs c G f (nI (aE q)) (some (g.oa t)) α) ((gX26_list (nI t) s).bind fun p => mS F p.2) := by
  have nl := h.nl
  have al := h.al
  have X0 : xLs c G f (nI (aE q)) (some (g.oa t)) α = zcase ((rrX4_add G f).2.2.2.1 (some c.p) (some (g.oa t)) α) (fun p4 => xSc c G (nI (aE q)) (some (g.oa t)) p4.2) (fun p5 => if zthr p5.2 p5.1 3 = true then some (.inr p5.1, p5.2) else none) := if_pos (of_eq_true (kis h.kp (by decide)))
  rw [X0]
  rcases hli a d b N g α s (K + 1) t F h (hb.le (by omega)) h1 h2 hr h45 (by omega) hF hf with ⟨β, F', s', a', b', N', g', x1, x2, x3⟩ | ⟨e, β, s', wh, w, x1, x2, x3, x4⟩
  · have hR := x3.R
    have X := x3.X
    have V := x3.V
    have a1 := x3.a1
    have b1 := x3.b1
    have f1 := x3.f1
    have n1 := X.n
    have aR := hR.al
    have hN := hR.N8 (k := 0) ((hb.go (by omega)).le (by omega))
    have VK := V.2 K (by omega)
    obtain ⟨F3, rfl⟩ : ∃ x, F' = x + 1 := ⟨F' - 1, by omega⟩
    have T1 := mS_go (F := F3) V.1 (by omega) (VK.1.trans h46) (by omega) (by omega) hR.bm
    rw [VK.2.1.trans h47, M_goA hq (by omega) (VK.1.trans h46) (VK.2.2.trans h48)] at T1
    obtain ⟨w1, w2⟩ := aE_A hq
    have T2 : gX26_asked (nI t) (nI 1) (aW q).1 (aW q).2.1 (aW q).2.2 (ua s' 48 (upd (la s' 48) K (nI (1 + 1)))) = gX26_scope (nI t) (nI (aE q)) 0 (ua s' 48 (upd (la s' 48) K (nI (1 + 1)))) := by
      unfold gX26_asked gX26_asked_12
      rw [if_pos (by decide), w1, gu_id]
    rw [T2] at T1
    have R := scS (G := G) (F := F3) (w := aE q) (hR.p48 (k := K) (v := nI (1 + 1))) (t := t) h1 (by omega) (by omega) (by rw [la_ua, if_neg (by decide), X.kd t h2]; exact hk) w2 (K := K) V.1 (by omega) (by rw [la_ua, if_neg (by decide), VK.1, h46, ne_eq, pI_inj (by omega) (by decide)]; omega)
    rw [X.oa t h2] at R
    rcases R with ⟨γ, F4, s4, a4, b4, N4, g4, y1, y2, y3⟩ | ⟨e, γ, s4, wh, w, y1, y2, y3, y4⟩
    · have y5 := y3.a1
      have y6 := y3.b1
      have y7 := y3.f1
      refine .inl ⟨γ, F4, s4, a4, b4, N4, g4, ?_, ?_, sQ.mk y3.R ((X.tr pX0.p48).tr y3.X) ⟨y3.V.1, ((V.lo.le (by omega)).tr pLo.p48).tr y3.V.lo⟩ (by omega) (by omega) (by omega)⟩
      · rw [x1, zc_l, y1]
      · rw [x2, T1, y2]
    · refine .inr ⟨e, γ, s4, wh, w, ?_, y2, ?_, y4⟩
      · rw [x1, zc_l, y1]
      · rw [x2, T1, y3]
  · refine .inr ⟨e, β, s', wh, w, ?_, x2, x3, x4⟩
    rw [x1, zc_r, if_pos x2]
/-- what waits in the pile goes on: with a list behind two words -/
theorem ak2S (hli : cLi c G f) (h : pR c a d b N 0 g α s) (hb : pB c b a 20) (h1 : c.N0 ≤ t) (h2 : t < N) (hr : rS d < g.r t + 5) (hk : la s 9 t ≠ nI 53) (h45 : ls s 45 = nI K) (hK : K ≤ 2 * d + 1) (hq : q = 37 ∨ q = 41) (hF : 10 * (c.n - a) + 22 ≤ F) (hf : 3 * (40 - d) + 1 ≤ f) : sS c a d b N g s K F 0 0 3 (xAk2 c G f (aW q).1 (aW q).2.1 (aW q).2.2 (some (g.oa t)) α) (mS F (mPl s K (nI q) (nI t))) := by
  obtain ⟨F0, rfl⟩ : ∃ x, F = x + 1 := ⟨F - 1, by omega⟩
  have nl := h.nl
  have al := h.al
  have hN := h.N8 hb
  have hq' : q = 37 ∨ q = 41 ∨ q = 42 := by omega
  obtain ⟨w1, w2⟩ := aE_A hq'
  have hs := (h.pl (v := nI q) (v' := nI t) h45 (by omega)).p48 (k := K) (v := nI (0 + 1))
  have T1 := mS_go (F := F0) (s := mPl s K (nI q) (nI t)) mPl_45 (by omega) mPl_46 (by omega) (by omega) (show ls (mPl s K (nI q) (nI t)) 43 = nI 0 from h.bm)
  rw [mPl_47, M_goA hq' (by omega) mPl_46 mPl_48] at T1
  have X0 : pX0 N g s N g (ua (mPl s K (nI q) (nI t)) 48 (upd (la (mPl s K (nI q) (nI t)) 48) K (nI (0 + 1)))) := (pX0.rf.mm (s2 := mPl s K (nI q) (nI t)) (mPl_la (by decide)) (mPl_la (by decide))).tr pX0.p48
  have L0 : pLo K s (ua (mPl s K (nI q) (nI t)) 48 (upd (la (mPl s K (nI q) (nI t)) 48) K (nI (0 + 1)))) := pLo.tr (fun i hi => mPl_lo h45 hi) pLo.p48
  have q45 : ls (ua (mPl s K (nI q) (nI t)) 48 (upd (la (mPl s K (nI q) (nI t)) 48) K (nI (0 + 1)))) 45 = nI (K + 1) := rfl
  have q46 : la (ua (mPl s K (nI q) (nI t)) 48 (upd (la (mPl s K (nI q) (nI t)) 48) K (nI (0 + 1)))) 46 K = nI q := by rw [la_ua, if_neg (by decide)]; exact mPl_46
  have q47 : la (ua (mPl s K (nI q) (nI t)) 48 (upd (la (mPl s K (nI q) (nI t)) 48) K (nI (0 + 1)))) 47 K = nI t := by rw [la_ua, if_neg (by decide)]; exact mPl_47
  have q48 : la (ua (mPl s K (nI q) (nI t)) 48 (upd (la (mPl s K (nI q) (nI t)) 48) K (nI (0 + 1)))) 48 K = nI 1 := by rw [la_ua, if_pos rfl, upd_same]
  have qk : la (ua (mPl s K (nI q) (nI t)) 48 (upd (la (mPl s K (nI q) (nI t)) 48) K (nI (0 + 1)))) 9 t ≠ nI 53 := by rw [la_ua, if_neg (by decide), mPl_la (by decide)]; exact hk
  rw [T1]
  generalize ua (mPl s K (nI q) (nI t)) 48 (upd (la (mPl s K (nI q) (nI t)) 48) K (nI (0 + 1))) = s1 at *
  have i1 : (aW q).1 = nI (if q = 37 then 50 else 61) := by rcases hq with rfl | rfl <;> rfl
  have i2 : (aW q).2.1 = nI (if q = 37 then 51 else 33) := by rcases hq with rfl | rfl <;> rfl
  have j1 : (if q = 37 then 50 else 61) < 100000 := by split <;> omega
  have j2 : (if q = 37 then 51 else 33) < 100000 := by split <;> omega
  have i3 : ¬ (aW q).2.1 = (-1 : Int32) := by rcases hq with rfl | rfl <;> decide
  unfold xAk2 gX26_asked
  rw [if_pos (of_eq_true (kis hs.kp (by decide))), if_neg (by decide), i1, w1]
  rcases hs.meets (G := G) j1 with ⟨e, x1, m1, h3⟩ | ⟨e, x1, m1⟩
  · rw [x1, gl_bs, m1, gl_bs, if_neg (by exact n1n)]
    show sS c a d b N g s K (F0 + 1) 0 0 3 (if zis G (xaS c α a) (some c.p) 41 = true then _ else _) (Option.bind (if ¬ nI 1 = 0 then _ else _) _)
    rw [if_pos (of_eq_true (kis h3.kp (by decide))), if_pos (by exact n1n), if_neg i3, i2]
    show sS c a d b N g s K (F0 + 1) 0 0 3 (zcase (hX4_need G (some c.p) (nI (if q = 37 then 51 else 33)) (xaS c α a)) _ _) (Option.bind (Option.bind (gX26_must (nI (if q = 37 then 51 else 33)) (maS s1 a)) _) _)
    rcases h3.needZ (G := G) j2 (by unfold pB at *; omega) with ⟨y3, y1, y2, y7⟩ | ⟨e, β2, s', w, y1, y2, y3, y4, y5⟩
    · have al7 := y7.al
      rw [y1, zc_l, y2, gl_bs, if_neg (by exact n1n)]
      unfold gX26_asked_36 gX26_asked_41 gX26_asked_53
      rw [if_neg (by decide), gu_id]
      have R := lsS (F := F0) (K := K) (q := q) hli y7 (by unfold pB at *; omega) h1 h2 hr (show la s1 9 t ≠ nI 53 from qk) q45 hK hq' q46 q47 q48 (by omega) hf
      rcases R with ⟨γ, F4, s4, a4, b4, N4, g4, y1, y2, y3⟩ | ⟨e, γ, s4, wh, w, y1, y2, y3, y4⟩
      · have y5 := y3.a1
        have y6 := y3.b1
        have y8 := y3.f1
        exact .inl ⟨γ, F4, s4, a4, b4, N4, g4, y1, y2, sQ.mk y3.R (X0.tr (pX0.mk y3.X.n y3.X.oa y3.X.r y3.X.kd y3.X.up y3.X.w10)) ⟨y3.V.1, L0.tr y3.V.lo⟩ (by omega) (by omega) (by omega)⟩
      · exact .inr ⟨e, γ, s4, wh, w, y1, y2, y3, y4⟩
    · refine .inr ⟨e, β2, s', 1, w, ?_, y2, ?_, y4⟩
      · rw [y1, zc_r, if_pos y2]
      · rw [y3, gl_bs, if_pos (show (nI 0, s').1 = 0 from rfl)]
        exact mS_bad (F := F0 - 1) y4.b1 |> fun z => by
          obtain ⟨F1, rfl⟩ : ∃ x, F0 = x + 1 := ⟨F0 - 1, by omega⟩
          exact z
  · rw [x1, gl_bs, m1, gl_bs, if_pos (show (nI 0, α).1 = 0 from rfl)]
    show sS c a d b N g s K (F0 + 1) 0 0 3 (xSc c G (nI (aE q)) (some (g.oa t)) α) (Option.bind (if ¬ nI 0 = 0 then _ else gX26_asked_12 (nI t) (nI (aE q)) s1) _)
    rw [if_neg (fun z => z rfl)]
    unfold gX26_asked_12
    rw [gu_id]
    have R := scS (G := G) (F := F0) (w := aE q) hs (t := t) h1 h2 (by omega) qk w2 (K := K) q45 (by omega) (by rw [q46, ne_eq, pI_inj (by omega) (by decide)]; omega)
    rcases R with ⟨γ, F4, s4, a4, b4, N4, g4, y1, y2, y3⟩ | ⟨e, γ, s4, wh, w, y1, y2, y3, y4⟩
    · have y5 := y3.a1
      have y6 := y3.b1
      have y8 := y3.f1
      exact .inl ⟨γ, F4, s4, a4, b4, N4, g4, y1, y2, sQ.mk y3.R (X0.tr y3.X) ⟨y3.V.1, L0.tr y3.V.lo⟩ (by omega) (by omega) (by omega)⟩
    · exact .inr ⟨e, γ, s4, wh, w, y1, y2, y3, y4⟩
end PAZC
