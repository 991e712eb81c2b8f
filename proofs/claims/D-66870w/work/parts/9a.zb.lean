/-! THE PURE LAYER: the parser: lists of statements. -/
/-- a statement in a list (or sentence) to -/
def cSt (c : pC) (G : xQ) (f : Nat) : Prop := ∀ (a d b N : Nat) (g : pG) (α : zS) (s : zM) (k to F : Nat), pR c a d b N 0 g α s → pB c b a 14 → wB c a = true → c.N0 ≤ to → to < N → rS d < g.r to → ls s 45 = nI (k + 1) → k ≤ 2 * d → la s 46 k = nI 0 → la s 47 k = nI to → 10 * (c.n - a) + 20 ≤ F → 3 * (40 - d) + 3 ≤ f → sS c a d b N g (ua s 48 (upd (la s 48) k (nI 1))) (k + 1) F 1 5 0 ((rrX4_add G f).2.2.2.2.2 (some c.p) (some (g.oa to)) α) (mS F s)
/-- a list of statement (or WHEN) t -/
def cLi (c : pC) (G : xQ) (f : Nat) : Prop := ∀ (a d b N : Nat) (g : pG) (α : zS) (s : zM) (k t F : Nat), pR c a d b N 0 g α s → pB c b a 18 → c.N0 ≤ t → t < N → rS d < g.r t + 5 → ls s 45 = nI k → k ≤ 2 * d + 2 → 10 * (c.n - a) + 20 ≤ F → 3 * (40 - d) + 1 ≤ f → sS c a d b N g s k F 1 2 0 ((rrX4_add G f).2.2.2.1 (some c.p) (some (g.oa t)) α) ((gX26_list (nI t) s).bind fun p => mS F p.2)
section PAZB
variable {c : pC} {G : xQ} {α β γ αs δ : zS} {s s' s2 ss : zM} {a a1 a' d b b' N N' N2 Ns as bs k t t2 u w wh q r F F1 F' Fs f y to n jn o K : Nat} {g g' g2 gs : pG} {v v' kv : Int32} {l ts : List Nat}
/-- the rows of things piled below k are the same -/
def pLo (k : Nat) (s s' : zM) : Prop := ∀ i, i < k → la s' 46 i = la s 46 i ∧ la s' 47 i = la s 47 i ∧ la s' 48 i = la s 48 i
theorem pLo.rf : pLo k s s := fun _ _ => ⟨rfl, rfl, rfl⟩
theorem pLo.tr (h : pLo k s s') (h' : pLo k s' s2) : pLo k s s2 := fun i hi => ⟨(h' i hi).1.trans (h i hi).1, (h' i hi).2.1.trans (h i hi).2.1, (h' i hi).2.2.trans (h i hi).2.2⟩
theorem pLo.le {k' : Nat} (h : pLo k s s') (hk : k' ≤ k) : pLo k' s s' := fun i hi => h i (by omega)
theorem pLo.p48 : pLo k s (ua s 48 (upd (la s 48) k v)) := fun i hi => ⟨rfl, rfl, by rw [la_ua, if_pos rfl, upd_other (by omega)]⟩
theorem pv.lo (h : pv k s s') : pLo k s s' := h.2
theorem pX0.p48 : pX0 N g s N g (ua s 48 (upd (la s 48) k v)) := pX0.mk (Nat.le_refl _) (fun _ _ => rfl) (fun _ _ => rfl) (fun _ _ => rfl) (fun _ _ => rfl) (fun _ _ _ => rfl)
theorem pR.p48 (h : pR c a d b N y g α s) : pR c a d b N y g α (ua s 48 (upd (la s 48) k v)) := h.tmp (fun _ _ => rfl) (fun i hi => by rw [la_ua, if_neg (by omega)])
/-- X's list, turn by turn -/
theorem X_31b1 (h : pR c a d b N y g α s) (hB : wB c a = true) {FA FB FE FL FP FS : (Option Nat) → (Option Nat) → zS → zF (Unit ⊕ Nat)} {r : Option Nat} : hX4_list_31b G FA FB FE FL FP FS (some c.p) r α = zcase (FS (some c.p) r α) (fun p4 => some (.inl (some c.p, r), p4.2)) (fun p5 => if zthr p5.2 p5.1 3 = true then some (.inr (.inr p5.1), p5.2) else none) := by
  have kp := h.kp
  have a5 := h.a5
  unfold hX4_list_31b
  rw [if_pos (of_eq_true (kis kp (by decide))), X_isB h.k h.xw h.ax (by omega), gl_bs, hB, if_neg (by exact bT)]
  show (if zis G α (some c.p) 41 = true then _ else _) = _
  rw [if_pos (of_eq_true (kis kp (by decide)))]
theorem X_31b0 (h : pR c a (d + 1) b N y g α s) (hB : wB c a = false) {FA FB FE FL FP FS : (Option Nat) → (Option Nat) → zS → zF (Unit ⊕ Nat)} {r : Option Nat} : hX4_list_31b G FA FB FE FL FP FS (some c.p) r α = some (.inr (.inl ()), zwI α 40 4 c.p (nI d)) := by
  have kp := h.kp
  have a5 := h.a5
  unfold hX4_list_31b
  rw [if_pos (of_eq_true (kis kp (by decide))), X_isB h.k h.xw h.ax (by omega), gl_bs, hB, if_pos (by exact bF)]
  show zinr ((zfI α (some c.p) 40 4).bind _) = _
  rw [kfI kp, h.nx, gl_bs, nl1, pI_sub (by omega), Nat.add_sub_cancel, kpI kp, gl_bs]
  rfl
/-- statements in a list, up to its end -/
theorem lsLoop (hst : cSt c G f) (hf : 3 * (40 - (d + 1)) + 3 ≤ f) (hK : K ≤ 2 * (d + 1)) (hd : d < 40) (m : Nat) : ∀ {a b N : Nat} {g : pG} {α : zS} {s : zM} {F Fx : Nat}, c.n - a ≤ m → m < Fx → pR c a (d + 1) b N 0 g α s → pB c b a 14 → c.N0 ≤ t → t < N → rS (d + 1) < g.r t → ls s 45 = nI (K + 1) → la s 46 K = nI 0 → la s 47 K = nI t → pX0 Ns gs ss N g s → pLo K ss s → ((wB c a = true ∧ as ≤ a ∧ b + 10 * as ≤ bs + 10 * a + 3 ∧ Fs + 10 * as ≤ F + 10 * a) ∨ (la s 48 K = nI 1 ∧ as < a ∧ b + 10 * as + 2 ≤ bs + 10 * a ∧ Fs + 10 * as + 4 ≤ F + 10 * a)) → 10 * (c.n - a) + 20 ≤ F → sS c as d bs Ns gs ss K Fs 1 2 0 (zloop (fun (a : ((Option Nat) × (Option Nat))) σ => hX4_list_31b G (rrX4_add G f).1 (rrX4_add G f).2.1 (rrX4_add G f).2.2.1 (rrX4_add G f).2.2.2.1 (rrX4_add G f).2.2.2.2.1 (rrX4_add G f).2.2.2.2.2 a.1 a.2 σ) Fx (some c.p, some (g.oa t)) α) (mS F s) := by
  have stop : ∀ {a b N : Nat} {g : pG} {α : zS} {s : zM} {F Fx : Nat}, pR c a (d + 1) b N 0 g α s → c.lv = 1 → ls s 45 = nI (K + 1) → la s 46 K = nI 0 → pX0 Ns gs ss N g s → pLo K ss s → la s 48 K = nI 1 → as < a → b + 10 * as + 2 ≤ bs + 10 * a → Fs + 10 * as + 4 ≤ F + 10 * a → 10 * (c.n - a) + 20 ≤ F → wB c a = false → sS c as d bs Ns gs ss K Fs 1 2 0 (zloop (fun (a : ((Option Nat) × (Option Nat))) σ => hX4_list_31b G (rrX4_add G f).1 (rrX4_add G f).2.1 (rrX4_add G f).2.2.1 (rrX4_add G f).2.2.2.1 (rrX4_add G f).2.2.2.2.1 (rrX4_add G f).2.2.2.2.2 a.1 a.2 σ) (Fx + 1) (some c.p, some (g.oa t)) α) (mS F s) := by
    intro a b N g α s F Fx h hv h45 h46 hX hL h48 has hbb hFF hF hB
    obtain ⟨F0, rfl⟩ : ∃ x, F = x + 1 := ⟨F - 1, by omega⟩
    have h1 := (h.unp h45 (by omega) (by rw [h46, ne_eq, pI_inj (by decide) (by decide)]; decide)).dep (d' := d) (by omega)
    have M := mS_pop (F := F0) h h45 (by omega) h46 hB h48 hv
    rw [pI_sub (by omega), Nat.add_sub_cancel] at M
    refine .inl ⟨_, F0, _, a, b, N, g, zloop_in (X_31b0 h hB), M, sQ.mk h1 (hX.mm rfl rfl) ⟨rfl, hL⟩ (by omega) (by omega) (by omega)⟩
  induction m with
  | zero =>
    intro a b N g α s F Fx hn hFx h hb h1 h2 hr h45 h46 h47 hX hL hI hF
    obtain ⟨fx, rfl⟩ : ∃ x, Fx = x + 1 := ⟨Fx - 1, by omega⟩
    have hB : wB c a = false := by
      rw [← Bool.not_eq_true]
      exact fun z => by have := (wB_i z).1; omega
    rcases hI with ⟨i1, _⟩ | ⟨i1, i2, i3, i4⟩
    · rw [hB] at i1; exact absurd i1 (by decide)
    · exact stop h (by unfold pB at hb; omega) h45 h46 hX hL i1 i2 i3 i4 hF hB
  | succ m ih =>
    intro a b N g α s F Fx hn hFx h hb h1 h2 hr h45 h46 h47 hX hL hI hF
    obtain ⟨fx, rfl⟩ : ∃ x, Fx = x + 1 := ⟨Fx - 1, by omega⟩
    rcases hB : wB c a with _ | _
    · rcases hI with ⟨i1, _⟩ | ⟨i1, i2, i3, i4⟩
      · rw [hB] at i1; exact absurd i1 (by decide)
      · exact stop h (by unfold pB at hb; omega) h45 h46 hX hL i1 i2 i3 i4 hF hB
    · have X1 : ∀ R, (rrX4_add G f).2.2.2.2.2 (some c.p) (some (g.oa t)) α = R → hX4_list_31b G (rrX4_add G f).1 (rrX4_add G f).2.1 (rrX4_add G f).2.2.1 (rrX4_add G f).2.2.2.1 (rrX4_add G f).2.2.2.2.1 (rrX4_add G f).2.2.2.2.2 (some c.p) (some (g.oa t)) α = zcase R (fun p4 => some (.inl (some c.p, some (g.oa t)), p4.2)) (fun p5 => if zthr p5.2 p5.1 3 = true then some (.inr (.inr p5.1), p5.2) else none) := fun R hR => by
        rw [X_31b1 h hB, hR]
      rcases hst a (d + 1) b N g α s K t F h hb hB h1 h2 hr h45 hK h46 h47 hF hf with ⟨β, F', s', a', b', N', g', x1, x2, x3⟩ | ⟨e, β, s', wh, w, x1, x2, x3, x4⟩
      · have hR := x3.R
        have a1 := x3.a1
        have b1 := x3.b1
        have f1 := x3.f1
        have X := x3.X
        have V := x3.V
        have o1 := X.oa t h2
        have r1 := X.r t h2
        have n1 := X.n
        have ar := hR.al
        have VK := V.2 K (by omega)
        have R := ih (F := F') (Fx := fx) (by omega) (by omega) hR (hb.go (by omega)) h1 (by omega) (by rw [r1]; exact hr) V.1 (VK.1.trans h46) (VK.2.1.trans h47) ((hX.tr (pX0.p48 (k := K) (v := nI 1))).tr X) ((hL.tr pLo.p48).tr (V.lo.le (by omega))) (.inr ⟨VK.2.2.trans (by rw [la_ua, if_pos rfl, upd_same]), by omega, by omega, by omega⟩) (by omega)
        rw [o1] at R
        rw [zloop_step (a' := (some c.p, some (g.oa t))) (α' := β), x2]
        · exact R
        · rw [X1 _ x1, zc_l]
      · refine .inr ⟨e, β, s', wh, w, ?_, x2, x3, x4⟩
        refine zloop_inr ?_
        rw [X1 _ x1, zc_r, if_pos x2]
/-- a list -/
theorem list_of (hst : cSt c G f) : cLi c G (f + 1) := by
  intro a d b N g α s k t F h hb h1 h2 hr h45 hk hF hf
  obtain ⟨F0, rfl⟩ : ∃ x, F = x + 1 := ⟨F - 1, by omega⟩
  have kp := h.kp
  have ax := h.ax
  have am := h.am
  have bm := h.bm
  have nm := h.nmv hb (by decide)
  have a5 := h.a5
  have al := h.al
  have nl := h.nl
  have N0 := h.N0
  have N1 := h.k.N1
  have hp := h.k.p
  have hn := h.x.n
  have hN := h.N8 hb
  have M0 : gX26_list (nI t) s = if wB c a = true then (if d = 40 then (gX26_fail (nI 3) (nI a) s).bind fun p => some ((), p.2) else (gX26_make (nI 40) (nI 0) (nI a) (us s 44 (nI (d + 1)))).bind fun p8 => (gX26_attach (nI t) p8.1 p8.2).bind fun p9 => gX26_pile (nI 0) p8.1 p9.2) else (gX26_fail (nI 1) (nI a) s).bind fun p => some ((), p.2) := by
    unfold gX26_list
    rw [gl_x, bm, if_pos (show nI 0 = 0 from rfl), gl_x, am, M_begins h.k h.mw (by omega), gl_bs]
    rcases hB : wB c a with _ | _
    · rw [if_neg (fun z => z rfl), if_neg (by decide)]
      show xlet (ls s 41) _ = _
      rw [gl_x, am]
      rfl
    · rw [if_pos (by exact bT), if_pos rfl]
      show xlet (ls s 44) _ = _
      rw [gl_x, nm]
      by_cases e : d = 40
      · rw [if_neg (fun z => z (by rw [e]; rfl)), if_pos e]
        show xlet (ls s 41) _ = _
        rw [gl_x, am]
        rfl
      · rw [if_pos (by rw [show (40 : Int32) = nI 40 from rfl, pI_inj (by omega) (by decide)]; exact e), if_neg e]
        rw [gl_x]
        show xlet (us s 44 (nI d + 1)) _ = _
        rw [gl_x, pI_1]
        show xlet (ls s 41) _ = _
        rw [gl_x, am]
        simp only [gu_id]
        rfl
  have X0 : (rrX4_add G (f + 1)).2.2.2.1 (some c.p) (some (g.oa t)) α = zcase (hX4_must G (some c.p) (nI (b2n (wB c a))) α) (fun p7 =>
        if zis G p7.2 (some c.p) 41 = true then
          zcase (hX4_deeper G (some c.p) p7.2) (fun p8 =>
            (znO p8.2 44 9).bind fun p9 =>
            (zfI p9.2 (some c.p) 40 3).bind fun x10 =>
            if zis G p9.2 p9.1 45 = true then
              (hX43_init G p9.1 40 0 x10 p9.2).bind fun p11 =>
              if zis G p11.2 (some (g.oa t)) 45 = true then
                (hX43_add G (some (g.oa t)) p9.1 p11.2).bind fun p12 =>
                hX4_list_31 G (rrX4_add G f).1 (rrX4_add G f).2.1 (rrX4_add G f).2.2.1 (rrX4_add G f).2.2.2.1 (rrX4_add G f).2.2.2.2.1 (rrX4_add G f).2.2.2.2.2 (some c.p) p12.1 p12.2
              else none
            else none) (fun p13 =>
            if zthr p13.2 p13.1 3 = true then
              some (.inr p13.1, p13.2)
            else none)
        else none) (fun p14 =>
        if zthr p14.2 p14.1 3 = true then
          some (.inr p14.1, p14.2)
        else none) := by
    show hX4_list_r G (rrX4_add G f).1 (rrX4_add G f).2.1 (rrX4_add G f).2.2.1 (rrX4_add G f).2.2.2.1 (rrX4_add G f).2.2.2.2.1 (rrX4_add G f).2.2.2.2.2 (some c.p) (some (g.oa t)) α = _
    unfold hX4_list_r
    rw [if_pos (of_eq_true (kis kp (by decide))), X_isB h.k h.xw h.ax (by omega), gl_bs]
    show (if zis G α (some c.p) 41 = true then _ else _) = _
    rw [if_pos (of_eq_true (kis kp (by decide)))]
  rcases hB : wB c a with _ | _
  · obtain ⟨e, β, s', w, z1, z2, z3, z4, z5⟩ := h.no' (G := G) (hb.le (by omega))
    rw [hB] at X0 M0
    rw [if_neg (by decide), z3, gl_bs] at M0
    refine .inr ⟨e, β, s', 1, w, ?_, z2, ?_, z4⟩
    · rw [X0, show nI (b2n false) = nI 0 from rfl, z1, zc_r, if_pos z2]
    · rw [M0, gl_bs]
      exact mS_bad z4.b1
  rw [hB] at X0 M0
  rw [if_pos rfl] at M0
  rw [show nI (b2n true) = nI 1 from rfl, X_must1, zc_l] at X0
  replace X0 := X0.trans (if_pos (of_eq_true (kis kp (by decide))))
  by_cases e4 : d = 40
  · subst e4
    obtain ⟨e, β, s', w, z1, z2, z3, z4, z5, z6, z7⟩ := X_deep40 (G := G) h (hb.le (by omega))
    rw [if_pos rfl, z3, gl_bs] at M0
    refine .inr ⟨e, β, s', 3, w, ?_, z2, ?_, z4⟩
    · rw [X0]
      show zcase (hX4_deeper G (some c.p) α) _ _ = _
      rw [z1, zc_r, if_pos z2]
    · rw [M0, gl_bs]
      exact mS_bad z4.b1
  have hd : d < 40 := by omega
  rw [if_neg e4] at M0
  have h3 := h.dep (d' := d + 1) (by omega)
  obtain ⟨h4, hq⟩ := h3.cell
  have zq : zn (zwI α 40 4 c.p (nI (d + 1))) = zn α := rfl
  rw [zq] at hq
  have rr : rS d = rS (d + 1) + 10 := by unfold rS; omega
  obtain ⟨β, x1, h5⟩ := h4.new (G := G) (kv := nI 40) (v := nI 0) (v' := nI a) (r := rS (d + 1) + 1) hq (by rw [ne_eq, pI_inj (by decide) (by decide)]; decide)
  obtain ⟨i1, i2⟩ := init_fr hq x1
  have ot := h.g.nd t h1 h2
  have lo := ot.lo
  have hi := ot.hi
  have eN : (g.push N (zn α) (rS (d + 1) + 1)).oa N = zn α := by rw [push_oa, if_pos rfl]
  have eto : (g.push N (zn α) (rS (d + 1) + 1)).oa t = g.oa t := by rw [push_oa, if_neg (by omega)]
  have rN : (g.push N (zn α) (rS (d + 1) + 1)).r N = rS (d + 1) + 1 := by rw [push_r, if_pos rfl]
  have rto : (g.push N (zn α) (rS (d + 1) + 1)).r t = g.r t := by rw [push_r, if_neg (by omega)]
  have cto : (g.push N (zn α) (rS (d + 1) + 1)).ch t = g.ch t := by rw [push_ch, if_neg (by omega)]
  obtain ⟨γ, y1, y2, h6⟩ := h5.add (G := G) (to := t) (t := N) (by omega) h1 (by omega) N0 (by omega) (by rw [rN, rto]; omega) mMk_16 (by omega)
  rw [eto, eN] at y1
  rw [cto] at y2 h6
  have mk := M_make (s := us s 44 (nI (d + 1))) (N := N) (kv := nI 40) (v := nI 0) (v' := nI a) h.Nm (by omega)
  have X6 : pX N g s (N + 1) ((g.push N (zn α) (rS (d + 1) + 1)).add t N) (mAtS (mMk (us s 44 (nI (d + 1))) N (nI 40) (nI 0) (nI a)) t (g.ch t) N) := ((pX.rf (s := s)).m (s2 := us s 44 (nI (d + 1))) (fun _ _ => rfl) (fun _ _ => rfl) ⟨rfl, rfl, rfl, rfl⟩).tr (pX.new.add (Nat.le_refl N))
  have p45 : ls (mAtS (mMk (us s 44 (nI (d + 1))) N (nI 40) (nI 0) (nI a)) t (g.ch t) N) 45 = nI k := X6.pl.1.trans h45
  have lo6 : pLo k s (mAtS (mMk (us s 44 (nI (d + 1))) N (nI 40) (nI 0) (nI a)) t (g.ch t) N) := (X6.pl.pv h45).lo
  generalize hS6 : mAtS (mMk (us s 44 (nI (d + 1))) N (nI 40) (nI 0) (nI a)) t (g.ch t) N = s6 at *
  have M1 : gX26_list (nI t) s = some ((), mPl s6 k (nI 0) (nI N)) := by
    rw [M0, mk, gl_bs]
    show Option.bind (gX26_attach (nI t) (nI N) (mMk (us s 44 (nI (d + 1))) N (nI 40) (nI 0) (nI a))) _ = _
    rw [y2, gl_bs]
    exact M_pile p45 (by omega)
  have X1 : (rrX4_add G (f + 1)).2.2.2.1 (some c.p) (some (g.oa t)) α = hX4_list_31 G (rrX4_add G f).1 (rrX4_add G f).2.1 (rrX4_add G f).2.2.1 (rrX4_add G f).2.2.2.1 (rrX4_add G f).2.2.2.2.1 (rrX4_add G f).2.2.2.2.2 (some c.p) (some (zn α)) γ := by
    have kp4 := h4.kp
    have ax4 := h4.ax
    have kdq : zkd (zmk (zwI α 40 4 c.p (nI (d + 1))) 45 0 9) (zn α) = 45 := hq.kd
    have kto : zkd β (g.oa t) = 45 := by
      rw [zkd_eq (i1 _ (by omega) (by omega)), zkd_eq (zmk_ne (by omega)), zkd_zwI]; exact ot.kn
    rw [X0]
    show zcase (hX4_deeper G (some c.p) α) _ _ = _
    rw [X_deep h hd, zc_l, znO_e, gl_bs]
    show Option.bind (zfI (zmk (zwI α 40 4 c.p (nI (d + 1))) 45 0 9) (some c.p) 40 3) _ = _
    rw [kfI kp4, ax4, gl_bs]
    show (if zis G (zmk (zwI α 40 4 c.p (nI (d + 1))) 45 0 9) (some (zn α)) 45 = true then _ else _) = _
    rw [if_pos (of_eq_true (kis kdq (by decide))), show (40 : Int32) = nI 40 from rfl, nl0]
    show Option.bind (hX43_init G (some (zn α)) (nI 40) (nI 0) (nI a) (zmk (zwI α 40 4 c.p (nI (d + 1))) 45 0 9)) _ = _
    rw [x1, gl_bs]
    show (if zis G β (some (g.oa t)) 45 = true then _ else _) = _
    rw [if_pos (of_eq_true (kis kto (by decide)))]
    show Option.bind (hX43_add G (some (g.oa t)) (some (zn α)) β) _ = _
    rw [y1, gl_bs]
  have h7 := h6.pl (v := nI 0) (v' := nI N) p45 (by omega)
  have hb7 : pB c (b + 1 + 1 + 1) a 14 := by unfold pB at *; omega
  have R := lsLoop (t := N) (K := k) (Ns := N) (gs := g) (ss := s) (as := a) (bs := b) (Fs := F0 + 1) (F := F0 + 1) (Fx := xLim) hst (by omega) (by omega) hd 505 (by have := h.k.n; omega) (by have : xLim = 1000000000 := rfl; omega) h7 hb7 N0 (Nat.lt_succ_self N) (by rw [add_r, rN]; omega) mPl_45 mPl_46 mPl_47 (X6.x0.mm (mPl_la (by decide)) (mPl_la (by decide))) (lo6.tr (fun i hi => mPl_lo p45 hi)) (.inl ⟨hB, Nat.le_refl _, by omega, Nat.le_refl _⟩) hF
  rw [add_oa, eN] at R
  rw [X1, M1, gl_bs]
  exact R
end PAZB
