/-! THE PURE LAYER: the parser: EVALUATE. -/
section PAZG
variable {c : pC} {G : xQ} {α β γ αs δ ε : zS} {s s' s2 ss : zM} {a a1 a' d b b' N N' N2 Ns as bs k t t2 u w wh q r F F1 F' Fs f y to n jn o K p Rk : Nat} {g g' g2 gs : pG} {v v' kv : Int32} {l ts : List Nat}
theorem M_goE (hK : K < 100) (h46 : la s 46 K = nI 40) {x : Int32} (h48 : la s 48 K = x) : gX26_goOn (nI K) v s = gX26_whens (nI K) v x (ua s 48 (upd (la s 48) K (x + 1))) := by
  unfold gX26_goOn gX26_goOn_144 gX26_goOn_137 gX26_goOn_144
  rw [pgld (by omega) (by decide), gl_bs, pgst (by omega) (by decide), gl_bs, pgld (by omega) (by decide), gl_bs, h48, show la (ua s 48 (upd (la s 48) K (x + 1))) 46 K = nI 40 from h46]
  rw [if_neg (by decide), if_neg (by decide), if_neg (by decide), if_neg (by decide), if_pos (by decide), gu_id]
/-- M's child alone -/
theorem M_childAt (h : pR c a d b N y g α s) (hN : N < 8000) (h1 : c.N0 ≤ to) (h2 : to < N) : gX26_child (nI to) kv v v' s = some ((), mAtS (mMk s N kv v v') to (g.ch to) N) := by
  have o := h.g.nd to h1 h2
  have N1 := h.k.N1
  have at1 : gX26_attach (nI to) (nI N) (mMk s N kv v v') = some ((), mAtS (mMk s N kv v v') to (g.ch to) N) := by
    refine M_att ?_ ?_ ?_ (by omega) (by omega)
    · by_cases e : g.ch to = []
      · exact .inl e
      · have z1 := o.mem _ (last_mem e)
        have z2 : (g.ch to).headD 0 ∈ g.ch to := by
          generalize g.ch to = l at e
          cases l with
          | nil => exact absurd rfl e
          | cons x l => exact List.mem_cons_self
        have z3 := o.mem _ z2
        exact .inr ⟨e, by omega, by omega, by omega⟩
    · rw [mMk_la (by decide) (by decide), if_neg (by omega)]; exact o.hd
    · rw [mMk_la (by decide) (by decide), if_neg (by omega)]; exact o.lt
  unfold gX26_child
  rw [M_make h.Nm hN, gl_bs]
  show Option.bind (gX26_attach (nI to) (nI N) (mMk s N kv v v')) _ = _
  rw [at1, gl_bs]
/-- the words behind WHEN, and the list -/
theorem whLoop (hli : cLi c G f) (hf : 3 * (40 - d) + 1 ≤ f) (hK : K ≤ 2 * d + 1) (m : Nat) : ∀ {a b N : Nat} {g : pG} {α : zS} {s : zM} {F Fm Fx : Nat}, c.n - a ≤ m → m < Fx → m < Fm → pR c a d b N 0 g α s → c.N0 ≤ w → w < N → rS d < g.r w + 5 → 0 < g.r w → ls s 45 = nI (K + 1) → pX0 Ns gs ss N g s → pLo (K + 1) ss s → ((wW c a 59 = true ∧ as ≤ a ∧ b + 10 * as ≤ bs + 10 * a + 3 ∧ pB c b a 12) ∨ (as < a ∧ b + 10 * as ≤ bs + 10 * a ∧ pB c b a 18)) → 10 * (c.n - a) + 20 ≤ F → (∃ β F' s' a' b' N' g', zloop (fun (a : ((Option Nat) × (Option Nat) × (Option Nat))) σ => hX4_evaluate_56b G (rrX4_add G f).1 (rrX4_add G f).2.1 (rrX4_add G f).2.2.1 (rrX4_add G f).2.2.2.1 (rrX4_add G f).2.2.2.2.1 (rrX4_add G f).2.2.2.2.2 a.1 a.2.1 a.2.2 σ) Fx (some c.p, some q, some (g.oa w)) α = some (.inl (some c.p, some q), β) ∧ ((gloop (fun (a : (Int32)) s => gX26_whens_42b a s) Fm (nI w) s).bind fun p => mS F p.2) = mS F' s' ∧ sQ c as d bs Ns gs ss (K + 1) F 1 2 0 a' b' N' g' β s' F') ∨ (∃ e β s' wh w', zloop (fun (a : ((Option Nat) × (Option Nat) × (Option Nat))) σ => hX4_evaluate_56b G (rrX4_add G f).1 (rrX4_add G f).2.1 (rrX4_add G f).2.2.1 (rrX4_add G f).2.2.2.1 (rrX4_add G f).2.2.2.2.1 (rrX4_add G f).2.2.2.2.2 a.1 a.2.1 a.2.2 σ) Fx (some c.p, some q, some (g.oa w)) α = some (.inr (.inr e), β) ∧ zthr β e 3 = true ∧ ((gloop (fun (a : (Int32)) s => gX26_whens_42b a s) Fm (nI w) s).bind fun p => mS F p.2) = some ((), s') ∧ pE c wh w' β s') := by
  have stop : ∀ {a b N : Nat} {g : pG} {α : zS} {s : zM} {F Fm Fx : Nat}, pR c a d b N 0 g α s → c.N0 ≤ w → w < N → rS d < g.r w + 5 → ls s 45 = nI (K + 1) → pX0 Ns gs ss N g s → pLo (K + 1) ss s → as < a → b + 10 * as ≤ bs + 10 * a → pB c b a 18 → 10 * (c.n - a) + 20 ≤ F → wW c a 59 = false → (∃ β F' s' a' b' N' g', zloop (fun (a : ((Option Nat) × (Option Nat) × (Option Nat))) σ => hX4_evaluate_56b G (rrX4_add G f).1 (rrX4_add G f).2.1 (rrX4_add G f).2.2.1 (rrX4_add G f).2.2.2.1 (rrX4_add G f).2.2.2.2.1 (rrX4_add G f).2.2.2.2.2 a.1 a.2.1 a.2.2 σ) (Fx + 1) (some c.p, some q, some (g.oa w)) α = some (.inl (some c.p, some q), β) ∧ ((gloop (fun (a : (Int32)) s => gX26_whens_42b a s) (Fm + 1) (nI w) s).bind fun p => mS F p.2) = mS F' s' ∧ sQ c as d bs Ns gs ss (K + 1) F 1 2 0 a' b' N' g' β s' F') ∨ (∃ e β s' wh w', zloop (fun (a : ((Option Nat) × (Option Nat) × (Option Nat))) σ => hX4_evaluate_56b G (rrX4_add G f).1 (rrX4_add G f).2.1 (rrX4_add G f).2.2.1 (rrX4_add G f).2.2.2.1 (rrX4_add G f).2.2.2.2.1 (rrX4_add G f).2.2.2.2.2 a.1 a.2.1 a.2.2 σ) (Fx + 1) (some c.p, some q, some (g.oa w)) α = some (.inr (.inr e), β) ∧ zthr β e 3 = true ∧ ((gloop (fun (a : (Int32)) s => gX26_whens_42b a s) (Fm + 1) (nI w) s).bind fun p => mS F p.2) = some ((), s') ∧ pE c wh w' β s') := by
    intro a b N g α s F Fm Fx h h1 h2 hr h45 hX hL has hbb hb hF hW
    have xm := X_meets (G := G) h (w := 59) (by decide)
    have mm := M_meets h (w := 59) (by decide)
    rw [if_neg (by rw [hW]; decide)] at xm mm
    have X1 : ∀ R, (rrX4_add G f).2.2.2.1 (some c.p) (some (g.oa w)) α = R → hX4_evaluate_56b G (rrX4_add G f).1 (rrX4_add G f).2.1 (rrX4_add G f).2.2.1 (rrX4_add G f).2.2.2.1 (rrX4_add G f).2.2.2.2.1 (rrX4_add G f).2.2.2.2.2 (some c.p) (some q) (some (g.oa w)) α = zinr (zcase R (fun p3 => some (.inl (some c.p, some q), p3.2)) (fun p4 => if zthr p4.2 p4.1 3 = true then some (.inr (.inr p4.1), p4.2) else none)) := fun R hR => by
      unfold hX4_evaluate_56b
      rw [if_pos (of_eq_true (kis h.kp (by decide))), show (59 : Int32) = nI 59 from rfl, xm, gl_bs, if_pos (show (nI 0, α).1 = 0 from rfl)]
      show zinr (if zis G α (some c.p) 41 = true then _ else _) = _
      rw [if_pos (of_eq_true (kis h.kp (by decide))), ← hR]
    have M1 : ((gloop (fun (a : (Int32)) s => gX26_whens_42b a s) (Fm + 1) (nI w) s).bind fun p => mS F p.2) = (gX26_list (nI w) s).bind fun p => mS F p.2 := by
      have e : gX26_whens_42b (nI w) s = ginr (gX26_list (nI w) s) := by
        unfold gX26_whens_42b
        rw [show (59 : Int32) = nI 59 from rfl, mm, gl_bs, if_pos (show (nI 0, s).1 = 0 from rfl)]
        show ginr (Option.bind (gX26_list (nI w) s) _) = _
        rw [gu_id]
      rcases hl : gX26_list (nI w) s with _ | ⟨_, s3⟩
      · rw [hl] at e
        simp only [gloop, e]
        rfl
      · rw [hl] at e
        rw [gl_done e]
    rw [M1]
    rcases hli a d b N g α s (K + 1) w F h hb h1 h2 hr h45 (by omega) hF hf with ⟨β, F', s', a', b', N', g', x1, x2, x3⟩ | ⟨e, β, s', wh, w', x1, x2, x3, x4⟩
    · have a1 := x3.a1
      have b1 := x3.b1
      have f1 := x3.f1
      refine .inl ⟨β, F', s', a', b', N', g', zloop_in ?_, x2, sQ.mk x3.R (hX.tr x3.X) ⟨x3.V.1, hL.tr x3.V.lo⟩ (by omega) (by omega) (by omega)⟩
      show hX4_evaluate_56b G _ _ _ _ _ _ (some c.p) (some q) (some (g.oa w)) α = _
      rw [X1 _ x1, zc_l]
    · refine .inr ⟨e, β, s', wh, w', ?_, x2, x3, x4⟩
      refine zloop_done ?_
      show hX4_evaluate_56b G _ _ _ _ _ _ (some c.p) (some q) (some (g.oa w)) α = _
      rw [X1 _ x1, zc_r, if_pos x2]
      rfl
  induction m with
  | zero =>
    intro a b N g α s F Fm Fx hn hFx hFm h h1 h2 hr hr0 h45 hX hL hI hF
    obtain ⟨fx, rfl⟩ : ∃ x, Fx = x + 1 := ⟨Fx - 1, by omega⟩
    obtain ⟨fm, rfl⟩ : ∃ x, Fm = x + 1 := ⟨Fm - 1, by omega⟩
    have hW : wW c a 59 = false := by
      rw [← Bool.not_eq_true]
      exact fun z => by have := (wW_i z).1; omega
    rcases hI with ⟨i1, _⟩ | ⟨i1, i2, i3⟩
    · rw [hW] at i1; exact absurd i1 (by decide)
    · exact stop h h1 h2 hr h45 hX hL i1 i2 i3 hF hW
  | succ m ih =>
    intro a b N g α s F Fm Fx hn hFx hFm h h1 h2 hr hr0 h45 hX hL hI hF
    obtain ⟨fx, rfl⟩ : ∃ x, Fx = x + 1 := ⟨Fx - 1, by omega⟩
    obtain ⟨fm, rfl⟩ : ∃ x, Fm = x + 1 := ⟨Fm - 1, by omega⟩
    rcases hW : wW c a 59 with _ | _
    · rcases hI with ⟨i1, _⟩ | ⟨i1, i2, i3⟩
      · rw [hW] at i1; exact absurd i1 (by decide)
      · exact stop h h1 h2 hr h45 hX hL i1 i2 i3 hF hW
    · have ha := (wW_i hW).1
      have hI' : as ≤ a ∧ b + 10 * as ≤ bs + 10 * a + 3 ∧ pB c b a 12 := by
        rcases hI with ⟨_, i1, i2, i3⟩ | ⟨i1, i2, i3⟩
        · exact ⟨i1, i2, i3⟩
        · exact ⟨by omega, by omega, i3.le (by omega)⟩
      obtain ⟨i1, i2, i3⟩ := hI'
      have xm := X_meets (G := G) h (w := 59) (by decide)
      have mm := M_meets h (w := 59) (by decide)
      rw [if_pos hW] at xm mm
      have h3 := h.adv ha
      have kp3 := h3.kp
      have ax3 := h3.ax
      have a53 := h3.a5
      have hb3 : pB c b (a + 1) 22 := by unfold pB at *; omega
      have X3 : pX0 Ns gs ss N g (maS s a) := hX.mm rfl rfl
      have X1 : hX4_evaluate_56b G (rrX4_add G f).1 (rrX4_add G f).2.1 (rrX4_add G f).2.2.1 (rrX4_add G f).2.2.2.1 (rrX4_add G f).2.2.2.2.1 (rrX4_add G f).2.2.2.2.2 (some c.p) (some q) (some (g.oa w)) α = (hX4_meets G (some c.p) (nI 60) (xaS c α a)).bind fun p6 =>
        if p6.1 = 0 then
          if zis G p6.2 (some c.p) 41 = true then
            zcase (hX4_operand G (some c.p) (nI 1) p6.2) (fun p7 =>
              hX4_evaluate_99 G (rrX4_add G f).1 (rrX4_add G f).2.1 (rrX4_add G f).2.2.1 (rrX4_add G f).2.2.2.1 (rrX4_add G f).2.2.2.2.1 (rrX4_add G f).2.2.2.2.2 (some c.p) (some q) (some (g.oa w)) p7.1 (some (g.oa w)) p7.2) (fun p8 =>
              if zthr p8.2 p8.1 3 = true then
                some (.inr (.inr (.inr p8.1)), p8.2)
              else none)
          else none
        else
          (znO p6.2 44 9).bind fun p9 =>
          if zis G p9.2 p9.1 45 = true then
            (hX43_init G p9.1 (nI 47) (nI 0) (nI (a + 1)) p9.2).bind fun p10 =>
            hX4_evaluate_99 G (rrX4_add G f).1 (rrX4_add G f).2.1 (rrX4_add G f).2.2.1 (rrX4_add G f).2.2.2.1 (rrX4_add G f).2.2.2.2.1 (rrX4_add G f).2.2.2.2.2 (some c.p) (some q) (some (g.oa w)) p9.1 (some (g.oa w)) p10.2
          else none := by
        unfold hX4_evaluate_56b
        rw [if_pos (of_eq_true (kis h.kp (by decide))), show (59 : Int32) = nI 59 from rfl, xm, gl_bs, if_neg (by exact n1n)]
        show Option.bind (zfI (xaS c α a) (some c.p) 40 3) _ = _
        rw [kfI kp3, ax3, gl_bs]
        show (if zis G (xaS c α a) (some c.p) 41 = true then _ else _) = _
        rw [if_pos (of_eq_true (kis kp3 (by decide)))]
        rfl
      have M1 : gX26_whens_42b (nI w) s = if wW c (a + 1) 60 = true then (gX26_child (nI w) (nI 47) (nI 0) (nI (a + 1)) (maS s a)).bind fun p7 => xlet (ls p7.2 41) fun x8 => xlet (us p7.2 41 (x8 + (1 : Int32))) fun s9 => some (.inl (nI w), s9) else (gX26_operandOf (nI w) (maS s a)).bind fun p5 => some (.inl (nI w), p5.2) := by
        unfold gX26_whens_42b
        rw [show (59 : Int32) = nI 59 from rfl, mm, gl_bs, if_neg (by exact n1n)]
        show xlet (ls (maS s a) 41) _ = _
        rw [gl_x, h3.am, show (60 : Int32) = nI 60 from rfl]
        show Option.bind (gX26_isWord (nI (a + 1)) (nI 60) (maS s a)) _ = _
        rw [M_isW h3.k h3.mw (by omega) (by decide), gl_bs]
        rcases e : wW c (a + 1) 60 with _ | _
        · rw [if_pos (show nI (b2n false) = 0 from rfl), if_neg (by decide)]
        · rw [if_neg (show ¬ nI (b2n true) = 0 from bT), if_pos rfl]
          show xlet (ls (maS s a) 41) _ = _
          rw [gl_x, h3.am]
          rfl
      rcases h3.meets (G := G) (w := 60) (by decide) with ⟨e, z1, m1, h4⟩ | ⟨e, z1, m1⟩
      · -- OTHER
        have al4 := h4.al
        obtain ⟨h8, hq⟩ := h4.cell
        have zq : zn (xaS c (xaS c α a) (a + 1)) = zn α := rfl
        rw [zq] at hq
        have hN8 := h8.N8 (k := 10) (by unfold pB at *; omega)
        obtain ⟨β, γ, g', w1, w2, w3, w4, w5, w6⟩ := h8.childA (G := G) (to := w) (kv := nI 47) (v := nI 0) (v' := nI (a + 1)) (by unfold pB at *; omega) h1 h2 hr0 (by omega) hq (by rw [ne_eq, pI_inj (by decide) (by decide)]; decide)
        have kdq : zkd (zmk (xaS c (xaS c α a) (a + 1)) 45 0 9) (zn α) = 45 := hq.kd
        have Xs : hX4_evaluate_56b G (rrX4_add G f).1 (rrX4_add G f).2.1 (rrX4_add G f).2.2.1 (rrX4_add G f).2.2.2.1 (rrX4_add G f).2.2.2.2.1 (rrX4_add G f).2.2.2.2.2 (some c.p) (some q) (some (g.oa w)) α = some (.inl (some c.p, some q, some (g.oa w)), γ) := by
          rw [X1, z1, gl_bs, if_neg (by exact n1n), znO_e, gl_bs]
          show (if zis G (zmk (xaS c (xaS c α a) (a + 1)) 45 0 9) (some (zn α)) 45 = true then _ else _) = _
          rw [if_pos (of_eq_true (kis kdq (by decide)))]
          show Option.bind (hX43_init G (some (zn α)) (nI 47) (nI 0) (nI (a + 1)) (zmk (xaS c (xaS c α a) (a + 1)) 45 0 9)) _ = _
          rw [w1, gl_bs]
          unfold hX4_evaluate_99
          rw [if_pos (of_eq_true (kis w2 (by decide)))]
          show Option.bind (hX43_add G (some (g.oa w)) (some (zn α)) β) _ = _
          rw [w3, gl_bs]
        have Ms : gX26_whens_42b (nI w) s = some (.inl (nI w), mAtS (mMk (maS (maS s a) (a + 1)) N (nI 47) (nI 0) (nI (a + 1))) w (g.ch w) N) := by
          have e41 : ls (mAtS (mMk (maS s a) N (nI 47) (nI 0) (nI (a + 1))) w (g.ch w) N) 41 = nI (a + 1) := by rw [mAtS_ls]; rfl
          have em : mAtS (mMk (maS (maS s a) (a + 1)) N (nI 47) (nI 0) (nI (a + 1))) w (g.ch w) N = maS (mAtS (mMk (maS s a) N (nI 47) (nI 0) (nI (a + 1))) w (g.ch w) N) (a + 1) := by rw [mMk_ma, mAtS_ma]
          rw [em, M1, if_pos e, M_childAt h3 (by omega) h1 h2, gl_bs]
          show xlet (ls (mAtS (mMk (maS s a) N (nI 47) (nI 0) (nI (a + 1))) w (g.ch w) N) 41) _ = _
          rw [gl_x, e41, gl_x, pI_1]
          rfl
        have o1 := w6.oa w h2
        have r1 := w6.r w h2
        have W0 := w6.pl.pv (k := K + 1) h45
        have R := ih (g := g') (α := γ) (F := F) (Fm := fm) (Fx := fx) (by omega) (by omega) (by omega) w5 h1 (by omega) (by rw [r1]; exact hr) (by rw [r1]; exact hr0) W0.1 ((X3.mm (s2 := maS (maS s a) (a + 1)) rfl rfl).tr w6.x0) (hL.tr (pLo.tr (s' := maS (maS s a) (a + 1)) (fun _ _ => ⟨rfl, rfl, rfl⟩) W0.lo)) (.inr ⟨by omega, by omega, by unfold pB at *; omega⟩) (by omega)
        rw [o1] at R
        rw [zloop_step (a' := (some c.p, some q, some (g.oa w))) (α' := γ) Xs, gl_step Ms]
        exact R
      · have e' : ¬ wW c (a + 1) 60 = true := by rw [e]; decide
        rw [if_neg e'] at M1
        rcases h3.operandOf (G := G) (to := w) (hb3.le (by omega)) h1 h2 hr0 (by omega) with ⟨hO, β, γ, s1, N1, g1, x1, x2, x3, x4, x5, x6⟩ | ⟨ee, β, s', w', x1, x2, x3, x4, x5⟩
        · have al5 := x5.al
          have Xs : hX4_evaluate_56b G (rrX4_add G f).1 (rrX4_add G f).2.1 (rrX4_add G f).2.2.1 (rrX4_add G f).2.2.2.1 (rrX4_add G f).2.2.2.2.1 (rrX4_add G f).2.2.2.2.2 (some c.p) (some q) (some (g.oa w)) α = some (.inl (some c.p, some q, some (g.oa w)), γ) := by
            rw [X1, z1, gl_bs, if_pos (show (nI 0, xaS c α a).1 = 0 from rfl)]
            show (if zis G (xaS c α a) (some c.p) 41 = true then _ else _) = _
            rw [if_pos (of_eq_true (kis kp3 (by decide)))]
            show zcase (hX4_operand G (some c.p) (nI 1) (xaS c α a)) _ _ = _
            rw [x1, zc_l]
            unfold hX4_evaluate_99
            rw [if_pos (of_eq_true (kis x2 (by decide)))]
            show Option.bind (hX43_add G (some (g.oa w)) (some (zn (xaS c α a))) β) _ = _
            rw [x3, gl_bs]
          have Ms : gX26_whens_42b (nI w) s = some (.inl (nI w), s1) := by rw [M1, x4, gl_bs]
          have o1 := x6.oa w h2
          have r1 := x6.r w h2
          have n1 := x6.n
          have W0 := x6.pl.pv (k := K + 1) h45
          have R := ih (g := g1) (α := γ) (F := F) (Fm := fm) (Fx := fx) (by omega) (by omega) (by omega) x5 h1 (by omega) (by rw [r1]; exact hr) (by rw [r1]; exact hr0) W0.1 (X3.tr x6.x0) (hL.tr (pLo.tr (s' := maS s a) (fun _ _ => ⟨rfl, rfl, rfl⟩) W0.lo)) (.inr ⟨by omega, by omega, by unfold pB at *; omega⟩) (by omega)
          rw [o1] at R
          rw [zloop_step (a' := (some c.p, some q, some (g.oa w))) (α' := γ) Xs, gl_step Ms]
          exact R
        · refine .inr ⟨ee, β, s', 1, w', ?_, x2, ?_, x4⟩
          · refine zloop_done ?_
            show hX4_evaluate_56b G _ _ _ _ _ _ (some c.p) (some q) (some (g.oa w)) α = _
            rw [X1, z1, gl_bs, if_pos (show (nI 0, xaS c α a).1 = 0 from rfl)]
            show (if zis G (xaS c α a) (some c.p) 41 = true then _ else _) = _
            rw [if_pos (of_eq_true (kis kp3 (by decide)))]
            show zcase (hX4_operand G (some c.p) (nI 1) (xaS c α a)) _ _ = _
            rw [x1, zc_r, if_pos x2]
          · have Ms : gX26_whens_42b (nI w) s = some (.inl (nI w), s') := by rw [M1, x3, gl_bs]
            obtain ⟨F0, rfl⟩ : ∃ x, F = x + 1 := ⟨F - 1, by omega⟩
            obtain ⟨fm0, rfl⟩ : ∃ x, fm = x + 1 := ⟨fm - 1, by omega⟩
            have Me : gX26_whens_42b (nI w) s' = some (.inr (), s') := by
              unfold gX26_whens_42b
              rw [Bd_meets x4.b1, gl_bs, if_pos (show (nI 0, s').1 = 0 from rfl)]
              show ginr (Option.bind (gX26_list (nI w) s') _) = _
              rw [Bd_list x4.b1, gl_bs]
              rfl
            rw [gl_step Ms, gl_done Me, gl_bs]
            exact mS_bad x4.b1
/-- M's turn with WHEN, or the end -/
theorem M_whens (h : pR c a d b N y g α s) (hN : N < 8000) (h1 : c.N0 ≤ t) (h2 : t < N) {x x' : Int32} : gX26_whens x (nI t) x' s = if wW c a 59 = true then gloop (fun (a : (Int32)) s => gX26_whens_42b a s) xLim (nI N) (mAtS (mMk s N (nI 46) (nI 0) (nI a)) t (g.ch t) N) else gX26_scope (nI t) (nI 75) 0 s := by
  have a5 := h.a5
  have ch := M_childAt (kv := nI 46) (v := nI 0) (v' := nI a) h hN h1 h2
  unfold gX26_child at ch
  rw [M_make h.Nm hN, gl_bs] at ch
  have at1 : gX26_attach (nI t) (nI N) (mMk s N (nI 46) (nI 0) (nI a)) = some ((), mAtS (mMk s N (nI 46) (nI 0) (nI a)) t (g.ch t) N) := by
    have e : Option.bind (gX26_attach (nI t) (nI N) (mMk s N (nI 46) (nI 0) (nI a))) (fun p => some ((), p.2)) = some ((), mAtS (mMk s N (nI 46) (nI 0) (nI a)) t (g.ch t) N) := ch
    rw [gu_id] at e
    exact e
  unfold gX26_whens gX26_whens_42
  rw [gl_x, h.am, show (59 : Int32) = nI 59 from rfl, M_isW h.k h.mw (by omega) (by decide), gl_bs]
  rcases e : wW c a 59 with _ | _
  · rw [if_neg (fun z => z rfl), if_neg (by decide), gu_id]
    rfl
  · rw [if_pos (show ¬ nI (b2n true) = 0 from bT), if_pos rfl]
    show xlet (ls s 41) _ = _
    rw [gl_x, h.am]
    show Option.bind (gX26_make (nI 46) (nI 0) (nI a) s) _ = _
    rw [M_make h.Nm hN, gl_bs]
    show Option.bind (gX26_attach (nI t) (nI N) (mMk s N (nI 46) (nI 0) (nI a))) _ = _
    rw [at1, gl_bs]
/-- groups of WHENs -/
theorem evLoop (hli : cLi c G f) (hf : 3 * (40 - d) + 1 ≤ f) (hK : K ≤ 2 * d + 1) (hr : rS d < Rk + 1) (m : Nat) : ∀ {a b N : Nat} {g : pG} {α : zS} {s : zM} {F Fx : Nat}, c.n - a ≤ m → m < Fx → pR c a d b N 0 g α s → pB c b a 20 → c.N0 ≤ t → t < N → g.r t = Rk → la s 9 t ≠ nI 53 → ls s 45 = nI (K + 1) → la s 46 K = nI 40 → la s 47 K = nI t → pX0 Ns gs ss N g s → pLo K ss s → as ≤ a → b + 10 * as ≤ bs + 10 * a → Fs + 10 * as ≤ F + 10 * a → 10 * (c.n - a) + 21 ≤ F → sS c as d bs Ns gs ss K Fs 0 0 1 (zloop (fun (a : ((Option Nat) × (Option Nat))) σ => hX4_evaluate_24b G (rrX4_add G f).1 (rrX4_add G f).2.1 (rrX4_add G f).2.2.1 (rrX4_add G f).2.2.2.1 (rrX4_add G f).2.2.2.2.1 (rrX4_add G f).2.2.2.2.2 a.1 a.2 σ) Fx (some c.p, some (g.oa t)) α) (mS F s) := by
  have stop : ∀ {a b N : Nat} {g : pG} {α : zS} {s : zM} {F Fx : Nat}, pR c a d b N 0 g α s → pB c b a 20 → c.N0 ≤ t → t < N → la s 9 t ≠ nI 53 → ls s 45 = nI (K + 1) → la s 46 K = nI 40 → la s 47 K = nI t → pX0 Ns gs ss N g s → pLo K ss s → as ≤ a → b + 10 * as ≤ bs + 10 * a → Fs + 10 * as ≤ F + 10 * a → 10 * (c.n - a) + 21 ≤ F → wW c a 59 = false → sS c as d bs Ns gs ss K Fs 0 0 1 (zloop (fun (a : ((Option Nat) × (Option Nat))) σ => hX4_evaluate_24b G (rrX4_add G f).1 (rrX4_add G f).2.1 (rrX4_add G f).2.2.1 (rrX4_add G f).2.2.2.1 (rrX4_add G f).2.2.2.2.1 (rrX4_add G f).2.2.2.2.2 a.1 a.2 σ) (Fx + 1) (some c.p, some (g.oa t)) α) (mS F s) := by
    intro a b N g α s F Fx h hb h1 h2 hk h45 h46 h47 hX hL has hbb hFF hF hW
    obtain ⟨F0, rfl⟩ : ∃ x, F = x + 1 := ⟨F - 1, by omega⟩
    have nl := h.nl
    have a5 := h.a5
    have hN := h.N8 hb
    have T := mS_go (F := F0) h45 (by omega) h46 (by omega) (by omega) h.bm
    have hs := h.p48 (k := K) (v := la s 48 K + 1)
    rw [h47, M_goE (by omega) h46 rfl, M_whens hs (by omega) h1 h2, if_neg (by rw [hW]; decide)] at T
    rw [T]
    have R := scS (G := G) (F := F0) (w := 75) hs (t := t) h1 h2 (by omega) (by rw [la_ua, if_neg (by decide)]; exact hk) (by decide) (K := K) h45 (by omega) (by rw [la_ua, if_neg (by decide), h46, ne_eq, pI_inj (by omega) (by decide)]; omega)
    have X1 : hX4_evaluate_24b G (rrX4_add G f).1 (rrX4_add G f).2.1 (rrX4_add G f).2.2.1 (rrX4_add G f).2.2.2.1 (rrX4_add G f).2.2.2.2.1 (rrX4_add G f).2.2.2.2.2 (some c.p) (some (g.oa t)) α = zinr (xSc c G (nI 75) (some (g.oa t)) α) := by
      unfold hX4_evaluate_24b
      rw [kfI h.kp, h.ax, gl_bs, if_pos (of_eq_true (kis h.kp (by decide))), show (59 : Int32) = nI 59 from rfl, X_isW h.k h.xw (by omega) (by decide), gl_bs, hW, if_pos (show nI (b2n false) = 0 from rfl)]
      rfl
    rcases R with ⟨γ, F4, s4, a4, b4, N4, g4, y1, y2, y3⟩ | ⟨e, γ, s4, wh, w, y1, y2, y3, y4⟩
    · have y5 := y3.a1
      have y6 := y3.b1
      have y8 := y3.f1
      refine .inl ⟨γ, F4, s4, a4, b4, N4, g4, zloop_in ?_, y2, sQ.mk y3.R ((hX.tr pX0.p48).tr y3.X) ⟨y3.V.1, (hL.tr pLo.p48).tr y3.V.lo⟩ (by omega) (by omega) (by omega)⟩
      show hX4_evaluate_24b G _ _ _ _ _ _ (some c.p) (some (g.oa t)) α = _
      rw [X1, y1]
    · refine .inr ⟨e, γ, s4, wh, w, ?_, y2, y3, y4⟩
      refine zloop_done ?_
      show hX4_evaluate_24b G _ _ _ _ _ _ (some c.p) (some (g.oa t)) α = _
      rw [X1, y1]
      rfl
  induction m with
  | zero =>
    intro a b N g α s F Fx hn hFx h hb h1 h2 hrt hk h45 h46 h47 hX hL has hbb hFF hF
    obtain ⟨fx, rfl⟩ : ∃ x, Fx = x + 1 := ⟨Fx - 1, by omega⟩
    have hW : wW c a 59 = false := by
      rw [← Bool.not_eq_true]
      exact fun z => by have := (wW_i z).1; omega
    exact stop h hb h1 h2 hk h45 h46 h47 hX hL has hbb hFF hF hW
  | succ m ih =>
    intro a b N g α s F Fx hn hFx h hb h1 h2 hrt hk h45 h46 h47 hX hL has hbb hFF hF
    obtain ⟨fx, rfl⟩ : ∃ x, Fx = x + 1 := ⟨Fx - 1, by omega⟩
    rcases hW : wW c a 59 with _ | _
    · exact stop h hb h1 h2 hk h45 h46 h47 hX hL has hbb hFF hF hW
    · have ha := (wW_i hW).1
      obtain ⟨F0, rfl⟩ : ∃ x, F = x + 1 := ⟨F - 1, by omega⟩
      have nl := h.nl
      have kp := h.kp
      have ax := h.ax
      have a5 := h.a5
      have hp := h.k.p
      have hn0 := h.x.n
      have N0 := h.N0
      have N1 := h.k.N1
      have hN := h.N8 hb
      have T := mS_go (F := F0) h45 (by omega) h46 (by omega) (by omega) h.bm
      have hs := h.p48 (k := K) (v := la s 48 K + 1)
      rw [h47, M_goE (by omega) h46 rfl, M_whens hs (by omega) h1 h2, if_pos hW] at T
      have X0 : pX0 Ns gs ss N g (ua s 48 (upd (la s 48) K (la s 48 K + 1))) := hX.tr pX0.p48
      have L0 : pLo K ss (ua s 48 (upd (la s 48) K (la s 48 K + 1))) := hL.tr pLo.p48
      have q45 : ls (ua s 48 (upd (la s 48) K (la s 48 K + 1))) 45 = nI (K + 1) := h45
      have q46 : la (ua s 48 (upd (la s 48) K (la s 48 K + 1))) 46 K = nI 40 := h46
      have q47 : la (ua s 48 (upd (la s 48) K (la s 48 K + 1))) 47 K = nI t := h47
      have qk : la (ua s 48 (upd (la s 48) K (la s 48 K + 1))) 9 t ≠ nI 53 := hk
      rw [T]
      generalize ua s 48 (upd (la s 48) K (la s 48 K + 1)) = s1 at *
      obtain ⟨h3, hq⟩ := hs.cell
      obtain ⟨β, x1, h4⟩ := h3.new (G := G) (kv := nI 46) (v := nI 0) (v' := nI a) (r := rS d - 4) hq (by rw [ne_eq, pI_inj (by decide) (by decide)]; decide)
      obtain ⟨i1, i2⟩ := init_fr hq x1
      have ot := h.g.nd t h1 h2
      have lo := ot.lo
      have hi := ot.hi
      have rS1 : 1400 ≤ rS d := by unfold rS; omega
      have eN : (g.push N (zn α) (rS d - 4)).oa N = zn α := by rw [push_oa, if_pos rfl]
      have eto : (g.push N (zn α) (rS d - 4)).oa t = g.oa t := by rw [push_oa, if_neg (by omega)]
      have rN : (g.push N (zn α) (rS d - 4)).r N = rS d - 4 := by rw [push_r, if_pos rfl]
      have rto : (g.push N (zn α) (rS d - 4)).r t = g.r t := by rw [push_r, if_neg (by omega)]
      have cto : (g.push N (zn α) (rS d - 4)).ch t = g.ch t := by rw [push_ch, if_neg (by omega)]
      obtain ⟨γ, y1, y2, h5⟩ := h4.add (G := G) (to := t) (t := N) (by omega) h1 (by omega) N0 (by omega) (by rw [rN, rto, hrt]; omega) mMk_16 (by omega)
      rw [eto, eN] at y1
      rw [cto] at y2 h5
      have X5 : pX N g s1 (N + 1) ((g.push N (zn α) (rS d - 4)).add t N) (mAtS (mMk s1 N (nI 46) (nI 0) (nI a)) t (g.ch t) N) := pX.new.add (Nat.le_refl N)
      have W5 := X5.pl.pv (k := K + 1) q45
      have hb5 : pB c (b + 1 + 1 + 1) a 12 := by unfold pB at *; omega
      have R := whLoop (G := G) (q := g.oa t) (Ns := N) (gs := g) (ss := s1) (as := a) (bs := b) (F := F0) (Fm := xLim) (Fx := xLim) (w := N) hli hf hK 505 (by have := h.k.n; omega) (by have : xLim = 1000000000 := rfl; omega) (by have : xLim = 1000000000 := rfl; omega) h5 N0 (Nat.lt_succ_self N) (by rw [add_r, rN]; omega) (by rw [add_r, rN]; omega) W5.1 X5.x0 W5.lo (.inl ⟨hW, Nat.le_refl _, by omega, hb5⟩) (by omega)
      rw [add_oa, eN] at R
      have Xi : ∀ R, zloop (fun (a : ((Option Nat) × (Option Nat) × (Option Nat))) σ => hX4_evaluate_56b G (rrX4_add G f).1 (rrX4_add G f).2.1 (rrX4_add G f).2.2.1 (rrX4_add G f).2.2.2.1 (rrX4_add G f).2.2.2.2.1 (rrX4_add G f).2.2.2.2.2 a.1 a.2.1 a.2.2 σ) xLim (some c.p, some (g.oa t), some (zn α)) γ = R → hX4_evaluate_24b G (rrX4_add G f).1 (rrX4_add G f).2.1 (rrX4_add G f).2.2.1 (rrX4_add G f).2.2.2.1 (rrX4_add G f).2.2.2.2.1 (rrX4_add G f).2.2.2.2.2 (some c.p) (some (g.oa t)) α = R := fun R hR => by
        have kp3 := h3.kp
        have ax3 := h3.ax
        have kdq : zkd (zmk α 45 0 9) (zn α) = 45 := hq.kd
        have kto : zkd β (g.oa t) = 45 := by rw [zkd_eq (i1 _ (by omega) (by omega)), zkd_eq (zmk_ne (by omega))]; exact ot.kn
        unfold hX4_evaluate_24b hX4_evaluate_56
        rw [kfI kp, ax, gl_bs, if_pos (of_eq_true (kis kp (by decide))), show (59 : Int32) = nI 59 from rfl, X_isW h.k h.xw (by omega) (by decide), gl_bs, hW, if_neg (show ¬ nI (b2n true) = 0 from bT), znO_e, gl_bs]
        show Option.bind (zfI (zmk α 45 0 9) (some c.p) 40 3) _ = _
        rw [kfI kp3, ax3, gl_bs]
        show (if zis G (zmk α 45 0 9) (some (zn α)) 45 = true then _ else _) = _
        rw [if_pos (of_eq_true (kis kdq (by decide))), show (46 : Int32) = nI 46 from rfl, nl0]
        show Option.bind (hX43_init G (some (zn α)) (nI 46) (nI 0) (nI a) (zmk α 45 0 9)) _ = _
        rw [x1, gl_bs]
        show (if zis G β (some (g.oa t)) 45 = true then _ else _) = _
        rw [if_pos (of_eq_true (kis kto (by decide)))]
        show Option.bind (hX43_add G (some (g.oa t)) (some (zn α)) β) _ = _
        rw [y1, gl_bs]
        exact hR
      rcases R with ⟨δ, F', s', a', b', N', g', z1, z2, z3⟩ | ⟨e, δ, s', wh, w', z1, z2, z3, z4⟩
      · have a1 := z3.a1
        have b1 := z3.b1
        have f1 := z3.f1
        have R' := z3.R
        have V := z3.V
        have VK := V.2 K (by omega)
        have aR := R'.al
        have n' := z3.X.n
        have o1 := z3.X.oa t h2
        have r1 := z3.X.r t h2
        have R2 := ih (F := F') (Fx := fx) (by omega) (by omega) R' (hb.go (by omega)) h1 (by omega) (by rw [r1]; exact hrt) (by rw [z3.X.kd t h2]; exact qk) V.1 (VK.1.trans q46) (VK.2.1.trans q47) (X0.tr z3.X) (L0.tr (V.lo.le (by omega))) (by omega) (by omega) (by omega) (by omega)
        rw [o1] at R2
        rw [z2, zloop_step (a' := (some c.p, some (g.oa t))) (α' := δ)]
        · exact R2
        · exact Xi _ z1
      · exact .inr ⟨e, δ, s', wh, w', zloop_done (Xi _ z1), z2, z3, z4⟩
/-- EVALUATE -/
theorem st_40 (hli : cLi c G f) (h : pR c a d b N 0 g α s) (hb : pB c b a 20) (h1 : c.N0 ≤ t) (h2 : t < N) (hr : rS d < g.r t + 1) (hr0 : 0 < g.r t) (hk : la s 9 t ≠ nI 53) (h45 : ls s 45 = nI K) (hK : K ≤ 2 * d + 1) (hF : 10 * (c.n - a) + 22 ≤ F) (hf : 3 * (40 - d) + 1 ≤ f) : sS c a d b N g s K F 0 0 3 (xVf c G (f + 1) 40 (g.oa t) α) ((mVb (nI 40) (nI t) s).bind fun p => mS F p.2) := by
  obtain ⟨F, rfl⟩ : ∃ x, F = x + 1 := ⟨F - 1, by omega⟩
  have kp := h.kp
  have nl := h.nl
  have al := h.al
  have hN := h.N8 hb
  rw [xV_40, mV_40, if_pos (of_eq_true (kis kp (by decide)))]
  refine sS.wrap ?_
  have X0 : (rrX4_add G (f + 1)).2.2.1 (some c.p) (some (g.oa t)) α = hX4_evaluate_r G (rrX4_add G f).1 (rrX4_add G f).2.1 (rrX4_add G f).2.2.1 (rrX4_add G f).2.2.2.1 (rrX4_add G f).2.2.2.2.1 (rrX4_add G f).2.2.2.2.2 (some c.p) (some (g.oa t)) α := rfl
  rw [X0]
  unfold hX4_evaluate_r hX4_evaluate_24
  rw [if_pos (of_eq_true (kis kp (by decide))), nl1]
  have pile : ∀ {s2 : zM}, pPl s s2 → gX26_statement_390 (nI 40) (nI t) s2 = some ((), mPl s2 K (nI 40) (nI t)) := by
    intro s2 X4
    unfold gX26_statement_390
    rw [M_pile (X4.1.trans h45) (by omega), gl_bs, s521]
  rcases h.operandOf (G := G) (to := t) (hb.le (by omega)) h1 h2 hr0 (by omega) with ⟨hO, β, γ, s1, N1, g1, x1, x2, x3, x4, x5, x6⟩ | ⟨e, β, s', w, x1, x2, x3, x4, x5⟩
  · have kp5 := x5.kp
    have a55 := x5.a5
    have al5 := x5.al
    have o1 := x6.oa t h2
    have r1 := x6.r t h2
    have n1 := x6.n
    rw [x1, zc_l, if_pos (of_eq_true (kis x2 (by decide)))]
    show sS c a d b N g s K (F + 1) 0 0 3 (Option.bind (hX43_add G (some (g.oa t)) (some (zn α)) β) _) _
    rw [x3, gl_bs, x4, gl_bs]
    show sS c a d b N g s K (F + 1) 0 0 3 (Option.bind (zfI γ (some c.p) 40 3) _) (Option.bind (xlet (ls s1 43) _) _)
    rw [kfI kp5, x5.ax, gl_bs, if_pos (of_eq_true (kis kp5 (by decide))), show (59 : Int32) = nI 59 from rfl, X_isW x5.k x5.xw (by omega) (by decide), gl_bs, gl_x, x5.bm, if_neg (show ¬ ¬ nI 0 = 0 from fun z => z rfl), gl_x, x5.am, M_isW x5.k x5.mw (by omega) (by decide), gl_bs]
    show sS c a d b N g s K (F + 1) 0 0 3 (if zis G γ (some c.p) 41 = true then zcase (hX4_must G (some c.p) (nI (b2n (wW c (a + 1) 59))) γ) _ _ else _) _
    rw [if_pos (of_eq_true (kis kp5 (by decide)))]
    rcases e59 : wW c (a + 1) 59 with _ | _
    · obtain ⟨e, β5, s', w, z1, z2, z3, z4, z5⟩ := x5.no' (G := G) (by unfold pB at *; omega)
      show sS c a d b N g s K (F + 1) 0 0 3 (zcase (hX4_must G (some c.p) (nI 0) γ) _ _) (Option.bind (if ¬ nI (b2n false) = 0 then _ else xlet (ls s1 41) _) _)
      rw [z1, zc_r, if_pos z2, if_neg (fun z => z rfl), gl_x, x5.am]
      show sS c a d b N g s K (F + 1) 0 0 3 _ (Option.bind (Option.bind (gX26_fail (nI 1) (nI (a + 1)) s1) _) _)
      rw [z3, gl_bs, pile (x6.pl.tr z5), gl_bs]
      exact .inr ⟨e, β5, _, 1, w, rfl, z2, mS_bad z4.pl.b1, z4.pl⟩
    · show sS c a d b N g s K (F + 1) 0 0 3 (zcase (hX4_must G (some c.p) (nI 1) γ) _ _) (Option.bind (if ¬ nI (b2n true) = 0 then gX26_statement_390 (nI 40) (nI t) s1 else _) _)
      rw [X_must1, zc_l, if_pos (show ¬ nI (b2n true) = 0 from bT), pile x6.pl, gl_bs]
      have p45 : ls s1 45 = nI K := x6.pl.1.trans h45
      have R := evLoop (G := G) (t := t) (K := K) (Ns := N) (gs := g) (ss := s) (as := a) (bs := b) (Fs := F + 1) (F := F + 1) (Fx := xLim) (Rk := g.r t) hli hf hK hr 505 (by have := h.k.n; omega) (by have : xLim = 1000000000 := rfl; omega) (x5.pl (v := nI 40) (v' := nI t) p45 (by omega)) (by unfold pB at *; omega) h1 (by omega) r1 (by rw [mPl_la (by decide), x6.kd t h2]; exact hk) mPl_45 mPl_46 mPl_47 (x6.x0.mm (mPl_la (by decide)) (mPl_la (by decide))) ((x6.pl.pv h45).lo.tr (fun i hi => mPl_lo p45 hi)) (by omega) (by omega) (by omega) (by omega)
      rw [o1] at R
      exact R.ef (by omega)
  · rw [x1, zc_r, if_pos x2, x3, gl_bs]
    show sS c a d b N g s K (F + 1) 0 0 3 _ (Option.bind (xlet (ls s' 43) _) _)
    rw [gl_x, x4.b1, if_pos (by exact n1n), pile x5, gl_bs]
    exact .inr ⟨e, β, _, 1, w, rfl, x2, mS_bad x4.pl.b1, x4.pl⟩
end PAZG
