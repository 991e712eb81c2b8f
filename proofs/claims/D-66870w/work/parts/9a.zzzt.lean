/-! THE PURE LAYER: the parser: X's side alone: rows, conditions. -/
/-- a row of conditions at hand -/
def rI (c : pC) (α : zS) (S : Nat → Prop) (kd sg n : Nat) (γ : zS) : Prop := ∃ a L M, xp c a γ ∧ xnB γ n (nI kd, nI 0) L ∧ xnF c c.p n M α γ ∧ M n ∧ (zn α ≤ n ∧ n < zn γ) ∧ (∀ r, r ∈ L → (M r ∧ r ≠ n) ∧ grK 50 54 (xkv γ r)) ∧ (∀ u, M u → u = n ∨ ∃ r, r ∈ L ∧ xIn γ r u) ∧ sjM c S M γ ∧ sjP c (fun u => S u ∨ M u) γ ∧ (2 ≤ L.length ∨ (L.length = 1 ∧ wW c a sg = true))
section PAZZZT
variable {ρ σ : Type} {c : pC} {G : xQ} {α β γ δ α0 : zS} {a a' b k w q r t u n x T T' E f kd sg o : Nat} {v v' kv nm pr : Int32} {e : Int32 × Int32} {L : List Nat} {M M' N S S' : Nat → Prop} {l m : List (Int32 × Int32)} {P : Int32 × Int32 → Prop} {p : Option Nat}
/-- one more -/
theorem rI_step (h : xp c a γ) (pz : c.p < zn α) (kpa : zkd α c.p = 41) (b : xnB γ n (nI kd, nI 0) L) (H : xnF c c.p n M α γ) (hn : M n) (lo : zn α ≤ n) (hi : n < zn γ) (hL : ∀ r, r ∈ L → (M r ∧ r ≠ n) ∧ grK 50 54 (xkv γ r)) (hM : ∀ u, M u → u = n ∨ ∃ r, r ∈ L ∧ xIn γ r u) (sM : sjM c S M γ) (l1 : 1 ≤ L.length) {r : Option Nat} (R : rC c γ (fun u => S u ∨ M u) r δ) (hk53 : kd ≠ 53) : zis G δ (some n) 45 = true ∧ wp (hX43_add G (some n) r δ) (fun _ ε => rI c α S kd sg n ε) := by
  obtain ⟨a', q, N, rfl, z1, z2, z3, z4, z5, z6, z7, z8, z9, z10, z11, z12⟩ := rC.use R H h (by rw [kpa]; decide) pz (.inr ⟨lo, hi⟩) pz sM
  have kp := h.kp
  obtain ⟨b1, _⟩ := b.fr z12 kp (by rw [kp]; decide) (fun z => by have := b.kl; rw [z, kp] at this; omega)
  refine ⟨of_eq_true (kis b1.kn (by decide)), wp_im (w_add b1 z9) fun r' ε z => ?_⟩
  obtain ⟨_, x1⟩ := z
  obtain ⟨b2, _⟩ := b1.add x1 z9 z11
  have H2 := z2.add x1 b1.kl pz (.inl ⟨rfl, lo⟩) (.inr z3)
  have h4 := z1.at' x1 b1.kl z9
  have q2 : qN δ ε := x1.qn b1.kl
  have q4 := z8.tr q2
  have kM : ∀ t, (M t ∨ N t) → zkd δ t = 45 ∧ t < zn δ := fun t ht => by
    have := z2.nw t ht
    exact ⟨this.2.2, by omega⟩
  have ep2 : ε.2 c.p = δ.2 c.p := x1.fr c.p (fun z => by have := b1.kl; rw [← z, z1.kp] at this; omega) (fun z => by have := z9; rw [← z, z1.kp] at this; omega)
  refine ⟨a', _, _, h4, b2, H2, .inl hn, ⟨lo, by have := q4.1; omega⟩, fun r hr => ?_, fun u hu => ?_, z6.st q2 kM, (z7.st q2 (by rw [zA_eq ep2]) (by rw [zI_eq ep2])).up fun t ht => ht, .inl (by rw [List.length_append, List.length_singleton]; omega)⟩
  · rcases List.mem_append.mp hr with y | y
    · obtain ⟨y1, y2⟩ := hL r y
      have o := b.ok r y
      exact ⟨⟨.inl y1.1, y1.2⟩, by rw [q4.ke o.1 o.2]; exact y2⟩
    · rw [List.mem_singleton.mp y]
      exact ⟨⟨.inr z3, by omega⟩, by rw [q2.ke z9 z11]; exact z4⟩
  · rcases hu with y | y
    · rcases hM u y with z | ⟨s, s1, s2⟩
      · exact .inl z
      · refine .inr ⟨s, List.mem_append_left _ s1, xIn.st (M := fun t => M t ∧ t ≠ n) (fun t ht => ?_) (hL s s1).1 s2⟩
        obtain ⟨c1, c2⟩ := H.cls ht.1 ht.2
        have t2 := (H.nw t ht.1).2.1
        refine ⟨fun r hr => c1 r hr, ?_⟩
        rw [x1.L _ (by have := ht.2; omega), zL_eq (z12.fr _ t2 (fun z => by rw [z, kp] at c2; omega) (fun z => by rw [z, kp] at c2; omega))]
    · refine .inr ⟨q, List.mem_append_right _ (by simp), xIn.st (M := N) (fun t ht => ?_) z3 (z5 u y)⟩
      have tp : t ≠ c.p := fun z => by have := (z12.nw t ht).2.2; rw [z, z1.kp] at this; omega
      obtain ⟨c1, c2⟩ := z12.cls ht tp
      have tlo := (z12.nw t ht).1
      exact ⟨fun r hr => (c1 r hr).1, x1.L _ (by omega)⟩
theorem w_rowLoop (hF : iFa c G f) (hR : iRo c G f) (pz : c.p < zn α) (kpa : zkd α c.p = 41) (ho : o = 0 ∨ o = 1) (hS : ∀ u, S u → u < zn α) (hk : kd = 50 ∨ kd = 51) (hsg : sg < 100) (I : rI c α S kd sg n γ) : wx (hX4_row_75 G (rrX4_factor G f).1 (rrX4_factor G f).2 (some c.p) (nI o) (nI sg) (some n) γ) (rC c α S) := by
  unfold hX4_row_75
  refine wx_lp (I := fun x γ => x = (some c.p, nI o, nI sg, some n) ∧ rI c α S kd sg n γ) (fun x γ hI => ?_) ⟨rfl, I⟩
  obtain ⟨rfl, a, L, M, h, b, H, hn, ⟨lo, hi⟩, hL, hM, sM, sP, l2⟩ := hI
  have kp := h.kp
  show wl (hX4_row_75b G (rrX4_factor G f).1 (rrX4_factor G f).2 (some c.p) (nI o) (nI sg) (some n) γ) _ _
  unfold hX4_row_75b
  rw [if_pos h.z41, w_meets h (by omega)]
  rcases ew : wW c a sg with _ | _
  · rw [if_neg (by decide), gl_bs, if_pos (show (nI 0, γ).1 = 0 from rfl)]
    refine wl_out ⟨a, n, M, rfl, h, H.cl kp ⟨_, _, b, fun r hr => (hL r hr).1.1, grS_i (k := kd) ?_ (by omega)⟩, hn, ⟨kd, by omega, by omega, by rw [b.e]⟩, fun u hu => ?_, sM, sP⟩
    · have l3 : 2 ≤ L.length := by
        rcases l2 with z | z
        · exact z
        · rw [ew] at z
          exact absurd z.2 (by decide)
      have g : nI 0 = nI 0 ∧ 2 ≤ (L.map (xkv γ)).length ∧ ∀ e, e ∈ L.map (xkv γ) → grK 50 54 e := ⟨rfl, by rw [List.length_map]; exact l3, fun e he => by
        obtain ⟨r, r1, r2⟩ := List.mem_map.mp he
        rw [← r2]; exact (hL r r1).2⟩
      rcases hk with z | z <;> subst z <;> exact g
    · rcases hM u hu with z | ⟨s, s1, s2⟩
      · rw [z]; exact xIn.rf
      · exact xIn.dn (r := s) (by rw [b.ls]; exact List.mem_map.mpr ⟨s, s1, rfl⟩) s2
  · rw [if_pos rfl, gl_bs, if_neg (show ¬ nI 1 = 0 from by decide)]
    have h1 := h.adv (wW_i ew).1
    have fr1 : ∀ x, x ≠ c.p → (xaS c γ a).2 x = γ.2 x := fun x hx => zwI_ne hx
    have q1 : qN γ (xaS c γ a) := qN_pw fr1 rfl kp
    have H1 := H.pw fr1 rfl kp h1.kp
    obtain ⟨b1, _⟩ := b.pw fr1 rfl kp
    have kM : ∀ t, M t → zkd γ t = 45 ∧ t < zn γ := fun t ht => by
      have := H.nw t ht
      exact ⟨this.2.2, by omega⟩
    have sM1 := sM.st q1 kM
    have sP1 : sjP c (fun u => S u ∨ M u) (xaS c γ a) := sP.st q1 (by unfold xaS; rw [zA_zwI]) (by unfold xaS; rw [zI_zwI, if_neg (fun z => absurd z.2.1 (by decide))])
    have hL1 : ∀ r, r ∈ L → (M r ∧ r ≠ n) ∧ grK 50 54 (xkv (xaS c γ a) r) := fun r hr => by
      obtain ⟨y1, y2⟩ := hL r hr
      have o := b.ok r hr
      exact ⟨y1, by rw [q1.ke o.1 o.2]; exact y2⟩
    have hM1 : ∀ u, M u → u = n ∨ ∃ r, r ∈ L ∧ xIn (xaS c γ a) r u := fun u hu => by
      rcases hM u hu with z | ⟨s, s1, s2⟩
      · exact .inl z
      · refine .inr ⟨s, s1, xIn.st (M := fun t => M t ∧ t ≠ n) (fun t ht => ?_) (hL s s1).1 s2⟩
        obtain ⟨c1, c2⟩ := H.cls ht.1 ht.2
        exact ⟨fun r hr => c1 r hr, zL_eq (fr1 _ (fun z => by rw [z, kp] at c2; omega))⟩
    have hS1 : ∀ u, (S u ∨ M u) → u < zn (xaS c γ a) := fun u hu => by
      have nn := H.n
      show u < zn γ
      rcases hu with z | z
      · have := hS u z
        omega
      · exact (kM u z).2
    have on : ∀ r δ, rC c (xaS c γ a) (fun u => S u ∨ M u) r δ → wl (hX4_row_101 G (rrX4_factor G f).1 (rrX4_factor G f).2 (some c.p) (nI o) (nI sg) (some n) r (some n) δ) (fun x γ => x = (some c.p, nI o, nI sg, some n) ∧ rI c α S kd sg n γ) (rC c α S) := fun r δ R => by
      obtain ⟨y1, y2⟩ := rI_step (G := G) (sg := sg) h1 pz kpa b1 H1 hn lo hi hL1 hM1 sM1 (by omega) R (by omega)
      unfold hX4_row_101
      rw [if_pos y1]
      exact wl_b (wp_im y2 fun r' ε z => wl_in ⟨rfl, z⟩)
    refine wl_if (fun _ => ?_) (fun _ => ?_)
    · rw [if_pos h1.z41]
      exact wl_c (wx_im (hF _ _ _ h1 sP1 hS1) on)
    · rw [if_pos h1.z41]
      exact wl_c (wx_im (hR _ _ _ 0 (.inl rfl) h1 sP1 hS1) on)
theorem w_row58 (hF : iFa c G f) (hR : iRo c G f) (ho : o = 0 ∨ o = 1) (hS : ∀ u, S u → u < zn α) (hk : kd = 50 ∨ kd = 51) (hsg : sg < 100) (ha : xp c a' α) (h : xp c a β) (H : xnF c c.p c.p M α β) (mq : M q) (gq : grK 50 54 (xkv β q)) (hre : ∀ u, M u → xIn β q u) (sM : sjM c S M β) (sP : sjP c (fun u => S u ∨ M u) β) (ew : wW c a sg = true) : wx (hX4_row_58 G (rrX4_factor G f).1 (rrX4_factor G f).2 (some c.p) (nI o) (some q) (nI sg) (nI kd) (some (zn β)) (some (zn β)) (zmk β 45 0 9)) (rC c α S) := by
  have kp := h.kp
  have pz := ha.pz
  have kpa := ha.kp
  have pzb := h.pz
  obtain ⟨t1, t2, t3⟩ := H.nw q mq
  have et4 : (zmk β 45 0 9).2 q = β.2 q := zmk_ne (by omega)
  have n45 : zkd (zmk β 45 0 9) (zn β) = 45 := by rw [zkd_zmk, if_pos rfl]
  obtain ⟨γ, y1, y2, b0, H1, y4, y5⟩ := H.push (G := G) (kv := nI kd) (v := nI 0) (v' := zI (zmk β 45 0 9) 44 5 q) h (by rw [kpa]; decide) pz
  unfold hX4_row_58
  rw [kfI (by rw [zkd_eq et4]; exact t3), gl_bs, if_pos (of_eq_true (kis n45 (by decide)))]
  show wx (Option.bind (hX43_init G (some (zn β)) (nI kd) (nI 0) _ (zmk β 45 0 9)) _) _
  rw [y1, gl_bs, if_pos (of_eq_true (kis b0.kn (by decide)))]
  have q1 : qN β γ := qN_lt (by omega) y4
  have kq := (q1.2 q t3 (by omega)).2.2
  refine wx_b (wp_im (w_add b0 kq) fun r δ z => ?_)
  obtain ⟨_, x1⟩ := z
  have q2 : qN γ δ := x1.qn b0.kl
  have q3 := q1.tr q2
  obtain ⟨b1, _⟩ := b0.add x1 kq (by omega)
  have nn := H.n
  have H2 := H1.add x1 b0.kl pz (.inl ⟨rfl, nn⟩) (.inl mq)
  have h2 := y2.at' x1 b0.kl kq
  have kM : ∀ t, M t → zkd β t = 45 ∧ t < zn β := fun t ht => by
    have := H.nw t ht
    exact ⟨this.2.2, by omega⟩
  have ep2 : δ.2 c.p = β.2 c.p := (x1.fr c.p (fun z => by have := b0.kl; rw [← z, y2.kp] at this; omega) (fun z => by have := kq; rw [← z, y2.kp] at this; omega)).trans (y4 _ pzb)
  refine w_rowLoop hF hR pz kpa ho hS hk hsg ⟨a, _, _, h2, b1, H2, .inr rfl, ⟨nn, Nat.lt_of_lt_of_le (show zn β < zn γ by omega) q2.1⟩, fun r hr => ?_, fun u hu => ?_, ?_, (sP.st q3 (by rw [zA_eq ep2]) (by rw [zI_eq ep2])).up (fun t ht => ht.imp id .inl), .inr ⟨rfl, ew⟩⟩
  · rw [List.nil_append, List.mem_singleton] at hr
    rw [hr]
    exact ⟨⟨.inl mq, by omega⟩, by rw [q3.ke t3 (by omega)]; exact gq⟩
  · rcases hu with y | y
    · refine .inr ⟨q, by simp, xIn.st (M := M) (fun t ht => ?_) mq (hre u y)⟩
      have tp : t ≠ c.p := fun z => by have := (H.nw t ht).2.2; rw [z, kp] at this; omega
      obtain ⟨c1, c2⟩ := H.cls ht tp
      have t2 := (H.nw t ht).2.1
      exact ⟨fun r hr => (c1 r hr).1, by rw [x1.L _ (by omega), zL_eq (y4 _ t2)]⟩
    · exact .inl y
  · refine (sM.st q3 kM).up (fun t ht => .inl ht) (fun t ht => .inl ht) (fun t ht => ?_)
    rcases ht with y | y
    · exact .inl y
    · refine .inr ?_
      have e1 : zI δ 44 0 (zn β) = nI kd := congrArg Prod.fst b1.e
      rw [y, e1, ne_eq, pI_inj (by omega) (by decide)]
      omega
theorem w_row (hF : iFa c G f) (hR : iRo c G f) : iRo c G (f + 1) := by
  intro a α S o ho h sP hS
  have on : ∀ r β, rC c α S r β → wx (hX4_row_16 G (rrX4_factor G f).1 (rrX4_factor G f).2 (some c.p) (nI o) r β) (rC c α S) := fun r β R => by
    obtain ⟨b, q, M, rfl, z1, z2, z3, z4, z5, z6, z7⟩ := id R
    have b5 := z1.a5
    have go : ∀ sg, sg < 100 → wx (hX4_row_28 G (rrX4_factor G f).1 (rrX4_factor G f).2 (some c.p) (nI o) (some q) (nI sg) β) (rC c α S) := fun sg hsg => by
      unfold hX4_row_28
      rw [kfI z1.kp, gl_bs, if_pos z1.z41, z1.ax, X_isW z1.o z1.x (by omega) (by omega), gl_bs]
      rcases ew : wW c b sg with _ | _
      · rw [if_neg (show ¬ ¬ nI (b2n false) = 0 from fun z => z rfl)]
        exact wx_l R
      · rw [if_pos (show ¬ nI (b2n true) = 0 from by decide)]
        show wx (Option.bind (znO β 44 9) _) _
        rw [znO_e, gl_bs]
        refine wx_if (fun _ => ?_) (fun _ => ?_)
        · exact w_row58 (kd := 51) hF hR ho hS (.inr rfl) hsg h z1 z2 z3 z4 z5 z6 z7 ew
        · exact w_row58 (kd := 50) hF hR ho hS (.inl rfl) hsg h z1 z2 z3 z4 z5 z6 z7 ew
    unfold hX4_row_16
    exact wx_if (fun _ => go 65 (by decide)) (fun _ => go 66 (by decide))
  show wx (hX4_row_r G _ _ _ _ α) _
  unfold hX4_row_r
  refine wx_if (fun _ => ?_) (fun _ => ?_)
  · rw [if_pos h.z41]
    exact wx_c (wx_im (hF _ _ _ h sP hS) on)
  · rw [if_pos h.z41]
    exact wx_c (wx_im (hR _ _ _ 0 (.inl rfl) h sP hS) on)
theorem w_conds : ∀ f, iFa c G f ∧ iRo c G f := by
  intro f
  induction f with
  | zero => exact ⟨fun _ _ _ _ _ _ => wx_no, fun _ _ _ _ _ _ _ _ => wx_no⟩
  | succ f ih => exact ⟨w_factor ih.1 ih.2, w_row ih.1 ih.2⟩
/-- the subject of every relation lies in its condition -/
def sjC (β : zS) (M : Nat → Prop) : Prop := ∀ t, M t → zI β 44 0 t = nI 53 → ∃ q u, zA β 44 7 t = some u ∧ M u ∧ M q ∧ xIn β q t ∧ xIn β q u ∧ grK 50 54 (xkv β q)
/-- a condition -/
theorem w_condition (h : xp c a α) : wx (hX4_condition G (some c.p) α) (fun r β => ∃ a q M, r = some q ∧ xp c a β ∧ xnF c c.p c.p M α β ∧ M q ∧ grK 50 54 (xkv β q) ∧ (∀ t, M t → zI β 44 0 t = nI 53 → ∃ u, zA β 44 7 t = some u ∧ M u ∧ grOp c (xkv β u)) ∧ sjC β M ∧ ∀ u, M u → xIn β q u) := by
  have kp := h.kp
  unfold hX4_condition
  rw [kpA kp, gl_bs]
  have h1 : xp c a (zwA α 40 15 c.p none) := h.wA (by decide) (by decide) (by decide)
  have fr1 : ∀ x, x ≠ c.p → (zwA α 40 15 c.p none).2 x = α.2 x := fun x hx => zwA_ne hx
  have H0 : xnF c c.p c.p (fun _ => False) α (zwA α 40 15 c.p none) := xnF.rf.pw fr1 rfl kp h1.kp
  rw [if_pos h1.z41]
  refine wx_c (wx_im ((w_conds (G := G) xRec).2 _ _ (fun u => False ∨ False) 1 (.inr rfl) h1 (sjP_no (by rw [zA_zwA, if_pos ⟨rfl, rfl, rfl⟩])) (fun u hu => hu.elim False.elim False.elim)) fun r β R => ?_)
  have R' : rC c (zwA α 40 15 c.p none) (fun u => False ∨ False) r β := R
  obtain ⟨a', q, N, rfl, z1, z2, z3, z4, z5, z6, z7, z8, z9, z10, z11, z12⟩ := rC.use (S := fun _ => False) (M := fun _ => False) R' H0 h1 (by rw [kp]; decide) h.pz (.inl rfl) h.pz sjM_no
  have rea : ∀ u, (False ∨ N u) → xIn β q u := fun u hu => hu.elim False.elim (z5 u)
  refine wx_l ⟨a', q, _, rfl, z1, z2, .inr z3, z4, fun t ht h53 => ?_, fun t ht h53 => ?_, rea⟩
  · obtain ⟨u, u1, u2, _, _, u5⟩ := z6 t ht h53
    exact ⟨u, u1, u2.resolve_left id, u5⟩
  · obtain ⟨u, u1, u2, _⟩ := z6 t ht h53
    have mu := u2.resolve_left id
    exact ⟨q, u, u1, mu, .inr z3, rea t ht, rea u mu, z4⟩
end PAZZZT
