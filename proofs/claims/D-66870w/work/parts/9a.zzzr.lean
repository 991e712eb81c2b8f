/-! THE PURE LAYER: the parser: X's side alone: factors, rows, conditions. -/
section PAZZZR
variable {ρ σ : Type} {c : pC} {G : xQ} {α β γ α0 : zS} {a a' b k w q r t u n x T T' E f : Nat} {v v' kv nm pr : Int32} {e : Int32 × Int32} {L : List Nat} {M M' N S S' : Nat → Prop} {l m : List (Int32 × Int32)} {P : Int32 × Int32 → Prop} {p : Option Nat}
theorem w_relation (h : xp c a α) (sP : sjP c S α) (hS : ∀ u, S u → u < zn α) : wx (hX4_relation G (some c.p) α) (rC c α S) := by
  have kp := h.kp
  have pz := h.pz
  have a5 := h.a5
  unfold hX4_relation
  rw [kfI kp, gl_bs, if_pos h.z41, X_isX h.o h.x h.ax (by omega), gl_bs]
  rcases eX : wX c a with _ | _
  · rw [if_pos (show nI (b2n false) = 0 from rfl), if_pos h.z41]
    refine wx_c (wx_im (w_oper h) fun r β z => ?_)
    obtain ⟨j, hj, ej, h1, rfl, H1, ev, b1, ep⟩ := z
    have a6 := h1.a5
    have hi : zn α + 1 < zn β := b1.hi
    have lt : zn α < zn β := Nat.lt_of_succ_lt hi
    have q1 : qN α β := H1.qn kp (by rw [kp]; decide)
    have g1 : grOp c (xkv β (zn α)) := by
      rw [ev]
      exact ⟨j, c.vs a, hj.imp And.left id, ⟨a, (wK_i ej).1, (wK_i ej).2, rfl⟩, rfl⟩
    have e15 : zA β 40 15 c.p = zA α 40 15 c.p := by
      rw [zA_eq ep]
      unfold xaS
      rw [zA_zwI]
    have e16 : zI β 40 16 c.p = zI α 40 16 c.p := by
      rw [zI_eq ep]
      unfold xaS
      rw [zI_zwI, if_neg (fun z => absurd z.2.1 (by decide))]
    have sP1 := sP.st q1 e15 e16
    rw [if_pos h1.z41, X_isX h1.o h1.x h1.ax (by omega), gl_bs]
    rcases eX2 : wX c (a + 1) with _ | _
    · rw [if_neg (show ¬ ¬ nI (b2n false) = 0 from fun z => z rfl), if_pos h1.z41]
      exact wx_c (wx_im (w_alone h1 pz kp H1 (fun u => Iff.rfl) g1 sP1 hS) fun r δ R => wx_l R)
    · rw [if_pos (show ¬ nI (b2n true) = 0 from by decide)]
      show wx (Option.bind (zpA β (some c.p) 40 15 (some (zn α))) _) _
      rw [kpA h1.kp, gl_bs]
      have h2 : xp c (a + 1) (zwA β 40 15 c.p (some (zn α))) := h1.wA (by decide) (by decide) (by decide)
      rw [if_pos h2.z41]
      refine wx_c (wx_im (w_compare h2) fun r δ z => ?_)
      obtain ⟨a', x, h3, fr, hn, eA, x5, ex⟩ := z
      have fr2 : ∀ y, y ≠ c.p → δ.2 y = β.2 y := fun y hy => (fr y hy).trans (zwA_ne hy)
      have nz : zn (zwA β 40 15 c.p (some (zn α))) = zn β := rfl
      have q2 : qN β δ := qN_pw fr2 hn h1.kp
      have e15d : zA δ 40 15 c.p = some (zn α) := by rw [eA, zA_zwA, if_pos ⟨rfl, rfl, rfl⟩]
      have kd := (q2.2 (zn α) b1.kn lt).2.2
      refine w_rel65 h3 pz kp (H1.pw fr2 hn h1.kp h3.kp) (.inr ⟨zn α, rfl, fun u => Iff.rfl, by rw [q2.ke b1.kn lt]; exact g1, ?_⟩) (fun u hu => ?_) e15d
      · have e1 : zI β 44 0 (zn α) = nI 41 := congrArg Prod.fst ev
        rw [(q2.2 (zn α) b1.kn lt).1, e1, ne_eq, pI_inj (by decide) (by decide)]
        decide
      · rw [e15d] at hu
        have := Option.some.inj hu
        subst this
        exact ⟨.inr rfl, kd, Nat.lt_of_lt_of_le lt q2.1, by rw [q2.ke b1.kn lt]; exact g1, x, x5, ex⟩
  · rw [if_neg (show ¬ nI (b2n true) = 0 from by decide), kfA kp, gl_bs]
    have no : wx (hX4_relation_27 G (some c.p) (zI α 40 3 c.p) none 0 (some c.p) α) (rC c α S) := by
      unfold hX4_relation_27
      rw [if_pos h.z41]
      exact wx_c (w_must h fun z => absurd rfl z)
    refine wx_if (fun _ => no) (fun hs => ?_)
    obtain ⟨u, hu⟩ := Option.ne_none_iff_exists'.mp hs
    obtain ⟨u1, u2, u3, u4, _⟩ := sP u hu
    unfold hX4_relation_27
    rw [if_pos h.z41]
    refine wx_c (w_must h fun _ => ?_)
    rw [if_pos h.z41]
    refine wx_c (wx_im (w_compare h) fun r δ z => ?_)
    obtain ⟨a', x, h3, fr, hn, eA, x5, ex⟩ := z
    have q2 : qN α δ := qN_pw fr hn kp
    refine w_rel65 (M := fun _ => False) h3 pz kp (xnF.rf.pw fr hn kp h3.kp) (.inl ⟨rfl, fun _ z => z⟩) (fun u' hu' => ?_) (eA.trans hu)
    rw [eA, hu] at hu'
    have := Option.some.inj hu'
    subst this
    exact ⟨.inl u1, (q2.2 u u2 u3).2.2, Nat.lt_of_lt_of_le u3 q2.1, by rw [q2.ke u2 u3]; exact u4, x, x5, ex⟩
/-- parts of conditions at fuel f -/
def iFa (c : pC) (G : xQ) (f : Nat) : Prop := ∀ a α S, xp c a α → sjP c S α → (∀ u, S u → u < zn α) → wx ((rrX4_factor G f).1 (some c.p) α) (rC c α S)
def iRo (c : pC) (G : xQ) (f : Nat) : Prop := ∀ a α S o, (o = 0 ∨ o = 1) → xp c a α → sjP c S α → (∀ u, S u → u < zn α) → wx ((rrX4_factor G f).2 (some c.p) (nI o) α) (rC c α S)
/-- a condition comes behind -/
theorem rC.use {r : Option Nat} (R : rC c γ (fun u => S u ∨ M u) r β) (H : xnF c T E M α γ) (h : xp c a γ) (hT : zkd α T ≠ 45) (hz : T < zn α) (hE : E = c.p ∨ zn α ≤ E ∧ E < zn γ) (pz : c.p < zn α) (sM : sjM c S M γ) : ∃ a' q N, r = some q ∧ xp c a' β ∧ xnF c T E (fun q => M q ∨ N q) α β ∧ N q ∧ grK 50 54 (xkv β q) ∧ (∀ u, N u → xIn β q u) ∧ sjM c S (fun q => M q ∨ N q) β ∧ sjP c (fun u => S u ∨ (M u ∨ N u)) β ∧ qN γ β ∧ zkd β q = 45 ∧ zn γ ≤ q ∧ q < zn β ∧ xnF c c.p c.p N γ β := by
  obtain ⟨a', q, N, rfl, y2, y3, y4, y5, y6, y7, y8⟩ := R
  have kp := h.kp
  have q1 := y3.qn kp (by rw [kp]; decide)
  have kM : ∀ t, M t → zkd γ t = 45 ∧ t < zn γ := fun t ht => by
    have := H.nw t ht
    exact ⟨this.2.2, by omega⟩
  obtain ⟨n1, n2, n3⟩ := y3.nw q y4
  refine ⟨a', q, N, rfl, y2, H.tr y3 kp y2.kp hT (by rw [kp]; decide) hz (.inr (.inr rfl)) (fun z => ?_) (hE.imp id And.right), y4, y5, y6, (sM.st q1 kM).or y7, y8.up fun t ht => ?_, q1, n3, n1, by omega, y3⟩
  · rcases hE with y | y
    · omega
    · exact y.1
  · rcases ht with (z | z) | z
    · exact .inl z
    · exact .inr (.inl z)
    · exact .inr (.inr z)
end PAZZZR
