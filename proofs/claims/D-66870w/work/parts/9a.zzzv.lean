/-! THE PURE LAYER: the parser: X's side alone: parts of statements. -/
/-- nodes but E hold what they held -/
def oB (E : Nat) (γ ε : zS) : Prop := zn γ ≤ zn ε ∧ ∀ q e L, xnB γ q e L → q ≠ E → xnB ε q e L
/-- a node comes that is so -/
def rD (c : pC) (γ : zS) (P : Int32 × Int32 → Prop) (r : Option Nat) (δ : zS) : Prop := ∃ a' q, r = some q ∧ xnD c c.p γ a' q δ ∧ P (xkv δ q)
/-- the operand at word a -/
def grA (c : pC) (a : Nat) (e : Int32 × Int32) : Prop := ∃ j, (j = 1 ∨ j = 2 ∨ j = 3) ∧ wK c a j = true ∧ e = (nI 41, nI (100000 * j + c.vs a))
section PAZZZV
variable {ρ σ : Type} {c : pC} {G : xQ} {α β γ δ ε α0 : zS} {a a' b k w q r t u n x T T' E f kd sg o : Nat} {v v' kv nm pr : Int32} {e e' : Int32 × Int32} {L : List Nat} {M M' N S S' : Nat → Prop} {l m K : List (Int32 × Int32)} {P : Int32 × Int32 → Prop} {p : Option Nat}
theorem oK.ob (h : oK E γ ε) : oB E γ ε := ⟨h.1.1, fun q e L b hq => (h.2 q e L b hq).1⟩
theorem oB.rf : oB E γ γ := ⟨Nat.le_refl _, fun _ _ _ b _ => b⟩
theorem oB.tr (h : oB E γ δ) (h' : oB E δ ε) : oB E γ ε := ⟨Nat.le_trans h.1 h'.1, fun q e L b hq => h'.2 q e L (h.2 q e L b hq) hq⟩
theorem oB_E (hE : zkd γ E = 45) (hk : k ≠ 8) : oB E γ (zwI γ 44 k E v) := ⟨Nat.le_refl _, fun q e L b hq => by
  have fr : ∀ x, x ≠ E → (zwI γ 44 k E v).2 x = γ.2 x := fun x hx => zwI_ne hx
  have e1 := fr q hq
  refine xnB.mk (by rw [zkd_zwI]; exact b.kn) b.hi (by rw [zA_zwI]; exact b.fl) (by rw [zkd_zwI]; exact b.kl) (by rw [zL_zwI]; exact b.ls) (fun r hr => by rw [zkd_zwI]; exact b.ok r hr) ?_
  have := b.e
  unfold xkv at this ⊢
  rw [zI_eq e1, zI_eq e1]; exact this⟩
theorem xnS.k45 (s : xnS c T E α0 a e K γ) : zkd γ E = 45 := by
  obtain ⟨_, L, M, h, b, _⟩ := s
  exact b.kn
theorem xnS.add (s : xnS c T E α0 a e K γ) {r : Option Nat} (R : rD c γ P r δ) : zis G δ (some E) 45 = true ∧ wp (hX43_add G (some E) r δ) (fun r' ε => r' = r ∧ ∃ a' ev, P ev ∧ xnS c T E α0 a' e (K ++ [ev]) ε ∧ oB E γ ε) := by
  obtain ⟨a', q, rfl, d, hp⟩ := R
  obtain ⟨z1, z2⟩ := s.res (G := G) d
  exact ⟨z1, wp_im z2 fun r' ε z => ⟨z.1, a', _, hp, z.2.1, z.2.2.ob⟩⟩
/-- every node of a part has its shape -/
theorem xnF.sh (H : xnF c T c.p M α β) (kp : zkd β c.p = 41) : (∀ x, M x → x ≠ c.p) ∧ ∀ x, M x → xnN c M c.p β x := by
  have np : ∀ x, M x → x ≠ c.p := fun x hx z => by have := (H.nw x hx).2.2; rw [z, kp] at this; omega
  exact ⟨np, fun x hx => H.ok x hx (np x hx)⟩
theorem grK_far (h : grK a b e) (h' : e.1 = nI k) (hk : k < 1000) (hb : b < 1000) (h1 : k < a ∨ b < k) : False := by
  obtain ⟨j, j1, j2, j3⟩ := h
  rw [h', pI_inj (by omega) (by omega)] at j3
  omega
theorem w_operD (h : xp c a α) : wx (hX4_operand G (some c.p) nm α) (fun r δ => ∃ j, (j = 1 ∧ nm ≠ 0 ∨ j = 2 ∨ j = 3) ∧ wK c a j = true ∧ ∃ q, r = some q ∧ xnD c c.p α (a + 1) q δ ∧ xkv δ q = (nI 41, nI (100000 * j + c.vs a))) := by
  refine wx_im (w_oper h) fun r β z => ?_
  obtain ⟨j, hj, e, h', rfl, H, ev, _, _⟩ := z
  obtain ⟨np, sh⟩ := H.sh h'.kp
  refine ⟨j, hj, e, _, rfl, ⟨_, h', H, rfl, sjA_no sh np fun t ht => ?_, fun g => (grK_far g (k := 41) (by rw [ev]) (by decide) (by decide) (by decide)).elim⟩, ev⟩
  rw [ht, show zI β 44 0 (zn α) = nI 41 from congrArg Prod.fst ev, ne_eq, pI_inj (by decide) (by decide)]
  decide
theorem w_condD (h : xp c a α) : wx (hX4_condition G (some c.p) α) (rD c α (grK 50 54)) := by
  refine wx_im (w_condition h) fun r β z => ?_
  obtain ⟨a', q, M, rfl, h', H, mq, g, s1, s2, s3⟩ := z
  obtain ⟨np, sh⟩ := H.sh h'.kp
  have co : ∀ n x, M q → xDn β n q x → grCo (xkv β x) := fun n => by
    have F : ∀ n y x, M y → grCo (xkv β y) → xDn β n y x → grCo (xkv β x) := fun n => by
      induction n with
      | zero =>
        intro y x my cy hx
        have e : x = y := hx
        rw [e]; exact cy
      | succ n ih =>
        intro y x my cy hx
        rcases hx with e | ⟨r, r1, r2⟩
        · rw [e]; exact cy
        · obtain ⟨k1, k2⟩ := (co_kid (sh y my) cy).2 r r1
          exact ih r x k1.1 k2 r2
    exact fun x mq' hx => F n q x mq' (.inr g) hx
  have cM : ∀ x, M x → grCo (xkv β x) := fun x hx => by
    obtain ⟨n, hn⟩ := s3 x hx
    exact co n x mq hn
  have kd : ∀ x, M x → ((M x ∧ x ≠ c.p) ∧ zkd β (x + 1) = 3 ∧ ∀ r, some r ∈ zL β (x + 1) → M r) := fun x hx => by
    obtain ⟨k1, k2⟩ := co_kid (sh x hx) (cM x hx)
    exact ⟨⟨hx, np x hx⟩, k1, fun r hr => (k2 r hr).1.1⟩
  exact ⟨a', q, rfl, ⟨M, h', H, mq, fun p hp => ⟨(kd p hp).2.1, fun q' hq => ⟨(kd p hp).2.2 q' hq, fun nc => absurd (cM p hp) nc⟩⟩, fun _ => ⟨M, mq, fun x hx => ⟨kd x hx, cM x hx, s3 x hx⟩, fun t ht h53 => s1 t ht h53⟩⟩, g⟩
theorem w_sumD (h : xp c a α) : wx (hX4_sum G f (some c.p) α) (rD c α (grSu c)) := by
  refine wx_im ((w_sums (G := G) f).2.2.1 a α h) fun r β z => ?_
  obtain ⟨a', q, M, rfl, h', H, mq, g, n53⟩ := z
  obtain ⟨np, sh⟩ := H.sh h'.kp
  refine ⟨a', q, rfl, ⟨M, h', H, mq, sjA_no sh np n53, fun g' => ?_⟩, g⟩
  rcases g with ⟨j, j1, j2, j3⟩ | ⟨j, x, _, _, e⟩
  · exact (grK_far g' j3 (by omega) (by decide) (by omega)).elim
  · exact (grK_far g' (k := 41) (by rw [e]) (by decide) (by decide) (by decide)).elim
theorem grA_op (h : grA c a e) : grOp c e := by
  obtain ⟨j, hj, e1, e2⟩ := h
  exact ⟨j, c.vs a, hj, ⟨a, (wK_i e1).1, (wK_i e1).2, rfl⟩, e2⟩
theorem grA_nm (h : grA c a e) (hw : wK c a 1 = true) : grNm c e := by
  obtain ⟨j, hj, e1, e2⟩ := h
  have j1 : j = 1 := (wK_i e1).2.symm.trans (wK_i hw).2
  subst j1
  exact ⟨1, c.vs a, rfl, ⟨a, (wK_i hw).1, (wK_i hw).2, rfl⟩, e2⟩
/-- an operand is laid below the node at hand -/
theorem w_opA (s : xnS c T E α0 a e K γ) : wx (hX4_operand G (some c.p) nm γ) (fun r δ => zis G δ (some E) 45 = true ∧ wp (hX43_add G (some E) r δ) (fun r' ε => r' = r ∧ ∃ ev, grA c a ev ∧ (nm = 0 → wK c a 1 = false) ∧ xnS c T E α0 (a + 1) e (K ++ [ev]) ε ∧ oB E γ ε)) := by
  refine wx_im (w_operD s.hp) fun r δ z => ?_
  obtain ⟨j, hj, e1, q, rfl, d, ev⟩ := z
  obtain ⟨z1, z2⟩ := s.res (G := G) d
  refine ⟨z1, wp_im z2 fun r' ε z => ⟨z.1, _, ⟨j, hj.imp And.left id, e1, ev⟩, fun hn => ?_, z.2.1, z.2.2.ob⟩⟩
  have j1 : j ≠ 1 := fun y => by
    rcases hj with w | w | w
    · exact w.2 hn
    · omega
    · omega
  exact wK_f (fun y => j1 ((wK_i e1).2.symm.trans y.2))
theorem w_operands (s : xnS c T E α0 a e K γ) : wx (hX4_operands G (some c.p) (some E) γ) (fun _ β => ∃ a' K', xnS c T E α0 a' e (K ++ K') β ∧ K' ≠ [] ∧ (∀ ev, ev ∈ K' → grOp c ev) ∧ oB E γ β) := by
  have h := s.hp
  have a5 := h.a5
  unfold hX4_operands
  rw [kfI h.kp, gl_bs, if_pos h.z41, h.ax, X_isO h.o h.x (by omega), gl_bs, if_pos h.z41]
  rcases eO : wO c a with _ | _
  · exact wx_c (w_must h fun z => absurd rfl z)
  · refine wx_c (w_must h fun _ => ?_)
    unfold hX4_operands_12
    refine wx_lp (I := fun x δ => x = (some c.p, some E) ∧ ∃ a' K', xnS c T E α0 a' e (K ++ K') δ ∧ (K' ≠ [] ∨ wO c a' = true) ∧ (∀ ev, ev ∈ K' → grOp c ev) ∧ oB E γ δ) (fun x δ hI => ?_) ⟨rfl, a, [], by rw [List.append_nil]; exact s, .inr eO, fun ev hv => absurd hv (by simp), oB.rf⟩
    obtain ⟨rfl, b, K', s1, k1, g1, o1⟩ := hI
    have h1 := s1.hp
    have b5 := h1.a5
    show wl (hX4_operands_12b G (some c.p) (some E) δ) _ _
    unfold hX4_operands_12b
    rw [kfI h1.kp, gl_bs, if_pos h1.z41, h1.ax, X_isO h1.o h1.x (by omega), gl_bs]
    rcases e1 : wO c b with _ | _
    · rw [if_pos (show nI (b2n false) = 0 from rfl)]
      exact wl_out ⟨b, K', s1, k1.resolve_right (by rw [e1]; decide), g1, o1⟩
    · rw [if_neg (show ¬ nI (b2n true) = 0 from by decide), if_pos h1.z41]
      refine wl_c (wx_im (w_opA s1) fun r ε z => ?_)
      rw [if_pos z.1]
      refine wl_b (wp_im z.2 fun r' η y => ?_)
      obtain ⟨_, ev, y1, _, y2, y3⟩ := y
      refine wl_in ⟨rfl, b + 1, K' ++ [ev], by rw [← List.append_assoc]; exact y2, .inl (by simp), fun ev' hv => ?_, o1.tr y3⟩
      rcases List.mem_append.mp hv with w | w
      · exact g1 ev' w
      · rw [List.mem_singleton.mp w]; exact grA_op y1
theorem w_targets (s : xnS c T E α0 a e K γ) : wx (hX4_targets G (some c.p) (some E) γ) (fun _ β => ∃ a' K', xnS c T E α0 a' e (K ++ K') β ∧ K' ≠ [] ∧ (∀ ev, ev ∈ K' → grNm c ev) ∧ oB E γ β) := by
  have h := s.hp
  have a5 := h.a5
  unfold hX4_targets
  rw [kfI h.kp, gl_bs, if_pos h.z41, h.ax, nl1, X_isK h.o h.x (by omega) (by decide), gl_bs, if_pos h.z41]
  rcases eO : wK c a 1 with _ | _
  · exact wx_c (w_must h fun z => absurd rfl z)
  · refine wx_c (w_must h fun _ => ?_)
    unfold hX4_targets_13
    refine wx_lp (I := fun x δ => x = (some c.p, some E) ∧ ∃ a' K', xnS c T E α0 a' e (K ++ K') δ ∧ (K' ≠ [] ∨ wK c a' 1 = true) ∧ (∀ ev, ev ∈ K' → grNm c ev) ∧ oB E γ δ) (fun x δ hI => ?_) ⟨rfl, a, [], by rw [List.append_nil]; exact s, .inr eO, fun ev hv => absurd hv (by simp), oB.rf⟩
    obtain ⟨rfl, b, K', s1, k1, g1, o1⟩ := hI
    have h1 := s1.hp
    have b5 := h1.a5
    show wl (hX4_targets_13b G (some c.p) (some E) δ) _ _
    unfold hX4_targets_13b
    rw [kfI h1.kp, gl_bs, if_pos h1.z41, h1.ax, nl1, X_isK h1.o h1.x (by omega) (by decide), gl_bs]
    rcases e1 : wK c b 1 with _ | _
    · rw [if_pos (show nI (b2n false) = 0 from rfl)]
      exact wl_out ⟨b, K', s1, k1.resolve_right (by rw [e1]; decide), g1, o1⟩
    · rw [if_neg (show ¬ nI (b2n true) = 0 from by decide), if_pos h1.z41]
      refine wl_c (wx_im (w_opA s1) fun r ε z => ?_)
      rw [if_pos z.1]
      refine wl_b (wp_im z.2 fun r' η y => ?_)
      obtain ⟨_, ev, y1, _, y2, y3⟩ := y
      refine wl_in ⟨rfl, b + 1, K' ++ [ev], by rw [← List.append_assoc]; exact y2, .inl (by simp), fun ev' hv => ?_, o1.tr y3⟩
      rcases List.mem_append.mp hv with w | w
      · exact g1 ev' w
      · rw [List.mem_singleton.mp w]; exact grA_nm y1 e1
end PAZZZV
