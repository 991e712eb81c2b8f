/-! THE PURE LAYER: the parser: X's side alone: a unit's name. -/
section PAZZZZI
variable {ρ σ τ : Type} {c : pC} {G : xQ} {α β γ γ' δ ε α0 : zS} {a a' b k w q r t u n x x' T T' E f i j o lu lr lo hi y : Nat} {v v' kv nm pr : Int32} {e e' : Int32 × Int32} {L L' op l : List Nat} {M M' N S S' U U' : Nat → Prop} {m K K' : List (Int32 × Int32)} {P : Int32 × Int32 → Prop} {p z : Option Nat}
theorem grS_un (h : grS c e m) : ¬ grK 1 2 e := fun h' => by
  obtain ⟨k, k1, k2, k3⟩ := h
  obtain ⟨j, j1, j2, j3⟩ := h'
  rw [k2, pI_inj (by omega) (by omega)] at j3
  have : k = 1 ∨ k = 2 := by omega
  rcases this with w | w <;> subst w <;> exact k3
/-- a unit's node may change its kind -/
theorem grU_ch {f g : Nat → Int32 × Int32} (h : grU (L.map f)) (hr : grK 1 2 (f r)) (hr' : grK 1 2 (g r)) (hg : ∀ q, q ∈ L → q ≠ r → g q = f q) : grU (L.map g) := by
  obtain ⟨i, j, k, n, h1, h2⟩ := h
  obtain ⟨L1, L2, e1, e2, e3⟩ := List.map_eq_append_iff.mp h1
  subst e1
  have d : ∀ q, q ∈ L1 → q ≠ r := fun q hq y => by
    subst y
    have m : f q ∈ grUl i j k := by rw [← e2]; exact List.mem_map_of_mem hq
    unfold grUl at m
    have g3 : f q = (nI 3, nI 0) ∨ f q = (nI 7, nI 0) ∨ f q = (nI 20, nI 0) := by
      rcases List.mem_append.mp m with y | y
      · rcases i with _ | _
        · exact absurd y (by simp)
        · exact .inl (List.mem_singleton.mp y)
      · rcases List.mem_append.mp y with y | y
        · rcases j with _ | _
          · exact absurd y (by simp)
          · exact .inr (.inl (List.mem_singleton.mp y))
        · rcases k with _ | _
          · exact absurd y (by simp)
          · exact .inr (.inr (List.mem_singleton.mp y))
    obtain ⟨z, z1, z2, z3⟩ := hr
    rcases g3 with y | y | y <;> rw [y, pI_inj (by decide) (by omega)] at z3 <;> omega
  refine ⟨i, j, k, L2.map g, ?_, fun e he => ?_⟩
  · rw [List.map_append, ← e2]
    congr 1
    exact List.map_congr_left fun q hq => hg q (List.mem_append_left _ hq) (d q hq)
  · obtain ⟨q, hq, rfl⟩ := List.mem_map.mp he
    by_cases y : q = r
    · rw [y]; exact hr'
    · rw [hg q (List.mem_append_right _ hq) y]
      exact h2 _ (by rw [← e3]; exact List.mem_map_of_mem hq)
/-- the innermost unit gets its name -/
theorem T_name (S : xTs c M U (some r) lu lr γ) (b : xnB γ r e []) (mr : M r) (he : grK 1 2 e) (hk : k = 1 ∨ k = 2) (gv : grV c 1 v) : xTs c M U none lu lr (zwI (zwI γ 44 0 r (nI k)) 44 1 r v) ∧ xnB (zwI (zwI γ 44 0 r (nI k)) 44 1 r v) r (nI k, v) [] ∧ (∀ x, x ≠ r → (zwI (zwI γ 44 0 r (nI k)) 44 1 r v).2 x = γ.2 x) := by
  have fr : ∀ x, x ≠ r → (zwI (zwI γ 44 0 r (nI k)) 44 1 r v).2 x = γ.2 x := fun x hx => (zwI_ne hx).trans (zwI_ne hx)
  have kd : ∀ x, zkd (zwI (zwI γ 44 0 r (nI k)) 44 1 r v) x = zkd γ x := fun x => by rw [zkd_zwI, zkd_zwI]
  have zl : ∀ x, zL (zwI (zwI γ 44 0 r (nI k)) 44 1 r v) x = zL γ x := fun x => by rw [zL_zwI, zL_zwI]
  have za : ∀ x y z, zA (zwI (zwI γ 44 0 r (nI k)) 44 1 r v) x y z = zA γ x y z := fun x y z => by rw [zA_zwI, zA_zwI]
  have kr : xkv (zwI (zwI γ 44 0 r (nI k)) 44 1 r v) r = (nI k, v) := by
    unfold xkv
    rw [zI_zwI, if_neg (fun z => absurd z.2.1 (by decide)), zI_zwI, if_pos ⟨rfl, rfl, rfl⟩, zI_zwI, if_pos ⟨rfl, rfl, rfl⟩]
  have ke : ∀ x, x ≠ r → xkv (zwI (zwI γ 44 0 r (nI k)) 44 1 r v) x = xkv γ x := fun x hx => by
    unfold xkv
    rw [zI_eq (fr x hx), zI_eq (fr x hx)]
  have gr : grK 1 2 (nI k, v) := ⟨k, by omega, by omega, rfl⟩
  have er : xkv γ r = e := b.e
  have kN : ∀ q lo hi, grK lo hi (xkv γ q) → 3 ≤ lo → hi < 1000 → q ≠ r := fun q lo hi g h1 h2 y => by
    rw [y, er] at g
    exact nun g h1 h2 he
  have nn : zn (zwI (zwI γ 44 0 r (nI k)) 44 1 r v) = zn γ := rfl
  generalize zwI (zwI γ 44 0 r (nI k)) 44 1 r v = δ at *
  have br : xnB δ r (nI k, v) [] := xnB.mk (by rw [kd]; exact b.kn) (by rw [nn]; exact b.hi) (by rw [za]; exact b.fl) (by rw [kd]; exact b.kl) (by rw [zl]; exact b.ls) (fun q hq => absurd hq (by simp)) kr
  have bq : ∀ q e L, q ≠ r → xnB γ q e L → xnB δ q e L := fun q e L hq b' => xnB.mk (by rw [kd]; exact b'.kn) (by rw [nn]; exact b'.hi) (by rw [za]; exact b'.fl) (by rw [kd]; exact b'.kl) (by rw [zl]; exact b'.ls) (fun q hq => by rw [kd, nn]; exact b'.ok q hq) ((ke q hq).trans b'.e)
  have F : ∀ v j lo hi, 3 ≤ lo → hi < 1000 → uF γ M v j lo hi → uF δ M v j lo hi := fun v j lo hi h1 h2 f q hq => by
    rw [za] at hq
    obtain ⟨m, g⟩ := f q hq
    exact ⟨m, by rw [ke q (kN q lo hi g h1 h2)]; exact g⟩
  have I : ∀ q, uI c γ M q → uI c δ M q := fun q h => ⟨h.1, by
    have g : grK 12 12 (xkv γ q) := by
      obtain ⟨n, x, _, _, _, _, e0⟩ := h.2
      exact ⟨12, by decide, by decide, by rw [e0]⟩
    rw [ke q (kN q 12 12 g (by decide) (by decide))]; exact h.2⟩
  have uLl : ∀ l, uL γ M l → uL δ M l := fun l h => ⟨by rw [kd]; exact h.1, by rw [nn]; exact h.2.1, h.2.2⟩
  refine ⟨xTs.mk ⟨fun q hq => ?_, fun p hp => ⟨by rw [kd]; exact (S.hp.2 p hp).1, fun q hq => ?_⟩⟩ (fun w hw => ?_) (fun q hq g => ?_) (uLl _ S.lu) (uLl _ S.lr) (fun r hr => absurd hr (by simp)) (fun r' hr => by
    obtain ⟨m, g⟩ := S.rr r' (by rw [← zl]; exact hr)
    refine ⟨m, ?_⟩
    by_cases y : r' = r
    · rw [y, kr]; exact gr
    · rw [ke r' y]; exact g) S.ne, br, fr⟩
  · by_cases y : q = r
    · rw [y]
      exact ⟨(nI k, v), [], br, fun _ h => absurd h (by simp), .inr ⟨gr, false, false, false, [], rfl, fun _ h => absurd h (by simp)⟩⟩
    · obtain ⟨e1, L, b1, c1, c2⟩ := S.hp.1 q hq
      obtain ⟨e2, L2, b2, c3⟩ := S.zc r rfl q hq
      have e3 : e2 = e1 := b2.e.symm.trans b1.e
      have e4 : L2 = L := mapsome_inj (b2.ls.symm.trans b1.ls)
      subst e3
      subst e4
      refine ⟨e2, L2, bq q e2 L2 y b1, c1, ?_⟩
      by_cases hr : r ∈ L2
      · rcases c2 with c2 | ⟨c2, c4⟩
        · exact absurd (c3 hr) (grS_un c2)
        · exact .inr ⟨c2, grU_ch c4 (by rw [er]; exact he) (by rw [kr]; exact gr) (fun q hq y => ke q y)⟩
      · rw [List.map_congr_left (g := xkv γ) fun q hq => ke q (fun y => hr (by rw [← y]; exact hq))]
        exact c2
  · obtain ⟨q1, q2⟩ := (S.hp.2 p hp).2 q (by rw [← zl]; exact hq)
    refine ⟨q1, fun nc g => ?_⟩
    have qr : q ≠ r := fun y => by
      rw [y, kr] at g
      exact grK_far g (k := k) rfl (by omega) (by decide) (by omega)
    rw [ke q qr] at g
    have nc' : ¬ grCo (xkv γ p) := by
      by_cases y : p = r
      · rw [y, er]; exact nco he (by decide)
      · rw [← ke p y]; exact nc
    obtain ⟨N, n1, n2, n3⟩ := q2 nc' g
    have nr : ∀ x, N x → x ≠ r := fun x hx y => by
      have := (n2 x hx).2.1
      rw [y, er] at this
      exact nco he (by decide) this
    have cl : ∀ x, N x → (∀ r, some r ∈ zL γ (x + 1) → N r) ∧ zL δ (x + 1) = zL γ (x + 1) := fun x hx => ⟨(n2 x hx).1.2.2, zl _⟩
    refine ⟨N, n1, fun x hx => ?_, fun t ht h53 => ?_⟩
    · obtain ⟨⟨y1, y2, y3⟩, y4, y5⟩ := n2 x hx
      exact ⟨⟨y1, by rw [kd]; exact y2, fun r' h => y3 r' (by rw [← zl]; exact h)⟩, by rw [ke x (nr x hx)]; exact y4, y5.st cl n1⟩
    · obtain ⟨w, w1, w2, w3⟩ := n3 t ht (by rw [← zI_eq (fr t (nr t ht))]; exact h53)
      exact ⟨w, by rw [za]; exact w1, w2, by rw [ke w (nr w w2)]; exact w3⟩
  · have h := S.un w hw
    obtain ⟨r', r1, r2, r3⟩ := h.f1
    obtain ⟨l, l1, l2, l3, l4, l5⟩ := h.fd
    refine xUn.mk (by rw [kd]; exact h.ku) (by rw [nn]; exact h.hi) ⟨r', by rw [za]; exact r1, r2, ?_⟩ (F _ _ _ _ (by decide) (by decide) h.f4) (F _ _ _ _ (by decide) (by decide) h.f5) (F _ _ _ _ (by decide) (by decide) h.f6) (F _ _ _ _ (by decide) (by decide) h.f7) (F _ _ _ _ (by decide) (by decide) h.f8) (F _ _ _ _ (by decide) (by decide) h.f9) (F _ _ _ _ (by decide) (by decide) h.fa) (F _ _ _ _ (by decide) (by decide) h.fb) (fun q hq => I q (h.fc q (by rw [← za]; exact hq))) ⟨l, by rw [za]; exact l1, uLl l l2, l3, l4, fun r hr => I r (l5 r (by rw [← zl]; exact hr))⟩
    by_cases y : r' = r
    · rw [y, kr]; exact gr
    · rw [ke r' y]; exact r3
  · by_cases y : q = r
    · rw [y, kr]
      exact .inl gv
    · rw [ke q y] at g ⊢
      rcases S.nm q hq g with w | w
      · exact .inl w
      · exact absurd (Option.some.inj w).symm y
/-- IDENTIFICATION, FUNCTION-ID: what the unit is called -/
theorem w_ident (s : xBg c M U z lu lr u l x a α) (hv : v = 2 ∨ v = 3) : wx (hX4_header_148 G (some c.p) v (some u) α) (fun _ β => xWN c U lu lr u l β) := by
  have h := s.hh
  have cx := s.bb.cu.x
  have no : wx (hX4_header_172 G (some c.p) v (some u) (some c.p) α) (fun _ β => xWN c U lu lr u l β) := by
    unfold hX4_header_172 hX4_header_173
    exact wx_zc (w_must h fun y => absurd rfl y)
  have yes : x = 0 → wx (hX4_header_168 G (some c.p) v (some u) (some c.p) α) (fun _ β => xWN c U lu lr u l β) := fun x0 => by
    subst x0
    unfold hX4_header_168 hX4_header_173
    refine wx_zc (w_must h fun _ => ?_)
    have h1 := h.adv s.nn
    show wx (Option.bind (zfI α (some c.p) 40 3) _) _
    rw [kfI h.kp, gl_bs, h.ax, kpI h.kp, gl_bs, show nI a + 1 = nI (a + 1) from pI_succ a, show zwI α 40 3 c.p (nI (a + 1)) = xaS c α a from rfl]
    refine wx_zc (wx_im (Q_take (k := 1) h1 (by decide)) fun w γ y => ?_)
    obtain ⟨h2, q2, e2, rfl⟩ := y
    refine wx_zc (wx_im (Q_period h2) fun _ γ y => ?_)
    obtain ⟨h3, q3⟩ := y
    have B := (s.bb.pw (xaSq (a := a)) h.kp).pw (q2.tr q3) h1.kp
    obtain ⟨i1, i2⟩ := wK_i e2
    have gv : grV c 1 (nI (c.vs (a + 1))) := ⟨c.vs (a + 1), ⟨a + 1, i1, i2, rfl⟩, rfl⟩
    have hz : z = zA γ 43 1 u := by
      rcases B.z0 with y | y
      · omega
      · exact y.2
    obtain ⟨r, e, L, i, j, k, n, r1, b, r3, r4, r5, r6, r7, r8⟩ := B.cu.rt
    obtain ⟨r', v1, v2, v3⟩ := B.un.f1
    have y1 : r' = r := Option.some.inj (v1.symm.trans r1)
    subst y1
    rw [b.e] at v3
    have L0 : L = [] := by
      rw [r5 (by decide), r6 (by decide), r7 (by decide), r8 (by decide)] at r3
      exact List.map_eq_nil_iff.mp r3
    subst L0
    have S := B.ts
    rw [hz, r1] at S
    show wx (Option.bind (zfA γ (some u) 43 1) _) _
    rw [kfA B.un.ku, gl_bs, r1]
    have F : ∀ k, k = 1 ∨ k = 2 → wx (hX4_header_211 G (some u) (nI (c.vs (a + 1))) (nI k) (some r') γ) (fun _ β => xWN c U lu lr u l β) := fun k hk => by
      obtain ⟨S1, b1, fr⟩ := T_name (v := nI (c.vs (a + 1))) S b v2 v3 hk gv
      have ur : u ≠ r' := fun y => by have := B.un.ku; rw [y, b.kn] at this; omega
      have k1 : zkd (zwI γ 44 0 r' (nI k)) u = 44 := by rw [zkd_zwI]; exact B.un.ku
      have k2 : zkd (zwI γ 44 0 r' (nI k)) r' = 45 := by rw [zkd_zwI]; exact b.kn
      unfold hX4_header_211
      rw [kpI b.kn, gl_bs, kfA k1, gl_bs, zA_zwI, r1, kpI k2, gl_bs]
      have hE : ∀ v, U v → (zwI (zwI γ 44 0 r' (nI k)) 44 1 r' (nI (c.vs (a + 1)))).2 v = γ.2 v := fun v hv => fr v (fun y => by have := (S.un v hv).ku; rw [y, b.kn] at this; omega)
      have kp := h3.x.kp
      have kk := h3.x.kk
      have kv := h3.x.kv
      have h4 : xp c _ (zwI (zwI γ 44 0 r' (nI k)) 44 1 r' (nI (c.vs (a + 1)))) := h3.fr (Nat.le_refl _) (fr _ (fun y => by rw [y, b.kn] at kp; omega)) (fr _ (fun y => by rw [y, b.kn] at kk; omega)) (fr _ (fun y => by rw [y, b.kn] at kv; omega))
      obtain ⟨y3, W⟩ := B_st (x' := 1) B (fun v hv _ => hE v hv) (by rw [zA_zwI, zA_zwI]) h4 S1 ⟨r', _, [], false, false, false, [], by rw [zA_zwI, zA_zwI]; exact r1, b1, rfl, fun _ h => absurd h (by simp), fun _ => rfl, fun _ => rfl, fun _ => rfl, fun _ => rfl⟩ (by decide) (by decide) (by decide)
      show wx (Option.bind (zpI _ (some u) 43 3 (nI 1)) _) _
      rw [y3, gl_bs]
      unfold hX4_header_666
      exact wx_l W
    exact wx_if (fun _ => F 2 (.inr rfl)) (fun _ => F 1 (.inl rfl))
  unfold hX4_header_148
  rw [kfI s.bb.un.ku, gl_bs, s.bb.cu.st]
  refine wx_if (fun _ => no) (fun e0 => ?_)
  have x0 : x = 0 := by
    have y : nI x = nI 0 := Decidable.of_not_not e0
    rw [pI_inj (by omega) (by decide)] at y
    exact y
  refine wx_if (fun _ => yes x0) (fun _ => ?_)
  rw [kfA s.bb.un.ku, gl_bs]
  exact wx_if (fun _ => yes x0) (fun _ => no)
end PAZZZZI
