/-! THE PURE LAYER: the parser: X's side alone: what goes on. -/
/-- whatever comes, it is so -/
def wp {ρ : Type} (m : zF ρ) (Q : ρ → zS → Prop) : Prop := ∀ r β, m = some (r, β) → Q r β
/-- if it goes on, it is so -/
def wx {ρ : Type} (m : zF (ρ ⊕ Nat)) (Q : ρ → zS → Prop) : Prop := ∀ r β, m = some (.inl r, β) → Q r β
/-- X's parser stands at word a -/
def xp (c : pC) (a : Nat) (α : zS) : Prop := (pOk c) ∧ (pxW c α) ∧ (zI α 40 3 c.p = nI a) ∧ (a ≤ c.n) ∧ (c.p < zn α) ∧ (c.ka < zn α) ∧ (c.va < zn α) ∧ (zn c.a0 ≤ zn α) ∧ (∀ k, 11 ≤ k → k ≤ 14 → zA α 40 k c.p = zA c.a0 40 k c.p)
theorem xp.o {c : pC} {a : Nat} {α : zS} (h : xp c a α) : pOk c := by
  unfold xp at h
  exact h.1
theorem xp.x {c : pC} {a : Nat} {α : zS} (h : xp c a α) : pxW c α := by
  unfold xp at h
  exact h.2.1
theorem xp.ax {c : pC} {a : Nat} {α : zS} (h : xp c a α) : zI α 40 3 c.p = nI a := by
  unfold xp at h
  exact h.2.2.1
theorem xp.al {c : pC} {a : Nat} {α : zS} (h : xp c a α) : a ≤ c.n := by
  unfold xp at h
  exact h.2.2.2.1
theorem xp.pz {c : pC} {a : Nat} {α : zS} (h : xp c a α) : c.p < zn α := by
  unfold xp at h
  exact h.2.2.2.2.1
theorem xp.kz {c : pC} {a : Nat} {α : zS} (h : xp c a α) : c.ka < zn α := by
  unfold xp at h
  exact h.2.2.2.2.2.1
theorem xp.vz {c : pC} {a : Nat} {α : zS} (h : xp c a α) : c.va < zn α := by
  unfold xp at h
  exact h.2.2.2.2.2.2.1
theorem xp.a0 {c : pC} {a : Nat} {α : zS} (h : xp c a α) : zn c.a0 ≤ zn α := by
  unfold xp at h
  exact h.2.2.2.2.2.2.2.1
theorem xp.cu {c : pC} {a : Nat} {α : zS} (h : xp c a α) : ∀ k, 11 ≤ k → k ≤ 14 → zA α 40 k c.p = zA c.a0 40 k c.p := by
  unfold xp at h
  exact h.2.2.2.2.2.2.2.2
theorem xp.mk {c : pC} {a : Nat} {α : zS} (x0 : pOk c) (x1 : pxW c α) (x2 : zI α 40 3 c.p = nI a) (x3 : a ≤ c.n) (x4 : c.p < zn α) (x5 : c.ka < zn α) (x6 : c.va < zn α) (x7 : zn c.a0 ≤ zn α) (x8 : ∀ k, 11 ≤ k → k ≤ 14 → zA α 40 k c.p = zA c.a0 40 k c.p) : xp c a α := by
  unfold xp
  exact ⟨x0, x1, x2, x3, x4, x5, x6, x7, x8⟩
/-- kind and value of a node -/
def xkv (α : zS) (q : Nat) : Int32 × Int32 := (zI α 44 0 q, zI α 44 1 q)
/-- such a word is there -/
def wV (c : pC) (j x : Nat) : Prop := ∃ i, i < c.n ∧ c.ks i = j ∧ c.vs i = x
section PAZZZJ
variable {ρ σ : Type} {c : pC} {G : xQ} {α β γ α0 : zS} {a a' b k w q r t u T E : Nat} {v v' kv : Int32}
theorem wp_im {m : zF ρ} {Q Q' : ρ → zS → Prop} (h : wp m Q) (hq : ∀ r β, Q r β → Q' r β) : wp m Q' := fun r β e => hq r β (h r β e)
theorem wx_im {m : zF (ρ ⊕ Nat)} {Q Q' : ρ → zS → Prop} (h : wx m Q) (hq : ∀ r β, Q r β → Q' r β) : wx m Q' := fun r β e => hq r β (h r β e)
theorem wx_l {v : ρ} {Q : ρ → zS → Prop} (h : Q v β) : wx (some (.inl v, β)) Q := fun r γ e => by
  have e1 := Option.some.inj e
  have e2 := (Prod.mk.inj e1).1
  have e3 := (Prod.mk.inj e1).2
  rw [← Sum.inl.inj e2, ← e3]
  exact h
theorem wx_r {e : Nat} {Q : ρ → zS → Prop} : wx (some (.inr e, β)) Q := fun r γ h => by
  have e1 := (Prod.mk.inj (Option.some.inj h)).1
  exact absurd e1 (by simp)
theorem wx_no {Q : ρ → zS → Prop} : wx none Q := fun r γ h => absurd h (by simp)
theorem wx_if {p : Prop} [Decidable p] {m n : zF (ρ ⊕ Nat)} {Q : ρ → zS → Prop} (h1 : p → wx m Q) (h2 : ¬ p → wx n Q) : wx (if p then m else n) Q := by
  by_cases h : p
  · rw [if_pos h]; exact h1 h
  · rw [if_neg h]; exact h2 h
theorem wx_b {m : zF σ} {f : σ × zS → zF (ρ ⊕ Nat)} {Q : ρ → zS → Prop} (h : wp m fun r γ => wx (f (r, γ)) Q) : wx (m.bind f) Q := fun r β e => by
  rcases hm : m with _ | ⟨x, γ⟩
  · rw [hm] at e
    exact absurd e (by simp)
  · rw [hm, gl_bs] at e
    exact h x γ hm r β e
theorem wx_ob {m : Option σ} {f : σ → zF (ρ ⊕ Nat)} {Q : ρ → zS → Prop} (h : ∀ x, m = some x → wx (f x) Q) : wx (m.bind f) Q := fun r β e => by
  rcases hm : m with _ | x
  · rw [hm] at e
    exact absurd e (by simp)
  · rw [hm, gl_bs] at e
    exact h x hm r β e
/-- a part that may throw, then on -/
theorem wx_c {m : zF (σ ⊕ Nat)} {f : σ × zS → zF (ρ ⊕ Nat)} {Q : ρ → zS → Prop} (h : wx m fun r γ => wx (f (r, γ)) Q) : wx (zcase m f (fun p => if zthr p.2 p.1 3 = true then some (.inr p.1, p.2) else none)) Q := fun r β e => by
  rcases hm : m with _ | ⟨x | x, γ⟩
  · rw [hm] at e
    exact absurd e (by simp [zcase])
  · rw [hm, zc_l] at e
    exact h x γ hm r β e
  · rw [hm, zc_r] at e
    by_cases z : zthr γ x 3 = true
    · rw [if_pos z] at e
      exact wx_r (Q := Q) r β e
    · rw [if_neg z] at e
      exact wx_no (Q := Q) r β e
theorem pxW.wI (h : pxW c α) (hk : k ≠ 2) : pxW c (zwI α 40 k c.p v) := by
  have kk := h.kk
  have kv := h.kv
  have kp := h.kp
  have e1 : (zwI α 40 k c.p v).2 c.ka = α.2 c.ka := zwI_ne (fun z => by rw [z] at kk; omega)
  have e2 : (zwI α 40 k c.p v).2 c.va = α.2 c.va := zwI_ne (fun z => by rw [z] at kv; omega)
  exact pxW.mk (by rw [zkd_zwI]; exact kp) (by rw [zA_zwI]; exact h.fk) (by rw [zA_zwI]; exact h.fv) (by rw [zI_zwI, if_neg (fun z => hk z.2.1.symm)]; exact h.fn) (by rw [zkd_zwI]; exact kk) (by rw [zkd_zwI]; exact kv) (by rw [zln_zwI]; exact h.lk) (by rw [zln_zwI]; exact h.lv) (fun i hi => by rw [zaI_eq e1]; exact h.rk i hi) (fun i hi => by rw [zaI_eq e2]; exact h.rv i hi)
theorem pxW.wA {p : Option Nat} (h : pxW c α) (h0 : k ≠ 0) (h1 : k ≠ 1) : pxW c (zwA α 40 k c.p p) := by
  have kk := h.kk
  have kv := h.kv
  have kp := h.kp
  have e1 : (zwA α 40 k c.p p).2 c.ka = α.2 c.ka := zwA_ne (fun z => by rw [z] at kk; omega)
  have e2 : (zwA α 40 k c.p p).2 c.va = α.2 c.va := zwA_ne (fun z => by rw [z] at kv; omega)
  exact pxW.mk (by rw [zkd_zwA]; exact kp) (by rw [zA_zwA, if_neg (fun z => h0 z.2.1.symm)]; exact h.fk) (by rw [zA_zwA, if_neg (fun z => h1 z.2.1.symm)]; exact h.fv) (by rw [zI_zwA]; exact h.fn) (by rw [zkd_zwA]; exact kk) (by rw [zkd_zwA]; exact kv) (by rw [zln_zwA]; exact h.lk) (by rw [zln_zwA]; exact h.lv) (fun i hi => by rw [zaI_eq e1]; exact h.rk i hi) (fun i hi => by rw [zaI_eq e2]; exact h.rv i hi)
theorem xp.wI (h : xp c a α) (hk : k ≠ 2) (h3 : k ≠ 3) : xp c a (zwI α 40 k c.p v) := xp.mk h.o (h.x.wI hk) (by rw [zI_zwI, if_neg (fun z => h3 z.2.1.symm)]; exact h.ax) h.al h.pz h.kz h.vz h.a0 (fun k h1 h2 => by rw [zA_zwI]; exact h.cu k h1 h2)
theorem xp.wA {p : Option Nat} (h : xp c a α) (h0 : k ≠ 0) (h1 : k ≠ 1) (h11 : k < 11 ∨ 14 < k) : xp c a (zwA α 40 k c.p p) := xp.mk h.o (h.x.wA h0 h1) (by rw [zI_zwA]; exact h.ax) h.al h.pz h.kz h.vz h.a0 (fun j j1 j2 => by rw [zA_zwA, if_neg (fun z => by have := z.2.1; omega)]; exact h.cu j j1 j2)
theorem xp.adv (h : xp c a α) (ha : a < c.n) : xp c (a + 1) (xaS c α a) := xp.mk h.o (h.x.wI (by decide)) (by unfold xaS; rw [zI_zwI, if_pos ⟨rfl, rfl, rfl⟩]) ha h.pz h.kz h.vz h.a0 (fun k h1 h2 => by unfold xaS; rw [zA_zwI]; exact h.cu k h1 h2)
theorem xp.fr (h : xp c a α) (hn : zn α ≤ zn β) (hp : β.2 c.p = α.2 c.p) (hk : β.2 c.ka = α.2 c.ka) (hv : β.2 c.va = α.2 c.va) : xp c a β := by
  have x := h.x
  have h1 := h.pz
  have h2 := h.kz
  have h3 := h.vz
  have h4 := h.a0
  exact xp.mk h.o (pxW.mk (by rw [zkd_eq hp]; exact x.kp) (by rw [zA_eq hp]; exact x.fk) (by rw [zA_eq hp]; exact x.fv) (by rw [zI_eq hp]; exact x.fn) (by rw [zkd_eq hk]; exact x.kk) (by rw [zkd_eq hv]; exact x.kv) (by rw [zln_eq hk]; exact x.lk) (by rw [zln_eq hv]; exact x.lv) (fun i hi => by rw [zaI_eq hk]; exact x.rk i hi) (fun i hi => by rw [zaI_eq hv]; exact x.rv i hi)) (by rw [zI_eq hp]; exact h.ax) h.al (by omega) (by omega) (by omega) (by omega) (fun k h1 h2 => by rw [zA_eq hp]; exact h.cu k h1 h2)
theorem xp.kp (h : xp c a α) : zkd α c.p = 41 := h.x.kp
theorem xp.z41 (h : xp c a α) : zis G α (some c.p) 41 = true := of_eq_true (kis h.x.kp (by decide))
theorem xp.a5 (h : xp c a α) : a ≤ 505 := by have := h.al; have := h.o.n; omega
theorem w_fails (h : zkd α c.p = 41) {Q : Unit → zS → Prop} : wx (hX4_fails G (some c.p) v v' α) Q := by
  unfold hX4_fails
  rw [kpI h, gl_bs, kpI (by rw [zkd_zwI]; exact h), gl_bs]
  refine wx_b fun r1 γ1 _ => wx_b fun r2 γ2 _ => wx_ob fun q _ => wx_if (fun _ => wx_r) (fun _ => wx_no)
theorem w_must (h : xp c a α) {Q : Unit → zS → Prop} (hq : v ≠ 0 → Q () α) : wx (hX4_must G (some c.p) v α) Q := by
  unfold hX4_must hX4_must_13
  refine wx_if (fun z => wx_l (hq z)) (fun _ => ?_)
  rw [kfI h.kp, gl_bs, if_pos h.z41]
  exact wx_c (w_fails h.kp)
theorem w_meets (h : xp c a α) (hw : w < 100000) : hX4_meets G (some c.p) (nI w) α = if wW c a w = true then some (nI 1, xaS c α a) else some (nI 0, α) := by
  have a5 := h.a5
  unfold hX4_meets
  rw [kfI h.kp, gl_bs, if_pos h.z41, h.ax, X_isW h.o h.x (by omega) hw, gl_bs]
  rcases e : wW c a w with _ | _
  · rw [if_neg (show ¬ ¬ (nI (b2n false), α).1 = 0 from fun z => z rfl), if_neg (by decide)]
    rfl
  · rw [if_pos (show ¬ (nI (b2n true), α).1 = 0 from (by decide : ¬ nI (b2n true) = 0)), if_pos rfl]
    show Option.bind (zfI α (some c.p) 40 3) _ = _
    rw [kfI h.kp, gl_bs, h.ax, kpI h.kp, gl_bs, pI_succ]
    rfl
theorem w_need (h : xp c a α) (hw : w < 100000) {Q : Unit → zS → Prop} (hq : wW c a w = true → Q () (xaS c α a)) : wx (hX4_need G (some c.p) (nI w) α) Q := by
  unfold hX4_need
  rw [if_pos h.z41, w_meets h hw]
  rcases e : wW c a w with _ | _
  · rw [if_neg (by decide), gl_bs, if_pos h.z41]
    refine wx_c (w_must h fun z => absurd rfl z)
  · rw [if_pos rfl, gl_bs]
    have h' := h.adv (wW_i e).1
    rw [if_pos h'.z41]
    refine wx_c (w_must h' fun _ => ?_)
    exact wx_l (hq e)
theorem w_take (h : xp c a α) (hk : k < 6) {Q : Int32 → zS → Prop} (hq : wK c a k = true → Q (nI (c.vs a)) (xaS c α a)) : wx (hX4_take G (some c.p) (nI k) α) Q := by
  have a5 := h.a5
  unfold hX4_take
  rw [kfI h.kp, gl_bs, if_pos h.z41, h.ax, X_isK h.o h.x (by omega) (by omega), gl_bs, if_pos h.z41]
  rcases e : wK c a k with _ | _
  · exact wx_c (w_must h fun z => absurd rfl z)
  · refine wx_c (w_must h fun _ => ?_)
    have ha := (wK_i e).1
    have h' := h.adv ha
    show wx (Option.bind (zfI α (some c.p) 40 3) _) Q
    rw [kfI h.kp, gl_bs, h.ax, kpI h.kp, gl_bs, pI_succ, show zwI α 40 3 c.p (nI (a + 1)) = xaS c α a from rfl]
    rw [kfA h'.kp, gl_bs, h'.x.fv, kfI h'.kp, gl_bs, h'.ax, show nI (a + 1) - 1 = nI a from by rw [nl1, pI_sub (by omega)]; rfl, kald h'.x.kv (by rw [h'.x.lv]; omega) (by rw [h'.x.lv]; decide), gl_bs, h'.x.rv a ha]
    exact wx_l (hq e)
theorem w_period (h : xp c a α) {Q : Unit → zS → Prop} (hq : wK c a 4 = true → Q () (xaS c α a)) : wx (hX4_period G (some c.p) α) Q := by
  unfold hX4_period
  rw [if_pos h.z41]
  refine wx_c (w_take (k := 4) h (by decide) fun e => ?_)
  exact wx_l (hq e)
theorem w_deep (h : xp c a α) {Q : Unit → zS → Prop} (hq : ∀ v, Q () (zwI α 40 4 c.p v)) : wx (hX4_deeper G (some c.p) α) Q := by
  unfold hX4_deeper hX4_deeper_18
  rw [kfI h.kp, gl_bs]
  refine wx_if (fun _ => ?_) (fun _ => ?_)
  · rw [gl_bs, kpI h.kp, gl_bs]
    exact wx_l (hq _)
  · rw [kfI h.kp, gl_bs, if_pos h.z41]
    exact wx_c (w_fails h.kp)
theorem w_close (h : xp c a α) {Q : Unit → zS → Prop} (hq : ∀ v, wS c a 1 = true → Q () (zwI (xaS c α a) 40 4 c.p v)) : wx (hX4_close G (some c.p) α) Q := by
  have a5 := h.a5
  unfold hX4_close
  rw [kfI h.kp, gl_bs, if_pos h.z41, h.ax, nl1, X_isS h.o h.x (by omega) (by decide), gl_bs, if_pos h.z41]
  rcases e : wS c a 1 with _ | _
  · exact wx_c (w_must h fun z => absurd rfl z)
  · refine wx_c (w_must h fun _ => ?_)
    have h' := h.adv (wS_i e).1
    show wx (Option.bind (zfI α (some c.p) 40 3) _) Q
    rw [kfI h.kp, gl_bs, h.ax, kpI h.kp, gl_bs]
    rw [show nI a + nI 1 = nI (a + 1) from pI_succ a, show zwI α 40 3 c.p (nI (a + 1)) = xaS c α a from rfl]
    rw [kfI h'.kp, gl_bs, kpI h'.kp, gl_bs]
    exact wx_l (hq _ e)
end PAZZZJ
