/-! THE PURE LAYER: the parser: X's side alone: statements. -/
/-- what the parts of a statement leave -/
def stA (c : pC) (k : Nat) (f : Option Nat → Option Nat → zS → zF (Unit ⊕ Nat)) : Prop := ∀ {T E : Nat} {α0 γ : zS} {a : Nat}, xnS c T E α0 a (nI k, nI 0) [] γ → wx (f (some c.p) (some E) γ) (fun _ β => ∃ a' v K', xnS c T E α0 a' (nI k, v) K' β ∧ oB E γ β ∧ grN c k v K')
def stB (c : pC) (f : Option Nat → Option Nat → zS → zF (Unit ⊕ Nat)) : Prop := ∀ {T E : Nat} {α0 γ : zS} {a : Nat} {e : Int32 × Int32} {K : List (Int32 × Int32)}, xnS c T E α0 a e K γ → wx (f (some c.p) (some E) γ) (fun _ β => ∃ a' ev, grBr ev ∧ xnS c T E α0 a' e (K ++ [ev]) β ∧ oB E γ β)
def stL (c : pC) (f : Option Nat → Option Nat → zS → zF (Unit ⊕ Nat)) : Prop := lsP c (fun _ => True) f (fun e => e = (nI 40, nI 0))
def stS (c : pC) (f : Option Nat → Option Nat → zS → zF (Unit ⊕ Nat)) : Prop := lsP c (fun a => wB c a = true) f (grK 26 38)
section PAZZZY
variable {ρ σ τ : Type} {c : pC} {G : xQ} {α β γ γ' δ ε α0 : zS} {a a' b k w q r t u n x T T' E f kd sg o : Nat} {v v' kv nm pr : Int32} {e e' : Int32 × Int32} {L L' : List Nat} {M M' N S S' : Nat → Prop} {l m K K' : List (Int32 × Int32)} {P : Int32 × Int32 → Prop} {p : Option Nat}
variable {fA fB fE fL fP fS : Option Nat → Option Nat → zS → zF (Unit ⊕ Nat)}
theorem S_list {f : Option Nat → Option Nat → zS → zF (Unit ⊕ Nat)} (hf : stL c f) (s : xnS c T E α0 a e K γ) : wx (f (some c.p) (some E) γ) (fun _ δ => ∃ a' ev, ev = (nI 40, nI 0) ∧ xnS c T E α0 a' e (K ++ [ev]) δ ∧ oB E γ δ) := S_lst (R := fun _ => True) (P := fun e => e = (nI 40, nI 0)) hf s trivial
theorem S_stmt {f : Option Nat → Option Nat → zS → zF (Unit ⊕ Nat)} (hf : stS c f) (s : xnS c T E α0 a e K γ) (h : wB c a = true) : wx (f (some c.p) (some E) γ) (fun _ δ => ∃ a' ev, grK 26 38 ev ∧ xnS c T E α0 a' e (K ++ [ev]) δ ∧ oB E γ δ) := S_lst (R := fun a => wB c a = true) (P := grK 26 38) hf s h
theorem w_add98 (s : xnS c T E α0 a e K γ) {Q : Unit → zS → Prop} (hq : ∀ a' β, xnS c T E α0 a' e K β → oB E γ β → Q () β) : wx (hX4_add_98 G fA fB fE fL fP fS (some c.p) (some E) γ) Q := by
  unfold hX4_add_98
  refine wx_zb (wp_im (w_scope (w := 72) s (by decide)) fun _ β z => wx_l ?_)
  obtain ⟨a', s1, o1⟩ := z
  exact hq a' β s1 o1
theorem w_add78 (hL : stL c fL) (s : xnS c T E α0 a e K γ) : wx (hX4_add_78 G fA fB fE fL fP fS (some c.p) (some E) γ) (fun _ β => ∃ a' o, grL1 o ∧ xnS c T E α0 a' e (K ++ o) β ∧ oB E γ β) := by
  unfold hX4_add_78
  refine wx_zb (wp_im (S_meets (w := 50) s (by decide)) fun r2 γ2 z => ?_)
  obtain ⟨a2, s2, o2, _⟩ := z
  refine wx_if (fun _ => w_add98 s2 fun a' β s3 o3 => ⟨a', [], .inl rfl, by rw [List.append_nil]; exact s3, o2.tr o3⟩) (fun _ => ?_)
  refine wx_zc (wx_im (S_need (w := 51) s2 (by decide)) fun _ γ3 z => ?_)
  obtain ⟨s3, o3⟩ := z
  refine wx_zc (wx_im (S_list hL s3) fun _ γ4 z => ?_)
  obtain ⟨a4, ev, rfl, s4, o4⟩ := z
  exact w_add98 s4 fun a' β s5 o5 => ⟨a', [(nI 40, nI 0)], .inr rfl, s5, o2.tr (o3.tr (o4.tr o5))⟩
/-- how many lie below -/
theorem S_siz (s : xnS c T E α0 a e K γ) : zfA γ (some E) 44 8 = some (some (E + 1)) ∧ zLsize γ (some (E + 1)) = some (nI K.length) := by
  obtain ⟨_, L, M, h, b, H, m, lo, hL, k, sj⟩ := s
  refine ⟨by rw [kfA b.kn, b.fl], ?_⟩
  have e1 : (zL γ (E + 1)).length = K.length := by rw [b.ls, List.length_map, ← k, List.length_map]
  rw [← e1]
  exact if_pos b.kl
theorem w_addR (hL : stL c fL) : stA c 27 (hX4_add_r G fA fB fE fL fP fS) := fun {T E α0 γ a} s => by
  unfold hX4_add_r
  refine wx_zc (wx_im (w_operands s) fun _ γ1 z => ?_)
  obtain ⟨a1, K1, s1, k1, g1, o1⟩ := z
  rw [List.nil_append] at s1
  refine wx_zb (wp_im (S_meets (w := 49) s1 (by decide)) fun r2 γ2 z => ?_)
  obtain ⟨a2, s2, o2, _⟩ := z
  refine wx_if (fun _ => ?_) (fun _ => ?_)
  · refine wx_zc (wx_im (S_need (w := 48) s2 (by decide)) fun _ γ3 z => ?_)
    obtain ⟨s3, o3⟩ := z
    obtain ⟨z1, z2⟩ := S_siz s3
    show wx (Option.bind (zfA γ3 (some E) 44 8) _) _
    rw [z1, gl_bs, z2, gl_bs]
    refine wx_zc (wx_im (w_targets s3) fun _ γ4 z => ?_)
    obtain ⟨a4, K4, s4, k4, g4, o4⟩ := z
    obtain ⟨z3, z4⟩ := S_siz s4
    show wx (Option.bind (zfA γ4 (some E) 44 8) _) _
    rw [z3, gl_bs, z4, gl_bs, List.length_append, pI_sub (by omega), show K1.length + K4.length - K1.length = K4.length from by omega]
    obtain ⟨s5, o5, z5⟩ := S_val (v := nI K4.length) s4
    rw [z5, gl_bs]
    refine wx_im (w_add78 hL s5) fun _ β z => ?_
    obtain ⟨a6, o, g6, s6, o6⟩ := z
    exact ⟨a6, _, _, s6, o1.tr (o2.tr (o3.tr (o4.tr (o5.tr o6)))), K1, K4, o, List.append_assoc .., k1, g1, k4, g4, g6, .inl rfl⟩
  · obtain ⟨s3, o3, z3⟩ := S_val (v := 101) s2
    show wx (Option.bind (zpI γ2 (some E) 44 1 101) _) _
    rw [z3, gl_bs]
    have h3 := s3.hp
    have b5 := h3.a5
    rw [kfI h3.kp, gl_bs, h3.ax]
    refine wx_z ?_
    rw [nl1, X_isK h3.o h3.x (by omega) (by decide), gl_bs]
    refine wx_zc (w_must h3 fun e1 => ?_)
    have e1 : wK c a2 1 = true := by
      rcases e : wK c a2 1 with _ | _
      · exact absurd (by rw [e]; rfl) e1
      · rfl
    refine wx_zc (wx_im (S_op s3) fun r δ z => wx_zb (wp_im z fun r' ε y => ?_))
    obtain ⟨ev, g4, _, s4, o4⟩ := y
    refine wx_im (w_add78 hL s4) fun _ β z => ?_
    obtain ⟨a6, o, g6, s6, o6⟩ := z
    exact ⟨a6, _, _, s6, o1.tr (o2.tr (o3.tr (o4.tr o6))), K1, [ev], o, List.append_assoc .., k1, g1, by simp, fun e' h => by rw [List.mem_singleton.mp h]; exact grA_nm g4 e1, g6, .inr ⟨rfl, rfl⟩⟩
theorem w_branchR (hL : stL c fL) : stB c (hX4_branch_r G fA fB fE fL fP fS) := fun {T E α0 γ a e K} s => by
  unfold hX4_branch_r
  refine wx_ob fun x1 _ => wx_zb (wp_im (S_meets (w := 54) s (by decide)) fun r2 γ2 z => ?_)
  obtain ⟨a2, s2, o2, _⟩ := z
  refine wx_if (fun _ => ?_) (fun _ => ?_)
  · refine wx_zc (wx_im (S_need (w := 55) s2 (by decide)) fun _ γ3 z => ?_)
    obtain ⟨s3, o3⟩ := z
    have h3 := s3.hp
    refine wx_nw (T := c.p) h3 (by rw [h3.kp]; decide) h3.pz (by decide) fun β s' _ _ => ?_
    obtain ⟨d, ek⟩ := s'.cl (grS_i (k := 42) ⟨rfl, rfl⟩ (by decide))
    refine wx_zb (wp_im (s3.add ⟨_, _, rfl, d, (rfl : xkv β (zn γ3) = xkv β (zn γ3))⟩).2 fun r' ε y => wx_l ?_)
    obtain ⟨_, a4, ev, e4, s4, o4⟩ := y
    exact ⟨a4, ev, .inr (e4.symm.trans ek), s4, o2.tr (o3.tr o4)⟩
  · refine wx_zc (wx_im (S_list hL s2) fun _ γ4 z => wx_l ?_)
    obtain ⟨a4, ev, e4, s4, o4⟩ := z
    exact ⟨a4, ev, .inl e4, s4, o2.tr o4⟩
theorem w_listR (hS : stS c fS) : stL c (hX4_list_r G fA fB fE fL fP fS) := fun {t e L α a} _ h b => by
  have a5 := h.a5
  have bhi := b.hi
  have bkl := b.kl
  have bkn := b.kn
  unfold hX4_list_r
  refine wx_z ?_
  rw [X_isB h.o h.x h.ax (by omega), gl_bs]
  refine wx_zc (w_must h fun _ => wx_zc (w_deep h fun v => ?_))
  have h1 : xp c a (zwI α 40 4 c.p v) := h.wI (by decide) (by decide)
  have fr : ∀ x, x ≠ c.p → (zwI α 40 4 c.p v).2 x = α.2 x := fun x hx => zwI_ne hx
  obtain ⟨b1, _⟩ := b.pw (γ := zwI α 40 4 c.p v) fr rfl h.kp
  rw [znO_e, gl_bs]
  show wx (Option.bind (zfI (zmk (zwI α 40 4 c.p v) 45 0 9) (some c.p) 40 3) _) _
  obtain ⟨β, y1, s, y4, y5⟩ := xnS_new (G := G) (T := t + 1) (kv := nI 40) (v := nI 0) (v' := nI a) h1 (by rw [b1.kl]; decide) b1.hi (by decide)
  have h2 := h1.mk0.1
  rw [kfI h2.kp, gl_bs, h2.ax]
  refine wx_z ?_
  show wx (Option.bind (hX43_init G (some (zn α)) (nI 40) (nI 0) (nI a) (zmk (zwI α 40 4 c.p v) 45 0 9)) _) _
  rw [show zn (zwI α 40 4 c.p v) = zn α from rfl] at y1 s y4 y5
  rw [y1, gl_bs]
  obtain ⟨b2, _⟩ := b1.st (β := β) (by show zn α ≤ zn β; omega) (y4 t (by omega)) (y4 (t + 1) bhi) (fun r hr => y4 r (b.ok r hr).2)
  refine wx_zb (wp_im (s.att b2 (show t < zn α by omega)) fun r' γ z => ?_)
  obtain ⟨rfl, s1, b3⟩ := z
  unfold hX4_list_31
  refine wx_lp (I := fun x δ => x = (some c.p, some (zn α)) ∧ ∃ a' K, xnS c (t + 1) (zn α) (zwI α 40 4 c.p v) a' (nI 40, nI 0) K δ ∧ xnB δ t e (L ++ [zn α]) ∧ ∀ ev, ev ∈ K → grK 26 38 ev) (fun x δ hI => ?_) ⟨rfl, a, [], s1, b3, fun ev hv => absurd hv (by simp)⟩
  obtain ⟨rfl, a2, K, s2, b4, g2⟩ := hI
  have h5 := s2.hp
  have c5 := h5.a5
  show wl (hX4_list_31b G fA fB fE fL fP fS (some c.p) (some (zn α)) δ) _ _
  unfold hX4_list_31b
  refine wl_z ?_
  rw [X_isB h5.o h5.x h5.ax (by omega), gl_bs]
  refine wl_if (fun _ => ?_) (fun hB => ?_)
  · show wl (zinr (Option.bind (zfI δ (some c.p) 40 4) _)) _ _
    rw [kfI h5.kp, gl_bs, kpI h5.kp, gl_bs]
    refine wl_out ?_
    obtain ⟨s3, _⟩ := s2.pw (δ := zwI δ 40 4 c.p (zI δ 40 4 c.p - 1)) (a' := a2) (fun x hx => zwI_ne hx) rfl (h5.wI (by decide) (by decide))
    obtain ⟨b5, _⟩ := b4.pw (γ := zwI δ 40 4 c.p (zI δ 40 4 c.p - 1)) (fun x hx => zwI_ne hx) rfl h5.kp
    obtain ⟨d, ek⟩ := s3.cl (grS_i (k := 40) ⟨rfl, g2⟩ (by decide))
    exact ⟨a2, zn α, d.pre fr rfl (by rw [zkd_zwI]), b5, ek⟩
  · have hB : wB c a2 = true := by
      rcases e : wB c a2 with _ | _
      · exact absurd (by rw [e]; rfl) hB
      · rfl
    refine wl_z (wl_c (wx_im (S_stmt hS s2 hB) fun _ ε z => wl_in ?_))
    obtain ⟨a3, ev, g3, s3, o3⟩ := z
    refine ⟨rfl, a3, K ++ [ev], s3, o3.2 t _ _ b4 (by omega), fun ev' hv => ?_⟩
    rcases List.mem_append.mp hv with w | w
    · exact g2 ev' w
    · rw [List.mem_singleton.mp w]; exact g3
end PAZZZY
