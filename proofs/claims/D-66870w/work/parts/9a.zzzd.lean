/-! THE PURE LAYER: the parser: the end of a good parse, the end of a bad one. -/
section PAZZZD
variable {L L2 : Nat → Prop} {c : pC} {D D' : pD} {G : xQ} {α β γ α0 : zS} {s s' s0 s1 : zM} {B a a1 b d e f l m n N N' F F' p q t to u x y k i j w wh lv S r al W : Nat} {g g' g2 : pG} {v v' x1 x3 : Int32} {rt vis cs stk l1 l2 A1 B1 : List Nat} {fn : Nat → Nat} {r0 : Option Nat}
/-- the roots are laid on the pile -/
theorem X_pushR (kp : zkd α p = 41) (fl : zA α 40 13 p = some k) (kl : zkd α k = 3) (Ls : zL α k = cs.map fun u => some (fn u)) (hW : W ≠ p ∧ W ≠ k) (kc : ∀ u, u ∈ cs → zkd α (fn u) = 45 ∧ fn u ≠ W) : ∀ j, j ≤ cs.length → ∀ {α' : zS} {Fx : Nat}, j < Fx → (∀ x, x ≠ W → α'.2 x = α.2 x) → zkd α' W = 3 → (zL α' W).length + j < 1000000 → ∃ β, zloop (fun (a : ((Option Nat) × (Option Nat) × Int32)) σ => hX4_number_18b G a.1 a.2.1 a.2.2 σ) Fx (some p, some W, nI j - nI 1) α' = hX4_number_44 G (some p) (some W) β ∧ zL β W = zL α' W ++ (cs.take j).reverse.map (fun u => some (fn u)) ∧ (∀ x, x ≠ W → β.2 x = α.2 x) ∧ zkd β W = 3 ∧ zn α' ≤ zn β ∧ zc β = zc α' + j ∧ zw β = zw α' + 7 * j := by
  intro j
  induction j with
  | zero =>
    intro _ α' Fx hF fr kW hl
    obtain ⟨fx, rfl⟩ : ∃ x, Fx = x + 1 := ⟨Fx - 1, by omega⟩
    refine ⟨α', zloop_in ?_, by simp, fr, kW, Nat.le_refl _, rfl, rfl⟩
    unfold hX4_number_18b
    rw [if_pos (show nI 0 - nI 1 < 0 from by decide)]
  | succ j ih =>
    intro hj α' Fx hF fr kW hl
    obtain ⟨fx, rfl⟩ : ∃ x, Fx = x + 1 := ⟨Fx - 1, by omega⟩
    have eq := fr p (fun z => hW.1 z.symm)
    have ek := fr k (fun z => hW.2 z.symm)
    have cm : cs[j] ∈ cs := List.getElem_mem _
    obtain ⟨k1, k2⟩ := kc _ cm
    have gk : (zL α' k)[j]? = some (some (fn cs[j])) := by
      rw [zL_eq ek, Ls, List.getElem?_map, List.getElem?_eq_getElem (by omega)]
      rfl
    obtain ⟨β1, z1, z2, z3, z4, z5, z6, z7, z8⟩ := zLadd_at (x := some (fn cs[j])) kW (by omega)
    obtain ⟨β, y1, y2, y3, y4, y5, y6, y7⟩ := ih (by omega) (α' := β1) (Fx := fx) (by omega) (fun x hx => (z4 x hx).trans (fr x hx)) z2 (by rw [z3, List.length_append]; simp only [List.length_cons, List.length_nil]; omega)
    refine ⟨β, ?_, ?_, y3, y4, by omega, by omega, by omega⟩
    · rw [zloop_step (a' := (some p, some W, nI j - nI 1)) (α' := β1)]
      · exact y1
      · unfold hX4_number_18b
        rw [pI_sub (by omega), Nat.add_sub_cancel, if_neg (by rw [nl0, pI_lt (by omega) (by decide)]; omega), kfA (by rw [zkd_eq eq]; exact kp), gl_bs, zA_eq eq, fl, kpLg (by rw [zkd_eq ek]; exact kl) (by omega), gk, gl_bs, if_pos (kpco (by rw [zkd_eq (fr _ k2)]; exact k1) (by decide)), z1, gl_bs, pI_dec1]
    · rw [y2, z3, List.append_assoc]
      congr 1
      rw [List.take_succ, List.getElem?_eq_getElem (by omega), List.reverse_append, List.map_append]
      rfl
/-- both sides number all nodes -/
theorem parN (hW : gW L N B g α s) (N1 : 1 ≤ N) (hN : N ≤ 8000) (kp : zkd α p = 41) (hp : p ≤ B) (B1 : B < zn α) (hlr : zA α 40 13 p = some k) (rk : zkd α k = 3) (rB : k ≤ B) (rl : zL α k = rt.map fun u => some (g.oa u)) (rh : la s 13 0 = nI (rt.headD 0)) (rx : pCh (la s 15) rt) (rm : ∀ u, u ∈ rt → L u ∧ zA α 44 6 (g.oa u) = none ∧ la s 16 u = nI 0) (rd : rt.Nodup) (t19 : ls s 19 = nI 0) (pal : zA α 40 14 p = some al) (kal : zkd α al = 3) (lal : zL α al = []) (alB : al ≤ B) : ∃ β s' W, hX4_number G (some p) α = some ((), β) ∧ gX26_numberAll (nI 0) s = some ((), s') ∧ nX g al α β W (preo g.ch N rt) [] ∧ nM s s' (preo g.ch N rt) ∧ nO L rt g.ch (preo g.ch N rt) [] := by
  have hrt : ∀ u, u ∈ rt → L u := fun u hu => (rm u hu).1
  have lenr : rt.length ≤ N := nodup_len rd fun u hu => (hW.bd u (hrt u hu)).2
  -- the pile's cell
  have A1 : zkd (zmk α 2003 0 3) (zn α) = 2003 := by rw [zkd_zmk, if_pos rfl]
  have zl : zLi0 (zmk α 2003 0 3) (some (zn α)) = some ((), zraw (zmk α 2003 0 3) (zn α) 3 0 0 0 0 10 [] []) := if_pos A1
  have fr1 : ∀ x, x ≠ zn α → (zraw (zmk α 2003 0 3) (zn α) 3 0 0 0 0 10 [] []).2 x = α.2 x := fun x hx => by
    rw [zraw_ne hx]; exact zup_ne hx
  have kW1 : zkd (zraw (zmk α 2003 0 3) (zn α) 3 0 0 0 0 10 [] []) (zn α) = 3 := by rw [zkd_raw, if_pos rfl]
  have lW1 : zL (zraw (zmk α 2003 0 3) (zn α) 3 0 0 0 0 10 [] []) (zn α) = [] := by rw [zL_raw, if_pos rfl]
  have n1 : zn (zraw (zmk α 2003 0 3) (zn α) 3 0 0 0 0 10 [] []) = zn α + 1 := rfl
  have c1 : zc (zraw (zmk α 2003 0 3) (zn α) 3 0 0 0 0 10 [] []) = zc α + 1 := rfl
  have w1 : zw (zraw (zmk α 2003 0 3) (zn α) 3 0 0 0 0 10 [] []) = zw α + 13 := rfl
  have X0 : hX4_number G (some p) α = (zfA (zraw (zmk α 2003 0 3) (zn α) 3 0 0 0 0 10 [] []) (some p) 40 13).bind fun r24 => (zLsize (zraw (zmk α 2003 0 3) (zn α) 3 0 0 0 0 10 [] []) r24).bind fun x25 => xlet (x25 - (1 : Int32)) fun x26 => hX4_number_18 G (some p) (some (zn α)) x26 (zraw (zmk α 2003 0 3) (zn α) 3 0 0 0 0 10 [] []) := by
    unfold hX4_number
    show Option.bind (zLi0 (zmk α 2003 0 3) (some (zn α))) _ = _
    rw [zl, gl_bs]
  generalize zraw (zmk α 2003 0 3) (zn α) 3 0 0 0 0 10 [] [] = α1 at *
  have ep := fr1 p (by omega)
  have er := fr1 k (by omega)
  obtain ⟨β1, y1, y2, y3, y4, y5, y6, y7⟩ := X_pushR (G := G) (α := α1) (W := zn α) (cs := rt) (fn := g.oa) (k := k) (by rw [zkd_eq ep]; exact kp) (by rw [zA_eq ep]; exact hlr) (by rw [zkd_eq er]; exact rk) (by rw [zL_eq er]; exact rl) ⟨by omega, by omega⟩ (fun u hu => by
    have o := hW.nd u (hrt u hu)
    have := o.hi
    exact ⟨by rw [zkd_eq (fr1 _ (by omega))]; exact o.kn, by omega⟩) rt.length (Nat.le_refl _) (α' := α1) (Fx := xLim) (zlim (by omega)) (fun _ _ => rfl) kW1 (by rw [lW1]; simp only [List.length_nil]; omega)
  have frβ : ∀ x, x < zn α → β1.2 x = α.2 x := fun x hx => by rw [y3 x (by omega), fr1 x (by omega)]
  have HX : nX g al α β1 (zn α) [] rt := by
    refine nX.mk ⟨Nat.le_refl _, by omega, by omega⟩ (fun x hx => zkd_eq (frβ x hx)) (fun cc kk x hx _ => zA_eq (frβ x hx) cc kk) (fun cc kk x hx _ _ => zI_eq (frβ x hx) cc kk) (fun x hx _ => zL_eq (frβ x hx)) (fun x hx _ _ => frβ x hx) y4 ?_ ?_ ?_ (fun i hi => absurd hi (by simp)) ?_ ?_
    · rw [y2, lW1, List.nil_append, List.take_of_length_le (Nat.le_refl _)]
    · rw [zkd_eq (frβ al (by omega))]; exact kal
    · rw [zL_eq (frβ al (by omega)), lal]; rfl
    · simp only [List.length_nil]; omega
    · simp only [List.length_nil]; omega
  have HM : nM s s [] := nM.mk (fun _ _ _ => rfl) (fun _ _ _ => rfl) t19 (fun i hi => absurd hi (by simp)) (fun i hi => absurd hi (by simp))
  have HO : nO L rt g.ch [] rt := nO.mk (by rw [List.nil_append]; exact rd) (fun u hu => ⟨hrt u hu, .inl hu⟩) (fun p hp => absurd hp (by simp)) (fun u hu => hu)
  obtain ⟨β, s', z1, z2, z3, z4, z5⟩ := numJ (G := G) (p := p) (al := al) (x3 := 1) (n := 0) (Fx := xLim) (Fm := xLim) (rt := rt) hW N1 hN ⟨rx, fun u hu => rm u hu⟩ kp (by omega) pal kal alB N (by omega) (zlim (by omega)) (zlim (by omega)) HX HM HO (fun t l e => ⟨[], by rw [e]; rfl⟩) (Nat.zero_le _)
  rw [List.nil_append] at z3 z4 z5
  refine ⟨β, s', zn α, ?_, ?_, z3, z4, z5⟩
  · rw [X0, kfA (by rw [zkd_eq ep]; exact kp), gl_bs, zA_eq ep, hlr, kpLs (by rw [zkd_eq er]; exact rk), gl_bs, zL_eq er, rl, List.length_map, gl_x, nl1]
    unfold hX4_number_18
    rw [y1]
    exact z1
  · unfold gX26_numberAll gX26_numberAll_9
    rw [pgld (by decide) (by decide), gl_bs, rh]
    exact z2
end PAZZZD
