/-! THE PURE LAYER: the parser: children, divisions, what else a node holds. -/
section PAZZZH
variable {L L2 : Nat → Prop} {c : pC} {D D' : pD} {G : xQ} {α β β1 γ α0 : zS} {s s' s0 s1 : zM} {B a a1 b d e f l lu m n N N' F F' p q t to u x y k i j w wh lv S r al W : Nat} {g g' g2 : pG} {v v' x1 x3 : Int32} {rt vis cs stk l1 l2 A1 B1 ord : List Nat} {fn : Nat → Nat} {r0 : Option Nat}
/-- how many children -/
theorem Rd_kids (h : pRd p al lu B N D L g ord α s) (hi : i < ord.length) : (g.ch (ord.getD i 0)).length < 8000 ∧ hX4_node G (some p) (nI i) (nI 3) α = some (nI (g.ch (ord.getD i 0)).length, α) ∧ gX26_node (nI i) (nI 3) s = some (nI (g.ch (ord.getD i 0)).length, s) := by
  have len := h.len
  have N8 := h.N8
  have lt := (h.liv hi).1
  have bt := h.w.bd _ lt
  have o := h.w.nd _ lt
  have e0 : us s 0 (0 : Int32) = s := us_self h.m0
  have hm : ∀ u, u ∈ g.ch (ord.getD i 0) → 0 < u ∧ u < N := fun u hu => by
    have := h.w.bd _ (o.mem u hu).1
    omega
  have ln : (g.ch (ord.getD i 0)).length < N := by
    have := nodup_len (n := N) (l := 0 :: g.ch (ord.getD i 0)) (List.nodup_cons.mpr ⟨fun z => absurd (hm 0 z).1 (by decide), o.nd⟩) (fun x hx => by
      rcases List.mem_cons.mp hx with z | z
      · omega
      · exact (hm x z).2)
    rw [List.length_cons] at this
    omega
  refine ⟨by omega, ?_, ?_⟩
  · unfold hX4_node
    rw [if_pos (of_eq_true (kis h.kp (by decide))), h.at hi, gl_bs, if_neg (by simp), if_neg (by decide), if_neg (by decide), if_neg (by decide), if_neg (by decide), if_pos (by decide), kfA o.kn, gl_bs, o.fl, kpLs o.kl, gl_bs, o.ls, List.length_map]
  · unfold gX26_node
    rw [gl_x, e0, if_neg (by rw [nl0, pI_lt (by omega) (by decide)]; omega), gl_x, h.td, if_pos (by rw [pI_lt (by omega) (by omega)]; exact hi), pgld (by omega) (by decide), gl_bs, h.od i hi, pgld (by omega) (by decide), gl_bs, if_neg (by decide), if_neg (by decide), if_neg (by decide), if_neg (by decide), if_pos (by decide), pgld (by omega) (by decide), gl_bs, o.hd]
    have R := M_kidl (s := s) (n := 0) (F := xLim) o.nx (fun u hu => by have := hm u hu; omega) (by have : xLim = 1000000000 := rfl; omega) (by omega)
    rw [Nat.zero_add] at R
    exact R
/-- X's children by number -/
theorem Rd_child (h : pRd p al lu B N D L g ord α s) (hi : i < ord.length) (hk : k < (g.ch (ord.getD i 0)).length) : ∃ j, j < ord.length ∧ ord.getD j 0 = (g.ch (ord.getD i 0)).getD k 0 ∧ hX4_child G (some p) (nI i) (nI k) α = some (nI j, α) := by
  have lt := (h.liv hi).1
  have o := h.w.nd _ lt
  have ln := (Rd_kids (G := G) h hi).1
  have m : (g.ch (ord.getD i 0)).getD k 0 ∈ g.ch (ord.getD i 0) := by
    rw [List.getD_eq_getElem?_getD (l := g.ch (ord.getD i 0)), List.getElem?_eq_getElem hk]
    exact List.getElem_mem _
  have m2 := h.o.dn _ (h.liv hi).2 _ m
  rw [List.append_nil] at m2
  obtain ⟨j, hj, e1, _, e3⟩ := h.num m2
  have lu := (o.mem _ m).1
  have gk : (zL α (g.oa (ord.getD i 0) + 1))[k]? = some (some (g.oa ((g.ch (ord.getD i 0)).getD k 0))) := by
    rw [o.ls, List.getElem?_map, List.getElem?_eq_getElem hk, List.getD_eq_getElem?_getD (l := g.ch (ord.getD i 0)), List.getElem?_eq_getElem hk]
    rfl
  refine ⟨j, hj, e1, ?_⟩
  unfold hX4_child
  rw [if_pos (of_eq_true (kis h.kp (by decide))), h.at hi, gl_bs, if_neg (by simp), if_neg (by rw [nl0, pI_lt (by omega) (by decide)]; omega), kfA o.kn, gl_bs, o.fl, kpLs o.kl, gl_bs, o.ls, List.length_map, if_pos (by rw [pI_lt (by omega) (by omega)]; exact hk), gl_bs, kpLg o.kl (by omega), gk, gl_bs, if_pos (kpco (h.w.nd _ lu).kn (by decide)), kfI (h.w.nd _ lu).kn, gl_bs, e3]
  rfl
/-- a number of a node, or none -/
theorem Rd_no (h : pRd p al lu B N D L g ord α s) (ht : t = 0 ∨ t ∈ ord) : ∃ v, hX4_numberOf G (pN g t) α = some (v, α) ∧ (t = 0 ∧ v = -1 ∨ t ∈ ord ∧ t ≠ 0 ∧ ∃ j, j < ord.length ∧ ord.getD j 0 = t ∧ v = nI j ∧ la s 17 t = nI j) := by
  by_cases z : t = 0
  · refine ⟨-1, ?_, .inl ⟨z, rfl⟩⟩
    rw [z, pN_0]
    unfold hX4_numberOf
    rw [if_pos rfl]
    rfl
  · have m := ht.resolve_left z
    obtain ⟨j, hj, e1, e2, e3⟩ := h.num m
    have lt := (h.liv hj).1
    rw [e1] at lt
    refine ⟨nI j, ?_, .inr ⟨m, z, j, hj, e1, rfl, e2⟩⟩
    rw [pN_s z]
    unfold hX4_numberOf
    rw [if_neg (by simp), kfI (h.w.nd _ lt).kn, gl_bs, e3]
    rfl
/-- what else a node holds -/
theorem Rd_else (h : pRd p al lu B N D L g ord α s) (hi : i < ord.length) (hk : la s 9 (ord.getD i 0) = nI k) (k0 : k < 100) (hx : k = 53 → ∃ u, u ∈ ord ∧ la s 12 (ord.getD i 0) = nI u) : ∃ v, hX4_node G (some p) (nI i) (nI 5) α = some (v, α) ∧ gX26_node (nI i) (nI 5) s = some (v, s) ∧ (26 ≤ k → k ≤ 38 → v = la s 12 (ord.getD i 0)) ∧ (k = 53 → ∃ j u, j < ord.length ∧ ord.getD j 0 = u ∧ la s 12 (ord.getD i 0) = nI u ∧ v = nI j) := by
  have len := h.len
  have N8 := h.N8
  have lt := (h.liv hi).1
  have bt := h.w.bd _ lt
  have o := h.w.nd _ lt
  have e0 : us s 0 (0 : Int32) = s := us_self h.m0
  have XA : hX4_node G (some p) (nI i) (nI 5) α = if ¬ nI k = 53 then if nI k < 26 then hX4_node_127 G α else if 38 < nI k then hX4_node_127 G α else (zfI α (some (g.oa (ord.getD i 0))) 44 2).bind fun x12 => hX4_node_128 G x12 α else (zfA α (some (g.oa (ord.getD i 0))) 44 7).bind fun r13 => (hX4_numberOf G r13 α).bind fun p14 => hX4_node_128 G p14.1 p14.2 := by
    unfold hX4_node
    rw [if_pos (of_eq_true (kis h.kp (by decide))), h.at hi, gl_bs, if_neg (by simp), if_neg (by decide), if_neg (by decide), if_neg (by decide), if_neg (by decide), if_neg (by decide), if_neg (by decide), if_pos (by decide), kfI o.kn, gl_bs, o.kd, hk, gl_bs, gl_bs]
  have MA : gX26_node (nI i) (nI 5) s = if ¬ nI k = 53 then (gX26_in (nI k) 26 38 s).bind fun p22 => if p22.1 = 0 then gX26_node_203 (- 1) p22.2 else (gld p22.2 12 8000 (nI (ord.getD i 0))).bind fun x24 => gX26_node_203 x24 p22.2 else (gld s 12 8000 (nI (ord.getD i 0))).bind fun x27 => (gld s 17 8000 x27).bind fun x28 => gX26_node_203 x28 s := by
    unfold gX26_node
    rw [gl_x, e0, if_neg (by rw [nl0, pI_lt (by omega) (by decide)]; omega), gl_x, h.td, if_pos (by rw [pI_lt (by omega) (by omega)]; exact hi), pgld (by omega) (by decide), gl_bs, h.od i hi, pgld (by omega) (by decide), gl_bs, if_neg (by decide), if_neg (by decide), if_neg (by decide), if_neg (by decide), if_neg (by decide), if_neg (by decide), if_pos (by decide), hk]
  have c53 : (nI k = 53) = (k = 53) := by rw [show (53 : Int32) = nI 53 from rfl, pI_inj (by omega) (by decide)]
  by_cases z : k = 53
  · obtain ⟨u, hu, eu⟩ := hx z
    have lu := (h.o.up u (by rw [List.append_nil]; exact hu)).1
    have bu := h.w.bd _ lu
    obtain ⟨j, hj, e1, e2, e3⟩ := h.num hu
    obtain ⟨u', lu', eu', xu'⟩ : ∃ u, L u ∧ la s 12 (ord.getD i 0) = nI u ∧ zA α 44 7 (g.oa (ord.getD i 0)) = some (g.oa u) := by
      rcases o.ex with y | y
      · exact y.2
      · exact absurd hk (by rw [z]; exact y.1)
    have bu' := h.w.bd _ lu'
    have uu : u' = u := by
      rw [eu, pI_inj (by omega) (by omega)] at eu'
      exact eu'.symm
    subst uu
    refine ⟨nI j, ?_, ?_, fun _ z2 => by omega, fun _ => ⟨j, u', hj, e1, eu, rfl⟩⟩
    · rw [XA, if_neg (by rw [c53]; exact fun y => y z), kfA o.kn, gl_bs, xu']
      unfold hX4_numberOf
      rw [if_neg (by simp), kfI (h.w.nd _ lu).kn, gl_bs, e3]
      rfl
    · rw [MA, if_neg (by rw [c53]; exact fun y => y z), pgld (by omega) (by decide), gl_bs, eu, pgld (by omega) (by decide), gl_bs, e2]
      rfl
  · have ex : zI α 44 2 (g.oa (ord.getD i 0)) = la s 12 (ord.getD i 0) := by
      rcases o.ex with y | y
      · refine absurd y.1 ?_
        rw [hk, pI_inj (by omega) (by decide)]
        exact z
      · exact y.2
    have c1 : (nI k < 26) = (k < 26) := by rw [show (26 : Int32) = nI 26 from rfl, pI_lt (by omega) (by decide)]
    have c2 : (38 < nI k) = (38 < k) := by rw [show (38 : Int32) = nI 38 from rfl, pI_lt (by decide) (by omega)]
    have MI : gX26_in (nI k) 26 38 s = some (nI (b2n (decide (26 ≤ k ∧ k ≤ 38))), s) := M_in (by omega) (by decide) (by decide)
    have n53 : ¬ nI k = 53 := by rw [c53]; exact z
    rw [if_pos n53] at XA MA
    rw [XA, MA, MI, gl_bs]
    by_cases y : 26 ≤ k ∧ k ≤ 38
    · refine ⟨la s 12 (ord.getD i 0), ?_, ?_, fun _ _ => rfl, fun z2 => absurd z2 z⟩
      · rw [if_neg (by rw [c1]; omega), if_neg (by rw [c2]; omega), kfI o.kn, gl_bs, ex]
        rfl
      · show (if nI (b2n (decide (26 ≤ k ∧ k ≤ 38))) = 0 then _ else _) = _
        rw [decide_eq_true y, if_neg (by decide), pgld (by omega) (by decide), gl_bs]
        rfl
    · refine ⟨-1, ?_, ?_, fun y1 y2 => absurd ⟨y1, y2⟩ y, fun z2 => absurd z2 z⟩
      · by_cases y1 : k < 26
        · rw [if_pos (by rw [c1]; exact y1)]
          rfl
        · rw [if_neg (by rw [c1]; exact y1), if_pos (by rw [c2]; omega)]
          rfl
      · show (if nI (b2n (decide (26 ≤ k ∧ k ≤ 38))) = 0 then _ else _) = _
        rw [decide_eq_false y, if_pos (by decide)]
        rfl
/-- the node that a unit holds: 0 the unit, 1 .. 3 its divisions -/
def pDv (D : pD) (k o : Nat) : Nat := if o = 0 then D.un k else if o = 1 then D.en k else if o = 2 then D.da k else D.pr k
theorem Rd_div {o : Nat} (h : pRd p al lu B N D L g ord α s) (hk : k < D.nu) (ho : o < 4) (hd : pDv D k o ∈ ord ∨ (pDv D k o = 0 ∧ o ≠ 0)) : ∃ v, hX4_division G (some p) (nI k) (nI o) α = some (v, α) ∧ gX26_division (nI k) (nI o) s = some (v, s) ∧ (pDv D k o = 0 ∧ v = -1 ∨ pDv D k o ≠ 0 ∧ ∃ j, j < ord.length ∧ ord.getD j 0 = pDv D k o ∧ v = nI j) := by
  have len := h.len
  have N8 := h.N8
  have u2 := h.u2
  have e0 : us s 0 (0 : Int32) = s := us_self h.m0
  have U := h.u k hk
  obtain ⟨v, x1, x2⟩ := Rd_no (G := G) h (t := pDv D k o) (hd.symm.imp And.left id)
  have gk : (zL α lu)[k]? = some (some (D.ou k)) := by
    rw [h.ul, List.getElem?_map, List.getElem?_eq_getElem (by rw [List.length_range]; exact hk), List.getElem_range]
    rfl
  have XA : hX4_division G (some p) (nI k) (nI o) α = if ¬ nI o = 0 then if ¬ nI o = 1 then if ¬ nI o = 2 then if ¬ nI o = 3 then hX4_division_80 G none α else (zfA α (some (D.ou k)) 43 8).bind fun r6 => hX4_division_80 G r6 α else (zfA α (some (D.ou k)) 43 5).bind fun r7 => hX4_division_80 G r7 α else (zfA α (some (D.ou k)) 43 4).bind fun r8 => hX4_division_80 G r8 α else (zfA α (some (D.ou k)) 43 1).bind fun r9 => (zfI α r9 44 3).bind fun x10 => hX4_division_83 G x10 α := by
    unfold hX4_division
    rw [if_neg (by rw [nl0, pI_lt (by omega) (by decide)]; omega), kfA h.kp, gl_bs, h.fu, kpLs h.ku, gl_bs, h.ul, List.length_map, List.length_range, if_pos (by rw [pI_lt (by omega) (by omega)]; exact hk), gl_bs, kpLg h.ku (by omega), gk, gl_bs, if_pos (kpco U.kn (by decide))]
  have MI : gX26_in (nI o) 0 3 s = some (nI (b2n (decide (0 ≤ o ∧ o ≤ 3))), s) := M_in (by omega) (by decide) (by decide)
  have MA : gX26_division (nI k) (nI o) s = if ¬ nI o = 0 then if ¬ nI o = 1 then if ¬ nI o = 2 then (gld s 25 600 (nI k)).bind fun x7 => gX26_division_75 x7 s else (gld s 24 600 (nI k)).bind fun x9 => gX26_division_75 x9 s else (gld s 23 600 (nI k)).bind fun x11 => gX26_division_75 x11 s else (gld s 22 600 (nI k)).bind fun x13 => gX26_division_75 x13 s := by
    unfold gX26_division
    rw [gl_x, e0, if_neg (by rw [nl0, pI_lt (by omega) (by decide)]; omega), gl_x, h.un, if_neg (by rw [pI_le (by omega) (by omega)]; omega), MI, gl_bs]
    show (if ¬ nI (b2n (decide (0 ≤ o ∧ o ≤ 3))) = 0 then _ else _) = _
    rw [decide_eq_true (by omega), if_pos (by decide)]
  have M75 : gX26_division_75 (nI (pDv D k o)) s = some (v, s) := by
    unfold gX26_division_75
    rcases x2 with ⟨y1, y2⟩ | ⟨y1, y0, j, hj, y2, y3, y4⟩
    · rw [y1, y2, if_pos (show nI 0 ≤ 0 from by decide)]
      rfl
    · have lt := (h.o.up _ (by rw [List.append_nil]; exact y1)).1
      have bt := h.w.bd _ lt
      rw [if_neg (by rw [nl0, pI_le (by omega) (by decide)]; omega), pgld (by omega) (by decide), gl_bs, y4, y3]
      rfl
  have X80 : hX4_division_80 G (pN g (pDv D k o)) α = some (v, α) := by
    unfold hX4_division_80
    rw [x1, gl_bs]
    rfl
  have o4 : o = 0 ∨ o = 1 ∨ o = 2 ∨ o = 3 := by omega
  refine ⟨v, ?_, ?_, x2.imp id fun z => ⟨z.2.1, z.2.2.elim fun j y => ⟨j, y.1, y.2.1, y.2.2.1⟩⟩⟩
  · rw [XA]
    rcases o4 with z | z | z | z
    · have m : D.un k ∈ ord := by
        rcases hd with y | y
        · rw [z] at y
          exact y
        · exact absurd z y.2
      subst z
      have lt := (h.o.up _ (by rw [List.append_nil]; exact m)).1
      have bt := h.w.bd _ lt
      obtain ⟨j, hj, e1, e2, e3⟩ := h.num m
      rw [if_neg (by decide), kfA U.kn, gl_bs, U.xu, kfI (h.w.nd _ lt).kn, gl_bs]
      rw [show pDv D k 0 = D.un k from rfl, pN_s (by omega)] at x1
      unfold hX4_numberOf at x1
      rw [if_neg (by simp), kfI (h.w.nd _ lt).kn, gl_bs] at x1
      exact x1
    · subst z
      rw [if_pos (by decide), if_neg (by decide), kfA U.kn, gl_bs, U.xe]
      exact X80
    · subst z
      rw [if_pos (by decide), if_pos (by decide), if_neg (by decide), kfA U.kn, gl_bs, U.xd]
      exact X80
    · subst z
      rw [if_pos (by decide), if_pos (by decide), if_pos (by decide), if_neg (by decide), kfA U.kn, gl_bs, U.xp]
      exact X80
  · rw [MA]
    rcases o4 with z | z | z | z
    · subst z
      rw [if_neg (by decide), pgld (by omega) (by decide), gl_bs, U.mu]
      exact M75
    · subst z
      rw [if_pos (by decide), if_neg (by decide), pgld (by omega) (by decide), gl_bs, U.me]
      exact M75
    · subst z
      rw [if_pos (by decide), if_pos (by decide), if_neg (by decide), pgld (by omega) (by decide), gl_bs, U.md]
      exact M75
    · subst z
      rw [if_pos (by decide), if_pos (by decide), if_pos (by decide), pgld (by omega) (by decide), gl_bs, U.mp]
      exact M75
end PAZZZH
