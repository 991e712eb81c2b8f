/-! THE PURE LAYER: the parser: nodes are numbered, both sides. -/
/-- nodes in order, each ahead of what lies below it -/
def preo (ch : Nat → List Nat) : Nat → List Nat → List Nat
  | 0, _ => []
  | _ + 1, [] => []
  | n + 1, t :: l => t :: preo ch n (ch t ++ l)
def nX (g : pG) (al : Nat) (α0 α : zS) (W : Nat) (vis stk : List Nat) : Prop := (zn α0 ≤ W ∧ W < zn α ∧ al < zn α0) ∧ (∀ x, x < zn α0 → zkd α x = zkd α0 x) ∧ (∀ c k x, x < zn α0 → x ≠ al → zA α c k x = zA α0 c k x) ∧ (∀ c k x, x < zn α0 → x ≠ al → ¬ (c = 44 ∧ (k = 3 ∨ k = 4)) → zI α c k x = zI α0 c k x) ∧ (∀ x, x < zn α0 → x ≠ al → zL α x = zL α0 x) ∧ (∀ x, x < zn α0 → x ≠ al → zkd α0 x ≠ 45 → α.2 x = α0.2 x) ∧ (zkd α W = 3) ∧ (zL α W = stk.reverse.map fun u => some (g.oa u)) ∧ (zkd α al = 3) ∧ (zL α al = vis.map fun u => some (g.oa u)) ∧ (∀ i, i < vis.length → zI α 44 3 (g.oa (vis.getD i 0)) = nI i) ∧ (zc α ≤ zc α0 + 2 + 2 * vis.length + stk.length) ∧ (zw α ≤ zw α0 + 14 + 14 * vis.length + 7 * stk.length)
theorem nX.nz {g : pG} {al : Nat} {α0 α : zS} {W : Nat} {vis stk : List Nat} (h : nX g al α0 α W vis stk) : zn α0 ≤ W ∧ W < zn α ∧ al < zn α0 := by
  unfold nX at h
  exact h.1
theorem nX.kd {g : pG} {al : Nat} {α0 α : zS} {W : Nat} {vis stk : List Nat} (h : nX g al α0 α W vis stk) : ∀ x, x < zn α0 → zkd α x = zkd α0 x := by
  unfold nX at h
  exact h.2.1
theorem nX.A {g : pG} {al : Nat} {α0 α : zS} {W : Nat} {vis stk : List Nat} (h : nX g al α0 α W vis stk) : ∀ c k x, x < zn α0 → x ≠ al → zA α c k x = zA α0 c k x := by
  unfold nX at h
  exact h.2.2.1
theorem nX.I {g : pG} {al : Nat} {α0 α : zS} {W : Nat} {vis stk : List Nat} (h : nX g al α0 α W vis stk) : ∀ c k x, x < zn α0 → x ≠ al → ¬ (c = 44 ∧ (k = 3 ∨ k = 4)) → zI α c k x = zI α0 c k x := by
  unfold nX at h
  exact h.2.2.2.1
theorem nX.Ls {g : pG} {al : Nat} {α0 α : zS} {W : Nat} {vis stk : List Nat} (h : nX g al α0 α W vis stk) : ∀ x, x < zn α0 → x ≠ al → zL α x = zL α0 x := by
  unfold nX at h
  exact h.2.2.2.2.1
theorem nX.fr {g : pG} {al : Nat} {α0 α : zS} {W : Nat} {vis stk : List Nat} (h : nX g al α0 α W vis stk) : ∀ x, x < zn α0 → x ≠ al → zkd α0 x ≠ 45 → α.2 x = α0.2 x := by
  unfold nX at h
  exact h.2.2.2.2.2.1
theorem nX.kW {g : pG} {al : Nat} {α0 α : zS} {W : Nat} {vis stk : List Nat} (h : nX g al α0 α W vis stk) : zkd α W = 3 := by
  unfold nX at h
  exact h.2.2.2.2.2.2.1
theorem nX.lW {g : pG} {al : Nat} {α0 α : zS} {W : Nat} {vis stk : List Nat} (h : nX g al α0 α W vis stk) : zL α W = stk.reverse.map fun u => some (g.oa u) := by
  unfold nX at h
  exact h.2.2.2.2.2.2.2.1
theorem nX.ka {g : pG} {al : Nat} {α0 α : zS} {W : Nat} {vis stk : List Nat} (h : nX g al α0 α W vis stk) : zkd α al = 3 := by
  unfold nX at h
  exact h.2.2.2.2.2.2.2.2.1
theorem nX.la {g : pG} {al : Nat} {α0 α : zS} {W : Nat} {vis stk : List Nat} (h : nX g al α0 α W vis stk) : zL α al = vis.map fun u => some (g.oa u) := by
  unfold nX at h
  exact h.2.2.2.2.2.2.2.2.2.1
theorem nX.nr {g : pG} {al : Nat} {α0 α : zS} {W : Nat} {vis stk : List Nat} (h : nX g al α0 α W vis stk) : ∀ i, i < vis.length → zI α 44 3 (g.oa (vis.getD i 0)) = nI i := by
  unfold nX at h
  exact h.2.2.2.2.2.2.2.2.2.2.1
theorem nX.zb {g : pG} {al : Nat} {α0 α : zS} {W : Nat} {vis stk : List Nat} (h : nX g al α0 α W vis stk) : zc α ≤ zc α0 + 2 + 2 * vis.length + stk.length := by
  unfold nX at h
  exact h.2.2.2.2.2.2.2.2.2.2.2.1
theorem nX.wb {g : pG} {al : Nat} {α0 α : zS} {W : Nat} {vis stk : List Nat} (h : nX g al α0 α W vis stk) : zw α ≤ zw α0 + 14 + 14 * vis.length + 7 * stk.length := by
  unfold nX at h
  exact h.2.2.2.2.2.2.2.2.2.2.2.2
theorem nX.mk {g : pG} {al : Nat} {α0 α : zS} {W : Nat} {vis stk : List Nat} (x0 : zn α0 ≤ W ∧ W < zn α ∧ al < zn α0) (x1 : ∀ x, x < zn α0 → zkd α x = zkd α0 x) (x2 : ∀ c k x, x < zn α0 → x ≠ al → zA α c k x = zA α0 c k x) (x3 : ∀ c k x, x < zn α0 → x ≠ al → ¬ (c = 44 ∧ (k = 3 ∨ k = 4)) → zI α c k x = zI α0 c k x) (x4 : ∀ x, x < zn α0 → x ≠ al → zL α x = zL α0 x) (x5 : ∀ x, x < zn α0 → x ≠ al → zkd α0 x ≠ 45 → α.2 x = α0.2 x) (x6 : zkd α W = 3) (x7 : zL α W = stk.reverse.map fun u => some (g.oa u)) (x8 : zkd α al = 3) (x9 : zL α al = vis.map fun u => some (g.oa u)) (x10 : ∀ i, i < vis.length → zI α 44 3 (g.oa (vis.getD i 0)) = nI i) (x11 : zc α ≤ zc α0 + 2 + 2 * vis.length + stk.length) (x12 : zw α ≤ zw α0 + 14 + 14 * vis.length + 7 * stk.length) : nX g al α0 α W vis stk := by
  unfold nX
  exact ⟨x0, x1, x2, x3, x4, x5, x6, x7, x8, x9, x10, x11, x12⟩
section PAZZZB
variable {L L2 : Nat → Prop} {c : pC} {D D' : pD} {G : xQ} {α β γ α0 : zS} {s s' s0 s1 : zM} {B a a1 b d e f l m n N N' F F' p q t to u x y k i j w wh lv S r al W : Nat} {g g' g2 : pG} {v v' x1 x3 : Int32} {rt vis cs stk l1 l2 A1 B1 : List Nat} {fn : Nat → Nat} {r0 : Option Nat}
/-- a row of nodes is laid on the pile, the last one first -/
theorem X_push (kn : zkd α q = 45) (fl : zA α 44 8 q = some k) (kl : zkd α k = 3) (Ls : zL α k = cs.map fun u => some (fn u)) (hW : W ≠ q ∧ W ≠ k) (kc : ∀ u, u ∈ cs → zkd α (fn u) = 45 ∧ fn u ≠ W) : ∀ j, j ≤ cs.length → ∀ {α' : zS} {Fx : Nat}, j < Fx → (∀ x, x ≠ W → α'.2 x = α.2 x) → zkd α' W = 3 → (zL α' W).length + j < 1000000 → ∃ β, zloop (fun (a : ((Option Nat) × (Option Nat) × (Option Nat) × Int32)) σ => hX4_number_119b G a.1 a.2.1 a.2.2.1 a.2.2.2 σ) Fx (r0, some W, some q, nI j - nI 1) α' = some (.inl (r0, some W), β) ∧ zL β W = zL α' W ++ (cs.take j).reverse.map (fun u => some (fn u)) ∧ (∀ x, x ≠ W → β.2 x = α.2 x) ∧ zkd β W = 3 ∧ zn α' ≤ zn β ∧ zc β = zc α' + j ∧ zw β = zw α' + 7 * j := by
  intro j
  induction j with
  | zero =>
    intro _ α' Fx hF fr kW hl
    obtain ⟨fx, rfl⟩ : ∃ x, Fx = x + 1 := ⟨Fx - 1, by omega⟩
    refine ⟨α', zloop_in ?_, by simp, fr, kW, Nat.le_refl _, rfl, rfl⟩
    unfold hX4_number_119b
    rw [if_pos (show nI 0 - nI 1 < 0 from by decide)]
  | succ j ih =>
    intro hj α' Fx hF fr kW hl
    obtain ⟨fx, rfl⟩ : ∃ x, Fx = x + 1 := ⟨Fx - 1, by omega⟩
    have eq := fr q (fun z => hW.1 z.symm)
    have ek := fr k (fun z => hW.2 z.symm)
    have cm : cs[j] ∈ cs := List.getElem_mem _
    obtain ⟨k1, k2⟩ := kc _ cm
    have gk : (zL α' k)[j]? = some (some (fn cs[j])) := by
      rw [zL_eq ek, Ls, List.getElem?_map, List.getElem?_eq_getElem (by omega)]
      rfl
    obtain ⟨β1, z1, z2, z3, z4, z5, z6, z7, z8⟩ := zLadd_at (x := some (fn cs[j])) kW (by omega)
    obtain ⟨β, y1, y2, y3, y4, y5, y6, y7⟩ := ih (by omega) (α' := β1) (Fx := fx) (by omega) (fun x hx => (z4 x hx).trans (fr x hx)) z2 (by rw [z3, List.length_append]; simp only [List.length_cons, List.length_nil]; omega)
    refine ⟨β, ?_, ?_, y3, y4, by omega, by omega, by omega⟩
    · rw [zloop_step (a' := (r0, some W, some q, nI j - nI 1)) (α' := β1)]
      · exact y1
      · unfold hX4_number_119b
        rw [pI_sub (by omega), Nat.add_sub_cancel, if_neg (by rw [nl0, pI_lt (by omega) (by decide)]; omega), kfA (by rw [zkd_eq eq]; exact kn), gl_bs, zA_eq eq, fl, kpLg (by rw [zkd_eq ek]; exact kl) (by omega), gk, gl_bs, if_pos (kpco (by rw [zkd_eq (fr _ k2)]; exact k1) (by decide)), z1, gl_bs, pI_dec1]
    · rw [y2, z3, List.append_assoc]
      congr 1
      rw [List.take_succ, List.getElem?_eq_getElem (by omega), List.reverse_append, List.map_append]
      rfl
/-- one turn of X's loop -/
theorem X_num44b (h : nX g al α0 α W vis (t :: stk)) (hk : vis.length < 10000) (hs : stk.length + (g.ch t).length < 900000) (kp : zkd α0 p = 41) (pz : p < zn α0) (pal : zA α0 40 14 p = some al) (o : wOk L q g α0 s0 t) (hz : g.oa t + 2 < zn α0) (kc : ∀ u, u ∈ g.ch t → zkd α0 (g.oa u) = 45 ∧ g.oa u < zn α0) (hup : zA α0 44 6 (g.oa t) = none ∨ ∃ y, zA α0 44 6 (g.oa t) = some y ∧ zkd α0 y = 45 ∧ y < zn α0) (hal : al ≠ g.oa t ∧ al ≠ g.oa t + 1) (kal : zkd α0 al = 3) (hnew : ∀ i, i < vis.length → g.oa (vis.getD i 0) ≠ g.oa t) (hvz : ∀ i, i < vis.length → g.oa (vis.getD i 0) < zn α0 ∧ g.oa (vis.getD i 0) ≠ al) : ∃ β, hX4_number_44b G (some p) (some W) α = some (.inl (some p, some W), β) ∧ nX g al α0 β W (vis ++ [t]) (g.ch t ++ stk) := by
  obtain ⟨nz1, nz2, nz3⟩ := h.nz
  have lW := h.lW
  rw [List.reverse_cons, List.map_append] at lW
  have lenW : (zL α W).length = stk.length + 1 := by rw [lW, List.length_append, List.length_map, List.length_reverse]; rfl
  have last : (zL α W)[stk.length]'(by omega) = some (g.oa t) := by
    have : (zL α W)[stk.length]? = some (some (g.oa t)) := by
      rw [lW, List.getElem?_append_right (by rw [List.length_map, List.length_reverse]; exact Nat.le_refl _), List.length_map, List.length_reverse, Nat.sub_self]
      rfl
    rw [List.getElem?_eq_getElem (by omega)] at this
    exact Option.some.inj this
  have R := kpLr (k := stk.length) h.kW (by omega) (by omega)
  rw [last] at R
  have ls1 : zL (zsL α W 0 0 0 (zB α W) (zC α W) ((zL α W).eraseIdx stk.length) (zm α W + 1)) W = stk.reverse.map fun u => some (g.oa u) := by
    rw [zL_zsL, if_pos rfl, List.eraseIdx_eq_take_drop_succ, List.drop_of_length_le (by omega), List.append_nil, lW, List.take_append_of_le_length (by rw [List.length_map, List.length_reverse]; exact Nat.le_refl _), List.take_of_length_le (by rw [List.length_map, List.length_reverse]; exact Nat.le_refl _)]
  have f1 : ∀ x, x ≠ W → (zsL α W 0 0 0 (zB α W) (zC α W) ((zL α W).eraseIdx stk.length) (zm α W + 1)).2 x = α.2 x := fun x hx => zsL_ne hx
  have k1 : ∀ x, zkd (zsL α W 0 0 0 (zB α W) (zC α W) ((zL α W).eraseIdx stk.length) (zm α W + 1)) x = zkd α x := fun x => by rw [zkd_zsL]
  have n1 : zn (zsL α W 0 0 0 (zB α W) (zC α W) ((zL α W).eraseIdx stk.length) (zm α W + 1)) = zn α := rfl
  have c1 : zc (zsL α W 0 0 0 (zB α W) (zC α W) ((zL α W).eraseIdx stk.length) (zm α W + 1)) = zc α := rfl
  have w1 : zw (zsL α W 0 0 0 (zB α W) (zC α W) ((zL α W).eraseIdx stk.length) (zm α W + 1)) = zw α := rfl
  have X0 : hX4_number_44b G (some p) (some W) α = if zco G (zsL α W 0 0 0 (zB α W) (zC α W) ((zL α W).eraseIdx stk.length) (zm α W + 1)) (some (g.oa t)) [45] = true then
      (zfA (zsL α W 0 0 0 (zB α W) (zC α W) ((zL α W).eraseIdx stk.length) (zm α W + 1)) (some p) 40 14).bind fun r13 =>
      (zLsize (zsL α W 0 0 0 (zB α W) (zC α W) ((zL α W).eraseIdx stk.length) (zm α W + 1)) r13).bind fun x14 =>
      (zpI (zsL α W 0 0 0 (zB α W) (zC α W) ((zL α W).eraseIdx stk.length) (zm α W + 1)) (some (g.oa t)) 44 3 x14).bind fun σ15 =>
      (zfA σ15 (some (g.oa t)) 44 6).bind fun r16 =>
      if r16 = none then
        hX4_number_97 G (some p) (some W) (some (g.oa t)) 1 (some (g.oa t)) σ15
      else
        (zfA σ15 (some (g.oa t)) 44 6).bind fun r17 =>
        (zfI σ15 r17 44 4).bind fun x18 =>
        hX4_number_97 G (some p) (some W) (some (g.oa t)) (x18 + (1 : Int32)) (some (g.oa t)) σ15
    else none := by
    unfold hX4_number_44b
    have em : zLempty α (some W) = some 0 := by
      show (if zkd α W = 3 then some (if zL α W = [] then (1 : Int32) else 0) else none) = _
      rw [if_pos h.kW, if_neg (fun z => by rw [z] at lenW; simp at lenW)]
    rw [em, gl_bs, if_neg (show ¬ ¬ (0 : Int32) = 0 from fun z => z rfl), kpLs h.kW, gl_bs, lenW, nl1, pI_sub (by omega), Nat.add_sub_cancel, R, gl_bs]
    rfl
  rw [X0]
  have kt : zkd α (g.oa t) = 45 := by rw [h.kd _ (by omega)]; exact o.kn
  have ktl : zkd α (g.oa t + 1) = 3 := by rw [h.kd _ (by omega)]; exact o.kl
  have kpα : zkd α p = 41 := by rw [h.kd _ pz]; exact kp
  have alp : p ≠ al := fun z => by rw [z, kal] at kp; omega
  have palα : zA α 40 14 p = some al := by rw [h.A _ _ _ pz alp]; exact pal
  have Wp : p ≠ W := by omega
  have Wal : al ≠ W := by omega
  have tal : g.oa t ≠ al := fun z => hal.1 z.symm
  generalize hα1 : zsL α W 0 0 0 (zB α W) (zC α W) ((zL α W).eraseIdx stk.length) (zm α W + 1) = α1 at *
  have kt1 : zkd α1 (g.oa t) = 45 := by rw [k1]; exact kt
  have kp1 : zkd α1 p = 41 := by rw [k1]; exact kpα
  have ka1 : zkd α1 al = 3 := by rw [k1]; exact h.ka
  have la1 : zL α1 al = vis.map fun u => some (g.oa u) := by rw [zL_eq (f1 _ Wal)]; exact h.la
  have pal1 : zA α1 40 14 p = some al := by rw [zA_eq (f1 _ Wp)]; exact palα
  have E97 : ∀ d, ∃ β, hX4_number_97 G (some p) (some W) (some (g.oa t)) d (some (g.oa t)) (zwI α1 44 3 (g.oa t) (nI vis.length)) = some (.inl (some p, some W), β) ∧ nX g al α0 β W (vis ++ [t]) (g.ch t ++ stk) := fun d => by
    obtain ⟨β1, z1, z2, z3, z4, z5, z6, z7, z8⟩ := zLadd_at (α := zwI (zwI α1 44 3 (g.oa t) (nI vis.length)) 44 4 (g.oa t) d) (a := al) (x := some (g.oa t)) (by rw [zkd_zwI, zkd_zwI]; exact ka1) (by rw [zL_zwI, zL_zwI, la1, List.length_map]; omega)
    have z5' : zn α1 ≤ zn β1 := z5
    have z7' : zc β1 = zc α1 + 1 := z7
    have z8' : zw β1 = zw α1 + 7 := z8
    have f2 : ∀ x, x ≠ g.oa t → x ≠ al → β1.2 x = α1.2 x := fun x hx1 hx2 => by rw [z4 x hx2, zwI_ne hx1, zwI_ne hx1]
    have et : β1.2 (g.oa t) = (zwI (zwI α1 44 3 (g.oa t) (nI vis.length)) 44 4 (g.oa t) d).2 (g.oa t) := z4 _ (fun z => hal.1 z.symm)
    have ktβ : zkd β1 (g.oa t) = 45 := by rw [zkd_eq et, zkd_zwI, zkd_zwI]; exact kt1
    have flβ : zA β1 44 8 (g.oa t) = some (g.oa t + 1) := by rw [zA_eq et, zA_zwI, zA_zwI, zA_eq (f1 _ (by omega)), h.A _ _ _ (by omega) tal]; exact o.fl
    have etl : β1.2 (g.oa t + 1) = α1.2 (g.oa t + 1) := f2 _ (by omega) (fun z => hal.2 z.symm)
    have klβ : zkd β1 (g.oa t + 1) = 3 := by rw [zkd_eq etl, k1]; exact ktl
    have lsβ : zL β1 (g.oa t + 1) = (g.ch t).map fun u => some (g.oa u) := by rw [zL_eq etl, zL_eq (f1 _ (by omega)), h.Ls _ (by omega) (fun z => hal.2 z.symm)]; exact o.ls
    have kdβ : ∀ x, zkd β1 x = zkd α x := fun x => by
      by_cases e1 : x = al
      · rw [e1, z2]; exact h.ka.symm
      · by_cases e2 : x = g.oa t
        · rw [e2, ktβ, kt]
        · rw [zkd_eq (f2 x e2 e1), k1]
    have eW : β1.2 W = α1.2 W := f2 _ (by omega) (fun z => Wal z.symm)
    obtain ⟨β, y1, y2, y3, y4, y5, y6, y7⟩ := X_push (G := G) (r0 := some p) (W := W) ktβ flβ klβ lsβ ⟨by omega, by omega⟩ (fun u hu => by
      obtain ⟨u1, u2⟩ := kc u hu
      exact ⟨by rw [kdβ, h.kd _ u2]; exact u1, by omega⟩) (g.ch t).length (Nat.le_refl _) (α' := β1) (Fx := xLim) (zlim (by omega)) (fun _ _ => rfl) (by rw [kdβ]; exact h.kW) (by rw [zL_eq eW, ls1, List.length_map, List.length_reverse]; omega)
    refine ⟨β, ?_, ?_⟩
    · unfold hX4_number_97
      rw [kpI (by rw [zkd_zwI]; exact kt1), gl_bs, kfA (by rw [zkd_zwI, zkd_zwI]; exact kp1), gl_bs, zA_zwI, zA_zwI, pal1, z1, gl_bs]
      show Option.bind (zfA β1 (some (g.oa t)) 44 8) _ = _
      rw [kfA ktβ, gl_bs, flβ, kpLs klβ, gl_bs, lsβ, List.length_map, gl_x, nl1]
      exact y1
    · have fβ : ∀ x, x < zn α0 → x ≠ g.oa t → x ≠ al → β.2 x = α.2 x := fun x hx h1 h2 => by rw [y3 x (by omega), f2 x h1 h2, f1 x (by omega)]
      have etβ : β.2 (g.oa t) = (zwI (zwI α1 44 3 (g.oa t) (nI vis.length)) 44 4 (g.oa t) d).2 (g.oa t) := by rw [y3 _ (by omega)]; exact et
      have ealβ : β.2 al = β1.2 al := y3 _ Wal
      refine nX.mk ⟨nz1, by omega, nz3⟩ (fun x hx => ?_) (fun cc kk x hx ha => ?_) (fun cc kk x hx ha hne => ?_) (fun x hx hne => ?_) (fun x hx h1 h2 => ?_) y4 ?_ ?_ ?_ (fun i hi => ?_) ?_ ?_
      · rw [zkd_eq (y3 x (by omega)), kdβ, h.kd x hx]
      · by_cases e2 : x = g.oa t
        · rw [e2, zA_eq etβ, zA_zwI, zA_zwI, zA_eq (f1 _ (by omega)), h.A _ _ _ (by omega) tal]
        · rw [zA_eq (fβ x hx e2 ha), h.A _ _ _ hx ha]
      · by_cases e2 : x = g.oa t
        · rw [e2, zI_eq etβ, zI_zwI, if_neg (fun z => hne ⟨z.1, .inr z.2.1⟩), zI_zwI, if_neg (fun z => hne ⟨z.1, .inl z.2.1⟩), zI_eq (f1 _ (by omega)), h.I _ _ _ (by omega) tal hne]
        · rw [zI_eq (fβ x hx e2 ha), h.I _ _ _ hx ha hne]
      · by_cases e2 : x = g.oa t
        · rw [e2, zL_eq etβ, zL_zwI, zL_zwI, zL_eq (f1 _ (by omega)), h.Ls _ (by omega) (fun z => hal.1 z.symm)]
        · rw [zL_eq (fβ x hx e2 hne), h.Ls _ hx hne]
      · have e2 : x ≠ g.oa t := fun z => by rw [z] at h2; exact h2 o.kn
        rw [fβ x hx e2 h1]
        exact h.fr x hx h1 h2
      · rw [y2, zL_eq eW, ls1, List.reverse_append, List.map_append, List.take_of_length_le (Nat.le_refl _)]
      · rw [zkd_eq ealβ]; exact z2
      · rw [zL_eq ealβ, z3, zL_zwI, zL_zwI, la1, List.map_append]
        rfl
      · rw [List.length_append] at hi
        have hi' : i < vis.length + 1 := hi
        by_cases z : i = vis.length
        · rw [z, List.getD_eq_getElem?_getD, List.getElem?_append_right (Nat.le_refl _), Nat.sub_self]
          show zI β 44 3 (g.oa t) = _
          rw [zI_eq etβ, zI_zwI, if_neg (fun z => absurd z.2.1 (by decide)), zI_zwI, if_pos ⟨rfl, rfl, rfl⟩]
        · have ev : (vis ++ [t]).getD i 0 = vis.getD i 0 := by
            rw [List.getD_eq_getElem?_getD, List.getD_eq_getElem?_getD, List.getElem?_append_left (by omega)]
          have i1 := hnew i (by omega)
          have i2 := hvz i (by omega)
          rw [ev, zI_eq (fβ _ i2.1 i1 i2.2)]
          exact h.nr i (by omega)
      · have := h.zb
        rw [List.length_append, List.length_append]
        simp only [List.length_cons, List.length_nil] at *
        omega
      · have := h.wb
        rw [List.length_append, List.length_append]
        simp only [List.length_cons, List.length_nil] at *
        omega
  rw [if_pos (kpco kt1 (by decide)), kfA kp1, gl_bs, pal1, kpLs ka1, gl_bs, la1, List.length_map, kpI kt1, gl_bs, kfA (by rw [zkd_zwI]; exact kt1), gl_bs, zA_zwI, zA_eq (f1 _ (by omega)), h.A _ _ _ (by omega) tal]
  rcases hup with hup | ⟨y, hup, hy1, hy2⟩
  · rw [hup, if_pos rfl]
    exact E97 _
  · rw [hup, if_neg (by simp), gl_bs, kfI (by rw [zkd_zwI, k1, h.kd _ hy2]; exact hy1), gl_bs]
    exact E97 _
end PAZZZB
