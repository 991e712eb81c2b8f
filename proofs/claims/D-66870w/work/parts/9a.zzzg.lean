/-! THE PURE LAYER: the parser: a tree that can be read. -/
def pRd (p al lu B N : Nat) (D : pD) (L : Nat → Prop) (g : pG) (ord : List Nat) (α : zS) (s : zM) : Prop := (zkd α p = 41) ∧ (zA α 40 14 p = some al) ∧ (zA α 40 12 p = some lu) ∧ (zkd α al = 3) ∧ (zkd α lu = 3) ∧ (zL α al = ord.map fun u => some (g.oa u)) ∧ (zL α lu = (List.range D.nu).map fun k => some (D.ou k)) ∧ (zI α 40 7 p = nI 0) ∧ (ls s 5 = nI 0) ∧ (ls s 0 = nI 0) ∧ (ls s 19 = nI ord.length) ∧ (ls s 20 = nI D.nu) ∧ (D.nu ≤ 300) ∧ (∀ i, i < ord.length → la s 18 i = nI (ord.getD i 0)) ∧ (∀ i, i < ord.length → la s 17 (ord.getD i 0) = nI i ∧ zI α 44 3 (g.oa (ord.getD i 0)) = nI i) ∧ (gW L N B g α s) ∧ (N ≤ 8000) ∧ (nO L D.rt g.ch ord []) ∧ (∀ u, u ∈ D.rt → zA α 44 6 (g.oa u) = none ∧ la s 16 u = nI 0) ∧ (∀ k, k < D.nu → uOk D L B g α s k)
theorem pRd.kp {p al lu B N : Nat} {D : pD} {L : Nat → Prop} {g : pG} {ord : List Nat} {α : zS} {s : zM} (h : pRd p al lu B N D L g ord α s) : zkd α p = 41 := by
  unfold pRd at h
  exact h.1
theorem pRd.fl {p al lu B N : Nat} {D : pD} {L : Nat → Prop} {g : pG} {ord : List Nat} {α : zS} {s : zM} (h : pRd p al lu B N D L g ord α s) : zA α 40 14 p = some al := by
  unfold pRd at h
  exact h.2.1
theorem pRd.fu {p al lu B N : Nat} {D : pD} {L : Nat → Prop} {g : pG} {ord : List Nat} {α : zS} {s : zM} (h : pRd p al lu B N D L g ord α s) : zA α 40 12 p = some lu := by
  unfold pRd at h
  exact h.2.2.1
theorem pRd.kl {p al lu B N : Nat} {D : pD} {L : Nat → Prop} {g : pG} {ord : List Nat} {α : zS} {s : zM} (h : pRd p al lu B N D L g ord α s) : zkd α al = 3 := by
  unfold pRd at h
  exact h.2.2.2.1
theorem pRd.ku {p al lu B N : Nat} {D : pD} {L : Nat → Prop} {g : pG} {ord : List Nat} {α : zS} {s : zM} (h : pRd p al lu B N D L g ord α s) : zkd α lu = 3 := by
  unfold pRd at h
  exact h.2.2.2.2.1
theorem pRd.ll {p al lu B N : Nat} {D : pD} {L : Nat → Prop} {g : pG} {ord : List Nat} {α : zS} {s : zM} (h : pRd p al lu B N D L g ord α s) : zL α al = ord.map fun u => some (g.oa u) := by
  unfold pRd at h
  exact h.2.2.2.2.2.1
theorem pRd.ul {p al lu B N : Nat} {D : pD} {L : Nat → Prop} {g : pG} {ord : List Nat} {α : zS} {s : zM} (h : pRd p al lu B N D L g ord α s) : zL α lu = (List.range D.nu).map fun k => some (D.ou k) := by
  unfold pRd at h
  exact h.2.2.2.2.2.2.1
theorem pRd.f7 {p al lu B N : Nat} {D : pD} {L : Nat → Prop} {g : pG} {ord : List Nat} {α : zS} {s : zM} (h : pRd p al lu B N D L g ord α s) : zI α 40 7 p = nI 0 := by
  unfold pRd at h
  exact h.2.2.2.2.2.2.2.1
theorem pRd.m5 {p al lu B N : Nat} {D : pD} {L : Nat → Prop} {g : pG} {ord : List Nat} {α : zS} {s : zM} (h : pRd p al lu B N D L g ord α s) : ls s 5 = nI 0 := by
  unfold pRd at h
  exact h.2.2.2.2.2.2.2.2.1
theorem pRd.m0 {p al lu B N : Nat} {D : pD} {L : Nat → Prop} {g : pG} {ord : List Nat} {α : zS} {s : zM} (h : pRd p al lu B N D L g ord α s) : ls s 0 = nI 0 := by
  unfold pRd at h
  exact h.2.2.2.2.2.2.2.2.2.1
theorem pRd.td {p al lu B N : Nat} {D : pD} {L : Nat → Prop} {g : pG} {ord : List Nat} {α : zS} {s : zM} (h : pRd p al lu B N D L g ord α s) : ls s 19 = nI ord.length := by
  unfold pRd at h
  exact h.2.2.2.2.2.2.2.2.2.2.1
theorem pRd.un {p al lu B N : Nat} {D : pD} {L : Nat → Prop} {g : pG} {ord : List Nat} {α : zS} {s : zM} (h : pRd p al lu B N D L g ord α s) : ls s 20 = nI D.nu := by
  unfold pRd at h
  exact h.2.2.2.2.2.2.2.2.2.2.2.1
theorem pRd.u2 {p al lu B N : Nat} {D : pD} {L : Nat → Prop} {g : pG} {ord : List Nat} {α : zS} {s : zM} (h : pRd p al lu B N D L g ord α s) : D.nu ≤ 300 := by
  unfold pRd at h
  exact h.2.2.2.2.2.2.2.2.2.2.2.2.1
theorem pRd.od {p al lu B N : Nat} {D : pD} {L : Nat → Prop} {g : pG} {ord : List Nat} {α : zS} {s : zM} (h : pRd p al lu B N D L g ord α s) : ∀ i, i < ord.length → la s 18 i = nI (ord.getD i 0) := by
  unfold pRd at h
  exact h.2.2.2.2.2.2.2.2.2.2.2.2.2.1
theorem pRd.nr {p al lu B N : Nat} {D : pD} {L : Nat → Prop} {g : pG} {ord : List Nat} {α : zS} {s : zM} (h : pRd p al lu B N D L g ord α s) : ∀ i, i < ord.length → la s 17 (ord.getD i 0) = nI i ∧ zI α 44 3 (g.oa (ord.getD i 0)) = nI i := by
  unfold pRd at h
  exact h.2.2.2.2.2.2.2.2.2.2.2.2.2.2.1
theorem pRd.w {p al lu B N : Nat} {D : pD} {L : Nat → Prop} {g : pG} {ord : List Nat} {α : zS} {s : zM} (h : pRd p al lu B N D L g ord α s) : gW L N B g α s := by
  unfold pRd at h
  exact h.2.2.2.2.2.2.2.2.2.2.2.2.2.2.2.1
theorem pRd.N8 {p al lu B N : Nat} {D : pD} {L : Nat → Prop} {g : pG} {ord : List Nat} {α : zS} {s : zM} (h : pRd p al lu B N D L g ord α s) : N ≤ 8000 := by
  unfold pRd at h
  exact h.2.2.2.2.2.2.2.2.2.2.2.2.2.2.2.2.1
theorem pRd.o {p al lu B N : Nat} {D : pD} {L : Nat → Prop} {g : pG} {ord : List Nat} {α : zS} {s : zM} (h : pRd p al lu B N D L g ord α s) : nO L D.rt g.ch ord [] := by
  unfold pRd at h
  exact h.2.2.2.2.2.2.2.2.2.2.2.2.2.2.2.2.2.1
theorem pRd.rt {p al lu B N : Nat} {D : pD} {L : Nat → Prop} {g : pG} {ord : List Nat} {α : zS} {s : zM} (h : pRd p al lu B N D L g ord α s) : ∀ u, u ∈ D.rt → zA α 44 6 (g.oa u) = none ∧ la s 16 u = nI 0 := by
  unfold pRd at h
  exact h.2.2.2.2.2.2.2.2.2.2.2.2.2.2.2.2.2.2.1
theorem pRd.u {p al lu B N : Nat} {D : pD} {L : Nat → Prop} {g : pG} {ord : List Nat} {α : zS} {s : zM} (h : pRd p al lu B N D L g ord α s) : ∀ k, k < D.nu → uOk D L B g α s k := by
  unfold pRd at h
  exact h.2.2.2.2.2.2.2.2.2.2.2.2.2.2.2.2.2.2.2
theorem pRd.mk {p al lu B N : Nat} {D : pD} {L : Nat → Prop} {g : pG} {ord : List Nat} {α : zS} {s : zM} (x0 : zkd α p = 41) (x1 : zA α 40 14 p = some al) (x2 : zA α 40 12 p = some lu) (x3 : zkd α al = 3) (x4 : zkd α lu = 3) (x5 : zL α al = ord.map fun u => some (g.oa u)) (x6 : zL α lu = (List.range D.nu).map fun k => some (D.ou k)) (x7 : zI α 40 7 p = nI 0) (x8 : ls s 5 = nI 0) (x9 : ls s 0 = nI 0) (x10 : ls s 19 = nI ord.length) (x11 : ls s 20 = nI D.nu) (x12 : D.nu ≤ 300) (x13 : ∀ i, i < ord.length → la s 18 i = nI (ord.getD i 0)) (x14 : ∀ i, i < ord.length → la s 17 (ord.getD i 0) = nI i ∧ zI α 44 3 (g.oa (ord.getD i 0)) = nI i) (x15 : gW L N B g α s) (x16 : N ≤ 8000) (x17 : nO L D.rt g.ch ord []) (x18 : ∀ u, u ∈ D.rt → zA α 44 6 (g.oa u) = none ∧ la s 16 u = nI 0) (x19 : ∀ k, k < D.nu → uOk D L B g α s k) : pRd p al lu B N D L g ord α s := by
  unfold pRd
  exact ⟨x0, x1, x2, x3, x4, x5, x6, x7, x8, x9, x10, x11, x12, x13, x14, x15, x16, x17, x18, x19⟩
section PAZZZG
variable {L L2 : Nat → Prop} {c : pC} {D D' : pD} {G : xQ} {α β β1 γ α0 : zS} {s s' s0 s1 : zM} {B a a1 b d e f l lu m n N N' F F' p q t to u x y k i j w wh lv S r al W : Nat} {g g' g2 : pG} {v v' x1 x3 : Int32} {rt vis cs stk l1 l2 A1 B1 ord : List Nat} {fn : Nat → Nat} {r0 : Option Nat}
theorem pGood.rd (h : pIdl c D al B α s) (hg : pGood G c D al B α s D' L g N β1 β s1 s') : pRd c.p al D.lu B N D' L g (preo g.ch N D'.rt) β s' := by
  obtain ⟨_, _, m0, ⟨a, V⟩, K, ⟨W, X⟩, M, O⟩ := hg
  have v0 := V.o
  have eu : D'.lu = D.lu := K.2.2.2.2.2.1
  have er : D'.lr = D.lr := K.2.2.2.2.2.2
  have ea0 : D'.a0 = xS0 c D al α := K.2.2.1
  obtain ⟨n1, n2, n3⟩ := h.nl
  have hp := h.p
  have B1 := v0.B1
  have lB := h.lB
  have uB := h.uB
  have zz : zn (zwI β1 40 2 c.p (nI 0)) = zn β1 := rfl
  have alp : al ≠ c.p := fun z => by have := h.lk; rw [z, h.x.kp] at this; omega
  have pu : D.lu ≠ c.p := fun z => by have := h.uk; rw [z, h.x.kp] at this; omega
  have eA : ∀ cc k x, x < zn β1 → x ≠ al → zA β cc k x = zA β1 cc k x := fun cc k x hx ha => by rw [X.A cc k x (by omega) ha, zA_zwI]
  have eI : ∀ cc k x, x < zn β1 → x ≠ al → x ≠ c.p → ¬ (cc = 44 ∧ (k = 3 ∨ k = 4)) → zI β cc k x = zI β1 cc k x := fun cc k x hx ha hxp hk => by rw [X.I cc k x (by omega) ha hk, zI_zwI, if_neg (fun z => hxp z.2.2)]
  have ek : ∀ x, x < zn β1 → zkd β x = zkd β1 x := fun x hx => by rw [X.kd x (by omega), zkd_zwI]
  have eL : ∀ x, x < zn β1 → x ≠ al → zL β x = zL β1 x := fun x hx ha => by rw [X.Ls x (by omega) ha, zL_zwI]
  have mB : ∀ k, k ≠ 17 → k ≠ 18 → la s' k = la s1 k := fun k h1 h2 => (M.B k h1 h2).trans rfl
  have pal : zA β1 40 14 c.p = some al := by
    rw [v0.fe, ea0]
    unfold xS0
    rw [zA_zwI, zA_zwI, zA_zwI, zA_zwA, if_neg (fun z => absurd z.2.1 (by decide)), zA_eq (xCl_fr (fun z => alp z.symm)), zA_eq (xCl_fr (fun z => by have := h.rk; rw [← z, h.x.kp] at this; omega)), zA_eq (xCl_fr (fun z => pu z.symm))]
    exact h.fl
  have Wg : gW L N B g β s' := by
    refine gW.mk V.g.bd (fun t ht => ?_) V.g.inj
    have o := V.g.nd t ht
    have lo := o.lo
    have hi := o.hi
    have i0 : ∀ k, ¬ (k = 3 ∨ k = 4) → zI β 44 k (g.oa t) = zI β1 44 k (g.oa t) := fun k hk => eI 44 k _ (by omega) (by omega) (by omega) (fun z => hk z.2)
    refine wOk.mk lo (by have := X.nz; omega) (by rw [ek _ (by omega)]; exact o.kn) (by rw [eA _ _ _ (by omega) (by omega)]; exact o.fl) (by rw [ek _ (by omega)]; exact o.kl) ?_ ?_ ?_ ?_ (by rw [eL _ (by omega) (by omega)]; exact o.ls) o.nd (fun u hu => ?_) ?_ ?_ ?_
    · rw [i0 0 (by decide), mB 9 (by decide) (by decide)]; exact o.kd
    · rw [i0 1 (by decide), mB 10 (by decide) (by decide)]; exact o.vl
    · rw [i0 5 (by decide), mB 11 (by decide) (by decide)]; exact o.wd
    · rw [i0 2 (by decide), eA _ _ _ (by omega) (by omega), mB 9 (by decide) (by decide), mB 12 (by decide) (by decide)]; exact o.ex
    · obtain ⟨u1, u2, u3, u4⟩ := o.mem u hu
      have ou := V.g.nd u u1
      have := ou.lo
      have := ou.hi
      exact ⟨u1, by rw [mB 16 (by decide) (by decide)]; exact u2, by rw [eA _ _ _ (by omega) (by omega)]; exact u3, u4⟩
    · rw [mB 13 (by decide) (by decide)]; exact o.hd
    · rw [mB 14 (by decide) (by decide)]; exact o.lt
    · rw [mB 15 (by decide) (by decide)]; exact o.nx
  have nb := V.nb
  have al1 := v0.al
  have n5 := h.n
  have N0 := v0.N0
  refine pRd.mk ?_ ?_ ?_ X.ka ?_ X.la ?_ ?_ ?_ m0 M.td ?_ (by omega) M.od (fun i hi => ⟨M.nr i hi, X.nr i hi⟩) Wg (by omega) O (fun u hu => ?_) (fun k hk => ?_)
  · rw [ek _ (by omega)]; exact v0.x.kp
  · rw [eA _ _ _ (by omega) (fun z => alp z.symm)]; exact pal
  · rw [eA _ _ _ (by omega) (fun z => alp z.symm), V.lu, eu]
  · rw [ek _ (by omega), ← eu]; exact V.uk
  · rw [eL _ (by omega) n2, ← eu]; exact V.ul
  · rw [X.I 40 7 c.p (by omega) (fun z => alp z.symm) (fun z => absurd z.1 (by decide)), zI_zwI, if_neg (fun z => absurd z.2.1 (by decide))]; exact v0.fx
  · rw [M.I 5 (by decide) (by decide)]; exact v0.fm
  · rw [M.I 20 (by decide) (by decide)]; exact V.nm
  · obtain ⟨r1, r2, r3⟩ := V.rm u hu
    have o := V.g.nd u r1
    have := o.lo
    have := o.hi
    exact ⟨by rw [eA _ _ _ (by omega) (by omega)]; exact r2, by rw [mB 16 (by decide) (by decide)]; exact r3⟩
  · have o := V.u k hk
    have lo := o.lo
    have hi := o.hi
    have := X.nz
    refine uOk.mk lo (by omega) (by rw [ek _ (by omega)]; exact o.kn) (by rw [eA _ _ _ (by omega) (by omega)]; exact o.fl) (by rw [ek _ (by omega)]; exact o.kl) (by rw [eA _ _ _ (by omega) (by omega)]; exact o.xu) (by rw [eA _ _ _ (by omega) (by omega)]; exact o.xe) (by rw [eA _ _ _ (by omega) (by omega)]; exact o.xd) (by rw [eA _ _ _ (by omega) (by omega)]; exact o.xp) ?_ ?_ ?_ ?_ o.lu o.le o.ld o.lp
    · rw [mB 22 (by decide) (by decide)]; exact o.mu
    · rw [mB 23 (by decide) (by decide)]; exact o.me
    · rw [mB 24 (by decide) (by decide)]; exact o.md
    · rw [mB 25 (by decide) (by decide)]; exact o.mp
theorem pRd.len (h : pRd p al lu B N D L g ord α s) : ord.length < 8000 := by
  by_cases N1 : 1 ≤ N
  · have := h.o.len h.w N1
    have := h.N8
    omega
  · have : ord = [] := by
      cases e : ord with
      | nil => rfl
      | cons t l =>
        have := h.w.bd t (h.o.up t (by rw [e]; simp)).1
        omega
    rw [this]
    decide
theorem pRd.liv (h : pRd p al lu B N D L g ord α s) (hi : i < ord.length) : L (ord.getD i 0) ∧ ord.getD i 0 ∈ ord := by
  have m : ord.getD i 0 ∈ ord := by
    rw [List.getD_eq_getElem?_getD, List.getElem?_eq_getElem hi]
    exact List.getElem_mem _
  exact ⟨(h.o.up _ (by rw [List.append_nil]; exact m)).1, m⟩
/-- the node of a number -/
theorem pRd.at (h : pRd p al lu B N D L g ord α s) (hi : i < ord.length) : hX4_at G (some p) (nI i) α = some (some (g.oa (ord.getD i 0)), α) := by
  have len := h.len
  have gk : (zL α al)[i]? = some (some (g.oa (ord.getD i 0))) := by
    rw [h.ll, List.getElem?_map, List.getElem?_eq_getElem hi, List.getD_eq_getElem?_getD, List.getElem?_eq_getElem hi]
    rfl
  have lt := (h.liv hi).1
  unfold hX4_at
  rw [if_neg (by rw [nl0, pI_lt (by omega) (by decide)]; omega), kfA h.kp, gl_bs, h.fl, kpLs h.kl, gl_bs, h.ll, List.length_map, if_neg (by rw [pI_le (by omega) (by omega)]; omega), gl_bs, kpLg h.kl (by omega), gk, gl_bs, if_pos (kpco (h.w.nd _ lt).kn (by decide))]
  rfl
/-- numbers of nodes of the tree -/
theorem pRd.num (h : pRd p al lu B N D L g ord α s) (hu : u ∈ ord) : ∃ i, i < ord.length ∧ ord.getD i 0 = u ∧ la s 17 u = nI i ∧ zI α 44 3 (g.oa u) = nI i := by
  obtain ⟨i, hi, e⟩ := List.getElem_of_mem hu
  have e2 : ord.getD i 0 = u := by rw [List.getD_eq_getElem?_getD, List.getElem?_eq_getElem hi, e]; rfl
  have := h.nr i hi
  rw [e2] at this
  exact ⟨i, hi, e2, this⟩
theorem Rd_kind (h : pRd p al lu B N D L g ord α s) (hi : i < ord.length) : hX4_node G (some p) (nI i) (nI 0) α = some (la s 9 (ord.getD i 0), α) ∧ gX26_node (nI i) (nI 0) s = some (la s 9 (ord.getD i 0), s) := by
  have len := h.len
  have N8 := h.N8
  have lt := (h.liv hi).1
  have bt := h.w.bd _ lt
  have o := h.w.nd _ lt
  have e0 : us s 0 (0 : Int32) = s := us_self h.m0
  constructor
  · unfold hX4_node
    rw [if_pos (of_eq_true (kis h.kp (by decide))), h.at hi, gl_bs, if_neg (by simp), if_neg (by decide), if_pos (by decide), kfI o.kn, gl_bs, o.kd]
  · unfold gX26_node
    rw [gl_x, e0, if_neg (by rw [nl0, pI_lt (by omega) (by decide)]; omega), gl_x, h.td, if_pos (by rw [pI_lt (by omega) (by omega)]; exact hi), pgld (by omega) (by decide), gl_bs, h.od i hi, pgld (by omega) (by decide), gl_bs, if_neg (by decide), if_pos (by decide)]
theorem Rd_value (h : pRd p al lu B N D L g ord α s) (hi : i < ord.length) : hX4_node G (some p) (nI i) (nI 1) α = some (la s 10 (ord.getD i 0), α) ∧ gX26_node (nI i) (nI 1) s = (gX26_hasValue (la s 9 (ord.getD i 0)) s).bind fun p9 => if p9.1 = 0 then some (0, p9.2) else (gld p9.2 10 8000 (nI (ord.getD i 0))).bind fun x11 => some (x11, p9.2) := by
  have len := h.len
  have N8 := h.N8
  have lt := (h.liv hi).1
  have bt := h.w.bd _ lt
  have o := h.w.nd _ lt
  have e0 : us s 0 (0 : Int32) = s := us_self h.m0
  constructor
  · unfold hX4_node
    rw [if_pos (of_eq_true (kis h.kp (by decide))), h.at hi, gl_bs, if_neg (by simp), if_neg (by decide), if_neg (by decide), if_pos (by decide), kfI o.kn, gl_bs, o.vl]
  · unfold gX26_node
    rw [gl_x, e0, if_neg (by rw [nl0, pI_lt (by omega) (by decide)]; omega), gl_x, h.td, if_pos (by rw [pI_lt (by omega) (by omega)]; exact hi), pgld (by omega) (by decide), gl_bs, h.od i hi, pgld (by omega) (by decide), gl_bs, if_neg (by decide), if_neg (by decide), if_pos (by decide)]
    rfl
theorem Rd_word (h : pRd p al lu B N D L g ord α s) (hi : i < ord.length) : hX4_node G (some p) (nI i) (nI 2) α = some (la s 11 (ord.getD i 0), α) ∧ gX26_node (nI i) (nI 2) s = some (la s 11 (ord.getD i 0), s) := by
  have len := h.len
  have N8 := h.N8
  have lt := (h.liv hi).1
  have bt := h.w.bd _ lt
  have o := h.w.nd _ lt
  have e0 : us s 0 (0 : Int32) = s := us_self h.m0
  constructor
  · unfold hX4_node
    rw [if_pos (of_eq_true (kis h.kp (by decide))), h.at hi, gl_bs, if_neg (by simp), if_neg (by decide), if_neg (by decide), if_neg (by decide), if_pos (by decide), kfI o.kn, gl_bs, o.wd]
  · unfold gX26_node
    rw [gl_x, e0, if_neg (by rw [nl0, pI_lt (by omega) (by decide)]; omega), gl_x, h.td, if_pos (by rw [pI_lt (by omega) (by omega)]; exact hi), pgld (by omega) (by decide), gl_bs, h.od i hi, pgld (by omega) (by decide), gl_bs, if_neg (by decide), if_neg (by decide), if_neg (by decide), if_pos (by decide), pgld (by omega) (by decide), gl_bs]
theorem Rd_upX (h : pRd p al lu B N D L g ord α s) (hu : u ∈ ord) : (u ∈ D.rt ∧ zA α 44 6 (g.oa u) = none ∧ la s 16 u = nI 0) ∨ ∃ j, j < ord.length ∧ u ∈ g.ch (ord.getD j 0) ∧ zA α 44 6 (g.oa u) = some (g.oa (ord.getD j 0)) ∧ la s 16 u = nI (ord.getD j 0) := by
  rcases (h.o.up u (by rw [List.append_nil]; exact hu)).2 with z | ⟨q, z1, z2⟩
  · exact .inl ⟨z, h.rt u z⟩
  · obtain ⟨j, hj, e, _⟩ := h.num z1
    have lq := (h.o.up q (by rw [List.append_nil]; exact z1)).1
    obtain ⟨_, m2, m3, _⟩ := (h.w.nd q lq).mem u z2
    exact .inr ⟨j, hj, by rw [e]; exact z2, by rw [e]; exact m3, by rw [e]; exact m2⟩
/-- the parent's number: none at a root -/
theorem Rd_parent (h : pRd p al lu B N D L g ord α s) (hi : i < ord.length) : (ord.getD i 0 ∈ D.rt ∧ hX4_node G (some p) (nI i) (nI 4) α = some (-1, α) ∧ gX26_node (nI i) (nI 4) s = some (-1, s)) ∨ ∃ j, j < ord.length ∧ ord.getD i 0 ∈ g.ch (ord.getD j 0) ∧ hX4_node G (some p) (nI i) (nI 4) α = some (nI j, α) ∧ gX26_node (nI i) (nI 4) s = some (nI j, s) := by
  have len := h.len
  have N8 := h.N8
  obtain ⟨lt, mt⟩ := h.liv hi
  have bt := h.w.bd _ lt
  have o := h.w.nd _ lt
  have e0 : us s 0 (0 : Int32) = s := us_self h.m0
  have XA : hX4_node G (some p) (nI i) (nI 4) α = (hX4_numberOf G (zA α 44 6 (g.oa (ord.getD i 0))) α).bind fun p8 => some (p8.1, p8.2) := by
    unfold hX4_node
    rw [if_pos (of_eq_true (kis h.kp (by decide))), h.at hi, gl_bs, if_neg (by simp), if_neg (by decide), if_neg (by decide), if_neg (by decide), if_neg (by decide), if_neg (by decide), if_pos (by decide), kfA o.kn, gl_bs]
  have MA : gX26_node (nI i) (nI 4) s = if ¬ la s 16 (ord.getD i 0) = 0 then (gld s 17 8000 (la s 16 (ord.getD i 0))).bind fun x21 => some (x21, s) else some (- 1, s) := by
    unfold gX26_node
    rw [gl_x, e0, if_neg (by rw [nl0, pI_lt (by omega) (by decide)]; omega), gl_x, h.td, if_pos (by rw [pI_lt (by omega) (by omega)]; exact hi), pgld (by omega) (by decide), gl_bs, h.od i hi, pgld (by omega) (by decide), gl_bs, if_neg (by decide), if_neg (by decide), if_neg (by decide), if_neg (by decide), if_neg (by decide), if_pos (by decide), pgld (by omega) (by decide), gl_bs]
    by_cases z : ¬ la s 16 (ord.getD i 0) = 0
    · rw [if_pos z, if_pos z, gl_bs]
      rfl
    · rw [if_neg z, if_neg z]
      rfl
  rcases Rd_upX h mt with ⟨z1, z2, z3⟩ | ⟨j, hj, z1, z2, z3⟩
  · refine .inl ⟨z1, ?_, ?_⟩
    · rw [XA, z2]
      unfold hX4_numberOf
      rw [if_pos rfl]
      rfl
    · rw [MA, z3, if_neg (show ¬ ¬ nI 0 = 0 from fun z => z rfl)]
  · obtain ⟨lj, mj⟩ := h.liv hj
    have bj := h.w.bd _ lj
    obtain ⟨n1, n2⟩ := h.nr j hj
    refine .inr ⟨j, hj, z1, ?_, ?_⟩
    · rw [XA, z2]
      unfold hX4_numberOf
      rw [if_neg (by simp), kfI (h.w.nd _ lj).kn, gl_bs, n2]
      rfl
    · rw [MA, z3, if_pos (show ¬ nI (ord.getD j 0) = 0 from by rw [nl0, pI_inj (by omega) (by decide)]; omega), pgld (by omega) (by decide), gl_bs, n1]
theorem Rd_counts (h : pRd p al lu B N D L g ord α s) : hX4_count G (some p) (nI 1) α = some (nI ord.length, α) ∧ gX26_count (nI 1) s = some (nI ord.length, s) ∧ hX4_count G (some p) (nI 2) α = some (nI D.nu, α) ∧ gX26_count (nI 2) s = some (nI D.nu, s) ∧ hX4_faults G (some p) α = some (nI 0, α) ∧ gX26_faults s = some (nI 0, s) := by
  have e0 : us s 0 (0 : Int32) = s := us_self h.m0
  refine ⟨?_, ?_, ?_, ?_, ?_, ?_⟩
  · unfold hX4_count
    rw [if_pos (by decide), if_neg (show ¬ ¬ nI 1 = 1 from fun z => z rfl), kfA h.kp, gl_bs, h.fl, kpLs h.kl, gl_bs, h.ll, List.length_map]
    rfl
  · unfold gX26_count
    rw [gl_x, e0, if_pos (by decide), if_neg (show ¬ ¬ nI 1 = 1 from fun z => z rfl), gl_x, h.td]
    rfl
  · unfold hX4_count
    rw [if_pos (by decide), if_pos (by decide), if_neg (show ¬ ¬ nI 2 = 2 from fun z => z rfl), kfA h.kp, gl_bs, h.fu, kpLs h.ku, gl_bs, h.ul, List.length_map, List.length_range]
    rfl
  · unfold gX26_count
    rw [gl_x, e0, if_pos (by decide), if_pos (by decide), if_neg (show ¬ ¬ nI 2 = 2 from fun z => z rfl), gl_x, h.un]
    rfl
  · unfold hX4_faults
    rw [kfI h.kp, gl_bs, h.f7]
  · unfold gX26_faults
    rw [gl_x, e0, gl_x, h.m5]
end PAZZZG
