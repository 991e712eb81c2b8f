/-! THE PURE LAYER: the parser: the grammar of the tree that both sides read. -/
/-- kind and value of M's node -/
def mkv (s : zM) (t : Nat) : Int32 × Int32 := (la s 9 t, la s 10 t)
def bDn (ch : Nat → List Nat) : Nat → Nat → Nat → Prop
  | 0, q, u => u = q
  | n + 1, q, u => u = q ∨ ∃ r, r ∈ ch q ∧ bDn ch n r u
/-- u lies below q -/
def bIn (ch : Nat → List Nat) (q u : Nat) : Prop := ∃ n, bDn ch n q u
section PAZZZZT
variable {c : pC} {G : xQ} {α β β1 γ : zS} {a k q u x n lu lr al B N t : Nat} {v : Int32} {e : Int32 × Int32} {l op ord : List Nat} {M U L : Nat → Prop} {m : List (Int32 × Int32)} {z : Option Nat} {D D' : pD} {g : pG} {s s1 s' : zM} {ch : Nat → List Nat}
theorem preo_all {P : Nat → Prop} (h : ∀ t, P t → ∀ u, u ∈ ch t → P u) : ∀ {n : Nat} {l : List Nat}, (∀ t, t ∈ l → P t) → ∀ t, t ∈ preo ch n l → P t
  | 0, _, _, _, ht => absurd ht (by simp [preo])
  | _ + 1, [], _, _, ht => absurd ht (by simp [preo])
  | n + 1, x :: l, hl, t, ht => by
    have h1 : t ∈ x :: preo ch n (ch x ++ l) := ht
    rcases List.mem_cons.mp h1 with y | y
    · rw [y]; exact hl x (List.mem_cons_self ..)
    · exact preo_all h (n := n) (fun u hu => by
        rcases List.mem_append.mp hu with w | w
        · exact h x (hl x (List.mem_cons_self ..)) u w
        · exact hl u (List.mem_cons_of_mem _ w)) t y
theorem bIn.rf : bIn ch q q := ⟨0, rfl⟩
theorem bIn.dn (h : k ∈ ch q) (hr : bIn ch k u) : bIn ch q u := by
  obtain ⟨n, hn⟩ := hr
  exact ⟨n + 1, .inr ⟨k, h, hn⟩⟩
theorem lim_of (f : Nat → Nat) : ∀ l : List Nat, ∃ R, ∀ t, t ∈ l → f t ≤ R
  | [] => ⟨0, fun _ h => absurd h (by simp)⟩
  | x :: l => by
    obtain ⟨R, h⟩ := lim_of f l
    refine ⟨R + f x, fun t ht => ?_⟩
    rcases List.mem_cons.mp ht with y | y
    · rw [y]; omega
    · have := h t y
      omega
theorem mapoa {f : Nat → Nat} {L' l : List Nat} (h : L'.map some = l.map fun u => some (f u)) : L' = l.map f := by
  have e : (l.map f).map some = l.map fun u => some (f u) := by
    rw [List.map_map]
    rfl
  exact mapsome_inj (h.trans e.symm)
/-- all is made that is there -/
theorem xTC_ts {c' : pC} (hp : c'.p = c.p) (V : pV c D' L B a N k g β1 s1) (en : pEn D') (X : xTC c' lu lr β1) : ∃ M U, xTs c' M U none lu lr β1 := by
  obtain ⟨a', U, op, _, h11, _, _, hO⟩ := X
  rw [hp] at h11
  rcases op with _ | ⟨u, l⟩
  · obtain ⟨M, S⟩ := hO
    exact ⟨M, U, S⟩
  · obtain ⟨M, z, x, Bx⟩ := hO
    have cu := V.cu
    rw [h11] at cu
    rcases en with e0 | ⟨e1, e2, e3, e4⟩
    · rw [if_pos e0] at cu
      exact absurd cu (by simp)
    · rw [if_neg (by omega), e1] at cu
      have eu : u = D'.ou (D'.os 0) := Option.some.inj cu
      have o := V.op 0 (by omega)
      have xs := o.xs
      have s12 := o.s12
      have st := Bx.cu.st
      have x12 := Bx.cu.x
      rw [← eu, st, pI_inj (by omega) (by omega)] at xs
      have z0 := Bx.z1 (by omega)
      subst z0
      exact ⟨M, U, Bx.ts⟩
theorem xUn_idl (h : xUn (cIdl c D al α s) M lu lr β u) : xUn c M lu lr β u := xUn.mk h.ku h.hi h.f1 h.f4 h.f5 h.f6 h.f7 h.f8 h.f9 h.fa h.fb h.fc h.fd
theorem xTs_idl (h : xTs (cIdl c D al α s) M U z lu lr β) : xTs c M U z lu lr β := xTs.mk h.hp (fun u hu => xUn_idl (h.un u hu)) h.nm h.lu h.lr h.zc h.rr h.ne
/-- the grammar of a tree -/
def gRam (c : pC) (g : pG) (ord : List Nat) (s : zM) : Prop := ∀ t, t ∈ ord → (grS c (mkv s t) ((g.ch t).map (mkv s)) ∨ grK 1 2 (mkv s t) ∧ grU ((g.ch t).map (mkv s)) ∧ grV c 1 (la s 10 t)) ∧ (la s 9 t = nI 53 → ∃ u, u ∈ ord ∧ la s 12 t = nI u ∧ grOp c (mkv s u) ∧ ∃ q, q ∈ ord ∧ grK 50 54 (mkv s q) ∧ bIn g.ch q t ∧ bIn g.ch q u)
theorem gram_all (hV : pV c D' L B a N k g β1 s1) (O : nO L D'.rt g.ch ord []) (eo : ord = preo g.ch N D'.rt) (S : xTs c M U none lu D'.lr β1) (hB : ∀ k, k ≠ 17 → k ≠ 18 → la s' k = la s1 k) : gRam c g ord s' ∧ ∀ u, u ∈ D'.rt → grK 1 2 (mkv s' u) := by
  have W := hV.g
  have em : ∀ t, mkv s' t = mkv s1 t := fun t => by
    unfold mkv
    rw [hB 9 (by decide) (by decide), hB 10 (by decide) (by decide)]
  have ek : ∀ t, L t → xkv β1 (g.oa t) = mkv s' t := fun t ht => by
    rw [em]
    have o := W.nd t ht
    unfold xkv mkv
    rw [o.kd, o.vl]
  have kid : ∀ t, L t ∧ M (g.oa t) → ∀ u, u ∈ g.ch t → L u ∧ M (g.oa u) := fun t ht u hu => by
    have o := W.nd t ht.1
    obtain ⟨e, L', b, cl, _⟩ := S.hp.1 _ ht.2
    have eL := mapoa (f := g.oa) (b.ls.symm.trans o.ls)
    exact ⟨(o.mem u hu).1, cl _ (by rw [eL]; exact List.mem_map_of_mem hu)⟩
  have rts : ∀ u, u ∈ D'.rt → (L u ∧ M (g.oa u)) ∧ grK 1 2 (mkv s' u) := fun u hu => by
    obtain ⟨m, gk⟩ := S.rr (g.oa u) (by rw [hV.rl]; exact List.mem_map.mpr ⟨u, hu, rfl⟩)
    have lu := (hV.rm u hu).1
    exact ⟨⟨lu, m⟩, by rw [← ek u lu]; exact gk⟩
  have all : ∀ t, t ∈ ord → L t ∧ M (g.oa t) := fun t ht => by
    rw [eo] at ht
    exact preo_all (P := fun t => L t ∧ M (g.oa t)) kid (fun t ht => (rts t ht).1) t ht
  have shp : ∀ t, t ∈ ord → ∃ e L', xnB β1 (g.oa t) e L' ∧ e = mkv s' t ∧ L' = (g.ch t).map g.oa ∧ L'.map (xkv β1) = (g.ch t).map (mkv s') ∧ (grS c e (L'.map (xkv β1)) ∨ grK 1 2 e ∧ grU (L'.map (xkv β1))) := fun t ht => by
    obtain ⟨lt, mt⟩ := all t ht
    have o := W.nd t lt
    obtain ⟨e, L', b, cl, sh⟩ := S.hp.1 _ mt
    have eL := mapoa (f := g.oa) (b.ls.symm.trans o.ls)
    refine ⟨e, L', b, b.e.symm.trans (ek t lt), eL, ?_, sh⟩
    rw [eL, List.map_map]
    exact List.map_congr_left fun u hu => ek u (o.mem u hu).1
  refine ⟨fun t ht => ⟨?_, fun h53 => ?_⟩, fun u hu => (rts u hu).2⟩
  · obtain ⟨e, L', b, e1, e2, e3, sh⟩ := shp t ht
    rw [e1, e3] at sh
    rcases sh with y | y
    · exact .inl y
    · refine .inr ⟨y.1, y.2, ?_⟩
      have lt := all t ht
      have gk : grK 1 2 (xkv β1 (g.oa t)) := by rw [ek t lt.1]; exact y.1
      rcases S.nm _ lt.2 gk with w | w
      · rw [ek t lt.1] at w
        exact w
      · exact absurd w (by simp)
  · obtain ⟨R, hR⟩ := lim_of g.r ord
    have climb : ∀ n τ, τ ∈ ord → grCo (mkv s' τ) → R ≤ g.r τ + n → bIn g.ch τ t → ∃ p, p ∈ ord ∧ ¬ grCo (mkv s' p) ∧ ∃ q, q ∈ g.ch p ∧ q ∈ ord ∧ grCo (mkv s' q) ∧ bIn g.ch q t := fun n => by
      induction n with
      | zero =>
        intro τ hτ cτ hr hb
        obtain ⟨_, y | ⟨p, hp, hc⟩⟩ := O.up τ (by rw [List.append_nil]; exact hτ)
        · exact absurd cτ (nco (rts τ y).2 (by decide))
        · have r1 := ((W.nd p (all p hp).1).mem τ hc).2.2.2
          have r2 := hR p hp
          omega
      | succ n ih =>
        intro τ hτ cτ hr hb
        obtain ⟨_, y | ⟨p, hp, hc⟩⟩ := O.up τ (by rw [List.append_nil]; exact hτ)
        · exact absurd cτ (nco (rts τ y).2 (by decide))
        · by_cases cp : grCo (mkv s' p)
          · have r1 := ((W.nd p (all p hp).1).mem τ hc).2.2.2
            exact ih p hp cp (by omega) (bIn.dn hc hb)
          · exact ⟨p, hp, cp, τ, hc, hτ, cτ, hb⟩
    have ct : grCo (mkv s' t) := .inr ⟨53, by decide, by decide, h53⟩
    obtain ⟨p, hp, cp, q, hq, oq, cq, bq⟩ := climb R t ht ct (by omega) bIn.rf
    have gq : grK 50 54 (mkv s' q) := by
      rcases cq with y | y
      · obtain ⟨j, j1, j2, j3⟩ := y
        have ej : j = 41 := by omega
        subst ej
        obtain ⟨e, L', b, e1, e2, e3, sh⟩ := shp q oq
        rw [e1, e3] at sh
        rcases sh with ⟨k', k1, k2, k3⟩ | sh
        · have k41 : k' = 41 := by
            rw [j3, pI_inj (by decide) (by omega)] at k2
            exact k2.symm
          subst k41
          have c0 : g.ch q = [] := List.map_eq_nil_iff.mp k3.1
          obtain ⟨n, hn⟩ := bq
          have tq : t = q := by
            rcases n with _ | n
            · exact hn
            · rcases hn with y | ⟨r, r1, _⟩
              · exact y
              · rw [c0] at r1
                exact absurd r1 (by simp)
          have h1 : la s' 9 q = nI 41 := j3
          rw [← tq, h53, pI_inj (by decide) (by decide)] at h1
          exact absurd h1 (by decide)
        · exact (grK_far sh.1 (k := 41) j3 (by decide) (by decide) (by decide)).elim
      · exact y
    obtain ⟨lp, mp⟩ := all p hp
    obtain ⟨lq, mq⟩ := all q oq
    have op' := W.nd p lp
    have zq : some (g.oa q) ∈ zL β1 (g.oa p + 1) := by
      rw [op'.ls]
      exact List.mem_map.mpr ⟨q, hq, rfl⟩
    obtain ⟨NS, n1, n2, n3⟩ := ((S.hp.2 _ mp).2 _ zq).2 (by rw [ek p lp]; exact cp) (by rw [ek q lq]; exact gq)
    have inN : ∀ n x, x ∈ ord → NS (g.oa x) → bDn g.ch n x t → NS (g.oa t) := fun n => by
      induction n with
      | zero =>
        intro x hx hN hb
        have e : t = x := hb
        rw [e]; exact hN
      | succ n ih =>
        intro x hx hN hb
        rcases hb with y | ⟨r, r1, r2⟩
        · rw [y]; exact hN
        · have o := W.nd x (all x hx).1
          exact ih r (by have := O.dn x hx r r1; rw [List.append_nil] at this; exact this) ((n2 _ hN).1.2.2 _ (by rw [o.ls]; exact List.mem_map.mpr ⟨r, r1, rfl⟩)) r2
    have toA : ∀ n x y, x ∈ ord → xDn β1 n (g.oa x) y → ∃ u, u ∈ ord ∧ y = g.oa u ∧ bIn g.ch x u := fun n => by
      induction n with
      | zero =>
        intro x y hx hb
        exact ⟨x, hx, hb, bIn.rf⟩
      | succ n ih =>
        intro x y hx hb
        rcases hb with e | ⟨r, r1, r2⟩
        · exact ⟨x, hx, e, bIn.rf⟩
        · have o := W.nd x (all x hx).1
          rw [o.ls] at r1
          obtain ⟨r', r3, r4⟩ := List.mem_map.mp r1
          have r5 := Option.some.inj r4
          subst r5
          obtain ⟨u, u1, u2, u3⟩ := ih r' y (by have := O.dn x hx r' r3; rw [List.append_nil] at this; exact this) r2
          exact ⟨u, u1, u2, bIn.dn r3 u3⟩
    obtain ⟨n, hn⟩ := bq
    have tN := inN n q oq n1 hn
    obtain ⟨lt, mt⟩ := all t ht
    have ot := W.nd t lt
    have k53 : zI β1 44 0 (g.oa t) = nI 53 := by
      rw [ot.kd, ← hB 9 (by decide) (by decide)]; exact h53
    obtain ⟨u, u1, u2, u3⟩ := n3 _ tN k53
    obtain ⟨nu, hu⟩ := (n2 u u2).2.2
    obtain ⟨u', w1, w2, w3⟩ := toA nu q u oq hu
    rcases ot.ex with ⟨_, u0, x1, x2, x3⟩ | ⟨x1, _⟩
    · have e1 : g.oa u0 = u := Option.some.inj (x3.symm.trans u1)
      have e2 : u0 = u' := W.inj u0 u' x1 (all u' w1).1 (e1.trans w2)
      subst e2
      refine ⟨u0, w1, by rw [hB 12 (by decide) (by decide)]; exact x2, ?_, q, oq, gq, ⟨n, hn⟩, w3⟩
      rw [← ek u0 x1, e1]; exact u3
    · exact absurd (by rw [← hB 9 (by decide) (by decide)]; exact h53) x1
/-- a good parse: its tree has its grammar -/
theorem par_tree (h : pIdl c D al B α s) : (∃ D' L g N β1 β s1 s', pGood G c D al B α s D' L g N β1 β s1 s' ∧ pRd c.p al D.lu B N D' L g (preo g.ch N D'.rt) β s' ∧ pEn D' ∧ gRam c g (preo g.ch N D'.rt) s' ∧ ∀ u, u ∈ D'.rt → grK 1 2 (mkv s' u)) ∨ (∃ D' L g N F β1 β s1, pBad G c D al B α s D' L g N F β1 β s1) := by
  rcases par_gr (G := G) h with ⟨D', L, g, N, β1, β, s1, s', hg, en, X⟩ | y
  · have hr := hg.rd h
    obtain ⟨_, _, _, ⟨a, V⟩, K, _, MM, O⟩ := id hg
    have er : D'.lr = D.lr := K.2.2.2.2.2.2
    obtain ⟨M, U, S⟩ := xTC_ts (c := c) (c' := cIdl c D al α s) rfl V en X
    have S := xTs_idl (c := c) (D := D) (al := al) (α := α) (s := s) S
    rw [← er] at S
    obtain ⟨r1, r2⟩ := gram_all V O rfl S (fun k h1 h2 => (MM.B k h1 h2).trans rfl)
    exact .inl ⟨D', L, g, N, β1, β, s1, s', hg, hr, en, r1, r2⟩
  · exact .inr y
end PAZZZZT
