/-! THE PURE LAYER: the parser: a sentence. -/
section PAZZB
variable {L L2 : Nat → Prop} {c : pC} {D : pD} {G : xQ} {α β : zS} {s s' s1 : zM} {B at' a a1 b d N N' F F' p q t to u x y k i j w wh lv m S se pa pr : Nat} {g g' g2 : pG} {v : Int32}
theorem pE.base (h : pE (c.on α s1 N at' lv) wh w β s') (h1 : ∀ k, k ≠ 44 → k ≠ 45 → ls s1 k = ls s k) (h2 : ∀ k, la s1 k = la s k) : pE (c.on α s N at' 0) wh w β s' := by
  obtain ⟨F, n1, n2, n3, n4, n5⟩ := h.nt
  refine pE.mk h.x h.xb h.xw (fun k hk => (h.I k hk).trans (h1 k (by omega) (by omega))) (fun k t k1 k2 ht => (h.A k t k1 k2 ht).trans (by show la s1 k t = la s k t; rw [h2])) (fun k hk => (h.B k hk).trans (h2 k)) h.b1 h.b2 ⟨F, (h1 5 (by decide) (by decide)).symm.trans n1, n2, n3, n4.trans (by show upd (la s1 6) _ _ = upd (la s 6) _ _; rw [h2]), n5.trans (by show upd (la s1 7) _ _ = upd (la s 7) _ _; rw [h2])⟩ h.w1 h.w2 h.wh h.N h.zcb h.zwb
/-- behind the statements M's depth doesn't matter any more -/
theorem pR.lv0 (h : pR (c.on α s N at' 1) a d b N' 0 g β s') (h45 : ls s' 45 = nI 0) : pR (c.on α s N at' 0) a d b N' 0 g β (us s' 44 v) := by
  have k := h.k
  have K : pOk (c.on α s N at' 0) := pOk.mk k.n k.ks k.vs k.p k.ka k.va k.x k.m k.N1 k.N0 k.Nm k.fm
  refine pR.mk K (xKp.mk h.x.n h.x.fr h.x.kd h.x.I h.x.A) (mKp.mk (fun k hk => ?_) h.m.A h.m.B) h.ax h.nx h.am (fun (z : (0 : Nat) = 1) => absurd z (by decide)) h.bm h.Nm h.al h.a0 h.nl h.N0 h.Nb h.zcb h.zwb h.yN (pgO.mk (fun t t1 t2 => ?_) h.g.inj)
  · rw [ls_us, if_neg (by omega)]; exact h.m.I k hk
  · have o := h.g.nd t t1 t2
    refine nOk.mk o.lo o.hi o.kn o.fl o.kl o.kd (.inl (o.vl.resolve_right (fun z => ?_))) o.wd o.ex o.ls o.nd o.mem o.hd o.lt o.nx
    obtain ⟨k, i, y1, y2, y3, _⟩ := z.2.2
    rw [h45, pI_inj (by decide) (by omega)] at y1
    omega
theorem mMk_dep : mMk (us (us s 45 (nI 0)) 44 (nI 0)) N (nI 25) (nI 0) v = us (us (mMk s N (nI 25) (nI 0) v) 45 (nI 0)) 44 (nI 0) := by
  have e : us (us (us s 45 (nI 0)) 44 (nI 0)) 8 (nI (N + 1)) = us (us (us s 8 (nI (N + 1))) 45 (nI 0)) 44 (nI 0) := by
    refine Prod.ext (funext fun j => ?_) rfl
    show (if j = 8 then _ else if j = 44 then _ else if j = 45 then _ else s.1 j) = (if j = 44 then _ else if j = 45 then _ else if j = 8 then _ else s.1 j)
    by_cases e1 : j = 8
    · rw [if_pos e1, if_neg (by omega), if_neg (by omega), if_pos e1]
    · rw [if_neg e1]
      by_cases e2 : j = 44
      · rw [if_pos e2, if_pos e2]
      · rw [if_neg e2, if_neg e2, if_neg e1]
  unfold mMk
  rw [e]
  rfl
/-- where X's unit lays a sentence -/
theorem X_sents (kq : zkd α q = 44) (h11 : zA α 43 11 q = pN g pa) (h10 : zA α 43 10 q = pN g se) (h8 : zA α 43 8 q = some (g.oa pr)) : hX42_sentences G (some q) α = some (some (g.oa (if pa ≠ 0 then pa else if se ≠ 0 then se else pr)), α) := by
  unfold hX42_sentences hX42_sentences_32
  by_cases e1 : pa = 0
  · rw [kfA kq, gl_bs, h11, if_pos (show pN g pa = none from by rw [e1]; rfl), kfA kq, gl_bs, h10, if_neg (show ¬ pa ≠ 0 from fun z => z e1)]
    by_cases e2 : se = 0
    · rw [if_pos (show pN g se = none from by rw [e2]; rfl), kfA kq, gl_bs, h8, if_neg (show ¬ se ≠ 0 from fun z => z e2)]
    · rw [if_neg (show ¬ pN g se = none from by rw [pN_s e2]; simp), gl_bs, pN_s e2, if_pos e2]
  · rw [kfA kq, gl_bs, h11, if_neg (show ¬ pN g pa = none from by rw [pN_s e1]; simp), gl_bs, pN_s e1, if_pos e1]
end PAZZB
