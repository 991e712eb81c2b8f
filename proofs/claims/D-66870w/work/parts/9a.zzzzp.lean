/-! THE PURE LAYER: the parser: X's side alone: a unit begins. -/
section PAZZZZP
variable {ρ σ τ : Type} {c : pC} {G : xQ} {α β γ γ' δ ε α0 : zS} {a a' a1 b k w q r t u n x x' T T' E f i j o lu lr lo hi y X : Nat} {v v' v0 kv nm pr x4 x5 : Int32} {e e' e1 : Int32 × Int32} {L L' op l : List Nat} {M M' N S S' U U' : Nat → Prop} {m K K' K1 : List (Int32 × Int32)} {P : Int32 × Int32 → Prop} {p z tO : Option Nat}
/-- a unit comes, its node has no name yet -/
theorem T_new (S : xTs c M U none lu lr α) (hw : w = zn α) (hA : zkd β w = 44 ∧ zA β 43 13 w = some (w + 1) ∧ zkd β (w + 1) = 3 ∧ zL β (w + 1) = [] ∧ zA β 43 0 w = p ∧ zA β 43 1 w = some (w + 2) ∧ (∀ k, k ≠ 0 → k ≠ 1 → k ≠ 13 → zA β 43 k w = none) ∧ (∀ k, zI β 43 k w = nI 0)) (hB : zkd β (w + 2) = 45 ∧ zA β 44 8 (w + 2) = some (w + 2 + 1) ∧ zkd β (w + 2 + 1) = 3 ∧ zL β (w + 2 + 1) = [] ∧ zI β 44 0 (w + 2) = nI 1 ∧ zI β 44 1 (w + 2) = nI 0) (fr : ∀ x, x < w → β.2 x = α.2 x) (hn : zn β = w + 5) : xTs c (fun q => M q ∨ q = w + 2) (fun v => U v ∨ v = w) (some (w + 2)) lu lr β ∧ xnB β (w + 2) (nI 1, nI 0) [] := by
  obtain ⟨A1, A2, A3, A4, A5, A6, A7, A8⟩ := hA
  obtain ⟨B1, B2, B3, B4, B5, B6⟩ := hB
  have ekv : xkv β (w + 2) = (nI 1, nI 0) := by
    unfold xkv
    rw [B5, B6]
  have br : xnB β (w + 2) (nI 1, nI 0) [] := xnB.mk B1 (by omega) B2 B3 B4 (fun _ h => absurd h (by simp)) ekv
  have g1 : grK 1 2 (nI 1, nI 0) := ⟨1, by decide, by decide, rfl⟩
  have md : ∀ {q}, M q → q + 1 < w ∧ zkd α q = 45 ∧ zkd α (q + 1) = 3 := fun hq => by
    have := S.hp.md hq
    exact ⟨by omega, this.1, this.2.2⟩
  have f1 : ∀ q, zkd α q = 45 → q < zn α → β.2 q = α.2 q := fun q _ h => fr q (by omega)
  have hp1 : xHpN c M β := S.hp.fr (by omega) f1 (fun q hq => fr _ (md hq).1)
  have ke : ∀ q, M q → xkv β q = xkv α q := fun q hq => S.hp.ke f1 hq
  have uLl : ∀ l, uL α M l → uL β (fun q => M q ∨ q = w + 2) l := fun l h => by
    have h2 := h.2.1
    refine ⟨by rw [zkd_eq (fr l (by omega))]; exact h.1, by omega, fun q hq y => ?_⟩
    rcases hq with z | z
    · exact h.2.2 q z y
    · omega
  refine ⟨xTs.mk ⟨fun q hq => ?_, fun p hp => ?_⟩ (fun v hv => ?_) (fun q hq g => ?_) (uLl _ S.lu) (uLl _ S.lr) (fun r hr t ht => ?_) (fun r hr => by
    obtain ⟨m, g⟩ := S.rr r (by rw [← zL_eq (fr lr (by have := S.lr.2.1; omega))]; exact hr)
    exact ⟨.inl m, by rw [ke r m]; exact g⟩) S.ne, br⟩
  · rcases hq with y | y
    · obtain ⟨e, L, b, c1, c2⟩ := hp1.1 q y
      exact ⟨e, L, b, fun r hr => .inl (c1 r hr), c2⟩
    · rw [y]
      exact ⟨_, [], br, fun _ h => absurd h (by simp), .inr ⟨g1, false, false, false, [], rfl, fun _ h => absurd h (by simp)⟩⟩
  · rcases hp with y | y
    · obtain ⟨p1, p2⟩ := hp1.2 p y
      exact ⟨p1, fun q hq => ⟨.inl (p2 q hq).1, fun nc g => ((p2 q hq).2 nc g).up fun x hx hE => ⟨.inl hx, hE⟩⟩⟩
    · rw [y]
      refine ⟨B3, fun q hq => ?_⟩
      rw [B4] at hq
      exact absurd hq (by simp)
  · rcases hv with y | y
    · exact (S.un v y).fr (by omega) (fr v (by have := (S.un v y).hi; omega)) (fun _ h => .inl h) (fun q hq => hq.imp id (fun z => by omega)) ke (fun l hl => fr l (by have := hl.2.1; omega))
    · rw [y]
      have no : ∀ k, k ≠ 0 → k ≠ 1 → k ≠ 13 → ∀ q, zA β 43 k w = some q → False := fun k h1 h2 h3 q hq => by
        rw [A7 k h1 h2 h3] at hq
        exact absurd hq (by simp)
      refine xUn.mk A1 (by omega) ⟨w + 2, A6, .inr rfl, by rw [ekv]; exact g1⟩ (fun q hq => (no 4 (by decide) (by decide) (by decide) q hq).elim) (fun q hq => (no 5 (by decide) (by decide) (by decide) q hq).elim) (fun q hq => (no 6 (by decide) (by decide) (by decide) q hq).elim) (fun q hq => (no 7 (by decide) (by decide) (by decide) q hq).elim) (fun q hq => (no 8 (by decide) (by decide) (by decide) q hq).elim) (fun q hq => (no 9 (by decide) (by decide) (by decide) q hq).elim) (fun q hq => (no 10 (by decide) (by decide) (by decide) q hq).elim) (fun q hq => (no 11 (by decide) (by decide) (by decide) q hq).elim) (fun q hq => (no 12 (by decide) (by decide) (by decide) q hq).elim) ⟨w + 1, A2, ⟨A3, by omega, fun q hq y => ?_⟩, ?_, ?_, fun r hr => ?_⟩
      · rcases hq with z | z
        · have := (md z).1
          omega
        · omega
      · have := S.lu.2.1
        omega
      · have := S.lr.2.1
        omega
      · rw [A4] at hr
        exact absurd hr (by simp)
  · rcases hq with y | y
    · rw [ke q y] at g ⊢
      rcases S.nm q y g with z | z
      · exact .inl z
      · exact absurd z (by simp)
    · exact .inr (by rw [y])
  · have er := Option.some.inj hr
    rcases ht with y | y
    · obtain ⟨e, L, b, c1, c2⟩ := hp1.1 t y
      exact ⟨e, L, b, fun hr => absurd (md (c1 r hr)).1 (by omega)⟩
    · rw [y]
      exact ⟨_, [], br, fun h => absurd h (by simp)⟩
/-- an older node is laid below another -/
theorem T_at (S : xTs c M U z lu lr δ) (mt : M t) (mr : M r) (b : xnB δ t e L) (br : xnB δ r e' L') (x : xAt δ t r ε) (nr : ¬ grK 50 54 e') (nc : ¬ grCo e) (ge : grK 1 2 e) (g : grU (L.map (xkv δ) ++ [xkv δ r])) : xTs c M U z lu lr ε ∧ (∀ v, U v → ε.2 v = δ.2 v) ∧ xnB ε t e (L ++ [r]) ∧ (∀ t' e' L', xnB δ t' e' L' → t' ≠ t → xnB ε t' e' L' ∧ L'.map (xkv ε) = L'.map (xkv δ)) := by
  have kr := br.kn
  have rl : r < zn δ := by have := br.hi; omega
  obtain ⟨b2, m2⟩ := b.add x kr rl
  have ke : ∀ q, zkd δ q = 45 → xkv ε q = xkv δ q := fun q hq => x.ke (b.k3 hq)
  have m3 : (L ++ [r]).map (xkv ε) = L.map (xkv δ) ++ [xkv δ r] := by rw [m2, List.map_append]; rfl
  have at1 : ∀ t' e' L', xnB δ t' e' L' → t' ≠ t → xnB ε t' e' L' ∧ L'.map (xkv ε) = L'.map (xkv δ) := fun t' e' L' b' y => b'.at' x b.kl y
  have hU : ∀ v, U v → ε.2 v = δ.2 v := fun v hv => by
    have k := (S.un v hv).ku
    exact x.fr v (fun y => by rw [y, b.kl] at k; omega) (fun y => by rw [y, kr] at k; omega)
  have hl : ∀ l, uL δ M l → ε.2 l = δ.2 l := fun l h => x.fr l (fun y => h.2.2 t mt y.symm) (fun y => by have := h.1; rw [y, kr] at this; omega)
  have kM : ∀ q, M q → xkv ε q = xkv δ q := fun q hq => ke q (S.hp.md hq).1
  refine ⟨xTs.mk ⟨fun q hq => ?_, S.hp.2.st2 (x.qn b.kl) (fun q hq => ⟨(S.hp.md hq).1, by have := (S.hp.md hq).2.1; omega⟩) (fun q hq _ hc h3 => ⟨x.L _ (fun y => ?_), (x.kd _).trans h3⟩) (fun q hq h3 => ⟨(x.kd _).trans h3, fun q' hq' => ?_⟩)⟩ (fun v hv => (S.un v hv).fr x.n (hU v hv) (fun _ h => h) (fun _ h => .inl h) kM hl) (fun q hq gq => ?_) (S.lu.fr x.n (zkd_eq (hl _ S.lu)) (fun _ h => .inl h)) (S.lr.fr x.n (zkd_eq (hl _ S.lr)) (fun _ h => .inl h)) (fun r' hr' t' ht' => ?_) (fun r' hr' => by
    obtain ⟨m, g⟩ := S.rr r' (by rw [← zL_eq (hl _ S.lr)]; exact hr')
    exact ⟨m, by rw [kM r' m]; exact g⟩) S.ne, hU, b2, at1⟩
  · obtain ⟨e1, L1, c1, c2, c3⟩ := S.hp.1 q hq
    by_cases y : q = t
    · subst y
      have eL : L1 = L := mapsome_inj (c1.ls.symm.trans b.ls)
      refine ⟨e, L ++ [r], b2, fun r' hr' => ?_, .inr ⟨ge, by rw [m3]; exact g⟩⟩
      rcases List.mem_append.mp hr' with z | z
      · exact c2 r' (by rw [eL]; exact z)
      · rw [List.mem_singleton.mp z]; exact mr
    · obtain ⟨c4, c5⟩ := at1 q e1 L1 c1 y
      exact ⟨e1, L1, c4, c2, by rw [c5]; exact c3⟩
  · have y1 : q = t := by omega
    rw [y1, b.e] at hc
    exact nc hc
  · by_cases y : q = t
    · rw [y, x.ls] at hq'
      rw [y]
      rcases List.mem_append.mp hq' with w | w
      · exact .inl w
      · have eq' := Option.some.inj (List.mem_singleton.mp w)
        subst eq'
        refine .inr ⟨mr, fun g5 => ?_⟩
        rw [ke q' kr, br.e] at g5
        exact absurd g5 nr
    · exact .inl (by rw [← x.L (q + 1) (by omega)]; exact hq')
  · rw [kM q hq] at gq ⊢
    exact S.nm q hq gq
  · by_cases y : t' = t
    · rw [y]
      exact ⟨e, L ++ [r], b2, fun _ => ge⟩
    · obtain ⟨e1, L1, c1, c2⟩ := S.zc r' hr' t' ht'
      exact ⟨e1, L1, (at1 t' e1 L1 c1 y).1, c2⟩
theorem xp.lw (h : xp c a α) (ko : zkd α o = 3) (fr : ∀ x, x ≠ o → β.2 x = α.2 x) (hn : zn α ≤ zn β) : xp c a β := by
  have kp := h.x.kp
  have kk := h.x.kk
  have kv := h.x.kv
  exact h.fr hn (fr _ (fun z => by rw [z, ko] at kp; omega)) (fr _ (fun z => by rw [z, ko] at kk; omega)) (fr _ (fun z => by rw [z, ko] at kv; omega))
/-- one of the parser's lists changes -/
theorem T_sw (S : xTs c M U z lu lr α) (ho : o = lu ∨ o = lr) (fr : ∀ x, x ≠ o → β.2 x = α.2 x) (hn : zn α ≤ zn β) (hk : zkd β o = 3) (hR : ∀ r, some r ∈ zL β lr → M r ∧ grK 1 2 (xkv α r)) : xTs c M U z lu lr β ∧ (∀ v, U v → β.2 v = α.2 v) ∧ (∀ t e L, M t → xnB α t e L → xnB β t e L ∧ L.map (xkv β) = L.map (xkv α)) := by
  have hl : uL α M o := by
    rcases ho with y | y <;> rw [y]
    · exact S.lu
    · exact S.lr
  have ko := hl.1
  have hU : ∀ v, U v → β.2 v = α.2 v := fun v hv => fr v (fun y => by have := (S.un v hv).ku; rw [y, ko] at this; omega)
  have f1 : ∀ q, zkd α q = 45 → q < zn α → β.2 q = α.2 q := fun q hk _ => fr q (fun y => by rw [y, ko] at hk; omega)
  have f2 : ∀ q, M q → β.2 (q + 1) = α.2 (q + 1) := fun q hq => fr _ (fun y => hl.2.2 q hq y)
  have bb : ∀ t e L, M t → xnB α t e L → xnB β t e L ∧ L.map (xkv β) = L.map (xkv α) := fun t e L mt b => b.st hn (f1 _ b.kn (by have := b.hi; omega)) (f2 _ mt) (fun r hr => f1 r (b.ok r hr).1 (b.ok r hr).2)
  have ke : ∀ q, M q → xkv β q = xkv α q := fun q hq => S.hp.ke f1 hq
  have L' : ∀ l, uL α M l → uL β M l := fun l h' => by
    refine h'.fr hn ?_ (fun _ h => .inl h)
    by_cases y : l = o
    · rw [y, hk, ko]
    · exact zkd_eq (fr l y)
  refine ⟨xTs.mk (S.hp.fr hn f1 f2) (fun v hv => ?_) (fun q hq => ?_) (L' _ S.lu) (L' _ S.lr) (fun r hr t ht => ?_) (fun r hr => ⟨(hR r hr).1, by rw [ke r (hR r hr).1]; exact (hR r hr).2⟩) S.ne, hU, bb⟩
  · have h := S.un v hv
    have hv' := hU v hv
    obtain ⟨r, r1, r2, r3⟩ := h.f1
    obtain ⟨l, l1, l2, l3, l4, l5⟩ := h.fd
    have hi := h.hi
    have lo : l ≠ o := fun y => by
      rcases ho with z | z
      · exact l3 (y.trans z)
      · exact l4 (y.trans z)
    exact xUn.mk (by rw [zkd_eq hv']; exact h.ku) (by omega) ⟨r, by rw [zA_eq hv']; exact r1, r2, by rw [ke r r2]; exact r3⟩ (h.f4.fr hv' (fun _ h => h) ke) (h.f5.fr hv' (fun _ h => h) ke) (h.f6.fr hv' (fun _ h => h) ke) (h.f7.fr hv' (fun _ h => h) ke) (h.f8.fr hv' (fun _ h => h) ke) (h.f9.fr hv' (fun _ h => h) ke) (h.fa.fr hv' (fun _ h => h) ke) (h.fb.fr hv' (fun _ h => h) ke) (fun q hq => (h.fc q (by rw [← zA_eq hv']; exact hq)).fr (fun _ h => h) ke) ⟨l, by rw [zA_eq hv']; exact l1, L' l l2, l3, l4, fun r hr => (l5 r (by rw [← zL_eq (fr l lo)]; exact hr)).fr (fun _ h => h) ke⟩
  · rw [ke q hq]
    exact S.nm q hq
  · obtain ⟨e, L, b, h⟩ := S.zc r hr t ht
    exact ⟨e, L, (bb t e L ht b).1, h⟩
end PAZZZZP
