/-! THE PURE LAYER: the parser: the grammar of a parse. -/
section PAZZZZS
variable {c : pC} {G : xQ} {α β γ : zS} {a k q u x lu lr : Nat} {v : Int32} {e : Int32 × Int32} {l op : List Nat} {M U : Nat → Prop} {m : List (Int32 × Int32)} {z : Option Nat}
theorem grN_at : grN (cAt c β) k v m = grN c k v m := rfl
theorem grS_at : grS (cAt c β) e m = grS c e m := rfl
theorem xHp_at : xHpN (cAt c β) M α = xHpN c M α := rfl
theorem xUn_at (h : xUn c M lu lr α u) : xUn (cAt c β) M lu lr α u := xUn.mk h.ku h.hi h.f1 h.f4 h.f5 h.f6 h.f7 h.f8 h.f9 h.fa h.fb h.fc h.fd
theorem xUn_at' (h : xUn (cAt c β) M lu lr α u) : xUn c M lu lr α u := xUn.mk h.ku h.hi h.f1 h.f4 h.f5 h.f6 h.f7 h.f8 h.f9 h.fa h.fb h.fc h.fd
theorem xTs_at (h : xTs c M U z lu lr α) : xTs (cAt c β) M U z lu lr α := xTs.mk h.hp (fun u hu => xUn_at (h.un u hu)) h.nm h.lu h.lr h.zc h.rr h.ne
theorem xTs_at' (h : xTs (cAt c β) M U z lu lr α) : xTs c M U z lu lr α := xTs.mk h.hp (fun u hu => xUn_at' (h.un u hu)) h.nm h.lu h.lr h.zc h.rr h.ne
theorem xTo_at : ∀ {op : List Nat}, xTo c U lu lr op α → xTo (cAt c β) U lu lr op α
  | [], ⟨M, h⟩ => ⟨M, xTs_at h⟩
  | _ :: _, ⟨M, z, x, h⟩ => ⟨M, z, x, xBN.mk (xTs_at h.ts) h.op h.cu h.z0⟩
theorem xTo_at' : ∀ {op : List Nat}, xTo (cAt c β) U lu lr op α → xTo c U lu lr op α
  | [], ⟨M, h⟩ => ⟨M, xTs_at' h⟩
  | _ :: _, ⟨M, z, x, h⟩ => ⟨M, z, x, xBN.mk (xTs_at' h.ts) h.op h.cu h.z0⟩
theorem xTC_at (h : xTC (cAt c β) lu lr γ) : xTC c lu lr γ := by
  obtain ⟨a, U, op, h1, h2, h3, h4, h5⟩ := h
  exact ⟨a, U, op, h1, h2, h3, h4, xTo_at' h5⟩
theorem xTo_pw (h : xTo c U lu lr op α) (e : xqN c α β) (kp : zkd α c.p = 41) : xTo c U lu lr op β := by
  rcases op with _ | ⟨u, l⟩
  · obtain ⟨M, s⟩ := h
    exact ⟨M, s.pw e.1 e.2 kp⟩
  · obtain ⟨M, z, x, B⟩ := h
    exact ⟨M, z, x, B.pw e kp⟩
/-- X's context of a whole parse -/
def cIdl (c : pC) (D : pD) (al : Nat) (α : zS) (s : zM) : pC := c.on (xS0 c D al α) (mS0 c s) 1 0 0
/-- a parse with its grammar -/
theorem par_gr {D : pD} {al B : Nat} {s : zM} (h : pIdl c D al B α s) : (∃ D' L g N β1 β s1 s', pGood G c D al B α s D' L g N β1 β s1 s' ∧ pEn D' ∧ xTC (cIdl c D al α s) D.lu D.lr β1) ∨ (∃ D' L g N F β1 β s1, pBad G c D al B α s D' L g N F β1 β s1) := by
  obtain ⟨p1, p2, V0, lal⟩ := h.start (G := G)
  have V := V0.o
  have B1 := V.B1
  have n5 := h.n
  have hJ : ∀ {D1 : pD} {L : Nat → Prop} {a N F F' : Nat} {g : pG} {α1 β : zS} {s1 : zM}, pV c D1 L B a N F g α1 s1 → a < c.n → (F = 0 → xTC (cIdl c D al α s) D.lu D.lr α1) → hX4_clause G (some c.p) (zwI α1 40 4 c.p (nI 0)) = some (.inl (), β) → zI β 40 7 c.p = nI F' → F ≤ F' → F' ≤ 21 → F' = 0 → xTC (cIdl c D al α s) D.lu D.lr β := fun {D1 L a N F F' g α1 β s1} V1 ha hj hc h7 hF hF' e0 => by
    have f0 : F = 0 := by omega
    subst f0
    subst e0
    obtain ⟨a', U, op, hx, h11, h12, h13, hO⟩ := hj rfl
    have ea : a' = a := by
      have e1 := hx.ax
      have e2 := V1.o.ax
      have e3 : nI a' = nI a := e1.symm.trans e2
      have e4 : a' ≤ c.n := hx.al
      have e5 := V1.o.al
      rw [pI_inj (by omega) (by omega)] at e3
      exact e3
    subst ea
    have hx1 := (hx.wI (k := 4) (v := nI 0) (by decide) (by decide)).cat
    have q : xqN (cIdl c D al α s) α1 (zwI α1 40 4 c.p (nI 0)) := ⟨fun x hx => zwI_ne hx, rfl⟩
    have hO1 := xTo_at (β := zwI α1 40 4 c.p (nI 0)) (xTo_pw hO q V1.o.x.kp)
    exact xTC_at (w_clause (c := cAt (cIdl c D al α s) (zwI α1 40 4 c.p (nI 0))) hx1 ha hO1 ((zA_zwI ..).trans h11) ((zA_zwI ..).trans h12) ((zA_zwI ..).trans h13) (by
      show zI (zwI α1 40 4 c.p (nI 0)) 40 7 c.p = nI 0
      rw [zI_zwI, if_neg (fun z => absurd z.2.1 (by decide))]; exact V1.o.fx) (fun i hi hk => Nat.lt_trans (h.nm i hi hk) (by decide)) _ _ hc h7)
  have hJ0 : xTC (cIdl c D al α s) D.lu D.lr (xS0 c D al α) := by
    have x := V.x
    have m := V.m
    have hx : pxW (cIdl c D al α s) (xS0 c D al α) := pxW.mk x.kp x.fk x.fv x.fn x.kk x.kv x.lk x.lv x.rk x.rv
    have pz : c.p < zn (xS0 c D al α) := by have := V.p; omega
    have kz : c.ka < zn (xS0 c D al α) := by have := V.ka; omega
    have vz : c.va < zn (xS0 c D al α) := by have := V.va; omega
    have uB := V0.uB
    have rB := V0.rB
    refine ⟨0, fun _ => False, [], xp.mk (pOk.mk V.n V.ks V.vs pz kz vz hx (mWd.mk m.fn m.rk m.rv) (Nat.le_refl _) (by show 1 ≤ 10 * 0 + 1401; decide) V.Nm ⟨0, V.fm, by decide⟩) hx V.ax (Nat.zero_le _) pz kz vz (Nat.le_refl _) (fun _ _ _ => rfl), V0.cu, V0.lu, V0.lr, fun _ => False, xTs.mk ⟨fun _ h => h.elim, fun _ h => h.elim⟩ (fun _ h => h.elim) (fun _ h => h.elim) ⟨V0.uk, Nat.lt_of_le_of_lt uB B1, fun _ h => h.elim⟩ ⟨V0.rk, Nat.lt_of_le_of_lt rB B1, fun _ h => h.elim⟩ (fun _ h => absurd h (by simp)) (fun r hr => ?_) V0.ne⟩
    have e1 : zL (xS0 c D al α) D.lr = [] := V0.rl
    rw [e1] at hr
    exact absurd hr (by simp)
  rcases par_all (G := G) (J := fun F β => F = 0 → xTC (cIdl c D al α s) D.lu D.lr β) hJ (fun F β e1 e2 => absurd e2 e1) (fun _ => hJ0) h with ⟨D', L, g, N, β1, β, s1, s', y1, y2, y3⟩ | y
  · exact .inl ⟨D', L, g, N, β1, β, s1, s', y1, y2, y3 rfl⟩
  · exact .inr y
end PAZZZZS
