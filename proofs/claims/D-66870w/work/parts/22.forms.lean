/-! THE PLAIN MACHINE, 13: forms of plain steps. -/
section XFP
variable {α β : Type} {K : xC} {d : Nat} {M : xMd} {J : α → xS → Outcome → xS → Prop} {pc len : Nat} {i : Instr} {lv lv' : List (Nat × Value)} {st st' : List Value} {σ : xS} {f f1 f2 : xF α}
theorem xSnd.iadd {x y : Int32} (hd : decode (xMb M) pc = .ok (.iadd, 1)) (kk : xSnd K d M J (pc + 1) lv (.int (x + y) :: st) σ f) : xSnd K d M J pc lv (.int y :: .int x :: st) σ f := xSnd.p hd rfl rfl kk
theorem xSnd.isub {x y : Int32} (hd : decode (xMb M) pc = .ok (.isub, 1)) (kk : xSnd K d M J (pc + 1) lv (.int (x - y) :: st) σ f) : xSnd K d M J pc lv (.int y :: .int x :: st) σ f := xSnd.p hd rfl rfl kk
theorem xSnd.imul {x y : Int32} (hd : decode (xMb M) pc = .ok (.imul, 1)) (kk : xSnd K d M J (pc + 1) lv (.int (x * y) :: st) σ f) : xSnd K d M J pc lv (.int y :: .int x :: st) σ f := xSnd.p hd rfl rfl kk
theorem xSnd.iand {x y : Int32} (hd : decode (xMb M) pc = .ok (.iand, 1)) (kk : xSnd K d M J (pc + 1) lv (.int (x &&& y) :: st) σ f) : xSnd K d M J pc lv (.int y :: .int x :: st) σ f := xSnd.p hd rfl rfl kk
theorem xSnd.ior {x y : Int32} (hd : decode (xMb M) pc = .ok (.ior, 1)) (kk : xSnd K d M J (pc + 1) lv (.int (x ||| y) :: st) σ f) : xSnd K d M J pc lv (.int y :: .int x :: st) σ f := xSnd.p hd rfl rfl kk
theorem xSnd.ixor {x y : Int32} (hd : decode (xMb M) pc = .ok (.ixor, 1)) (kk : xSnd K d M J (pc + 1) lv (.int (x ^^^ y) :: st) σ f) : xSnd K d M J pc lv (.int y :: .int x :: st) σ f := xSnd.p hd rfl rfl kk
theorem xSnd.ishl {x y : Int32} (hd : decode (xMb M) pc = .ok (.ishl, 1)) (kk : xSnd K d M J (pc + 1) lv (.int (x <<< (y &&& 31)) :: st) σ f) : xSnd K d M J pc lv (.int y :: .int x :: st) σ f := xSnd.p hd rfl rfl kk
theorem xSnd.ishr {x y : Int32} (hd : decode (xMb M) pc = .ok (.ishr, 1)) (kk : xSnd K d M J (pc + 1) lv (.int (x >>> (y &&& 31)) :: st) σ f) : xSnd K d M J pc lv (.int y :: .int x :: st) σ f := xSnd.p hd rfl rfl kk
theorem xSnd.iushr {x y : Int32} (hd : decode (xMb M) pc = .ok (.iushr, 1)) (kk : xSnd K d M J (pc + 1) lv (.int ((x.toUInt32 >>> (y.toUInt32 &&& Int32.toUInt32 31)).toInt32) :: st) σ f) : xSnd K d M J pc lv (.int y :: .int x :: st) σ f := xSnd.p hd rfl rfl kk
theorem xSnd.ladd {x y : Int64} (hd : decode (xMb M) pc = .ok (.ladd, 1)) (kk : xSnd K d M J (pc + 1) lv (.long (x + y) :: st) σ f) : xSnd K d M J pc lv (.long y :: .long x :: st) σ f := xSnd.p hd rfl rfl kk
theorem xSnd.lsub {x y : Int64} (hd : decode (xMb M) pc = .ok (.lsub, 1)) (kk : xSnd K d M J (pc + 1) lv (.long (x - y) :: st) σ f) : xSnd K d M J pc lv (.long y :: .long x :: st) σ f := xSnd.p hd rfl rfl kk
theorem xSnd.lmul {x y : Int64} (hd : decode (xMb M) pc = .ok (.lmul, 1)) (kk : xSnd K d M J (pc + 1) lv (.long (x * y) :: st) σ f) : xSnd K d M J pc lv (.long y :: .long x :: st) σ f := xSnd.p hd rfl rfl kk
theorem xSnd.land {x y : Int64} (hd : decode (xMb M) pc = .ok (.land, 1)) (kk : xSnd K d M J (pc + 1) lv (.long (x &&& y) :: st) σ f) : xSnd K d M J pc lv (.long y :: .long x :: st) σ f := xSnd.p hd rfl rfl kk
theorem xSnd.lor {x y : Int64} (hd : decode (xMb M) pc = .ok (.lor, 1)) (kk : xSnd K d M J (pc + 1) lv (.long (x ||| y) :: st) σ f) : xSnd K d M J pc lv (.long y :: .long x :: st) σ f := xSnd.p hd rfl rfl kk
theorem xSnd.lxor {x y : Int64} (hd : decode (xMb M) pc = .ok (.lxor, 1)) (kk : xSnd K d M J (pc + 1) lv (.long (x ^^^ y) :: st) σ f) : xSnd K d M J pc lv (.long y :: .long x :: st) σ f := xSnd.p hd rfl rfl kk
theorem xSnd.ineg {x : Int32} (hd : decode (xMb M) pc = .ok (.ineg, 1)) (kk : xSnd K d M J (pc + 1) lv (.int (-x) :: st) σ f) : xSnd K d M J pc lv (.int x :: st) σ f := xSnd.p hd rfl rfl kk
theorem xSnd.lneg {x : Int64} (hd : decode (xMb M) pc = .ok (.lneg, 1)) (kk : xSnd K d M J (pc + 1) lv (.long (-x) :: st) σ f) : xSnd K d M J pc lv (.long x :: st) σ f := xSnd.p hd rfl rfl kk
theorem xSnd.i2l {x : Int32} (hd : decode (xMb M) pc = .ok (.i2l, 1)) (kk : xSnd K d M J (pc + 1) lv (.long x.toInt64 :: st) σ f) : xSnd K d M J pc lv (.int x :: st) σ f := xSnd.p hd rfl rfl kk
theorem xSnd.l2i {x : Int64} (hd : decode (xMb M) pc = .ok (.l2i, 1)) (kk : xSnd K d M J (pc + 1) lv (.int x.toInt32 :: st) σ f) : xSnd K d M J pc lv (.long x :: st) σ f := xSnd.p hd rfl rfl kk
theorem xSnd.i2b {x : Int32} (hd : decode (xMb M) pc = .ok (.i2b, 1)) (kk : xSnd K d M J (pc + 1) lv (.int x.toInt8.toInt32 :: st) σ f) : xSnd K d M J pc lv (.int x :: st) σ f := xSnd.p hd rfl rfl kk
theorem xSnd.i2s {x : Int32} (hd : decode (xMb M) pc = .ok (.i2s, 1)) (kk : xSnd K d M J (pc + 1) lv (.int x.toInt16.toInt32 :: st) σ f) : xSnd K d M J pc lv (.int x :: st) σ f := xSnd.p hd rfl rfl kk
theorem xSnd.i2c {x : Int32} (hd : decode (xMb M) pc = .ok (.i2c, 1)) (kk : xSnd K d M J (pc + 1) lv (.int (x.toUInt32 % 65536).toInt32 :: st) σ f) : xSnd K d M J pc lv (.int x :: st) σ f := xSnd.p hd rfl rfl kk
theorem xSnd.lcmp {x y : Int64} (hd : decode (xMb M) pc = .ok (.lcmp, 1)) (kk : xSnd K d M J (pc + 1) lv (.int (lg_cmp x y) :: st) σ f) : xSnd K d M J pc lv (.long y :: .long x :: st) σ f := xSnd.p hd rfl rfl kk
theorem xSnd.lshl {x : Int64} {y : Int32} (hd : decode (xMb M) pc = .ok (.lshl, 1)) (kk : xSnd K d M J (pc + 1) lv (.long (x <<< (y.toInt64 &&& 63)) :: st) σ f) : xSnd K d M J pc lv (.int y :: .long x :: st) σ f := xSnd.p hd rfl rfl kk
theorem xSnd.lshr {x : Int64} {y : Int32} (hd : decode (xMb M) pc = .ok (.lshr, 1)) (kk : xSnd K d M J (pc + 1) lv (.long (x >>> (y.toInt64 &&& 63)) :: st) σ f) : xSnd K d M J pc lv (.int y :: .long x :: st) σ f := xSnd.p hd rfl rfl kk
theorem xSnd.lushr {x : Int64} {y : Int32} (hd : decode (xMb M) pc = .ok (.lushr, 1)) (kk : xSnd K d M J (pc + 1) lv (.long ((x.toUInt64 >>> (y.toInt64.toUInt64 &&& Int64.toUInt64 63)).toInt64) :: st) σ f) : xSnd K d M J pc lv (.int y :: .long x :: st) σ f := xSnd.p hd rfl rfl kk
theorem xSnd.lconst {n : Fin 2} {x : Int64} (hd : decode (xMb M) pc = .ok (.lconst n, 1)) (hx : Int64.ofNat (n : Nat) = x) (kk : xSnd K d M J (pc + 1) lv (.long x :: st) σ f) : xSnd K d M J pc lv st σ f := by subst hx; exact xSnd.p hd rfl rfl kk
theorem xSnd.iinc {k : Nat} {n : Int} {x c : Int32} (hd : decode (xMb M) pc = .ok (.iinc k n, 3)) (hc : Int32.ofInt n = c) (h : xlo lv k = some (.int x)) (hk : k < xML M) (hl : xst1 lv k (.int (x + c)) = lv') (kk : xSnd K d M J (pc + 3) lv' st σ f) : xSnd K d M J pc lv st σ f := by
  subst hc; subst hl
  exact xSnd.p hd rfl (by simp [xpure, xinc, h, hk]) kk
theorem xSnd.istore {k : Nat} {x : Int32} (hd : decode (xMb M) pc = .ok (i, len)) (hlen : len = xlen i) (hi : xpure (xML M) i lv (.int x :: st) = xsoI (xML M) lv (.int x :: st) k) (hk : k < xML M) (hl : xst1 lv k (.int x) = lv') (kk : xSnd K d M J (pc + len) lv' st σ f) : xSnd K d M J pc lv (.int x :: st) σ f := by
  subst hl
  exact xSnd.p hd hlen (hi.trans (by simp [xsoI, hk])) kk
theorem xSnd.lstore {k : Nat} {x : Int64} (hd : decode (xMb M) pc = .ok (i, len)) (hlen : len = xlen i) (hi : xpure (xML M) i lv (.long x :: st) = xsoL (xML M) lv (.long x :: st) k) (hk : k + 1 < xML M) (hl : xst2 lv k (.long x) = lv') (kk : xSnd K d M J (pc + len) lv' st σ f) : xSnd K d M J pc lv (.long x :: st) σ f := by
  subst hl
  exact xSnd.p hd hlen (hi.trans (by simp [xsoL, hk])) kk
theorem xst1_rf (lv : List (Nat × Value)) (k : Nat) (v : Value) (L : List (Nat × Value)) (h : ∀ q ∈ L, xlo (xst1 lv k v) q.1 = some q.2) : xSub L (xst1 lv k v) := h
theorem xSnd.astoreS {r : Option Nat} {k : Nat} (hd : decode (xMb M) pc = .ok (i, len)) (hlen : len = xlen i) (hi : xpure (xML M) i lv (va_rf r :: st) = xsoA (xML M) lv (va_rf r :: st) k) (hk : k < xML M) (hl : xSub lv' (xst1 lv k (va_rf r))) (kk : xSnd K d M J (pc + len) lv' st σ f) : xSnd K d M J pc lv (va_rf r :: st) σ f := xSnd.astore hd hlen hi hk (xSnd.sub hl kk)
theorem xSnd.istoreS {k : Nat} {x : Int32} (hd : decode (xMb M) pc = .ok (i, len)) (hlen : len = xlen i) (hi : xpure (xML M) i lv (.int x :: st) = xsoI (xML M) lv (.int x :: st) k) (hk : k < xML M) (hl : xSub lv' (xst1 lv k (.int x))) (kk : xSnd K d M J (pc + len) lv' st σ f) : xSnd K d M J pc lv (.int x :: st) σ f := xSnd.istore hd hlen hi hk rfl (xSnd.sub hl kk)
theorem xSnd.lstoreS {k : Nat} {x : Int64} (hd : decode (xMb M) pc = .ok (i, len)) (hlen : len = xlen i) (hi : xpure (xML M) i lv (.long x :: st) = xsoL (xML M) lv (.long x :: st) k) (hk : k + 1 < xML M) (hl : xSub lv' (xst2 lv k (.long x))) (kk : xSnd K d M J (pc + len) lv' st σ f) : xSnd K d M J pc lv (.long x :: st) σ f := xSnd.lstore hd hlen hi hk rfl (xSnd.sub hl kk)
theorem xSnd.iincS {k : Nat} {n : Int} {x c : Int32} (hd : decode (xMb M) pc = .ok (.iinc k n, 3)) (hc : Int32.ofInt n = c) (h : xlo lv k = some (.int x)) (hk : k < xML M) (hl : xSub lv' (xst1 lv k (.int (x + c)))) (kk : xSnd K d M J (pc + 3) lv' st σ f) : xSnd K d M J pc lv st σ f := xSnd.iinc hd hc h hk rfl (xSnd.sub hl kk)
theorem xSnd.to (kk : xSnd K d M J pc lv' st σ f) (h : xSub lv' lv) : xSnd K d M J pc lv st σ f := xSnd.sub h kk
theorem xSnd.non : xSnd K d M J pc lv st σ none := fun _ _ hf => by cases hf
/-! switches -/
theorem xSnd.tsD {dflt lo hi : Int} {offs : Array Int} {x l h : Int32} {t : Nat} (hd : decode (xMb M) pc = .ok (.tableswitch dflt lo hi offs, len)) (hl : l.toInt = lo) (hh : h.toInt = hi) (ht : xtgt pc dflt = some t) (hx : x < l ∨ h < x) (kk : xSnd K d M J t lv st σ f) : xSnd K d M J pc lv (.int x :: st) σ f := by
  refine xSnd.j hd rfl ?_ kk
  have h1 : x.toInt < lo ∨ hi < x.toInt := by
    rw [← hl, ← hh]
    exact hx.imp Int32.lt_iff_toInt_lt.mp Int32.lt_iff_toInt_lt.mp
  simp only [xbr, xtab, if_pos h1]
  exact xjmp_t ht
theorem xSnd.tsC {dflt lo hi : Int} {offs : Array Int} {x c : Int32} {t : Nat} (hd : decode (xMb M) pc = .ok (.tableswitch dflt lo hi offs, len)) (hc : xtab pc dflt lo hi offs [.int c] = some (t, [])) (hx : x = c) (kk : xSnd K d M J t lv st σ f) : xSnd K d M J pc lv (.int x :: st) σ f := by
  subst hx
  refine xSnd.j hd rfl ?_ kk
  simp only [xbr, xtab] at hc ⊢
  split at hc
  · rename_i h; rw [if_pos h]
    unfold xjmp at hc ⊢
    split at hc
    · rename_i ht; cases hc; simp only [ht]
    · cases hc
  · rename_i h; rw [if_neg h]
    split at hc
    · unfold xjmp at hc ⊢
      split at hc
      · rename_i ht; cases hc; simp only [ht]
      · cases hc
    · cases hc
/-! casts -/
def xcok (K : xC) (σ : xS) (r : Option Nat) (ok : List Nat) : Bool := match r with
  | none => true
  | some a => match xat (xb (xg K)) (xold (xg K)) σ a with
    | some (.inr (c, _)) => ok.contains c
    | _ => false
theorem xSnd.cast {idx : Nat} {r : Option Nat} {ok : List Nat} (hok : ∀ c ∈ ok, ∀ fs, xCast (xcl K) (xMy M).cls idx (.inr (c, fs))) (hd : decode (xMb M) pc = .ok (.checkcast idx, 3)) (kk : xSnd K d M J (pc + 3) lv (va_rf r :: st) σ f) : xSnd K d M J pc lv (va_rf r :: st) σ (if xcok K σ r ok = true then f else none) := by
  refine xSnd.ite (fun h => ?_) (fun _ _ _ hf => by cases hf)
  intro q σ1 hf o σ' hJ
  have kb := kk q σ1 hf o σ' hJ
  cases r with
  | none => exact ⟨kb.1, fun p e R s m args below meth c H locs cells slots ls hC hH hl h1 h2 => lv_castN hC.1 hC.2.1 hd (kb.2 p e R s m args below meth c H locs cells slots ls hC hH hl h1 h2)⟩
  | some a =>
    simp only [xcok] at h
    split at h
    · rename_i c fs hc
      exact xB.cast hc (hok c (by simpa using h) fs) hd kb
    · cases h
end XFP
