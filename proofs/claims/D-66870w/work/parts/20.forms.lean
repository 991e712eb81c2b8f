/-! THE PLAIN MACHINE, 11: forms. A form is a plain function on stores; xSnd says that the machine does at a place of a body what a form says. The forms of all methods are printed by a program, with their proofs. -/
abbrev xF (α : Type) : Type := Option (α × xS)
def xSnd {α : Type} (K : xC) (d : Nat) (M : xMd) (J : α → xS → Outcome → xS → Prop) (pc : Nat) (lv : List (Nat × Value)) (st : List Value) (σ : xS) (f : xF α) : Prop :=
  ∀ (r : α) (σ1 : xS), f = some (r, σ1) → ∀ (o : Outcome) (σ' : xS), J r σ1 o σ' → xB K d M pc lv st σ o σ'
/-- a value that gets a name -/
def xlet {α β : Type} (v : α) (k : α → β) : β := k v
def xfV (K : xC) (σ : xS) (r : Option Nat) (ci k : Nat) : Option Value := match r with
  | some a => match xat (xb (xg K)) (xold (xg K)) σ a with
    | some (.inr (c, fs)) => if c = ci then fs[k]? else none
    | _ => none
  | none => none
def xfI (K : xC) (σ : xS) (r : Option Nat) (ci k : Nat) : Option Int32 := match xfV K σ r ci k with
  | some (.int x) => some x
  | _ => none
def xfJ (K : xC) (σ : xS) (r : Option Nat) (ci k : Nat) : Option Int64 := match xfV K σ r ci k with
  | some (.long x) => some x
  | _ => none
def xfA (K : xC) (σ : xS) (r : Option Nat) (ci k : Nat) : Option (Option Nat) := match xfV K σ r ci k with
  | some v => xrf v
  | _ => none
def xpV (K : xC) (σ : xS) (r : Option Nat) (ci k : Nat) (v : Value) : Option xS := match r with
  | some a => match xnw (xb (xg K)) σ a with
    | some (.inr (c, fs)) => if c = ci ∧ k < fs.length then some (xput (xb (xg K)) σ a (.inr (ci, fs.set k v))) else none
    | _ => none
  | none => none
/-- a field of fewer bits takes what fits it alone -/
def xpN (K : xC) (σ : xS) (r : Option Nat) (ci k : Nat) (ty : FieldType) (x : Int32) : Option xS := if narrow ty (.int x) = .int x ∧ fits ty (.int x) = true then xpV K σ r ci k (.int x) else none
def xalen (K : xC) (σ : xS) (r : Option Nat) : Option Int32 := match r with
  | some a => match xat (xb (xg K)) (xold (xg K)) σ a with
    | some (.inl (_, y)) => some (nI y.1)
    | _ => none
  | none => none
def xaV (K : xC) (σ : xS) (i : Instr) (r : Option Nat) (j : Int32) : Option Value := match r with
  | some a => match xat (xb (xg K)) (xold (xg K)) σ a with
    | some (.inl (ty, y)) => if xin j y.1 = true then xel i ty y j.toNatClampNeg else none
    | _ => none
  | none => none
def xaI (K : xC) (σ : xS) (i : Instr) (r : Option Nat) (j : Int32) : Option Int32 := match xaV K σ i r j with
  | some (.int x) => some x
  | _ => none
def xaJ (K : xC) (σ : xS) (i : Instr) (r : Option Nat) (j : Int32) : Option Int64 := match xaV K σ i r j with
  | some (.long x) => some x
  | _ => none
def xaA (K : xC) (σ : xS) (i : Instr) (r : Option Nat) (j : Int32) : Option (Option Nat) := match xaV K σ i r j with
  | some v => xrf v
  | _ => none
def xas (K : xC) (σ : xS) (i : Instr) (r : Option Nat) (j : Int32) (v : Value) : Option xS := match r with
  | some a => match xnw (xb (xg K)) σ a with
    | some (.inl (ty, y)) => if xin j y.1 = true then match xup i ty y j.toNatClampNeg v with
      | some y' => some (xput (xb (xg K)) σ a (.inl (ty, y')))
      | none => none else none
    | _ => none
  | none => none
/-- a reference put into an array of class E; what may lie in it is told by the classes' places -/
def xasA (K : xC) (σ : xS) (E : String) (ok : List Nat) (r : Option Nat) (j : Int32) (v : Option Nat) : Option xS := match r with
  | some a => match xnw (xb (xg K)) σ a with
    | some (.inl (.object E', n, .inr (.inr (.inr (.inr f))))) => if E' = E ∧ xin j n = true then match v with
      | none => some (xput (xb (xg K)) σ a (.inl (.object E, n, .inr (.inr (.inr (.inr (va_up f j.toNatClampNeg none)))))))
      | some w => match xat (xb (xg K)) (xold (xg K)) σ w with
        | some (.inr (c, _)) => if c ∈ ok then some (xput (xb (xg K)) σ a (.inl (.object E, n, .inr (.inr (.inr (.inr (va_up f j.toNatClampNeg (some w)))))))) else none
        | _ => none else none
    | _ => none
  | none => none
def xmkO (K : xC) (σ : xS) (ci : Nat) (tyf : Nat → FieldType) (N : Nat) : xF (Option Nat) := some (some (xb (xg K) + σ.1.length), xmake σ (.inr (ci, xdef tyf N)) N)
def xmkA (K : xC) (σ : xS) (ty : FieldType) (n : Int32) : xF (Option Nat) := if n < 0 ∨ 536870912 < n.toNatClampNeg * 8 then none else match xnil ty n.toNatClampNeg with
  | some y => some (some (xb (xg K) + σ.1.length), xmake σ (.inl (ty, y)) n.toNatClampNeg)
  | none => none
def xmkQ (K : xC) (σ : xS) (C : String) (n : Int32) : xF (Option Nat) := if n < 0 ∨ 536870912 < n.toNatClampNeg * 4 then none else some (some (xb (xg K) + σ.1.length), xmake σ (.inl (.object C, n.toNatClampNeg, .inr (.inr (.inr (.inr (fun _ => none)))))) n.toNatClampNeg)
/-- the object's class has this place -/
def xis (K : xC) (σ : xS) (r : Option Nat) (ci : Nat) : Bool := match r with
  | some a => match xat (xb (xg K)) (xold (xg K)) σ a with
    | some (.inr (c, _)) => c == ci
    | _ => false
  | none => false
def xloop {α β : Type} (body : α → xS → xF (α ⊕ β)) : Nat → α → xS → xF β
  | 0, _, _ => none
  | n + 1, a, σ => match body a σ with
    | some (.inl a', σ') => xloop body n a' σ'
    | some (.inr b, σ') => some (b, σ')
    | none => none
def xinr {α β : Type} (f : xF β) : xF (α ⊕ β) := f.map (fun r => (.inr r.1, r.2))
/-- how often a loop may run -/
def xLim : Nat := 1000000000
def xJl {α β : Type} (K : xC) (d : Nat) (M : xMd) (J : β → xS → Outcome → xS → Prop) (pc : Nat) (lvh : α → List (Nat × Value)) (sth : α → List Value) : (α ⊕ β) → xS → Outcome → xS → Prop := fun r σ1 o σ' => match r with
  | .inl a => xB K d M pc (lvh a) (sth a) σ1 o σ'
  | .inr b => J b σ1 o σ'
def xJI : Int32 → xS → Outcome → xS → Prop := fun r σ1 o σ' => o = .returned (some (.int r)) ∧ σ' = σ1
def xJJ : Int64 → xS → Outcome → xS → Prop := fun r σ1 o σ' => o = .returned (some (.long r)) ∧ σ' = σ1
def xJA : Option Nat → xS → Outcome → xS → Prop := fun r σ1 o σ' => o = .returned (some (va_rf r)) ∧ σ' = σ1
def xJV : Unit → xS → Outcome → xS → Prop := fun _ σ1 o σ' => o = .returned none ∧ σ' = σ1
/-- locals that a place knows too -/
def xSub (lv' lv : List (Nat × Value)) : Prop := ∀ q ∈ lv', xlo lv q.1 = some q.2
theorem xSub.nil {lv : List (Nat × Value)} : xSub [] lv := fun _ h => by cases h
theorem xSub.cons {lv lv' : List (Nat × Value)} {i : Nat} {v : Value} (h : xlo lv i = some v) (t : xSub lv' lv) : xSub ((i, v) :: lv') lv := by
  intro q hq
  rcases List.mem_cons.mp hq with rfl | hq
  · exact h
  · exact t q hq
section XFM
variable {α β : Type} {K : xC} {d : Nat} {M : xMd} {J : α → xS → Outcome → xS → Prop} {pc len : Nat} {i : Instr} {lv lv' : List (Nat × Value)} {st st' : List Value} {σ : xS} {f f1 f2 : xF α}
theorem xB.sub {o : Outcome} {σ' : xS} (h : xSub lv' lv) (kk : xB K d M pc lv' st σ o σ') : xB K d M pc lv st σ o σ' := by
  refine ⟨kk.1, fun p e R s m args below meth c H locs cells slots ls hC hH hl h1 h2 => kk.2 p e R s m args below meth c H locs cells slots ls hC hH ⟨hl.1, hl.2.1, fun q hq => ?_⟩ h1 h2⟩
  obtain ⟨k, hk, h3⟩ := xlo_at hl (h q hq)
  exact h3
theorem xSnd.sub (h : xSub lv' lv) (kk : xSnd K d M J pc lv' st σ f) : xSnd K d M J pc lv st σ f := fun r σ1 hf o σ' hJ => (kk r σ1 hf o σ' hJ).sub h
theorem xSnd.p (hd : decode (xMb M) pc = .ok (i, len)) (hlen : len = xlen i) (h : xpure (xML M) i lv st = some (lv', st')) (kk : xSnd K d M J (pc + len) lv' st' σ f) : xSnd K d M J pc lv st σ f := fun r σ1 hf o σ' hJ => xB.pure hd hlen h (kk r σ1 hf o σ' hJ)
theorem xSnd.j {t : Nat} (hd : decode (xMb M) pc = .ok (i, len)) (hlen : xlenb i len = true) (h : xbr pc i st = some (t, st')) (kk : xSnd K d M J t lv st' σ f) : xSnd K d M J pc lv st σ f := fun r σ1 hf o σ' hJ => xB.jump hd hlen h (kk r σ1 hf o σ' hJ)
theorem xSnd.iconst {n : Int} {x : Int32} (hd : decode (xMb M) pc = .ok (.iconst n, 1)) (hx : Int32.ofInt n = x) (kk : xSnd K d M J (pc + 1) lv (.int x :: st) σ f) : xSnd K d M J pc lv st σ f := by subst hx; exact xSnd.p hd rfl rfl kk
theorem xSnd.bipush {n : Int} {x : Int32} (hd : decode (xMb M) pc = .ok (.bipush n, 2)) (hx : (Int8.ofInt n).toInt32 = x) (kk : xSnd K d M J (pc + 2) lv (.int x :: st) σ f) : xSnd K d M J pc lv st σ f := by subst hx; exact xSnd.p hd rfl rfl kk
theorem xSnd.sipush {n : Int} {x : Int32} (hd : decode (xMb M) pc = .ok (.sipush n, 3)) (hx : (Int16.ofInt n).toInt32 = x) (kk : xSnd K d M J (pc + 3) lv (.int x :: st) σ f) : xSnd K d M J pc lv st σ f := by subst hx; exact xSnd.p hd rfl rfl kk
theorem xSnd.nm {v : β} {w : β → Value} {g : β → xF α} (kk : ∀ x : β, xSnd K d M J pc lv (w x :: st) σ (g x)) : xSnd K d M J pc lv (w v :: st) σ (xlet v g) := kk v
theorem va_rf_cat (r : Option Nat) : (va_rf r).category = 1 := by cases r <;> rfl
theorem xldA_rf {r : Option Nat} {k : Nat} (h : xlo lv k = some (va_rf r)) : xldA lv st k = some (lv, va_rf r :: st) := by
  unfold xldA
  rw [h]
  cases r <;> rfl
theorem xsoA_rf {r : Option Nat} {k nL : Nat} (hk : k < nL) : xsoA nL lv (va_rf r :: st) k = some (xst1 lv k (va_rf r), st) := by
  cases r <;> simp [xsoA, va_rf, hk]
theorem xSnd.aload {r : Option Nat} {k : Nat} (hd : decode (xMb M) pc = .ok (i, len)) (hlen : len = xlen i) (hi : xpure (xML M) i lv st = xldA lv st k) (h : xlo lv k = some (va_rf r)) (kk : xSnd K d M J (pc + len) lv (va_rf r :: st) σ f) : xSnd K d M J pc lv st σ f := xSnd.p hd hlen (hi.trans (xldA_rf h)) kk
theorem xSnd.astore {r : Option Nat} {k : Nat} (hd : decode (xMb M) pc = .ok (i, len)) (hlen : len = xlen i) (hi : xpure (xML M) i lv (va_rf r :: st) = xsoA (xML M) lv (va_rf r :: st) k) (hk : k < xML M) (kk : xSnd K d M J (pc + len) (xst1 lv k (va_rf r)) st σ f) : xSnd K d M J pc lv (va_rf r :: st) σ f := xSnd.p hd hlen (hi.trans (xsoA_rf hk)) kk
theorem xSnd.null (hd : decode (xMb M) pc = .ok (.aconst_null, 1)) (kk : xSnd K d M J (pc + 1) lv (va_rf none :: st) σ f) : xSnd K d M J pc lv st σ f := xSnd.p hd rfl rfl kk
theorem xSnd.dup {v : Value} (hv : v.category = 1) (hd : decode (xMb M) pc = .ok (.dup, 1)) (kk : xSnd K d M J (pc + 1) lv (v :: v :: st) σ f) : xSnd K d M J pc lv (v :: st) σ f := xSnd.p hd rfl (by show xdup lv (v :: st) = _; simp [xdup, hv]) kk
theorem xSnd.pop {v : Value} (hv : v.category = 1) (hd : decode (xMb M) pc = .ok (.pop, 1)) (kk : xSnd K d M J (pc + 1) lv st σ f) : xSnd K d M J pc lv (v :: st) σ f := xSnd.p hd rfl (by show xpop lv (v :: st) = _; simp [xpop, hv]) kk
theorem xSnd.dup_x1 {v w : Value} (hv : v.category = 1) (hw : w.category = 1) (hd : decode (xMb M) pc = .ok (.dup_x1, 1)) (kk : xSnd K d M J (pc + 1) lv (v :: w :: v :: st) σ f) : xSnd K d M J pc lv (v :: w :: st) σ f := xSnd.p hd rfl (by show xdupx1 lv (v :: w :: st) = _; simp [xdupx1, hv, hw]) kk
theorem xSnd.dup2 {v w : Value} (hv : v.category = 1) (hw : w.category = 1) (hd : decode (xMb M) pc = .ok (.dup2, 1)) (kk : xSnd K d M J (pc + 1) lv (v :: w :: v :: w :: st) σ f) : xSnd K d M J pc lv (v :: w :: st) σ f := xSnd.p hd rfl (by show xdup2 lv (v :: w :: st) = _; simp [xdup2, hv, hw]) kk
theorem xSnd.div {x y z : Int32} {g : xF α} (hd : decode (xMb M) pc = .ok (i, 1)) (hi : i = .idiv ∧ z = x / y ∨ i = .irem ∧ z = x - x / y * y) (kk : xSnd K d M J (pc + 1) lv (.int z :: st) σ g) : xSnd K d M J pc lv (.int y :: .int x :: st) σ (if y = 0 then none else g) := by
  by_cases h : y = 0
  · rw [if_pos h]; intro r σ1 hf; cases hf
  · rw [if_neg h]
    rcases hi with ⟨rfl, rfl⟩ | ⟨rfl, rfl⟩
    · exact xSnd.p hd rfl (by simp [xpure, xIIn, h]) kk
    · exact xSnd.p hd rfl (by simp [xpure, xIIn, h]) kk
theorem xSnd.ldivs {x y z : Int64} {g : xF α} (hd : decode (xMb M) pc = .ok (i, 1)) (hi : i = .ldiv ∧ z = x / y ∨ i = .lrem ∧ z = x - x / y * y) (kk : xSnd K d M J (pc + 1) lv (.long z :: st) σ g) : xSnd K d M J pc lv (.long y :: .long x :: st) σ (if y = 0 then none else g) := by
  by_cases h : y = 0
  · rw [if_pos h]; intro r σ1 hf; cases hf
  · rw [if_neg h]
    rcases hi with ⟨rfl, rfl⟩ | ⟨rfl, rfl⟩
    · exact xSnd.p hd rfl (by simp [xpure, xLLn, h]) kk
    · exact xSnd.p hd rfl (by simp [xpure, xLLn, h]) kk
theorem xSnd.ite {p : Prop} [Decidable p] (k1 : p → xSnd K d M J pc lv st σ f1) (k2 : ¬ p → xSnd K d M J pc lv st σ f2) : xSnd K d M J pc lv st σ (if p then f1 else f2) := by
  by_cases h : p
  · rw [if_pos h]; exact k1 h
  · rw [if_neg h]; exact k2 h
theorem xgo_t {t : Nat} {off : Int} {b : Bool} (ht : xtgt pc off = some t) (hb : b = true) : xgo pc off b st = some (t, st) := by simp [xgo, ht, hb]
theorem xgo_f {t : Nat} {off : Int} {b : Bool} (ht : xtgt pc off = some t) (hb : b = false) : xgo pc off b st = some (pc + 3, st) := by simp [xgo, ht, hb]
theorem xSnd.if1 {cd : Jvm.ClassFile.Cond} {off : Int} {x : Int32} {t : Nat} {p : Prop} [Decidable p] (hd : decode (xMb M) pc = .ok (.ifCond cd off, 3)) (hp : xc1 cd x = decide p) (ht : xtgt pc off = some t) (k1 : xSnd K d M J t lv st σ f1) (k2 : xSnd K d M J (pc + 3) lv st σ f2) : xSnd K d M J pc lv (.int x :: st) σ (if p then f1 else f2) :=
  xSnd.ite (fun h => xSnd.j hd rfl (xgo_t ht (hp.trans (decide_eq_true h))) k1) (fun h => xSnd.j hd rfl (xgo_f ht (hp.trans (decide_eq_false h))) k2)
theorem xSnd.if2 {cd : Jvm.ClassFile.Cond} {off : Int} {x y : Int32} {t : Nat} {p : Prop} [Decidable p] (hd : decode (xMb M) pc = .ok (.if_icmp cd off, 3)) (hp : xc2 cd x y = decide p) (ht : xtgt pc off = some t) (k1 : xSnd K d M J t lv st σ f1) (k2 : xSnd K d M J (pc + 3) lv st σ f2) : xSnd K d M J pc lv (.int y :: .int x :: st) σ (if p then f1 else f2) :=
  xSnd.ite (fun h => xSnd.j hd rfl (xgo_t ht (hp.trans (decide_eq_true h))) k1) (fun h => xSnd.j hd rfl (xgo_f ht (hp.trans (decide_eq_false h))) k2)
theorem xrf_rf (r : Option Nat) : xrf (va_rf r) = some r := by cases r <;> rfl
theorem xSnd.ifa {cd : Jvm.ClassFile.ACond} {off : Int} {x y : Option Nat} {t : Nat} (hd : decode (xMb M) pc = .ok (.if_acmp cd off, 3)) (ht : xtgt pc off = some t) (k1 : xSnd K d M J t lv st σ f1) (k2 : xSnd K d M J (pc + 3) lv st σ f2) : xSnd K d M J pc lv (va_rf y :: va_rf x :: st) σ (match cd with | .eq => if x = y then f1 else f2 | .ne => if ¬ x = y then f1 else f2) := by
  cases cd
  · exact xSnd.ite (fun h => xSnd.j hd rfl (by simp only [xbr, xacmp, xrf_rf]; exact xgo_t ht (decide_eq_true h)) k1) (fun h => xSnd.j hd rfl (by simp only [xbr, xacmp, xrf_rf]; exact xgo_f ht (decide_eq_false h)) k2)
  · exact xSnd.ite (fun h => xSnd.j hd rfl (by simp only [xbr, xacmp, xrf_rf]; exact xgo_t ht (decide_eq_true h)) k1) (fun h => xSnd.j hd rfl (by simp only [xbr, xacmp, xrf_rf]; exact xgo_f ht (decide_eq_false h)) k2)
theorem xjmp_t {t : Nat} {off : Int} (ht : xtgt pc off = some t) : xjmp pc off st = some (t, st) := by simp [xjmp, ht]
theorem xSnd.ifnull {off : Int} {x : Option Nat} {t : Nat} (hd : decode (xMb M) pc = .ok (.ifnull off, 3)) (ht : xtgt pc off = some t) (k1 : xSnd K d M J t lv st σ f1) (k2 : xSnd K d M J (pc + 3) lv st σ f2) : xSnd K d M J pc lv (va_rf x :: st) σ (if x = none then f1 else f2) := by
  cases x with
  | none => exact xSnd.j hd rfl (by simp only [xbr, xnull, va_rf, if_true]; exact xjmp_t ht) k1
  | some a => exact xSnd.j (t := pc + 3) hd rfl (by simp [xbr, xnull, va_rf]) k2
theorem xSnd.ifnonnull {off : Int} {x : Option Nat} {t : Nat} (hd : decode (xMb M) pc = .ok (.ifnonnull off, 3)) (ht : xtgt pc off = some t) (k1 : xSnd K d M J t lv st σ f1) (k2 : xSnd K d M J (pc + 3) lv st σ f2) : xSnd K d M J pc lv (va_rf x :: st) σ (if x = none then f2 else f1) := by
  cases x with
  | none => exact xSnd.j (t := pc + 3) hd rfl (by simp [xbr, xnull, va_rf]) k2
  | some a => exact xSnd.j hd rfl (by simp only [xbr, xnull, va_rf, Bool.false_eq_true, if_false]; exact xjmp_t ht) k1
end XFM
