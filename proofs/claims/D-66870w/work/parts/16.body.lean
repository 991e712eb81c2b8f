/-! THE PLAIN MACHINE, 7: bodies and methods, told by what they do to a store. xB is a claim on the machine itself; its rules are theorems, so that no evaluator is wanted. -/
/-- a method: name, bytes, locals, what it returns, handlers -/
abbrev xMd : Type := MethodName × ByteArray × Nat × Option FieldType × List (Nat × Nat × Nat × Nat)
abbrev xMy (M : xMd) : MethodName := M.1
abbrev xMb (M : xMd) : ByteArray := M.2.1
abbrev xML (M : xMd) : Nat := M.2.2.1
abbrev xMr (M : xMd) : Option FieldType := M.2.2.2.1
abbrev xMh (M : xMd) : List (Nat × Nat × Nat × Nat) := M.2.2.2.2
/-- what a launch has: its addresses, classes, array types, constants, statics -/
abbrev xC : Type := Launch × xG × List vw_C × List FieldType × (String → Nat → Option Value) × (String → Nat → Option Value) × (String → Nat → Nat → Option Value) × (String → Option Nat)
abbrev xl (K : xC) : Launch := K.1
abbrev xg (K : xC) : xG := K.2.1
abbrev xcl (K : xC) : List vw_C := K.2.2.1
abbrev xtl (K : xC) : List FieldType := K.2.2.2.1
abbrev xko (K : xC) : String → Nat → Option Value := K.2.2.2.2.1
abbrev xsk (K : xC) : String → Nat → Option Value := K.2.2.2.2.2.1
/-- fields of old objects; mirrors of classes -/
abbrev xfo (K : xC) : String → Nat → Nat → Option Value := K.2.2.2.2.2.2.1
abbrev xmi (K : xC) : String → Option Nat := K.2.2.2.2.2.2.2
def xFc (s : State) : Prop := ∀ (C : String) (x y : MethodName), (x.cls ≠ "java/lang/invoke/MethodHandle" ∧ x.cls ≠ "java/lang/invoke/VarHandle") → Cond.declares x ∈ lw_tbl → Cond.interfaceMethod x.cls x.cls x.name x.desc ∈ lw_tbl → Cond.publicMethod y ∈ lw_tbl → Cond.unhidden C x.name x.desc ∈ lw_tbl → Cond.castable C x.cls ∈ lw_tbl → va_Fw C x y s
theorem xFc.warm {s U : State} (hW : s.WarmedH U.vm) (h : xFc s) : xFc U := fun C x y hx h1 h2 h3 h4 h5 => (h C x y hx h1 h2 h3 h4 h5).moved hx hW.alike
/-- what a state must hold of the launch -/
def xWd (K : xC) (s : State) : Prop := xNW s ∧ xFc s ∧ (∀ own idx v, xko K own idx = some v → xLdc own idx v s) ∧ (∀ own idx v, xsk K own idx = some v → xSta (xb (xg K)) own idx v s) ∧ (∀ own idx a v, xfo K own idx a = some v → xOf (xb (xg K)) own idx a v s) ∧ ∀ C mi, xmi K C = some mi → va_Mi C mi s
/-- a state whose heap is the store -/
def xPre (K : xC) (σ : xS) (U : State) : Prop := xWd K U ∧ xEnv (xg K) (xcl K) (xtl K) U ∧ xHp (xg K) (xcl K) (xtl K) σ U U.heap [] 0
/-- behind a method: the store that it leaves -/
def xAft (K : xC) (σ' : xS) (st t : State) : Prop := t.heap.size = xb (xg K) + σ'.1.length ∧ va_P (xD (xg K)) (xcl K) (xws (xA (xg K)) (xb (xg K)) σ'.1) t.heap ∧ va_D (fun q => xb (xg K) ≤ q) (xws (xA (xg K)) (xb (xg K)) σ'.1) ∧ xTy (xtl K) σ'.1 ∧ va_F (fun q => xb (xg K) ≤ q) st t
def xQc (K : xC) (o : Outcome) (σ' : xS) : Array Value → State → Outcome → State → Prop := fun _ st o' t => o' = o ∧ xAft K σ' st t
def xXC (K : xC) (o : Outcome) (σ' : xS) : String → Addr → State → State → Prop := fun E q st t => o = .threw q ∧ xAft K σ' st t ∧ ∃ (ci : Nat) (fs : List Value) (r : vw_C), xnw (xb (xg K)) σ' q = some (.inr (ci, fs)) ∧ (xcl K)[ci]? = some r ∧ r.1 = E
def xCx (K : xC) (d : Nat) (M : xMd) (p : Program) (R : Room) (s : State) (m : MethodId) (args : Array Value) (meth : Method) (c : Code) : Prop :=
  p.tables.exec = Jvm.exec ∧ c.code = xMb M ∧ c.maxLocals = xML M ∧ s.vm.findClass (xMy M).cls = some m.cls ∧ (∀ w ∈ lw_all, w.before args s = true) ∧ xWd K s ∧ xEnv (xg K) (xcl K) (xtl K) s ∧ meth.locks = false ∧ meth.name = (xMy M).name ∧ meth.sig.returnType = xMr M ∧ c.exceptionTable.toList = tableOf (xMh M) ∧ d ≤ R.frames ∧ 128 * d ≤ R.locals
/-- from this place of the body of M, with d frames to come, the store σ becomes σ' and the method ends as o says -/
def xB (K : xC) (d : Nat) (M : xMd) (pc : Nat) (lv : List (Nat × Value)) (st : List Value) (σ : xS) (o : Outcome) (σ' : xS) : Prop :=
  (σ.1.length ≤ σ'.1.length ∧ σ.2 ≤ σ'.2) ∧ ∀ (p : Program) (e : Env) (R : Room) (s : State) (m : MethodId) (args : Array Value) (below : List Frame) (meth : Method) (c : Code) (H : Heap) (locs : List Loc) (cells slots : Nat) (ls : Array Slot),
    xCx K d M p R s m args meth c → xHp (xg K) (xcl K) (xtl K) σ s H locs cells → lv_has ls (xML M) lv → cells + (σ'.1.length - σ.1.length) ≤ R.cells → slots + (σ'.2 - σ.2) ≤ R.slots →
    W p (xl K) e R s m args below meth c H locs cells slots (vx_MQ below (xQc K o σ') (xXC K o σ') args s (cells + (σ'.1.length - σ.1.length)) (slots + (σ'.2 - σ.2)) (fun q => xb (xg K) ≤ q)) (F0 m pc ls st)
/-- the same where q is thrown at this place -/
def xT (K : xC) (d : Nat) (M : xMd) (pc : Nat) (lv : List (Nat × Value)) (st : List Value) (σ : xS) (q : Nat) (o : Outcome) (σ' : xS) : Prop :=
  (σ.1.length ≤ σ'.1.length ∧ σ.2 ≤ σ'.2) ∧ ∀ (p : Program) (e : Env) (R : Room) (s : State) (m : MethodId) (args : Array Value) (below : List Frame) (meth : Method) (c : Code) (H : Heap) (locs : List Loc) (cells slots : Nat) (ls : Array Slot),
    xCx K d M p R s m args meth c → xHp (xg K) (xcl K) (xtl K) σ s H locs cells → lv_has ls (xML M) lv → cells + (σ'.1.length - σ.1.length) ≤ R.cells → slots + (σ'.2 - σ.2) ≤ R.slots →
    vx_W p (xl K) e R s m args below meth c H locs cells slots (vx_MQ below (xQc K o σ') (xXC K o σ') args s (cells + (σ'.1.length - σ.1.length)) (slots + (σ'.2 - σ.2)) (fun q => xb (xg K) ≤ q)) (F0 m pc ls st) q
/-- the word of a method's code -/
def xHd (M : xMd) : Cond := match xMh M with
  | [] => Cond.code (xMy M) (xMb M) (xML M) (xMr M)
  | h :: t => Cond.codeWith (xMy M) (xMb M) (xML M) (xMr M) (h :: t)
/-- method M, called with As on σ with d frames to come, ends as o says and leaves σ' -/
def xMt (K : xC) (d : Nat) (M : xMd) (As : List Value) (σ : xS) (o : Outcome) (σ' : xS) : Prop :=
  (σ.1.length ≤ σ'.1.length ∧ σ.2 ≤ σ'.2) ∧ vx_Met (xl K) (xMy M) (xHd M :: lw_all) { frames := d, cells := σ'.1.length - σ.1.length, slots := σ'.2 - σ.2, locals := 128 * d } (va_Pc As (xPre K σ)) (xQc K o σ') (xXC K o σ') (σ'.1.length - σ.1.length) (σ'.2 - σ.2) (fun q => xb (xg K) ≤ q)
section XBD
variable {K : xC} {d : Nat} {M : xMd} {pc : Nat} {lv lv' : List (Nat × Value)} {st st' rest : List Value} {σ σ' σ1 : xS} {o : Outcome} {q : Nat}
theorem xWd.warm {s U : State} {H : Heap} {locs : List Loc} {cells : Nat} (hw : xWd K s) (hH : xHp (xg K) (xcl K) (xtl K) σ s H locs cells) (hU : U.heap = H) (hW : s.WarmedH U.vm) : xWd K U :=
  ⟨hw.1.warm hW, hw.2.1.warm hW, fun own idx v h => (hw.2.2.1 own idx v h).warm hW, fun own idx v h => (hw.2.2.2.1 own idx v h).moved hW.alike hH.2.2.2.2.1 hU, fun own idx a v h => (hw.2.2.2.2.1 own idx a v h).moved hW.alike hH.2.2.2.2.1 hU, fun C mi h => (hw.2.2.2.2.2 C mi h).moved hW.alike⟩
theorem xEnv.warm {g : xG} {cl : List vw_C} {tyl : List FieldType} {s U : State} {H : Heap} {locs : List Loc} {cells : Nat} (hE : xEnv g cl tyl s) (hH : xHp g cl tyl σ s H locs cells) (hU : U.heap = H) (hW : s.WarmedH U.vm) : xEnv g cl tyl U := by
  refine ⟨hE.1.moved hW.alike, by rw [hU]; exact Nat.le_trans hE.2.1 hH.2.2.2.2.1.1, fun a x h => ?_⟩
  obtain ⟨h1, h2, h3⟩ := hE.2.2 a x h
  refine ⟨h1, ?_, h3⟩
  rw [hU]
  exact h2.kept (hH.2.2.2.2.1.2.1 a (Nat.lt_of_lt_of_le h1 hE.2.1) (by show ¬ xb g ≤ a; omega))
theorem xPre.of {s U : State} {H : Heap} {locs : List Loc} {cells : Nat} (hw : xWd K s) (hE : xEnv (xg K) (xcl K) (xtl K) s) (hH : xHp (xg K) (xcl K) (xtl K) σ s H locs cells) (hU : U.heap = H) (hW : s.WarmedH U.vm) : xPre K σ U := by
  refine ⟨hw.warm hH hU hW, hE.warm hH hU hW, ?_, rfl, ?_, hH.2.2.2.1, va_S.rf, hH.2.2.2.2.2⟩
  · rw [hU]; exact hH.1
  · rw [hU]; exact hH.2.2.1
theorem xPre.blind {As : List Value} : FrameBlind (va_Pc As (xPre K σ)) := by
  intro a U g mk h
  refine ⟨h.1, xPre.of (s := U) (H := U.heap) h.2.1 h.2.2.1 h.2.2.2 rfl ?_⟩
  exact State.WarmedH.refl U
/-- the heap behind a call, as the caller sees it -/
theorem xHp.after {s st₀ t T' : State} {H : Heap} {locs L : List Loc} {cells : Nat} (hH : xHp (xg K) (xcl K) (xtl K) σ s H locs cells) (hle : σ.1.length ≤ σ1.1.length) (h0 : st₀.heap = H) (e1 : T'.heap = t.heap) (hA : xAft K σ1 st₀ t) (hL : ∀ z ∈ L, xb (xg K) ≤ z.base) :
    xHp (xg K) (xcl K) (xtl K) σ1 s T'.heap (locs ++ L) (cells + (σ1.1.length - σ.1.length)) := by
  obtain ⟨a1, a2, a3, a4, a5⟩ := hA
  obtain ⟨-, -, k3⟩ := vx_keep (free := fun q => xb (xg K) ≤ q) h0 e1 hH.2.2.2.2.1 (fun q _ h => h) (fun q h => h) hL a5
  refine ⟨by rw [e1]; exact a1, ?_, by rw [e1]; exact a2, a3, k3, a4⟩
  have := hH.1
  have := hH.2.1
  rw [e1, a1]
  omega
theorem xAft.of {s t : State} {H : Heap} {locs : List Loc} {cells : Nat} (hH : xHp (xg K) (xcl K) (xtl K) σ s H locs cells) (ht : t.heap = H) : xAft K σ s t :=
  ⟨by rw [ht]; exact hH.1, by rw [ht]; exact hH.2.2.1, hH.2.2.2.1, hH.2.2.2.2.2, hH.2.2.2.2.1.F ht⟩
/-- a method out of its body -/
theorem xMt.of {As : List Value} (hy : plainName (xMy M).cls = true) (hL : (lg_sl As).length ≤ xML M) (hB : xB K d M 0 (lv_args 0 As) [] σ o σ') : xMt K d M As σ o σ' := by
  refine ⟨hB.1, ?_⟩
  obtain ⟨y, cc, maxL, ret, hh⟩ := M
  have key : ∀ (w : Cond) (p : Program) (e : Env) (s : State) (m : MethodId) (args : Array Value) (below : List Frame) (meth : Method) (c : Code) (s₁ : State),
      BodyLoose p (xl K) y (headSpec (w :: lw_all) { frames := d, cells := σ'.1.length - σ.1.length, slots := σ'.2 - σ.2, locals := 128 * d }) cc maxL ret e s m args below meth c s₁ → c.maxLocals = maxL → c.exceptionTable.toList = tableOf hh → va_Pc As (xPre K σ) args s →
      W p (xl K) e (headSpec (w :: lw_all) { frames := d, cells := σ'.1.length - σ.1.length, slots := σ'.2 - σ.2, locals := 128 * d }).room s m args below meth c s.heap [] 0 0 (vx_MQ below (xQc K o σ') (xXC K o σ') args s (σ'.1.length - σ.1.length) (σ'.2 - σ.2) (fun q => xb (xg K) ≤ q)) (entryFrame m args maxL) := by
    intro w p e s m args below meth c s₁ B hml htab hP
    obtain ⟨rfl, hw, hE, hH⟩ := hP
    have h1 := hB.2 p e { frames := d, cells := σ'.1.length - σ.1.length, slots := σ'.2 - σ.2, locals := 128 * d } s m As.toArray below meth c s.heap [] 0 0 ((lg_sl As ++ List.replicate (maxL - (lg_sl As).length) Slot.unset).toArray)
      ⟨B.exec, B.bytes, hml, findClass_of_methodNamed B.named, fun w' hw' => atoms_spec (ws := w :: lw_all) B.pre w' (List.mem_cons_of_mem _ hw'), hw, hE, B.notSynchronized, (name_of_methodNamed B.named B.method).1, B.returns, htab, Nat.le_refl _, Nat.le_refl _⟩
      hH (lv_entry As hL) (by simp) (by simp)
    rw [lg_entry_eq]
    simp only [Nat.zero_add] at h1
    exact h1
  cases hh with
  | nil =>
    refine vx_ofW (cc := cc) (maxL := maxL) (ret := ret) (ws' := lw_all) hy rfl ?_
    intro p e s m args below meth c s₁ B hml hx hP
    refine key _ p e s m args below meth c s₁ B hml ?_ hP
    cases ht : c.exceptionTable.toList with
    | nil => rfl
    | cons x r => exact (hx x (by rw [ht]; exact List.mem_cons_self)).elim
  | cons h t =>
    refine vx_ofWH (cc := cc) (maxL := maxL) (ret := ret) (hh := h :: t) (ws' := lw_all) hy rfl ?_
    intro p e s m args below meth c s₁ B hml hP
    exact key _ p e s m args below meth c s₁ B hml (vx_table (x := y) (y := y) B (atoms_spec (ws := _ :: lw_all) B.pre _ List.mem_cons_self)) hP
end XBD
