/-! THE PLAIN MACHINE, 9: throws and calls. -/
section XTH
variable {K : xC} {d : Nat} {M : xMd} {pc len : Nat} {i : Instr} {lv lv' : List (Nat × Value)} {st st' rest : List Value} {σ σ' σ1 : xS} {o : Outcome} {q : Nat}
theorem xat_nw {b : Nat} {old : Nat → Option xE} {a : Nat} {x : xE} (h : xnw b σ a = some x) : xat b old σ a = some x := by
  obtain ⟨h1, h2⟩ := xnw_inv h
  unfold xat
  rw [if_pos h1]; exact h2
theorem x_cell {g : xG} {cl : List vw_C} {tyl : List FieldType} {s : State} {H : Heap} {locs : List Loc} {cells : Nat} (hE : xEnv g cl tyl s) (hH : xHp g cl tyl σ s H locs cells) {a ci : Nat} {fs : List Value} {r : vw_C} (hc : xat (xb g) (xold g) σ a = some (.inr (ci, fs))) (hr : cl[ci]? = some r) : ∃ cell : Cell, H[a]? = some cell ∧ cell.vm = .none ∧ s.vm.findClass r.1 = some cell.cls := by
  obtain ⟨hP, -⟩ := hH.rd hE hc
  obtain ⟨r', h1, cell, h2, h3, h4, -⟩ := hP 0 _ rfl
  cases h1.symm.trans hr
  exact ⟨cell, h2, h4, by rw [h3]; exact (hE.1.1 _ _ hr).2.1⟩
/-- q is thrown here, and no handler takes it: it leaves the method -/
theorem xT.out {ci : Nat} {fs : List Value} {r : vw_C} (hc : xnw (xb (xg K)) σ q = some (.inr (ci, fs))) (hr : (xcl K)[ci]? = some r) (ho : (xMh M).all (fun h => !(covers ⟨h.1, h.2.1, h.2.2.1, h.2.2.2⟩ pc)) = true) : xT K d M pc lv rest σ q (.threw q) σ := by
  refine ⟨⟨Nat.le_refl _, Nat.le_refl _⟩, fun p e R s m args below meth c H locs cells slots ls hC hH hl h1 h2 => ?_⟩
  rw [Nat.sub_self, Nat.sub_self, Nat.add_zero, Nat.add_zero]
  obtain ⟨ce, c1, c2, c3⟩ := x_cell hC.2.2.2.2.2.2.1 hH (xat_nw hc) hr
  refine vx_out (fun x hx => ?_) hC.2.2.2.2.2.2.2.1 c1 c2 c3 (fun t ht _ => ⟨rfl, xAft.of hH ht, ci, fs, r, hc, hr, rfl⟩) hH.2.2.2.2.1.2.2 (Nat.le_refl _) (Nat.le_refl _)
  rw [hC.2.2.2.2.2.2.2.2.2.2.1] at hx
  obtain ⟨h, h3, rfl⟩ := List.mem_map.mp hx
  have h4 := List.all_eq_true.mp ho h h3
  cases h5 : covers (⟨h.1, h.2.1, h.2.2.1, h.2.2.2⟩ : ExceptionTableEntry) pc
  · rfl
  · rw [h5] at h4; cases h4
/-- it is taken by a row of the table; the rows ahead do not reach this place -/
theorem xT.caught {ci : Nat} {fs : List Value} {r : vw_C} (hc : xnw (xb (xg K)) σ q = some (.inr (ci, fs))) (hr : (xcl K)[ci]? = some r) (pre suf : List (Nat × Nat × Nat × Nat)) (x : Nat × Nat × Nat × Nat) (hs : xMh M = pre ++ x :: suf) (hp : pre.all (fun h => !(covers ⟨h.1, h.2.1, h.2.2.1, h.2.2.2⟩ pc)) = true) (hx : covers ⟨x.1, x.2.1, x.2.2.1, x.2.2.2⟩ pc = true) (h0 : x.2.2.2 ≠ 0)
    {nm : String} (hl : Cond.classLink (xMy M).cls x.2.2.2 nm ∈ lw_all) (hn : r.1 = nm ∨ Cond.castable r.1 nm ∈ lw_tbl) (hself : Cond.castable r.1 r.1 ∈ lw_tbl ∨ r.1 ≠ nm) (kk : xB K d M x.2.2.1 lv [.ref q] σ o σ') : xT K d M pc lv rest σ q o σ' := by
  refine ⟨kk.1, fun p e R s m args below meth c H locs cells slots ls hC hH hlv h1 h2 => ?_⟩
  obtain ⟨ce, c1, c2, c3⟩ := x_cell hC.2.2.2.2.2.2.1 hH (xat_nw hc) hr
  have hcast : (Cond.castable r.1 nm).before args s = true := by
    rcases hn with h | h
    · rcases hself with h3 | h3
      · rw [h] at h3 ⊢
        exact va_Nw.use rfl (hC.2.2.2.2.2.1.1 _ h3 rfl)
      · exact absurd h h3
    · exact va_Nw.use rfl (hC.2.2.2.2.2.1.1 _ h rfl)
  refine vx_catch hC.2.2.2.1 (tableOf pre) ⟨x.1, x.2.1, x.2.2.1, x.2.2.2⟩ (tableOf suf) ?_ (fun z hz => Or.inl ?_) hx h0 (hC.2.2.2.2.1 _ hl) hcast c1 c2 c3 (kk.2 p e R s m args below meth c H locs cells slots ls hC hH hlv h1 h2)
  · rw [hC.2.2.2.2.2.2.2.2.2.2.1, hs]
    simp [tableOf]
  · obtain ⟨h, h3, rfl⟩ := List.mem_map.mp hz
    have h4 := List.all_eq_true.mp hp h h3
    cases h5 : covers (⟨h.1, h.2.1, h.2.2.1, h.2.2.2⟩ : ExceptionTableEntry) pc
    · rfl
    · rw [h5] at h4; cases h4
theorem xB.athrow (hd : decode (xMb M) pc = .ok (.athrow, 1)) (kk : xT K d M pc lv rest σ q o σ') : xB K d M pc lv (.ref q :: rest) σ o σ' :=
  ⟨kk.1, fun p e R s m args below meth c H locs cells slots ls hC hH hl h1 h2 => vx_athrow hC.1 hC.2.1 hd (kk.2 p e R s m args below meth c H locs cells slots ls hC hH hl h1 h2)⟩
end XTH
/-- a call that runs: as vx_Run, of any length -/
def xRun (len : Nat) (p : Program) (l : Launch) (e : Env) (R : Room) (s : State) (m : MethodId) (args : Array Value) (below : List Frame) (meth : Method) (c : Code) (H : Heap) (locs : List Loc) (cells slots mc ms : Nat) (g : JFrame) (rest : List Value) (Qa : State → Outcome → State → Prop) (XC : String → Addr → State → State → Prop) (free : Addr → Prop) : Prop :=
  ∀ T : State, T.heap = H → Stand p l e R s m args below meth c T locs cells slots →
    (∃ (v : Option Value) (st₀ t T' : State) (L : List Loc), st₀.heap = H ∧ Stand p l e R s m args below meth c T' (locs ++ L) (cells + mc) (slots + ms) ∧ (∀ q ∈ L, free q.base) ∧ T'.heap = t.heap ∧ T'.vm = t.vm ∧ Qa st₀ (.returned v) t ∧
      Goes p e below T g T' { g with pc := g.pc + len, stack := v.toList ++ rest }) ∨
    (∃ (q : Addr) (st₀ t T' : State) (L : List Loc) (E : String) (ce : Cell), st₀.heap = H ∧ Stand p l e R s m args below meth c T' (locs ++ L) (cells + mc) (slots + ms) ∧ (∀ z ∈ L, free z.base) ∧ T'.heap = t.heap ∧ T'.vm = t.vm ∧ XC E q st₀ t ∧ t.heap[q]? = some ce ∧ ce.vm = .none ∧ s.vm.findClass E = some ce.cls ∧
      Steps p.tables e below (T.setTop g) ((T'.setTop { g with stack := rest }).pushFrame (.throwing q)))
/-- instruction i of class own calls M with n arguments (the receiver among them), where the receiver's class is C -/
def xCal (K : xC) (own : String) (i : Instr) (len : Nat) (M : xMd) (rc : Option String) (n : Nat) : Prop :=
  ∀ (p : Program) (e : Env) (R : Room) (s : State) (m : MethodId) (args : Array Value) (below : List Frame) (meth : Method) (c : Code) (H : Heap) (locs : List Loc) (cells slots mc ms pc nL : Nat) (ls : Array Slot) (cc : ByteArray) (As rest : List Value) (rm : Room) (Pc : Array Value → State → Prop) (Qc : Array Value → State → Outcome → State → Prop) (XC : String → Addr → State → State → Prop) (free : Addr → Prop),
    CallFix p m c cc nL s args lw_all own → xWd K s → xEnv (xg K) (xcl K) (xtl K) s → vx_Met (xl K) (xMy M) (xHd M :: lw_all) rm Pc Qc XC mc ms free → rm.cells = mc → rm.slots = ms → rm.frames + 1 ≤ R.frames → 8 + (xML M + 11) + rm.locals ≤ R.locals → FrameBlind Pc → (∀ U : State, U.heap = H → s.WarmedH U.vm → Pc As.toArray U) → As.length = n →
    (∀ C, rc = some C → ∃ (b : Nat) (At : List Value) (cell : Cell), As = .ref b :: At ∧ H[b]? = some cell ∧ cell.vm.isStatics = false ∧ s.vm.findClass C = some cell.cls) → ls.size = nL → (rest.map fun v => v.category).sum ≤ 8 → decode cc pc = .ok (i, len) → cells + mc ≤ R.cells ∧ slots + ms ≤ R.slots →
    xRun len p (xl K) e R s m args below meth c H locs cells slots mc ms (F0 m pc ls (As.reverse ++ rest)) rest (Qc As.toArray) XC free
section XCA
variable {K : xC} {d d' : Nat} {M N : xMd} {pc len n : Nat} {i : Instr} {lv : List (Nat × Value)} {rest As : List Value} {σ σ' σ1 : xS} {o : Outcome} {q : Nat} {rc : Option String}
/-- the receiver of a call, in a store -/
def xRc (K : xC) (σ : xS) (rc : Option String) (As : List Value) : Prop := ∀ C, rc = some C → ∃ (b : Nat) (At : List Value) (ci : Nat) (fs : List Value) (r : vw_C), As = .ref b :: At ∧ xat (xb (xg K)) (xold (xg K)) σ b = some (.inr (ci, fs)) ∧ (xcl K)[ci]? = some r ∧ r.1 = C
theorem xB.callO {oc : Outcome} (hC : xCal K (xMy M).cls i len N rc n) (hM : xMt K d' N As σ oc σ1) (hdd : d' + 1 ≤ d) (hL : xML N ≤ 100) (hr : xRc K σ rc As) (hn : As.length = n) (h8 : (rest.map fun v => v.category).sum ≤ 8) (hd : decode (xMb M) pc = .ok (i, len))
    (k1 : ∀ v, oc = .returned v → xB K d M (pc + len) lv (v.toList ++ rest) σ1 o σ') (k2 : ∀ q, oc = .threw q → xT K d M pc lv rest σ1 q o σ') (k3 : σ1.1.length ≤ σ'.1.length ∧ σ1.2 ≤ σ'.2) : xB K d M pc lv (As.reverse ++ rest) σ o σ' := by
  obtain ⟨m1, m2⟩ := hM
  refine ⟨⟨by omega, by omega⟩, fun p e R s m args below meth c H locs cells slots ls hX hH hl h1 h2 => ?_⟩
  have hf : d ≤ R.frames := hX.2.2.2.2.2.2.2.2.2.2.2.1
  have hlo : 128 * d ≤ R.locals := hX.2.2.2.2.2.2.2.2.2.2.2.2
  have run := hC p e R s m args below meth c H locs cells slots _ _ pc (xML M) ls (xMb M) As rest _ _ _ _ _ ⟨hX.1, hX.2.1, hX.2.2.1, hX.2.2.2.1, hX.2.2.2.2.1⟩ hX.2.2.2.2.2.1 hX.2.2.2.2.2.2.1 m2 rfl rfl (by show d' + 1 ≤ _; omega) (by show 8 + (xML N + 11) + 128 * d' ≤ _; omega) xPre.blind
    (fun U hU hW => ⟨rfl, xPre.of hX.2.2.2.2.2.1 hX.2.2.2.2.2.2.1 hH hU hW⟩) hn
    (fun C hc => by
      obtain ⟨b, At, ci, fs, r, h3, h4, h5, h6⟩ := hr C hc
      obtain ⟨cell, c1, c2, c3⟩ := x_cell hX.2.2.2.2.2.2.1 hH h4 h5
      exact ⟨b, At, cell, h3, c1, by rw [c2]; rfl, by rw [← h6]; exact c3⟩) hl.1 h8 hd ⟨by omega, by omega⟩
  intro T hT X
  rcases run T hT X with ⟨v, st₀, t, T', L, h0, X', hLL, e1, e2, ⟨hv, hA⟩, stp⟩ | ⟨q, st₀, t, T', L, E, ce, h0, X', hLL, e1, e2, ⟨hv, hA, -⟩, hce, hcv, hcl, stp⟩
  · have hH1 := hH.after m1.1 h0 e1 hA hLL
    have h3 := (k1 v hv.symm).2 p e R s m args below meth c T'.heap (locs ++ L) (cells + (σ1.1.length - σ.1.length)) (slots + (σ1.2 - σ.2)) ls hX hH1 hl (by omega) (by omega)
    rw [show cells + (σ1.1.length - σ.1.length) + (σ'.1.length - σ1.1.length) = cells + (σ'.1.length - σ.1.length) by omega, show slots + (σ1.2 - σ.2) + (σ'.2 - σ1.2) = slots + (σ'.2 - σ.2) by omega] at h3
    obtain ⟨t2, a1, b1⟩ := h3 T' rfl X'
    exact ⟨t2, stp t2 a1, b1⟩
  · have hH1 := hH.after m1.1 h0 e1 hA hLL
    have h3 := (k2 q hv).2 p e R s m args below meth c T'.heap (locs ++ L) (cells + (σ1.1.length - σ.1.length)) (slots + (σ1.2 - σ.2)) ls hX hH1 hl (by omega) (by omega)
    rw [show cells + (σ1.1.length - σ.1.length) + (σ'.1.length - σ1.1.length) = cells + (σ'.1.length - σ.1.length) by omega, show slots + (σ1.2 - σ.2) + (σ'.2 - σ1.2) = slots + (σ'.2 - σ.2) by omega] at h3
    obtain ⟨t2, a1, b1⟩ := h3 T' rfl X'
    exact ⟨t2, stp.trans a1, b1⟩
theorem xB.call {v : Option Value} (hC : xCal K (xMy M).cls i len N rc n) (hM : xMt K d' N As σ (.returned v) σ1) (hdd : d' + 1 ≤ d) (hL : xML N ≤ 100) (hr : xRc K σ rc As) (hn : As.length = n) (h8 : (rest.map fun v => v.category).sum ≤ 8) (hd : decode (xMb M) pc = .ok (i, len))
    (kk : xB K d M (pc + len) lv (v.toList ++ rest) σ1 o σ') : xB K d M pc lv (As.reverse ++ rest) σ o σ' :=
  xB.callO hC hM hdd hL hr hn h8 hd (fun v' h => by cases h; exact kk) (fun q h => by cases h) kk.1
theorem xB.callX (hC : xCal K (xMy M).cls i len N rc n) (hM : xMt K d' N As σ (.threw q) σ1) (hdd : d' + 1 ≤ d) (hL : xML N ≤ 100) (hr : xRc K σ rc As) (hn : As.length = n) (h8 : (rest.map fun v => v.category).sum ≤ 8) (hd : decode (xMb M) pc = .ok (i, len))
    (kk : xT K d M pc lv rest σ1 q o σ') : xB K d M pc lv (As.reverse ++ rest) σ o σ' :=
  xB.callO hC hM hdd hL hr hn h8 hd (fun v' h => by cases h) (fun q h => by cases h; exact kk) kk.1
end XCA
