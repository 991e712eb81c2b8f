/-! THE PLAIN MACHINE, 8: the rules of bodies. -/
section XRU
variable {K : xC} {d : Nat} {M : xMd} {pc len : Nat} {i : Instr} {lv lv' : List (Nat × Value)} {st st' rest : List Value} {σ σ' σ1 : xS} {o : Outcome} {q : Nat}
theorem xB.pure (hd : decode (xMb M) pc = .ok (i, len)) (hlen : len = xlen i) (h : xpure (xML M) i lv st = some (lv', st')) (kk : xB K d M (pc + len) lv' st' σ o σ') : xB K d M pc lv st σ o σ' :=
  ⟨kk.1, fun p e R s m args below meth c H locs cells slots _ hC hH hl h1 h2 => xpure_W hC.1 hC.2.1 hd hlen hl h (fun ls' hl' => kk.2 p e R s m args below meth c H locs cells slots ls' hC hH hl' h1 h2)⟩
theorem xB.jump {t : Nat} (hd : decode (xMb M) pc = .ok (i, len)) (hlen : xlenb i len = true) (h : xbr pc i st = some (t, st')) (kk : xB K d M t lv st' σ o σ') : xB K d M pc lv st σ o σ' :=
  ⟨kk.1, fun p e R s m args below meth c H locs cells slots ls hC hH hl h1 h2 => xbr_W hC.1 hC.2.1 hd hlen h (kk.2 p e R s m args below meth c H locs cells slots ls hC hH hl h1 h2)⟩
theorem xB.ald (hd : decode (xMb M) pc = .ok (i, 1)) (h : xald (xb (xg K)) (xold (xg K)) σ i st = some st') (kk : xB K d M (pc + 1) lv st' σ o σ') : xB K d M pc lv st σ o σ' :=
  ⟨kk.1, fun p e R s m args below meth c H locs cells slots ls hC hH hl h1 h2 => xald_W hC.1 hC.2.1 hC.2.2.2.2.2.2.1 hH hd h (kk.2 p e R s m args below meth c H locs cells slots ls hC hH hl h1 h2)⟩
/-- the sizes of a store that is written -/
theorem xput_len (b : Nat) (σ : xS) (a : Nat) (x : xE) : (xput b σ a x).1.length = σ.1.length ∧ (xput b σ a x).2 = σ.2 := ⟨List.length_set, rfl⟩
theorem xast_len {b : Nat} (h : xast b σ i st = some (st', σ1)) : σ1.1.length = σ.1.length ∧ σ1.2 = σ.2 := by
  obtain ⟨v, j, a, ty, y, y', rfl, hc, hi, hv, rfl⟩ := xast_inv h
  exact xput_len _ _ _ _
theorem xB.ast (hd : decode (xMb M) pc = .ok (i, 1)) (h : xast (xb (xg K)) σ i st = some (st', σ1)) (kk : xB K d M (pc + 1) lv st' σ1 o σ') : xB K d M pc lv st σ o σ' := by
  obtain ⟨e1, e2⟩ := xast_len h
  obtain ⟨k1, k2⟩ := kk
  rw [e1, e2] at k1
  refine ⟨k1, fun p e R s m args below meth c H locs cells slots ls hC hH hl h1 h2 => xast_W hC.1 hC.2.1 hC.2.2.2.2.2.2.1 hH hd h (fun H1 locs1 hH1 => ?_)⟩
  have h3 := k2 p e R s m args below meth c H1 locs1 cells slots ls hC hH1 hl (by rw [e1]; exact h1) (by rw [e2]; exact h2)
  rw [e1, e2] at h3
  exact h3
theorem xB.get {idx k ci mode a : Nat} {fs : List Value} {v : Value} (hF : xFd (xcl K) (xMy M).cls idx k ci mode) (hc : xat (xb (xg K)) (xold (xg K)) σ a = some (.inr (ci, fs))) (hv : fs[k]? = some v) (hd : decode (xMb M) pc = .ok (.getfield idx, 3)) (kk : xB K d M (pc + 3) lv (v :: rest) σ o σ') : xB K d M pc lv (.ref a :: rest) σ o σ' :=
  ⟨kk.1, fun p e R s m args below meth c H locs cells slots ls hC hH hl h1 h2 => x_get hC.1 hC.2.1 hC.2.2.2.2.2.2.1 hH hC.2.2.2.2.1 hC.2.2.2.2.2.1.1 hC.2.2.2.1 hF hc hv hd (kk.2 p e R s m args below meth c H locs cells slots ls hC hH hl h1 h2)⟩
theorem xB.put {idx k ci mode a N : Nat} {fs : List Value} {v : Value} {tyf : Nat → FieldType} (hF : xFd (xcl K) (xMy M).cls idx k ci mode) (hCk : xCk (xcl K) ci tyf N) (hm : mode = 1 ∨ (mode = 2 ∧ (xMy M).name = "<init>")) (hc : xnw (xb (xg K)) σ a = some (.inr (ci, fs))) (hk : k < fs.length) (hn : narrow (tyf k) v = v) (hf : fits (tyf k) v = true) (hd : decode (xMb M) pc = .ok (.putfield idx, 3))
    (kk : xB K d M (pc + 3) lv rest (xput (xb (xg K)) σ a (.inr (ci, fs.set k v))) o σ') : xB K d M pc lv (v :: .ref a :: rest) σ o σ' := by
  obtain ⟨e1, e2⟩ := xput_len (xb (xg K)) σ a (.inr (ci, fs.set k v))
  obtain ⟨k1, k2⟩ := kk
  rw [e1, e2] at k1
  refine ⟨k1, fun p e R s m args below meth c H locs cells slots ls hC hH hl h1 h2 => x_put hC.1 hC.2.1 hC.2.2.2.2.2.2.1 hH hC.2.2.2.2.1 hC.2.2.2.2.2.1.1 hC.2.2.2.1 hF hCk (hm.imp id (fun h => ⟨h.1, by rw [hC.2.2.2.2.2.2.2.2.1]; exact h.2⟩)) hc hk hn hf hd (fun H1 locs1 hH1 => ?_)⟩
  have h3 := k2 p e R s m args below meth c H1 locs1 cells slots ls hC hH1 hl (by rw [e1]; exact h1) (by rw [e2]; exact h2)
  rw [e1, e2] at h3
  exact h3
theorem xB.alen {a : Nat} {ty : FieldType} {y : vp_A} (hc : xat (xb (xg K)) (xold (xg K)) σ a = some (.inl (ty, y))) (hd : decode (xMb M) pc = .ok (.arraylength, 1)) (kk : xB K d M (pc + 1) lv (.int (nI y.1) :: rest) σ o σ') : xB K d M pc lv (.ref a :: rest) σ o σ' :=
  ⟨kk.1, fun p e R s m args below meth c H locs cells slots ls hC hH hl h1 h2 => x_alen hC.1 hC.2.1 hC.2.2.2.2.2.2.1 hH hc hd (kk.2 p e R s m args below meth c H locs cells slots ls hC hH hl h1 h2)⟩
theorem xmake_len (σ : xS) (x : xE) (w : Nat) : (xmake σ x w).1.length = σ.1.length + 1 ∧ (xmake σ x w).2 = σ.2 + w := ⟨by simp [xmake], rfl⟩
/-- behind a new cell of w words -/
theorem xB.make {x : xE} {w t : Nat} {st0 : List Value} (kk : xB K d M t lv st (xmake σ x w) o σ')
    (hW : ∀ (p : Program) (e : Env) (R : Room) (s : State) (m : MethodId) (args : Array Value) (below : List Frame) (meth : Method) (c : Code) (H : Heap) (locs : List Loc) (cells slots : Nat) (ls : Array Slot) (Q : State → Prop), xCx K d M p R s m args meth c → xHp (xg K) (xcl K) (xtl K) σ s H locs cells → cells + 1 ≤ R.cells → slots + w ≤ R.slots →
      (∀ (H1 : Heap) (locs1 : List Loc), xHp (xg K) (xcl K) (xtl K) (xmake σ x w) s H1 locs1 (cells + 1) → W p (xl K) e R s m args below meth c H1 locs1 (cells + 1) (slots + w) Q (F0 m t ls st)) → W p (xl K) e R s m args below meth c H locs cells slots Q (F0 m pc ls st0)) : xB K d M pc lv st0 σ o σ' := by
  obtain ⟨e1, e2⟩ := xmake_len σ x w
  obtain ⟨k1, k2⟩ := kk
  rw [e1, e2] at k1
  refine ⟨⟨by omega, by omega⟩, fun p e R s m args below meth c H locs cells slots ls hC hH hl h1 h2 => hW p e R s m args below meth c H locs cells slots ls _ hC hH (by omega) (by omega) (fun H1 locs1 hH1 => ?_)⟩
  have h3 := k2 p e R s m args below meth c H1 locs1 (cells + 1) (slots + w) ls hC hH1 hl (by rw [e1]; omega) (by rw [e2]; omega)
  rw [e1, e2, show cells + 1 + (σ'.1.length - (σ.1.length + 1)) = cells + (σ'.1.length - σ.1.length) by omega, show slots + w + (σ'.2 - (σ.2 + w)) = slots + (σ'.2 - σ.2) by omega] at h3
  exact h3
theorem xB.new {idx ci N : Nat} {tyf : Nat → FieldType} (hNc : xNc (xcl K) (xMy M).cls idx ci N) (hCk : xCk (xcl K) ci tyf N) (hd : decode (xMb M) pc = .ok (.new idx, 3))
    (kk : xB K d M (pc + 3) lv (.ref (xb (xg K) + σ.1.length) :: rest) (xmake σ (.inr (ci, xdef tyf N)) N) o σ') : xB K d M pc lv rest σ o σ' :=
  kk.make fun _ _ _ _ _ _ _ _ _ _ _ _ _ _ _ hC hH h1 h2 k => x_new hC.1 hC.2.1 hC.2.2.2.2.2.2.1 hH hC.2.2.2.2.1 hC.2.2.2.1 hNc hCk h1 h2 hd k
theorem xB.newa {atype : ArrayType} {n : Int32} {y : vp_A} (hw : Cond.arrayClass (newarray.typeOf atype) ∈ lw_all) (ht : newarray.typeOf atype ∈ xtl K) (hy : xnil (newarray.typeOf atype) n.toNatClampNeg = some y) (hn : ¬ n < 0) (hbig : n.toNatClampNeg * 8 ≤ 536870912) (hd : decode (xMb M) pc = .ok (.newarray atype, 2))
    (kk : xB K d M (pc + 2) lv (.ref (xb (xg K) + σ.1.length) :: rest) (xmake σ (.inl (newarray.typeOf atype, y)) n.toNatClampNeg) o σ') : xB K d M pc lv (.int n :: rest) σ o σ' :=
  kk.make fun _ _ _ _ _ _ _ _ _ _ _ _ _ _ _ hC hH h1 h2 k => x_newa hC.1 hC.2.1 hC.2.2.2.2.2.2.1 hH hC.2.2.2.2.1 hw ht hy hn hbig h1 h2 hd k
theorem xB.newq {idx : Nat} {C : String} {n : Int32} (hw : Cond.classLink (xMy M).cls idx C ∈ lw_all) (hw2 : Cond.arrayOver (.object C) ∈ lw_tbl) (ht : FieldType.object C ∈ xtl K) (hn : ¬ n < 0) (hbig : n.toNatClampNeg * 4 ≤ 536870912) (hd : decode (xMb M) pc = .ok (.anewarray idx, 3))
    (kk : xB K d M (pc + 3) lv (.ref (xb (xg K) + σ.1.length) :: rest) (xmake σ (.inl (.object C, n.toNatClampNeg, .inr (.inr (.inr (.inr (fun _ => none)))))) n.toNatClampNeg) o σ') : xB K d M pc lv (.int n :: rest) σ o σ' :=
  kk.make fun _ _ _ _ _ _ _ _ _ _ _ _ _ _ _ hC hH h1 h2 k => x_newq hC.1 hC.2.1 hC.2.2.2.2.2.2.1 hH hC.2.2.2.2.1 hC.2.2.2.2.2.1.1 hC.2.2.2.1 hw hw2 ht hn hbig h1 h2 hd k
theorem xB.astq {E : String} {a v n : Nat} {f : Nat → Option Nat} {j : Int32} {x : xE} (hc : xnw (xb (xg K)) σ a = some (.inl (.object E, n, .inr (.inr (.inr (.inr f)))))) (hv : xat (xb (xg K)) (xold (xg K)) σ v = some x) (hany : xAny (xg K) (xcl K) E x) (hi : xin j n = true) (hd : decode (xMb M) pc = .ok (.aastore, 1))
    (kk : xB K d M (pc + 1) lv rest (xput (xb (xg K)) σ a (.inl (.object E, n, .inr (.inr (.inr (.inr (va_up f j.toNatClampNeg (some v)))))))) o σ') : xB K d M pc lv (.ref v :: .int j :: .ref a :: rest) σ o σ' := by
  obtain ⟨e1, e2⟩ := xput_len (xb (xg K)) σ a (.inl (.object E, n, .inr (.inr (.inr (.inr (va_up f j.toNatClampNeg (some v)))))))
  obtain ⟨k1, k2⟩ := kk
  rw [e1, e2] at k1
  refine ⟨k1, fun p e R s m args below meth c H locs cells slots ls hC hH hl h1 h2 => x_astq hC.1 hC.2.1 hC.2.2.2.2.2.2.1 hH hC.2.2.2.2.2.1.1 hc hv hany hi hd (fun H1 locs1 hH1 => ?_)⟩
  have h3 := k2 p e R s m args below meth c H1 locs1 cells slots ls hC hH1 hl (by rw [e1]; exact h1) (by rw [e2]; exact h2)
  rw [e1, e2] at h3
  exact h3
theorem xB.astqN {E : String} {a n : Nat} {f : Nat → Option Nat} {j : Int32} (hc : xnw (xb (xg K)) σ a = some (.inl (.object E, n, .inr (.inr (.inr (.inr f)))))) (hi : xin j n = true) (hd : decode (xMb M) pc = .ok (.aastore, 1))
    (kk : xB K d M (pc + 1) lv rest (xput (xb (xg K)) σ a (.inl (.object E, n, .inr (.inr (.inr (.inr (va_up f j.toNatClampNeg none))))))) o σ') : xB K d M pc lv (.null :: .int j :: .ref a :: rest) σ o σ' := by
  obtain ⟨e1, e2⟩ := xput_len (xb (xg K)) σ a (.inl (.object E, n, .inr (.inr (.inr (.inr (va_up f j.toNatClampNeg none))))))
  obtain ⟨k1, k2⟩ := kk
  rw [e1, e2] at k1
  refine ⟨k1, fun p e R s m args below meth c H locs cells slots ls hC hH hl h1 h2 => x_astqN hC.1 hC.2.1 hC.2.2.2.2.2.2.1 hH hc hi hd (fun H1 locs1 hH1 => ?_)⟩
  have h3 := k2 p e R s m args below meth c H1 locs1 cells slots ls hC hH1 hl (by rw [e1]; exact h1) (by rw [e2]; exact h2)
  rw [e1, e2] at h3
  exact h3
theorem xB.ldc {idx : Nat} {v : Value} (hv : xko K (xMy M).cls idx = some v) (hv2 : v.category = 1) (hd : decode (xMb M) pc = .ok (.ldc idx, 2)) (kk : xB K d M (pc + 2) lv (v :: st) σ o σ') : xB K d M pc lv st σ o σ' :=
  ⟨kk.1, fun p e R s m args below meth c H locs cells slots ls hC hH hl h1 h2 => x_ldc hC.1 hC.2.1 hC.2.2.2.2.1 hC.2.2.2.1 (hC.2.2.2.2.2.1.2.2.1 _ _ _ hv) hv2 hd (kk.2 p e R s m args below meth c H locs cells slots ls hC hH hl h1 h2)⟩
theorem xB.ldc2 {idx : Nat} {v : Value} (hv : xko K (xMy M).cls idx = some v) (hv2 : v.category = 2) (hd : decode (xMb M) pc = .ok (.ldc2_w idx, 3)) (kk : xB K d M (pc + 3) lv (v :: st) σ o σ') : xB K d M pc lv st σ o σ' :=
  ⟨kk.1, fun p e R s m args below meth c H locs cells slots ls hC hH hl h1 h2 => x_ldc2 hC.1 hC.2.1 hC.2.2.2.2.1 hC.2.2.2.1 (hC.2.2.2.2.2.1.2.2.1 _ _ _ hv) hv2 hd (kk.2 p e R s m args below meth c H locs cells slots ls hC hH hl h1 h2)⟩
theorem xB.ldcwI {idx : Nat} {x : Int32} (hv : xko K (xMy M).cls idx = some (.int x)) (hd : decode (xMb M) pc = .ok (.ldc_w idx, 3)) (kk : xB K d M (pc + 3) lv (.int x :: st) σ o σ') : xB K d M pc lv st σ o σ' :=
  ⟨kk.1, fun p e R s m args below meth c H locs cells slots ls hC hH hl h1 h2 => x_ldcw hC.1 hC.2.1 hC.2.2.2.2.1 hC.2.2.2.1 (hC.2.2.2.2.2.1.2.2.1 _ _ _ hv) (Or.inl ⟨x, rfl⟩) hd (kk.2 p e R s m args below meth c H locs cells slots ls hC hH hl h1 h2)⟩
theorem xB.gets {idx : Nat} {v : Value} (hv : xsk K (xMy M).cls idx = some v) (hd : decode (xMb M) pc = .ok (.getstatic idx, 3)) (kk : xB K d M (pc + 3) lv (v :: st) σ o σ') : xB K d M pc lv st σ o σ' :=
  ⟨kk.1, fun p e R s m args below meth c H locs cells slots ls hC hH hl h1 h2 => x_gets hC.1 hC.2.1 hH hC.2.2.2.2.1 hC.2.2.2.2.2.1.1 hC.2.2.2.1 (hC.2.2.2.2.2.1.2.2.2.1 _ _ _ hv) hd (kk.2 p e R s m args below meth c H locs cells slots ls hC hH hl h1 h2)⟩
theorem xB.geto {idx a : Nat} {v : Value} (hv : xfo K (xMy M).cls idx a = some v) (hd : decode (xMb M) pc = .ok (.getfield idx, 3)) (kk : xB K d M (pc + 3) lv (v :: rest) σ o σ') : xB K d M pc lv (.ref a :: rest) σ o σ' :=
  ⟨kk.1, fun p e R s m args below meth c H locs cells slots ls hC hH hl h1 h2 => x_geto hC.1 hC.2.1 hH hC.2.2.2.2.1 hC.2.2.2.1 (hC.2.2.2.2.2.1.2.2.2.2.1 _ _ _ _ hv) hd (kk.2 p e R s m args below meth c H locs cells slots ls hC hH hl h1 h2)⟩
theorem xB.cast {idx a : Nat} {x : xE} (hc : xat (xb (xg K)) (xold (xg K)) σ a = some x) (hk : xCast (xcl K) (xMy M).cls idx x) (hd : decode (xMb M) pc = .ok (.checkcast idx, 3)) (kk : xB K d M (pc + 3) lv (.ref a :: rest) σ o σ') : xB K d M pc lv (.ref a :: rest) σ o σ' :=
  ⟨kk.1, fun p e R s m args below meth c H locs cells slots ls hC hH hl h1 h2 => x_cast hC.1 hC.2.1 hC.2.2.2.2.2.2.1 hH hC.2.2.2.2.1 hC.2.2.2.2.2.1.1 hC.2.2.2.1 hc hk hd (kk.2 p e R s m args below meth c H locs cells slots ls hC hH hl h1 h2)⟩
theorem xB.inst {idx a ci : Nat} {fs : List Value} (hc : xat (xb (xg K)) (xold (xg K)) σ a = some (.inr (ci, fs))) (hk : xCast (xcl K) (xMy M).cls idx (.inr (ci, fs))) (hd : decode (xMb M) pc = .ok (.instanceof idx, 3)) (kk : xB K d M (pc + 3) lv (.int 1 :: rest) σ o σ') : xB K d M pc lv (.ref a :: rest) σ o σ' :=
  ⟨kk.1, fun p e R s m args below meth c H locs cells slots ls hC hH hl h1 h2 => x_inst hC.1 hC.2.1 hC.2.2.2.2.2.2.1 hH hC.2.2.2.2.1 hC.2.2.2.2.2.1.1 hC.2.2.2.1 hc hk hd (kk.2 p e R s m args below meth c H locs cells slots ls hC hH hl h1 h2)⟩
theorem xB.object {idx a : Nat} (hw : Cond.methodLink (xMy M).cls idx Lib.objectInit ∈ lw_all) (hw2 : Cond.instanceMethod Lib.objectInit ∈ lw_all) (hw3 : Cond.code Lib.objectInit ⟨#[0xb1]⟩ 1 none ∈ lw_all) (hd : decode (xMb M) pc = .ok (.invokespecial idx, 3)) (h8 : (rest.map fun v => v.category).sum ≤ 8) (h0 : 1 ≤ d) (kk : xB K d M (pc + 3) lv rest σ o σ') : xB K d M pc lv (.ref a :: rest) σ o σ' := by
  refine ⟨kk.1, fun p e R s m args below meth c H locs cells slots ls hC hH hl h1 h2 => ?_⟩
  have hf : d ≤ R.frames := hC.2.2.2.2.2.2.2.2.2.2.2.1
  have hlo : 128 * d ≤ R.locals := hC.2.2.2.2.2.2.2.2.2.2.2.2
  refine W.objInit hC.1 hC.2.1 hC.2.2.2.1 (hC.2.2.2.2.1 _ hw) (hC.2.2.2.2.1 _ hw2) (hC.2.2.2.2.1 _ hw3) rfl (hl.1.trans hC.2.2.1.symm) rfl hd (by omega) ?_ (kk.2 p e R s m args below meth c H locs cells slots ls hC hH hl h1 h2)
  show 2 * 0 + _ + 12 ≤ _
  omega
/-! returns -/
theorem xret_q {s : State} {H : Heap} {locs : List Loc} {cells : Nat} {v : Option Value} (hH : xHp (xg K) (xcl K) (xtl K) σ s H locs cells) {args : Array Value} : ∀ t : State, t.heap = H → s.WarmedH t.vm → xQc K (.returned v) σ args s (.returned v) t := fun _ ht _ => ⟨rfl, xAft.of hH ht⟩
theorem xB.end_ {v : Option Value} (h : ∀ (p : Program) (e : Env) (R : Room) (s : State) (m : MethodId) (args : Array Value) (below : List Frame) (meth : Method) (c : Code) (H : Heap) (locs : List Loc) (cells slots : Nat) (ls : Array Slot),
    xCx K d M p R s m args meth c → xHp (xg K) (xcl K) (xtl K) σ s H locs cells → W p (xl K) e R s m args below meth c H locs cells slots (MQ below (xQc K (.returned v) σ) args s cells slots (fun q => xb (xg K) ≤ q)) (F0 m pc ls st)) : xB K d M pc lv st σ (.returned v) σ := by
  refine ⟨⟨Nat.le_refl _, Nat.le_refl _⟩, fun p e R s m args below meth c H locs cells slots ls hC hH hl h1 h2 => ?_⟩
  rw [Nat.sub_self, Nat.sub_self, Nat.add_zero, Nat.add_zero]
  exact vx_ret (h p e R s m args below meth c H locs cells slots ls hC hH)
theorem xB.ireturn {v : Int32} {ty : FieldType} (hr : xMr M = some ty) (hn : narrow ty (.int v) = .int v) (hd : decode (xMb M) pc = .ok (.ireturn, 1)) : xB K d M pc lv [.int v] σ (.returned (some (.int v))) σ :=
  xB.end_ fun _ _ _ _ _ _ _ _ _ _ _ _ _ _ hC hH => W.zret hC.1 hC.2.1 (hC.2.2.2.2.2.2.2.2.2.1.trans hr) hn (xret_q hH) hH.2.2.2.2.1.2.2 hd hC.2.2.2.2.2.2.2.1
theorem xB.lreturn {v : Int64} (hr : xMr M = some .long) (hd : decode (xMb M) pc = .ok (.lreturn, 1)) : xB K d M pc lv [.long v] σ (.returned (some (.long v))) σ :=
  xB.end_ fun _ _ _ _ _ _ _ _ _ _ _ _ _ _ hC hH => W.lret hC.1 hC.2.1 (hC.2.2.2.2.2.2.2.2.2.1.trans hr) (xret_q hH) hH.2.2.2.2.1.2.2 hd hC.2.2.2.2.2.2.2.1
theorem xB.vreturn (hr : xMr M = none) (hd : decode (xMb M) pc = .ok (.return_, 1)) : xB K d M pc lv [] σ (.returned none) σ :=
  xB.end_ fun _ _ _ _ _ _ _ _ _ _ _ _ _ _ hC hH => W.vret hC.1 hC.2.1 (hC.2.2.2.2.2.2.2.2.2.1.trans hr) (xret_q hH) hH.2.2.2.2.1.2.2 hd hC.2.2.2.2.2.2.2.1
theorem xB.areturn {v : Value} {rt : FieldType} (hr : xMr M = some rt) (hrt : (∃ n, rt = .object n) ∨ ∃ t, rt = .array t) (hv : v = .null ∨ ∃ a, v = .ref a) (hd : decode (xMb M) pc = .ok (.areturn, 1)) : xB K d M pc lv [v] σ (.returned (some v)) σ :=
  xB.end_ fun _ _ _ _ _ _ _ _ _ _ _ _ _ _ hC hH => W.aret hC.1 hC.2.1 (hC.2.2.2.2.2.2.2.2.2.1.trans hr) hrt hv (xret_q hH) hH.2.2.2.2.1.2.2 hd hC.2.2.2.2.2.2.2.1
end XRU
