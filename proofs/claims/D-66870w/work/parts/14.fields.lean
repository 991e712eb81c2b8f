/-! THE PLAIN MACHINE, 5: fields, references in arrays, new objects and arrays. -/
/-- words of the tables that no list of a method carries -/
def xnk (w : Cond) : Bool := match w with
  | .fieldLinkNest _ _ _ _ _ _ => true
  | .methodLinkNest _ _ _ _ => true
  | .castable _ _ => true
  | .declares _ => true
  | .arrayOver (.object _) => true
  | .arrayOver (.array _) => true
  | _ => false
def xNW (s : State) : Prop := ∀ w ∈ lw_tbl, xnk w = true → va_Nw w s
/-- the word of an array of arrays goes along with the tables -/
theorem xAOA_moved {t : FieldType} {u U : State} (hvm : u.vm.Alike U.vm) (h : va_Nw (.arrayOver (.array t)) u) : va_Nw (.arrayOver (.array t)) U := by
  obtain ⟨comp, c, k, h1, h2, h3, h4, h5⟩ := arrayOverA_spec h
  obtain ⟨k', hk', he⟩ := hvm.2.2 _ _ h3
  have hi : (U.vm.classes.findIdx? fun (x : Class) => match x.kind with | .array component _ => component == comp | _ => false) = some c := by
    have a1 := va_idx_bare U.vm comp
    have a2 := va_idx_bare u.vm comp
    have hb : U.vm.bare = u.vm.bare := by first | exact hvm.bare_eq | exact hvm.bare_eq.symm
    rw [hb] at a1
    exact a1.symm.trans (a2.trans h2)
  have hkind : k'.kind = .array comp (.array t) := by rw [he]; exact h4
  have f1 : U.vm.findClass (FieldType.array t).toString = some comp := by rw [hvm.findClass]; exact h1
  have f2 : U.vm.findClass ("[" ++ (FieldType.array t).toString) = some c := by rw [hvm.findClass]; exact h5
  unfold va_Nw Cond.before Cond.holds
  simp only [Cond.value]
  rw [f1, Option.bind_some]
  refine (congrArg (fun o : Option Nat => (o.bind (fun c => (U.vm.classes[c]?).map fun (k : Class) => match k.kind with | .array _ ty => decide (ty = FieldType.array t) && decide (U.vm.findClass ("[" ++ (FieldType.array t).toString) = some c) | _ => false) == some true)) hi).trans ?_
  simp [hk', hkind, f2]
theorem xNW.warm {s U : State} (hW : s.WarmedH U.vm) (h : xNW s) : xNW U := by
  intro w hw hk
  have h1 := h w hw hk
  cases w with
  | fieldLinkNest a i b n d h => exact va_Nw.warmF hW h1
  | methodLinkNest a i x h => exact va_Nw.warmM hW h1
  | castable a b => exact va_Nw.warmC hW h1
  | declares x => exact va_Nw.warmD hW h1
  | arrayOver t =>
    cases t with
    | object C => exact va_AO.moved hW.alike h1
    | array C => exact xAOA_moved hW.alike h1
    | _ => exact absurd hk (by simp [xnk])
  | _ => exact absurd hk (by simp [xnk])
/-- a field reference: a place in objects of a class; mode 1: it may be written, 2: in a constructor of its class alone -/
def xFd (cl : List vw_C) (own : String) (idx k ci mode : Nat) : Prop := ∃ (ref C : String) (T : u_T) (N : Nat), cl[ci]? = some (C, T, N) ∧ k < N ∧ (∀ w ∈ u_ws C T N, w ∈ lw_all) ∧
  (Cond.fieldLink own idx ref (T k).2.1 (T k).2.2.1 ∈ lw_all ∨ (mode ≠ 2 ∧ ∃ host, Cond.fieldLinkNest own idx ref (T k).2.1 (T k).2.2.1 host ∈ lw_tbl)) ∧
  (ref = (T k).1 ∨ Cond.sameField ref (T k).1 (T k).2.1 (T k).2.2.1 ∈ lw_all) ∧ (mode = 1 → (T k).2.2.2 = false) ∧ (mode = 2 → (T k).2.2.2 = true ∧ (T k).1 = own)
/-- a class of objects: its fields' types, how many there are -/
def xCk (cl : List vw_C) (ci : Nat) (tyf : Nat → FieldType) (N : Nat) : Prop := ∃ (C : String) (T : u_T), cl[ci]? = some (C, T, N) ∧ (∀ w ∈ u_ws C T N, w ∈ lw_all) ∧ (∀ k, k < N → parseFieldDescriptor (T k).2.2.1 = some (tyf k)) ∧ ∀ a, a < N → ∀ b, b < N → a ≠ b → (T a).2.1 ≠ (T b).2.1
/-- a class reference of new -/
def xNc (cl : List vw_C) (own : String) (idx ci N : Nat) : Prop := ∃ (C : String) (T : u_T), cl[ci]? = some (C, T, N) ∧ Cond.classLink own idx C ∈ lw_all ∧ Cond.instantiable C N ∈ lw_all ∧ Cond.initialized C ∈ lw_all
section XFLD
variable {p : Program} {l : Launch} {e : Env} {R : Room} {s : State} {m : MethodId} {args : Array Value} {below : List Frame} {meth : Method} {c : Code} {H : Heap} {locs : List Loc} {cells slots : Nat} {Q : State → Prop}
variable {cc : ByteArray} {pc : Nat} {ls : Array Slot} {st st' rest : List Value} {g : xG} {cl : List vw_C} {tyl : List FieldType} {σ σ' : xS}
theorem x_same {own ref : String} {T : u_T} {k : Nat} (hts : ∀ w ∈ lw_all, w.before args s = true) (h : ref = (T k).1 ∨ Cond.sameField ref (T k).1 (T k).2.1 (T k).2.2.1 ∈ lw_all) : ∀ x, s.fieldFound? (T k).1 (T k).2.1 (T k).2.2.1 = some x → s.fieldFound? ref (T k).2.1 (T k).2.2.1 = some x := by
  intro x hx
  rcases h with rfl | h
  · exact hx
  · exact u_same (hts _ h) x hx
theorem x_get (hx : p.tables.exec = Jvm.exec) (hb : c.code = cc) (hE : xEnv g cl tyl s) (hH : xHp g cl tyl σ s H locs cells) (hts : ∀ w ∈ lw_all, w.before args s = true) (hN : xNW s) {own : String} (hown : s.vm.findClass own = some m.cls) {idx k ci mode a : Nat} {fs : List Value} {v : Value} (hF : xFd cl own idx k ci mode)
    (hc : xat (xb g) (xold g) σ a = some (.inr (ci, fs))) (hv : fs[k]? = some v) (hd : decode cc pc = .ok (.getfield idx, 3))
    (kk : W p l e R s m args below meth c H locs cells slots Q (F0 m (pc + 3) ls (v :: rest))) : W p l e R s m args below meth c H locs cells slots Q (F0 m pc ls (.ref a :: rest)) := by
  obtain ⟨ref, C, T, N, h1, h2, h3, h4, h5, -, -⟩ := hF
  obtain ⟨hP, -⟩ := hH.rd hE hc
  rcases h4 with h4 | ⟨-, host, h4⟩
  · exact va_get hx hb hts h3 hown hE.1 hP 0 rfl h1 k h2 (hts _ h4) (x_same (own := own) hts h5) hv hd kk
  · exact va_getN hx hb hts h3 hown hE.1 hP 0 rfl h1 k h2 (va_Nw.use rfl (hN _ h4 rfl)) (x_same (own := own) hts h5) hv hd kk
theorem x_put (hx : p.tables.exec = Jvm.exec) (hb : c.code = cc) (hE : xEnv g cl tyl s) (hH : xHp g cl tyl σ s H locs cells) (hts : ∀ w ∈ lw_all, w.before args s = true) (hN : xNW s) {own : String} (hown : s.vm.findClass own = some m.cls) {idx k ci mode a N : Nat} {fs : List Value} {v : Value} {tyf : Nat → FieldType} (hF : xFd cl own idx k ci mode) (hC : xCk cl ci tyf N)
    (hm : mode = 1 ∨ (mode = 2 ∧ meth.name = "<init>")) (hc : xnw (xb g) σ a = some (.inr (ci, fs))) (hk : k < fs.length) (hn : narrow (tyf k) v = v) (hf : fits (tyf k) v = true) (hd : decode cc pc = .ok (.putfield idx, 3))
    (kk : ∀ (H1 : Heap) (locs1 : List Loc), xHp g cl tyl (xput (xb g) σ a (.inr (ci, fs.set k v))) s H1 locs1 cells → W p l e R s m args below meth c H1 locs1 cells slots Q (F0 m (pc + 3) ls rest)) : W p l e R s m args below meth c H locs cells slots Q (F0 m pc ls (v :: .ref a :: rest)) := by
  obtain ⟨ref, C, T, N', h1, h2, h3, h4, h5, h6, h7⟩ := hF
  obtain ⟨C2, T2, g1, g2, g3, g4⟩ := hC
  cases g1.symm.trans h1
  have ha := xws_nw hc
  have hk2 : ∀ (H1 : Heap) (locs1 : List Loc), va_P (xD g) cl ((xws (xA g) (xb g) σ.1).set (a - xb g) (a, .inr (ci, fs.set k v))) H1 → va_D (fun q => xb g ≤ q) ((xws (xA g) (xb g) σ.1).set (a - xb g) (a, .inr (ci, fs.set k v))) → va_S (fun q => xb g ≤ q) H H1 locs1 → W p l e R s m args below meth c H1 locs1 cells slots Q (F0 m (pc + 3) ls rest) :=
    fun H1 locs1 hP hD hS => W.szb fun hz => kk H1 locs1 (hH.key hc (x := .inr (ci, fs.set k v)) (fun ty' y2 he => by cases he) hP hD hS hz)
  rcases hm with rfl | ⟨rfl, hm⟩
  · rcases h4 with h4 | ⟨-, host, h4⟩
    · exact va_put hx hb hts h3 tyf g3 g4 hown hE.1 hH.2.2.1 hH.2.2.2.1 hH.self _ ha h1 k h2 (hts _ h4) (x_same (own := own) hts h5) (h6 rfl) (g3 k h2) hn hf hk hd hk2
    · exact va_putN hx hb hts h3 tyf g3 g4 hown hE.1 hH.2.2.1 hH.2.2.2.1 hH.self _ ha h1 k h2 (va_Nw.use rfl (hN _ h4 rfl)) (x_same (own := own) hts h5) (h6 rfl) (g3 k h2) hn hf hk hd hk2
  · rcases h4 with h4 | ⟨h4, -⟩
    · exact va_putF hx hb hts h3 tyf g3 g4 hown hE.1 hH.2.2.1 hH.2.2.2.1 hH.self _ ha h1 k h2 (hts _ h4) (x_same (own := own) hts h5) (h7 rfl).1 hm (h7 rfl).2 (g3 k h2) hn hf hk hd hk2
    · exact absurd rfl h4
theorem x_alen (hx : p.tables.exec = Jvm.exec) (hb : c.code = cc) (hE : xEnv g cl tyl s) (hH : xHp g cl tyl σ s H locs cells) {a : Nat} {ty : FieldType} {y : vp_A} (hc : xat (xb g) (xold g) σ a = some (.inl (ty, y))) (hd : decode cc pc = .ok (.arraylength, 1))
    (kk : W p l e R s m args below meth c H locs cells slots Q (F0 m (pc + 1) ls (.int (nI y.1) :: rest))) : W p l e R s m args below meth c H locs cells slots Q (F0 m pc ls (.ref a :: rest)) := by
  obtain ⟨hP, hT⟩ := hH.rd hE hc
  obtain ⟨t0, ht⟩ := hE.ty (hT ty y rfl)
  exact va_alen hx hb hE.1 hP 0 t0 rfl ht rfl hd kk
/-- the fields of a new object -/
def xdef (tyf : Nat → FieldType) (N : Nat) : List Value := (List.range N).map (fun k => defaultValue (tyf k))
theorem xdef_V (tyf : Nat → FieldType) (N : Nat) : ∀ j, j < N → defaultValue (tyf j) = vp_V (xdef tyf N) j := by
  intro j hj
  simp [vp_V, xdef, List.getD, hj]
theorem x_new (hx : p.tables.exec = Jvm.exec) (hb : c.code = cc) (hE : xEnv g cl tyl s) (hH : xHp g cl tyl σ s H locs cells) (hts : ∀ w ∈ lw_all, w.before args s = true) {own : String} (hown : s.vm.findClass own = some m.cls) {idx ci N : Nat} {tyf : Nat → FieldType} (hNc : xNc cl own idx ci N) (hC : xCk cl ci tyf N)
    (hcells : cells + 1 ≤ R.cells) (hslots : slots + N ≤ R.slots) (hd : decode cc pc = .ok (.new idx, 3))
    (kk : ∀ (H1 : Heap) (locs1 : List Loc), xHp g cl tyl (xmake σ (.inr (ci, xdef tyf N)) N) s H1 locs1 (cells + 1) → W p l e R s m args below meth c H1 locs1 (cells + 1) (slots + N) Q (F0 m (pc + 3) ls (.ref (xb g + σ.1.length) :: rest))) : W p l e R s m args below meth c H locs cells slots Q (F0 m pc ls rest) := by
  obtain ⟨C, T, h1, h2, h3, h4⟩ := hNc
  obtain ⟨C2, T2, g1, g2, g3, g4⟩ := hC
  cases g1.symm.trans h1
  refine va_new hx hb hts g2 tyf g3 hown (hts _ h2) (hts _ h3) (hts _ h4) hE.1 hH.2.2.1 hH.2.2.2.1 hH.2.2.2.2.1 hE.A h1 (xdef_V tyf N) hcells hslots hd (fun q H1 hP hD hS => W.szb fun hz => ?_)
  obtain ⟨rfl, hH1⟩ := xHp.mk (w := N) hE hH (x := .inr (ci, xdef tyf N)) (fun ty' y2 he => by cases he) hP hD hS hz
  exact kk H1 locs hH1
/-- a new array's contents -/
def xnil (ty : FieldType) (n : Nat) : Option vp_A := match ty with
  | .int | .byte | .boolean | .char | .short => some (n, .inl (fun _ => 0))
  | .long => some (n, .inr (.inl (fun _ => 0)))
  | _ => none
theorem x_newa (hx : p.tables.exec = Jvm.exec) (hb : c.code = cc) (hE : xEnv g cl tyl s) (hH : xHp g cl tyl σ s H locs cells) (hts : ∀ w ∈ lw_all, w.before args s = true) {atype : ArrayType} {n : Int32} {y : vp_A} (hw : Cond.arrayClass (newarray.typeOf atype) ∈ lw_all) (ht : newarray.typeOf atype ∈ tyl) (hy : xnil (newarray.typeOf atype) n.toNatClampNeg = some y)
    (hn : ¬ n < 0) (hbig : n.toNatClampNeg * 8 ≤ 536870912) (hcells : cells + 1 ≤ R.cells) (hslots : slots + n.toNatClampNeg ≤ R.slots) (hd : decode cc pc = .ok (.newarray atype, 2))
    (kk : ∀ (H1 : Heap) (locs1 : List Loc), xHp g cl tyl (xmake σ (.inl (newarray.typeOf atype, y)) n.toNatClampNeg) s H1 locs1 (cells + 1) → W p l e R s m args below meth c H1 locs1 (cells + 1) (slots + n.toNatClampNeg) Q (F0 m (pc + 2) ls (.ref (xb g + σ.1.length) :: rest))) : W p l e R s m args below meth c H locs cells slots Q (F0 m pc ls (.int n :: rest)) := by
  have hcb : componentBytes (newarray.typeOf atype) ≤ 8 := by cases atype <;> decide
  have hbytes : n.toNatClampNeg * componentBytes (newarray.typeOf atype) ≤ 536870912 := Nat.le_trans (Nat.mul_le_mul_left _ hcb) hbig
  have ha : ∀ cA : ClassId, vp_cell cA y = arrV cA n.toNatClampNeg (fun _ => defaultValue (newarray.typeOf atype)) := by
    intro cA
    revert hy
    cases atype <;> simp only [newarray.typeOf, xnil, Option.some.injEq, reduceCtorEq, false_imp_iff] <;> rintro rfl <;> rfl
  obtain ⟨t0, ht0⟩ := hE.ty ht
  have hKA := hE.1.2 t0 _ ht0
  refine va_newaK hx hb (hts _ hw) rfl hd rfl hn rfl hbytes hcells hslots rfl fun H1 cA e1 z1 o1 hAr hNm => ?_
  have hcA : cA = xA g (newarray.typeOf atype) := by
    have h2 : s.vm.findClass ("[" ++ (newarray.typeOf atype).toString) = some (xA g (newarray.typeOf atype)) := by
      have := hKA.2
      revert this
      cases atype <;> exact fun h => h
    exact Option.some.inj (hNm.symm.trans h2)
  subst hcA
  have hk : ∀ (k : Nat) (x : Nat × va_E), (xws (xA g) (xb g) σ.1)[k]? = some x → H1[x.1]? = H[x.1]? := fun k x hx => o1 x.1 ((hH.2.2.1 k x hx).lt)
  have hP1 : va_P (xD g) cl (xws (xA g) (xb g) σ.1 ++ [(H.size, xemb (xA g) (.inl (newarray.typeOf atype, y)))]) H1 := by
    refine (hH.2.2.1.kept hk).app (fun k x hx => ?_)
    have hz : k < 1 := (List.getElem?_eq_some_iff.mp hx).1
    rw [show k = 0 by omega] at hx
    cases hx
    show H1[H.size]? = some (vp_cell _ _)
    rw [ha]
    exact e1
  have hS := hH.2.2.2.2.1
  refine W.szb fun hz => ?_
  obtain ⟨hq, hH1⟩ := xHp.mk (w := n.toNatClampNeg) hE hH (x := .inl (newarray.typeOf atype, y)) (fun ty' y2 he => by cases he; exact ht) hP1 (hH.2.2.2.1.push hH.2.2.1 rfl (hE.A _ hS.1)) ⟨Nat.le_trans hS.1 (by omega), fun x h1 h2 => (o1 x (Nat.lt_of_lt_of_le h1 hS.1)).trans (hS.2.1 x h1 h2), hS.2.2⟩ hz
  rw [hq]
  exact kk H1 locs hH1
theorem x_newq (hx : p.tables.exec = Jvm.exec) (hb : c.code = cc) (hE : xEnv g cl tyl s) (hH : xHp g cl tyl σ s H locs cells) (hts : ∀ w ∈ lw_all, w.before args s = true) (hN : xNW s) {own C : String} (hown : s.vm.findClass own = some m.cls) {idx : Nat} {n : Int32} (hw : Cond.classLink own idx C ∈ lw_all) (hw2 : Cond.arrayOver (.object C) ∈ lw_tbl) (ht : FieldType.object C ∈ tyl)
    (hn : ¬ n < 0) (hbig : n.toNatClampNeg * 4 ≤ 536870912) (hcells : cells + 1 ≤ R.cells) (hslots : slots + n.toNatClampNeg ≤ R.slots) (hd : decode cc pc = .ok (.anewarray idx, 3))
    (kk : ∀ (H1 : Heap) (locs1 : List Loc), xHp g cl tyl (xmake σ (.inl (.object C, n.toNatClampNeg, .inr (.inr (.inr (.inr (fun _ => none)))))) n.toNatClampNeg) s H1 locs1 (cells + 1) → W p l e R s m args below meth c H1 locs1 (cells + 1) (slots + n.toNatClampNeg) Q (F0 m (pc + 3) ls (.ref (xb g + σ.1.length) :: rest))) : W p l e R s m args below meth c H locs cells slots Q (F0 m pc ls (.int n :: rest)) := by
  obtain ⟨t0, ht0⟩ := hE.ty ht
  have hKA := hE.1.2 t0 _ ht0
  refine va_newq hx hb hown (hts _ hw) (hN _ hw2 rfl) hE.1 hH.2.2.1 hH.2.2.2.1 hH.2.2.2.2.1 hE.A hn rfl hbig hcells hslots hd (fun q cA H1 hK hP hD hS => W.szb fun hz => ?_)
  have hcA : cA = xA g (.object C) := by
    have h1 : ((tyl.map fun ty => (xA g ty, ty)) ++ [(cA, FieldType.object C)])[tyl.length]? = some (cA, .object C) := by simp
    obtain ⟨kA, comp, f1, f2, f3, f4⟩ := (hK.2 tyl.length _ h1).2
    obtain ⟨kA', comp', f1', f2', f3', f4'⟩ := hKA.2
    exact Option.some.inj (f4.symm.trans f4')
  subst hcA
  obtain ⟨rfl, hH1⟩ := xHp.mk (w := n.toNatClampNeg) hE hH (x := .inl (.object C, n.toNatClampNeg, .inr (.inr (.inr (.inr (fun _ => none)))))) (fun ty' y2 he => by cases he; exact ht) hP hD hS hz
  exact kk H1 locs hH1
/-- a cell may stand in an array of references to a class -/
def xAny (g : xG) (cl : List vw_C) (E : String) (x : xE) : Prop := match x with
  | .inr (ci, _) => ∃ r : vw_C, cl[ci]? = some r ∧ (r.1 = E ∨ Cond.castable r.1 E ∈ lw_tbl)
  | .inl (ty, _) => Cond.castable ("[" ++ ty.toString) E ∈ lw_tbl
theorem x_any (hE : xEnv g cl tyl s) (hH : xHp g cl tyl σ s H locs cells) (hN : xNW s) {E : String} {a : Nat} {x : xE} (hc : xat (xb g) (xold g) σ a = some x) (h : xAny g cl E x) : va_Any E s H a := by
  obtain ⟨hP, hT⟩ := hH.rd hE hc
  cases x with
  | inr o =>
    obtain ⟨ci, fs⟩ := o
    obtain ⟨r, h1, h2⟩ := h
    refine va_rAny (q0 := 0) hE.1 hP rfl h1 (fun comp c0 f1 f2 => ?_)
    rcases h2 with rfl | h2
    · cases Option.some.inj (f1.symm.trans f2)
      exact va_asg _ _
    · obtain ⟨c1, c2, g1, g2, g3⟩ := Cond.castable_spec (hN _ h2 rfl)
      cases Option.some.inj (f2.symm.trans g1)
      cases Option.some.inj (f1.symm.trans g2)
      exact g3
  | inl z =>
    obtain ⟨ty, n, y⟩ := z
    obtain ⟨t0, ht0⟩ := hE.ty (hT ty _ rfl)
    have hcell : H[a]? = some (vp_cell (xA g ty) (n, y)) := hP 0 _ rfl
    have hcls : (vp_cell (xA g ty) (n, y)).cls = xA g ty := by rcases y with y | y | y | y | y <;> rfl
    have hvm : (vp_cell (xA g ty) (n, y)).vm = .none := by rcases y with y | y | y | y | y <;> rfl
    have hfc : s.vm.findClass ("[" ++ ty.toString) = some (xA g ty) := by
      have h1 := (hE.1.2 t0 _ ht0).2
      cases ty with
      | object C => obtain ⟨kA, comp, f1, f2, f3, f4⟩ := h1; exact f4
      | _ => exact h1
    obtain ⟨kC, hkC, -⟩ := Vm.findClass_spec hfc
    refine ⟨_, hcell, by rw [hvm]; rfl, ⟨kC, by rw [hcls]; exact hkC⟩, fun comp f1 => ?_⟩
    obtain ⟨c1, c2, g1, g2, g3⟩ := Cond.castable_spec (hN _ h rfl)
    cases Option.some.inj (hfc.symm.trans g1)
    cases Option.some.inj (f1.symm.trans g2)
    rw [hcls]
    exact g3
theorem x_astq (hx : p.tables.exec = Jvm.exec) (hb : c.code = cc) (hE : xEnv g cl tyl s) (hH : xHp g cl tyl σ s H locs cells) (hN : xNW s) {E : String} {a v n : Nat} {f : Nat → Option Nat} {i : Int32} {x : xE} (hc : xnw (xb g) σ a = some (.inl (.object E, n, .inr (.inr (.inr (.inr f)))))) (hv : xat (xb g) (xold g) σ v = some x) (hany : xAny g cl E x) (hi : xin i n = true) (hd : decode cc pc = .ok (.aastore, 1))
    (kk : ∀ (H1 : Heap) (locs1 : List Loc), xHp g cl tyl (xput (xb g) σ a (.inl (.object E, n, .inr (.inr (.inr (.inr (va_up f i.toNatClampNeg (some v)))))))) s H1 locs1 cells → W p l e R s m args below meth c H1 locs1 cells slots Q (F0 m (pc + 1) ls rest)) : W p l e R s m args below meth c H locs cells slots Q (F0 m pc ls (.ref v :: .int i :: .ref a :: rest)) := by
  have hT : FieldType.object E ∈ tyl := hH.2.2.2.2.2 _ (List.mem_of_getElem? (xnw_inv hc).2) _ _ rfl
  obtain ⟨t0, ht⟩ := hE.ty hT
  exact va_astqM hx hb hE.1 hH.2.2.1 hH.2.2.2.1 hH.self _ t0 (xws_nw hc) ht (x_any hE hH hN hv hany) (xin_in hi) hd (fun H1 locs1 hP hD hS => W.szb fun hz => kk H1 locs1 (hH.key hc (x := .inl (.object E, n, .inr (.inr (.inr (.inr (va_up f i.toNatClampNeg (some v))))))) (fun ty' y2 he => by cases he; exact hT) hP hD hS hz))
theorem x_astqN (hx : p.tables.exec = Jvm.exec) (hb : c.code = cc) (hE : xEnv g cl tyl s) (hH : xHp g cl tyl σ s H locs cells) {E : String} {a n : Nat} {f : Nat → Option Nat} {i : Int32} (hc : xnw (xb g) σ a = some (.inl (.object E, n, .inr (.inr (.inr (.inr f)))))) (hi : xin i n = true) (hd : decode cc pc = .ok (.aastore, 1))
    (kk : ∀ (H1 : Heap) (locs1 : List Loc), xHp g cl tyl (xput (xb g) σ a (.inl (.object E, n, .inr (.inr (.inr (.inr (va_up f i.toNatClampNeg none))))))) s H1 locs1 cells → W p l e R s m args below meth c H1 locs1 cells slots Q (F0 m (pc + 1) ls rest)) : W p l e R s m args below meth c H locs cells slots Q (F0 m pc ls (.null :: .int i :: .ref a :: rest)) := by
  have hT : FieldType.object E ∈ tyl := hH.2.2.2.2.2 _ (List.mem_of_getElem? (xnw_inv hc).2) _ _ rfl
  obtain ⟨t0, ht⟩ := hE.ty hT
  exact va_astqN hx hb hE.1 hH.2.2.1 hH.2.2.2.1 hH.self _ t0 (xws_nw hc) ht (xin_in hi) hd (fun H1 locs1 hP hD hS => W.szb fun hz => kk H1 locs1 (hH.key hc (x := .inl (.object E, n, .inr (.inr (.inr (.inr (va_up f i.toNatClampNeg none)))))) (fun ty' y2 he => by cases he; exact hT) hP hD hS hz))
end XFLD
