/-! THE PLAIN MACHINE, 6: constants, statics, casts. -/
/-- what an entry of a constant pool is: an int, a long, a text -/
def xLdc (own : String) (idx : Nat) (v : Value) (s : State) : Prop :=
  (∃ x : Int32, v = .int x ∧ Cond.constant own idx x ∈ lw_all) ∨ (∃ x : Int64, v = .long x ∧ Cond.constantLong own idx x ∈ lw_all) ∨ (∃ (tx : String) (a : Nat), v = .ref a ∧ vk_R own idx tx a s)
theorem xLdc.warm {own : String} {idx : Nat} {v : Value} {s U : State} (hW : s.WarmedH U.vm) (h : xLdc own idx v s) : xLdc own idx v U := by
  rcases h with h | h | ⟨tx, a, h1, h2⟩
  · exact Or.inl h
  · exact Or.inr (Or.inl h)
  · exact Or.inr (Or.inr ⟨tx, a, h1, vk_R.warm hW h2⟩)
/-- a static field that no step writes -/
def xSta (b : Nat) (own : String) (idx : Nat) (v : Value) (s : State) : Prop := ∃ C n d ref : String, va_Z C n d v (fun q => b ≤ q) s s.heap ∧ (Cond.fieldLink own idx ref n d ∈ lw_all ∨ ∃ host, Cond.fieldLinkNest own idx ref n d host ∈ lw_tbl) ∧ (ref = C ∨ Cond.sameField ref C n d ∈ lw_all)
theorem xSta.moved {b : Nat} {own : String} {idx : Nat} {v : Value} {s U : State} {H : Heap} {locs : List Loc} (hvm : s.vm.Alike U.vm) (hS : va_S (fun q => b ≤ q) s.heap H locs) (hU : U.heap = H) (h : xSta b own idx v s) : xSta b own idx v U := by
  obtain ⟨C, n, d, ref, h1, h2, h3⟩ := h
  exact ⟨C, n, d, ref, (h1.kept (H1 := U.heap) (fun a ha hA => by rw [hU]; exact hS.2.1 a ha hA)).moved hvm, h2, h3⟩
/-- a field of an old object that no step writes -/
def xOf (b : Nat) (own : String) (idx a : Nat) (v : Value) (s : State) : Prop := ∃ o n d ref : String, va_OF o n d v a (fun q => b ≤ q) s s.heap ∧ Cond.fieldLink own idx ref n d ∈ lw_all ∧ (ref = o ∨ Cond.sameField ref o n d ∈ lw_all)
theorem xOf.moved {b : Nat} {own : String} {idx a : Nat} {v : Value} {s U : State} {H : Heap} {locs : List Loc} (hvm : s.vm.Alike U.vm) (hS : va_S (fun q => b ≤ q) s.heap H locs) (hU : U.heap = H) (h : xOf b own idx a v s) : xOf b own idx a v U := by
  obtain ⟨o, n, d, ref, h1, h2, h3⟩ := h
  exact ⟨o, n, d, ref, (h1.kept (H1 := U.heap) (fun a ha hA => by rw [hU]; exact hS.2.1 a ha hA)).moved hvm, h2, h3⟩
/-- a cell may be taken for what a class reference names -/
def xCast (cl : List vw_C) (own : String) (idx : Nat) (x : xE) : Prop := ∃ nm : String, Cond.classLink own idx nm ∈ lw_all ∧ match x with
  | .inr (ci, _) => ∃ r : vw_C, cl[ci]? = some r ∧ (r.1 = nm ∨ Cond.castable r.1 nm ∈ lw_tbl)
  | .inl (ty, _) => nm = "[" ++ ty.toString
section XCST
variable {p : Program} {l : Launch} {e : Env} {R : Room} {s : State} {m : MethodId} {args : Array Value} {below : List Frame} {meth : Method} {c : Code} {H : Heap} {locs : List Loc} {cells slots : Nat} {Q : State → Prop}
variable {cc : ByteArray} {pc : Nat} {ls : Array Slot} {st st' rest : List Value} {g : xG} {cl : List vw_C} {tyl : List FieldType} {σ σ' : xS}
theorem x_ldcwS (hexec : p.tables.exec = Jvm.exec) (hb : c.code = cc) {own tx : String} {index q : Nat} (hown : s.vm.findClass own = some m.cls) (hZ : vk_R own index tx q s) (hdg : decode cc pc = .ok (.ldc_w index, 3))
    (k : W p l e R s m args below meth c H locs cells slots Q (F0 m (pc + 3) ls (.ref q :: rest))) : W p l e R s m args below meth c H locs cells slots Q (F0 m pc ls rest) := by
  intro T hT X
  obtain ⟨t, a1, b1⟩ := k T hT X
  refine ⟨t, ?_, b1⟩
  obtain ⟨k, cf, i, a', hk, hcf, hcp, -, hr, hev'⟩ := Cond.stringRef_spec hown hZ.1
  cases hZ.2.symm.trans hev'
  obtain ⟨k', hk', he⟩ := X.warmed.alike.2.2 _ _ hk
  have hr' : k'.resolved[index]? = some (some (.string q)) := by
    rcases X.warmed.entry hk hk' index with h | ⟨h, -⟩
    · rw [h]; exact hr
    · rw [hr] at h; cases h
  have hdg' : decode c.code (F0 m pc ls rest).pc = .ok (.ldc_w index, 3) := by rw [hb]; exact hdg
  jvm_step X.here [hexec, hdg', ldc_w.wp_string (e := e) (s := T) (f := F0 m pc ls rest) X.here.top hk' (by rw [he]; exact hcf) hcp hr']
  exact a1
theorem x_ldc (hx : p.tables.exec = Jvm.exec) (hb : c.code = cc) (hts : ∀ w ∈ lw_all, w.before args s = true) {own : String} (hown : s.vm.findClass own = some m.cls) {idx : Nat} {v : Value} (hv : xLdc own idx v s) (hv2 : v.category = 1) (hd : decode cc pc = .ok (.ldc idx, 2))
    (kk : W p l e R s m args below meth c H locs cells slots Q (F0 m (pc + 2) ls (v :: rest))) : W p l e R s m args below meth c H locs cells slots Q (F0 m pc ls rest) := by
  rcases hv with ⟨x, rfl, h1⟩ | ⟨x, rfl, h1⟩ | ⟨tx, a, rfl, h2⟩
  · exact lv_ldc hx hb hown (hts _ h1) hd kk
  · exact absurd hv2 (by simp [Value.category])
  · exact va_ldcS hx hb hown h2 hd kk
theorem x_ldcw (hx : p.tables.exec = Jvm.exec) (hb : c.code = cc) (hts : ∀ w ∈ lw_all, w.before args s = true) {own : String} (hown : s.vm.findClass own = some m.cls) {idx : Nat} {v : Value} (hv : xLdc own idx v s) (hv2 : (∃ x, v = .int x) ∨ ∃ tx a, v = .ref a ∧ vk_R own idx tx a s) (hd : decode cc pc = .ok (.ldc_w idx, 3))
    (kk : W p l e R s m args below meth c H locs cells slots Q (F0 m (pc + 3) ls (v :: rest))) : W p l e R s m args below meth c H locs cells slots Q (F0 m pc ls rest) := by
  rcases hv2 with ⟨x, rfl⟩ | ⟨tx, a, rfl, h2⟩
  · rcases hv with ⟨y, h0, h1⟩ | ⟨y, h0, h1⟩ | ⟨tx, a, h0, h2⟩ <;> cases h0
    exact lv_ldcw hx hb hown (hts _ h1) hd kk
  · exact x_ldcwS hx hb hown h2 hd kk
theorem x_ldc2 (hx : p.tables.exec = Jvm.exec) (hb : c.code = cc) (hts : ∀ w ∈ lw_all, w.before args s = true) {own : String} (hown : s.vm.findClass own = some m.cls) {idx : Nat} {v : Value} (hv : xLdc own idx v s) (hv2 : v.category = 2) (hd : decode cc pc = .ok (.ldc2_w idx, 3))
    (kk : W p l e R s m args below meth c H locs cells slots Q (F0 m (pc + 3) ls (v :: rest))) : W p l e R s m args below meth c H locs cells slots Q (F0 m pc ls rest) := by
  rcases hv with ⟨x, rfl, h1⟩ | ⟨x, rfl, h1⟩ | ⟨tx, a, rfl, h2⟩
  · exact absurd hv2 (by simp [Value.category])
  · exact lv_ldc2 hx hb hown (hts _ h1) hd kk
  · exact absurd hv2 (by simp [Value.category])
theorem x_gets (hx : p.tables.exec = Jvm.exec) (hb : c.code = cc) (hH : xHp g cl tyl σ s H locs cells) (hts : ∀ w ∈ lw_all, w.before args s = true) (hN : xNW s) {own : String} (hown : s.vm.findClass own = some m.cls) {idx : Nat} {v : Value} (hv : xSta (xb g) own idx v s) (hd : decode cc pc = .ok (.getstatic idx, 3))
    (kk : W p l e R s m args below meth c H locs cells slots Q (F0 m (pc + 3) ls (v :: rest))) : W p l e R s m args below meth c H locs cells slots Q (F0 m pc ls rest) := by
  obtain ⟨C, n, d, ref, h1, h2, h3⟩ := hv
  have hsame : ∀ x, s.fieldFound? C n d = some x → s.fieldFound? ref n d = some x := by
    intro x hx
    rcases h3 with rfl | h3
    · exact hx
    · exact u_same (hts _ h3) x hx
  rcases h2 with h2 | ⟨host, h2⟩
  · exact va_gets hx hb h1 hH.2.2.2.2.1 hown (hts _ h2) hsame hd kk
  · exact va_getsN hx hb h1 hH.2.2.2.2.1 hown (va_Nw.use rfl (hN _ h2 rfl)) hsame hd kk
theorem x_geto (hx : p.tables.exec = Jvm.exec) (hb : c.code = cc) (hH : xHp g cl tyl σ s H locs cells) (hts : ∀ w ∈ lw_all, w.before args s = true) {own : String} (hown : s.vm.findClass own = some m.cls) {idx a : Nat} {v : Value} (hv : xOf (xb g) own idx a v s) (hd : decode cc pc = .ok (.getfield idx, 3))
    (kk : W p l e R s m args below meth c H locs cells slots Q (F0 m (pc + 3) ls (v :: rest))) : W p l e R s m args below meth c H locs cells slots Q (F0 m pc ls (.ref a :: rest)) := by
  obtain ⟨o, n, d, ref, h1, h2, h3⟩ := hv
  have hsame : ∀ x, s.fieldFound? o n d = some x → s.fieldFound? ref n d = some x := by
    intro x hx
    rcases h3 with rfl | h3
    · exact hx
    · exact u_same (hts _ h3) x hx
  exact va_getX hx hb (N := 1) (v := fun _ => v) (ad := fun _ => a) (i := 0) (fun i _ => h1) (by decide) hH.2.2.2.2.1 hown (hts _ h2) hsame hd kk
theorem x_recv (hE : xEnv g cl tyl s) (hH : xHp g cl tyl σ s H locs cells) {a ci : Nat} {fs : List Value} {r : vw_C} (hc : xat (xb g) (xold g) σ a = some (.inr (ci, fs))) (hr : cl[ci]? = some r) : ∃ cell : Cell, H[a]? = some cell ∧ cell.vm.isStatics = false ∧ s.vm.findClass r.1 = some cell.cls :=
  va_recv hE.1 (hH.rd hE hc).1 (q0 := 0) hr rfl
theorem x_cast (hx : p.tables.exec = Jvm.exec) (hb : c.code = cc) (hE : xEnv g cl tyl s) (hH : xHp g cl tyl σ s H locs cells) (hts : ∀ w ∈ lw_all, w.before args s = true) (hN : xNW s) {own : String} (hown : s.vm.findClass own = some m.cls) {idx a : Nat} {x : xE} (hc : xat (xb g) (xold g) σ a = some x) (hk : xCast cl own idx x) (hd : decode cc pc = .ok (.checkcast idx, 3))
    (kk : W p l e R s m args below meth c H locs cells slots Q (F0 m (pc + 3) ls (.ref a :: rest))) : W p l e R s m args below meth c H locs cells slots Q (F0 m pc ls (.ref a :: rest)) := by
  obtain ⟨nm, h1, h2⟩ := hk
  cases x with
  | inr o =>
    obtain ⟨ci, fs⟩ := o
    obtain ⟨r, h3, h4⟩ := h2
    rcases h4 with rfl | h4
    · exact va_castS hx hb hown (hts _ h1) (hE.1.1 ci r h3).2 (x_recv hE hH hc h3) hd kk
    · exact va_castY hx hb hown (hts _ h1) (hN _ h4 rfl) (x_recv hE hH hc h3) hd kk
  | inl z =>
    obtain ⟨ty, y⟩ := z
    obtain ⟨hP, hT⟩ := hH.rd hE hc
    obtain ⟨t0, ht0⟩ := hE.ty (hT ty _ rfl)
    have hfc : s.vm.findClass ("[" ++ ty.toString) = some (xA g ty) := by
      have h1 := (hE.1.2 t0 _ ht0).2
      cases ty with
      | object C => obtain ⟨kA, comp, f1, f2, f3, f4⟩ := h1; exact f4
      | _ => exact h1
    have h2 : nm = "[" ++ ty.toString := h2
    subst h2
    exact va_castA hx hb hown (hts _ h1) hP 0 rfl hfc hd kk
theorem x_inst (hx : p.tables.exec = Jvm.exec) (hb : c.code = cc) (hE : xEnv g cl tyl s) (hH : xHp g cl tyl σ s H locs cells) (hts : ∀ w ∈ lw_all, w.before args s = true) (hN : xNW s) {own : String} (hown : s.vm.findClass own = some m.cls) {idx a ci : Nat} {fs : List Value} (hc : xat (xb g) (xold g) σ a = some (.inr (ci, fs))) (hk : xCast cl own idx (.inr (ci, fs))) (hd : decode cc pc = .ok (.instanceof idx, 3))
    (kk : W p l e R s m args below meth c H locs cells slots Q (F0 m (pc + 3) ls (.int 1 :: rest))) : W p l e R s m args below meth c H locs cells slots Q (F0 m pc ls (.ref a :: rest)) := by
  obtain ⟨nm, h1, r, h3, h4⟩ := hk
  rcases h4 with rfl | h4
  · exact va_instS hx hb hown (hts _ h1) (hE.1.1 ci r h3).2 (x_recv hE hH hc h3) hd kk
  · exact va_instY hx hb hown (hts _ h1) (hN _ h4 rfl) (x_recv hE hH hc h3) hd kk
end XCST
