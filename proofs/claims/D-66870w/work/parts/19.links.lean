/-! THE PLAIN MACHINE, 10: the kinds of calls, out of the words. -/
section XLK
variable {K : xC} {own C owner host : String} {idx n L : Nat} {x y : MethodName} {b : ByteArray} {r : Option FieldType} {hh : List (Nat × Nat × Nat × Nat)} {h0 : Nat × Nat × Nat × Nat}
theorem xrev (bb : Nat) (At rest : List Value) : (Value.ref bb :: At).reverse ++ rest = At.reverse ++ .ref bb :: rest := by simp
theorem x8 {m : MethodId} {pc : Nat} {ls : Array Slot} {st rest : List Value} (h : (rest.map fun v => v.category).sum ≤ 8) : 2 * (F0 m pc ls st).monitorRoom + (rest.map fun v => v.category).sum ≤ 8 := by
  show 2 * 0 + _ ≤ 8
  omega
abbrev xPl (C : String) : Prop := C ≠ "java/lang/invoke/MethodHandle" ∧ C ≠ "java/lang/invoke/VarHandle"
theorem xCal.V (h1 : Cond.methodLink own idx y ∈ lw_all) (h2 : Cond.instanceMethod y ∈ lw_all) (h3 : Cond.selects C y y ∈ lw_all) (h4 : Cond.initialized C ∈ lw_all) (h5 : Cond.code y b L r ∈ lw_all) (hy : y.cls = C) (hp : xPl y.cls) (hd : (parseMethodDescriptor y.desc).map (fun d => d.parameters.length) = some n) : xCal K own (.invokevirtual idx) 3 (y, b, L, r, []) (some C) (n + 1) := by
  intro p e R s m args below meth c H locs cells slots mc ms pc nL ls cc As rest rm Pc Qc XC free S hw hE hM hrc hrs hf hl hbl hPc hn hrv hls h8 hdg hfit
  obtain ⟨bb, At, cell, rfl, q1, q2, q3⟩ := hrv C rfl
  exact vx_runV S hM (cwV n S.2.2.2.2 (lw_V h1 h2 h3 h4 h5) rfl hrc hrs ⟨hy, hp.1, hp.2, hd⟩ ⟨hf, hl⟩) ⟨hbl, ⟨cell, q1, q2, q3⟩, hPc⟩ rfl (Nat.succ.inj hn) hls (xrev _ _ _) (x8 h8) hdg hfit
theorem xCal.VW (h1 : Cond.methodLink own idx y ∈ lw_all) (h2 : Cond.instanceMethod y ∈ lw_all) (h3 : Cond.selects C y y ∈ lw_all) (h4 : Cond.initialized C ∈ lw_all) (h5 : Cond.codeWith y b L r (h0 :: hh) ∈ lw_all) (hy : y.cls = C) (hp : xPl y.cls) (hd : (parseMethodDescriptor y.desc).map (fun d => d.parameters.length) = some n) : xCal K own (.invokevirtual idx) 3 (y, b, L, r, h0 :: hh) (some C) (n + 1) := by
  intro p e R s m args below meth c H locs cells slots mc ms pc nL ls cc As rest rm Pc Qc XC free S hw hE hM hrc hrs hf hl hbl hPc hn hrv hls h8 hdg hfit
  obtain ⟨bb, At, cell, rfl, q1, q2, q3⟩ := hrv C rfl
  exact vx_runVX S hM (vx_cwVW n S.2.2.2.2 (lw_VW h1 h2 h3 h4 h5) rfl hrc hrs ⟨hy, hp.1, hp.2, hd⟩ ⟨hf, hl⟩) ⟨hbl, ⟨cell, q1, q2, q3⟩, hPc⟩ rfl (Nat.succ.inj hn) hls (xrev _ _ _) (x8 h8) hdg hfit
theorem xCal.S (h1 : Cond.methodLink own idx y ∈ lw_all) (h2 : Cond.static y ∈ lw_all) (h3 : Cond.initialized y.cls ∈ lw_all) (h4 : Cond.code y b L r ∈ lw_all) (hp : xPl y.cls) (hd : (parseMethodDescriptor y.desc).map (fun d => d.parameters.length) = some n) : xCal K own (.invokestatic idx) 3 (y, b, L, r, []) none n := by
  intro p e R s m args below meth c H locs cells slots mc ms pc nL ls cc As rest rm Pc Qc XC free S hw hE hM hrc hrs hf hl hbl hPc hn hrv hls h8 hdg hfit
  exact vx_runS S hM (va_cwS n S.2.2.2.2 (lw_S h1 h2 h3 h4) rfl hrc hrs ⟨hp.1, hp.2, hd⟩ ⟨hf, hl⟩) ⟨hbl, hPc⟩ rfl hn hls rfl (x8 h8) hdg hfit
theorem xCal.SW (h1 : Cond.methodLink own idx y ∈ lw_all) (h2 : Cond.static y ∈ lw_all) (h3 : Cond.initialized y.cls ∈ lw_all) (h4 : Cond.codeWith y b L r (h0 :: hh) ∈ lw_all) (hp : xPl y.cls) (hd : (parseMethodDescriptor y.desc).map (fun d => d.parameters.length) = some n) : xCal K own (.invokestatic idx) 3 (y, b, L, r, h0 :: hh) none n := by
  intro p e R s m args below meth c H locs cells slots mc ms pc nL ls cc As rest rm Pc Qc XC free S hw hE hM hrc hrs hf hl hbl hPc hn hrv hls h8 hdg hfit
  exact vx_runSX S hM (vx_cwSW n S.2.2.2.2 (lw_SW h1 h2 h3 h4) rfl hrc hrs ⟨hp.1, hp.2, hd⟩ ⟨hf, hl⟩) ⟨hbl, hPc⟩ rfl hn hls rfl (x8 h8) hdg hfit
/-- a receiver that need not be looked at -/
theorem xcons {As : List Value} {n : Nat} (h : As.length = n + 1) (hr : ∃ bb At, As = Value.ref bb :: At) : ∃ bb At, As = Value.ref bb :: At ∧ At.length = n := by
  obtain ⟨bb, At, rfl⟩ := hr
  exact ⟨bb, At, rfl, Nat.succ.inj h⟩
theorem xCal.I (h1 : Cond.methodLink own idx y ∈ lw_all) (h2 : Cond.instanceMethod y ∈ lw_all) (h4 : Cond.initialized y.cls ∈ lw_all) (h5 : Cond.code y b L none ∈ lw_all) (hy : y.name = "<init>") (hp : xPl y.cls) (hd : (parseMethodDescriptor y.desc).map (fun d => d.parameters.length) = some n) : xCal K own (.invokespecial idx) 3 (y, b, L, none, []) (some C) (n + 1) := by
  intro p e R s m args below meth c H locs cells slots mc ms pc nL ls cc As rest rm Pc Qc XC free S hw hE hM hrc hrs hf hl hbl hPc hn hrv hls h8 hdg hfit
  obtain ⟨bb, At, cell, rfl, q1, q2, q3⟩ := hrv C rfl
  exact vx_runI S hM (cwI n S.2.2.2.2 (lw_meth h5) rfl hrc hrs (S.2.2.2.2 _ h4) (S.2.2.2.2 _ h1) (S.2.2.2.2 _ h2) hy ⟨hp.1, hp.2, hd⟩ ⟨hf, hl⟩) ⟨hbl, hPc⟩ rfl (Nat.succ.inj hn) hls (xrev _ _ _) (x8 h8) hdg hfit
theorem xCal.IN (h1 : Cond.methodLinkNest own idx y host ∈ lw_tbl) (h2 : Cond.instanceMethod y ∈ lw_all) (h4 : Cond.initialized y.cls ∈ lw_all) (h5 : Cond.code y b L none ∈ lw_all) (hy : y.name = "<init>") (hp : xPl y.cls) (hd : (parseMethodDescriptor y.desc).map (fun d => d.parameters.length) = some n) : xCal K own (.invokespecial idx) 3 (y, b, L, none, []) (some C) (n + 1) := by
  intro p e R s m args below meth c H locs cells slots mc ms pc nL ls cc As rest rm Pc Qc XC free S hw hE hM hrc hrs hf hl hbl hPc hn hrv hls h8 hdg hfit
  obtain ⟨bb, At, cell, rfl, q1, q2, q3⟩ := hrv C rfl
  exact vx_runIN S hM ⟨va_cnB n S.2.2.2.2 (lw_meth h5) rfl hrc hrs (hw.1 _ h1 rfl) (S.2.2.2.2 _ h4) ⟨hp.1, hp.2, hd⟩ ⟨hf, hl⟩, hy, S.2.2.2.2 _ h2⟩ ⟨hbl, hPc⟩ rfl (Nat.succ.inj hn) hls (xrev _ _ _) (x8 h8) hdg hfit
theorem xCal.VN (h1 : Cond.methodLinkNest own idx y host ∈ lw_tbl) (h2 : Cond.instanceMethod y ∈ lw_all) (h3 : Cond.selects C y y ∈ lw_all) (h4 : Cond.initialized y.cls ∈ lw_all) (h5 : Cond.code y b L r ∈ lw_all) (hp : xPl y.cls) (hd : (parseMethodDescriptor y.desc).map (fun d => d.parameters.length) = some n) : xCal K own (.invokevirtual idx) 3 (y, b, L, r, []) (some C) (n + 1) := by
  intro p e R s m args below meth c H locs cells slots mc ms pc nL ls cc As rest rm Pc Qc XC free S hw hE hM hrc hrs hf hl hbl hPc hn hrv hls h8 hdg hfit
  obtain ⟨bb, At, cell, rfl, q1, q2, q3⟩ := hrv C rfl
  exact vx_runVN S hM ⟨va_cnB n S.2.2.2.2 (lw_meth h5) rfl hrc hrs (hw.1 _ h1 rfl) (S.2.2.2.2 _ h4) ⟨hp.1, hp.2, hd⟩ ⟨hf, hl⟩, S.2.2.2.2 _ h2, S.2.2.2.2 _ h3⟩ ⟨hbl, ⟨cell, q1, q2, q3⟩, hPc⟩ rfl (Nat.succ.inj hn) hls (xrev _ _ _) (x8 h8) hdg hfit
theorem xCal.SN (h1 : Cond.methodLinkNest own idx y host ∈ lw_tbl) (h2 : Cond.static y ∈ lw_all) (h4 : Cond.initialized y.cls ∈ lw_all) (h5 : Cond.code y b L r ∈ lw_all) (hp : xPl y.cls) (hd : (parseMethodDescriptor y.desc).map (fun d => d.parameters.length) = some n) : xCal K own (.invokestatic idx) 3 (y, b, L, r, []) none n := by
  intro p e R s m args below meth c H locs cells slots mc ms pc nL ls cc As rest rm Pc Qc XC free S hw hE hM hrc hrs hf hl hbl hPc hn hrv hls h8 hdg hfit
  exact vx_runSN S hM ⟨va_cnB n S.2.2.2.2 (lw_meth h5) rfl hrc hrs (hw.1 _ h1 rfl) (S.2.2.2.2 _ h4) ⟨hp.1, hp.2, hd⟩ ⟨hf, hl⟩, S.2.2.2.2 _ h2, trivial⟩ ⟨hbl, hPc⟩ rfl hn hls rfl (x8 h8) hdg hfit
/-- an inherited method -/
theorem xCal.U (h1 : Cond.methodLink own idx x ∈ lw_all) (h2 : Cond.sameMethod x.cls owner x.name x.desc ∈ lw_all) (h3 : Cond.selects C x y ∈ lw_all) (h4 : Cond.instanceMethod y ∈ lw_all) (h5 : Cond.initialized y.cls ∈ lw_all) (h6 : Cond.code y b L r ∈ lw_all) (hyx : y = ⟨owner, x.name, x.desc⟩) (hp : xPl owner) (hd : (parseMethodDescriptor x.desc).map (fun d => d.parameters.length) = some n) : xCal K own (.invokevirtual idx) 3 (y, b, L, r, []) (some C) (n + 1) := by
  intro p e R s m args below meth c H locs cells slots mc ms pc nL ls cc As rest rm Pc Qc XC free S hw hE hM hrc hrs hf hl hbl hPc hn hrv hls h8 hdg hfit
  obtain ⟨bb, At, cell, rfl, q1, q2, q3⟩ := hrv C rfl
  exact vx_runU S hM (va_cwU n S.2.2.2.2 (lw_app (by simp only [List.mem_cons, List.not_mem_nil, or_false]; rintro w (rfl | rfl | rfl | rfl | rfl) <;> assumption) (lw_meth h6)) rfl hrc hrs hyx ⟨hp.1, hp.2, hd⟩ ⟨hf, hl⟩) ⟨hbl, ⟨cell, q1, q2, q3⟩, hPc⟩ rfl (Nat.succ.inj hn) hls (xrev _ _ _) (x8 h8) hdg hfit
/-- an overriding method -/
theorem xCal.O {b0 : ByteArray} {m0 : Nat} {r0 : Option FieldType} (h1 : Cond.methodLink own idx x ∈ lw_all) (h2 : Cond.sameMethod x.cls owner x.name x.desc ∈ lw_all) (h7 : Cond.instanceMethod ⟨owner, x.name, x.desc⟩ ∈ lw_all) (h3 : Cond.selects C x y ∈ lw_all) (h4 : Cond.instanceMethod y ∈ lw_all) (h5 : Cond.initialized y.cls ∈ lw_all) (h6 : Cond.code y b L r ∈ lw_all) (h8' : Cond.code ⟨owner, x.name, x.desc⟩ b0 m0 r0 ∈ lw_all) (hp : xPl owner) (hd : (parseMethodDescriptor x.desc).map (fun d => d.parameters.length) = some n) : xCal K own (.invokevirtual idx) 3 (y, b, L, r, []) (some C) (n + 1) := by
  intro p e R s m args below meth c H locs cells slots mc ms pc nL ls cc As rest rm Pc Qc XC free S hw hE hM hrc hrs hf hl hbl hPc hn hrv hls h8 hdg hfit
  obtain ⟨bb, At, cell, rfl, q1, q2, q3⟩ := hrv C rfl
  exact vx_runU S hM (va_cwO n S.2.2.2.2 (lw_app (by simp only [List.mem_cons, List.not_mem_nil, or_false]; rintro w (rfl | rfl | rfl | rfl | rfl | rfl) <;> assumption) (lw_meth h6)) rfl hrc hrs h8' ⟨hp.1, hp.2, hd⟩ ⟨hf, hl⟩) ⟨hbl, ⟨cell, q1, q2, q3⟩, hPc⟩ rfl (Nat.succ.inj hn) hls (xrev _ _ _) (x8 h8) hdg hfit
/-- an abstract method's body in the receiver's class -/
theorem xCal.A (h1 : Cond.methodLink own idx x ∈ lw_all) (h2 : Cond.sameMethod x.cls owner x.name x.desc ∈ lw_all) (h3 : Cond.selects C x y ∈ lw_all) (h4 : Cond.instanceMethod y ∈ lw_all) (h5 : Cond.initialized y.cls ∈ lw_all) (h6 : Cond.code y b L r ∈ lw_all) (h7 : Cond.declares ⟨owner, x.name, x.desc⟩ ∈ lw_tbl) (hp : xPl owner) (hd : (parseMethodDescriptor x.desc).map (fun d => d.parameters.length) = some n) : xCal K own (.invokevirtual idx) 3 (y, b, L, r, []) (some C) (n + 1) := by
  intro p e R s m args below meth c H locs cells slots mc ms pc nL ls cc As rest rm Pc Qc XC free S hw hE hM hrc hrs hf hl hbl hPc hn hrv hls h8 hdg hfit
  obtain ⟨bb, At, cell, rfl, q1, q2, q3⟩ := hrv C rfl
  exact vx_runU S hM (va_cwA n S.2.2.2.2 (lw_app (by simp only [List.mem_cons, List.not_mem_nil, or_false]; rintro w (rfl | rfl | rfl | rfl | rfl) <;> assumption) (lw_meth h6)) rfl hrc hrs (hw.1 _ h7 rfl) ⟨hp.1, hp.2, hd⟩ ⟨hf, hl⟩) ⟨hbl, ⟨cell, q1, q2, q3⟩, hPc⟩ rfl (Nat.succ.inj hn) hls (xrev _ _ _) (x8 h8) hdg hfit
/-- an interface's method -/
theorem xCal.F {count : Nat} {cC : Nat} {r0 : vw_C} (hat : (xcl K)[cC]? = some r0) (hr0 : r0.1 = C) (h1 : Cond.methodLink own idx x ∈ lw_all) (h3 : Cond.selects C x y ∈ lw_all) (h4 : Cond.instanceMethod y ∈ lw_all) (h5 : Cond.initialized y.cls ∈ lw_all) (h6 : Cond.code y b L r ∈ lw_all) (f1 : Cond.declares x ∈ lw_tbl) (f2 : Cond.interfaceMethod x.cls x.cls x.name x.desc ∈ lw_tbl) (f3 : Cond.publicMethod y ∈ lw_tbl) (f4 : Cond.unhidden C x.name x.desc ∈ lw_tbl) (f5 : Cond.castable C x.cls ∈ lw_tbl)
    (hp : xPl x.cls) (hd : (parseMethodDescriptor x.desc).map (fun d => d.parameters.length) = some n) : xCal K own (.invokeinterface idx count) 5 (y, b, L, r, []) (some C) (n + 1) := by
  intro p e R s m args below meth c H locs cells slots mc ms pc nL ls cc As rest rm Pc Qc XC free S hw hE hM hrc hrs hf hl hbl hPc hn hrv hls h8 hdg hfit
  obtain ⟨bb, At, cell, rfl, q1, q2, q3⟩ := hrv C rfl
  subst hr0
  exact vx_runF (hE.1.1 _ _ hat).2 S hM (va_cwF n S.2.2.2.2 (lw_app (by simp only [List.mem_cons, List.not_mem_nil, or_false]; rintro w (rfl | rfl | rfl | rfl) <;> assumption) (lw_meth h6)) rfl hrc hrs (hw.2.1 _ _ _ hp f1 f2 f3 f4 f5) ⟨hp.1, hp.2, hd⟩ ⟨hf, hl⟩) ⟨hbl, ⟨cell, q1, q2, q3⟩, hPc⟩ rfl (Nat.succ.inj hn) hls (xrev _ _ _) (x8 h8) hdg hfit
/-- super.name(..) -/
theorem xCal.SU {cC : Nat} {r0 : vw_C} (hat : (xcl K)[cC]? = some r0) (hr0 : r0.1 = C) (h1 : Cond.methodLink own idx y ∈ lw_all) (h2 : Cond.sameMethod y.cls y.cls y.name y.desc ∈ lw_all) (h3 : Cond.superclass own y.cls ∈ lw_all) (h4 : Cond.instanceMethod y ∈ lw_all) (h5 : Cond.initialized y.cls ∈ lw_all) (h6 : Cond.code y b L r ∈ lw_all) (hy : y.name ≠ "<init>") (hd : (parseMethodDescriptor y.desc).map (fun d => d.parameters.length) = some n) : xCal K own (.invokespecial idx) 3 (y, b, L, r, []) (some C) (n + 1) := by
  intro p e R s m args below meth c H locs cells slots mc ms pc nL ls cc As rest rm Pc Qc XC free S hw hE hM hrc hrs hf hl hbl hPc hn hrv hls h8 hdg hfit
  obtain ⟨bb, At, cell, rfl, q1, q2, q3⟩ := hrv C rfl
  subst hr0
  exact vx_runSU (hE.1.1 _ _ hat).2 S hM (va_cwSU n S.2.2.2.2 (lw_app (by simp only [List.mem_cons, List.not_mem_nil, or_false]; rintro w (rfl | rfl | rfl | rfl | rfl) <;> assumption) (lw_meth h6)) rfl hrc hrs ⟨hy, hd⟩ ⟨hf, hl⟩) ⟨hbl, ⟨cell, q1, q2, q3⟩, hPc⟩ rfl (Nat.succ.inj hn) hls (xrev _ _ _) (x8 h8) hdg hfit
end XLK
