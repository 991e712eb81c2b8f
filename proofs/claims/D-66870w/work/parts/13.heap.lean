/-! THE PLAIN MACHINE, 4: arrays, fields, new cells. -/
def xin (i : Int32) (n : Nat) : Bool := decide (¬ i < 0) && decide (i.toNatClampNeg < n)
theorem xin_in {i : Int32} {n : Nat} (h : xin i n = true) : vp_in i n := by
  simp only [xin, Bool.and_eq_true, decide_eq_true_eq] at h
  intro q
  rcases q with q | q
  · exact h.1 q
  · omega
/-- what an array's place holds -/
def xel (i : Instr) (ty : FieldType) (y : vp_A) (j : Nat) : Option Value := match i, ty, y.2 with
  | .iaload, .int, .inl f => some (.int (f j))
  | .baload, .byte, .inl f => some (.int (f j))
  | .baload, .boolean, .inl f => some (.int (f j))
  | .caload, .char, .inl f => some (.int (f j))
  | .saload, .short, .inl f => some (.int (f j))
  | .laload, .long, .inr (.inl f) => some (.long (f j))
  | .aaload, .object _, .inr (.inr (.inr (.inr f))) => some (va_rf (f j))
  | .aaload, .array _, .inr (.inr (.inr (.inr f))) => some (va_rf (f j))
  | _, _, _ => none
def xald (b : Nat) (old : Nat → Option xE) (σ : xS) (i : Instr) (st : List Value) : Option (List Value) := match st with
  | .int j :: .ref a :: r => match xat b old σ a with
    | some (.inl (ty, y)) => if xin j y.1 then (xel i ty y j.toNatClampNeg).map (fun v => v :: r) else none
    | _ => none
  | _ => none
/-- an array with another value at a place; references apart -/
def xup (i : Instr) (ty : FieldType) (y : vp_A) (j : Nat) (v : Value) : Option vp_A := match i, ty, y.2, v with
  | .iastore, .int, .inl f, .int x => some (y.1, .inl (upd f j x))
  | .bastore, .byte, .inl f, .int x => some (y.1, .inl (upd f j (vp_nar .byte x)))
  | .bastore, .boolean, .inl f, .int x => some (y.1, .inl (upd f j (vp_nar .boolean x)))
  | .castore, .char, .inl f, .int x => some (y.1, .inl (upd f j (vp_nar .char x)))
  | .lastore, .long, .inr (.inl f), .long x => some (y.1, .inr (.inl (vp_updL f j x)))
  | _, _, _, _ => none
def xast (b : Nat) (σ : xS) (i : Instr) (st : List Value) : Option (List Value × xS) := match st with
  | v :: .int j :: .ref a :: r => match xnw b σ a with
    | some (.inl (ty, y)) => if xin j y.1 then (xup i ty y j.toNatClampNeg v).map (fun y' => (r, xput b σ a (.inl (ty, y')))) else none
    | _ => none
  | _ => none
section XHEAP
variable {p : Program} {l : Launch} {e : Env} {R : Room} {s : State} {m : MethodId} {args : Array Value} {below : List Frame} {meth : Method} {c : Code} {H : Heap} {locs : List Loc} {cells slots : Nat} {Q : State → Prop}
variable {cc : ByteArray} {pc : Nat} {ls : Array Slot} {st st' rest : List Value} {g : xG} {cl : List vw_C} {tyl : List FieldType} {σ σ' : xS}
theorem xald_inv {b : Nat} {old : Nat → Option xE} {i : Instr} (h : xald b old σ i st = some st') : ∃ (j : Int32) (a : Nat) (r : List Value) (ty : FieldType) (y : vp_A) (v : Value), st = .int j :: .ref a :: r ∧ xat b old σ a = some (.inl (ty, y)) ∧ xin j y.1 = true ∧ xel i ty y j.toNatClampNeg = some v ∧ st' = v :: r := by
  unfold xald at h
  split at h
  · split at h
    · split at h
      · obtain ⟨v, h1, h2⟩ := Option.map_eq_some_iff.mp h
        exact ⟨_, _, _, _, _, v, rfl, by assumption, by assumption, h1, h2.symm⟩
      · cases h
    · cases h
  · cases h
theorem xast_inv {b : Nat} {i : Instr} (h : xast b σ i st = some (st', σ')) : ∃ (v : Value) (j : Int32) (a : Nat) (ty : FieldType) (y y' : vp_A), st = v :: .int j :: .ref a :: st' ∧ xnw b σ a = some (.inl (ty, y)) ∧ xin j y.1 = true ∧ xup i ty y j.toNatClampNeg v = some y' ∧ σ' = xput b σ a (.inl (ty, y')) := by
  unfold xast at h
  split at h
  · split at h
    · split at h
      · obtain ⟨y', h1, h2⟩ := Option.map_eq_some_iff.mp h
        cases h2
        exact ⟨_, _, _, _, _, y', rfl, by assumption, by assumption, h1, rfl⟩
      · cases h
    · cases h
  · cases h
theorem xald_W (hx : p.tables.exec = Jvm.exec) (hb : c.code = cc) (hE : xEnv g cl tyl s) (hH : xHp g cl tyl σ s H locs cells) {i : Instr} (hd : decode cc pc = .ok (i, 1)) (h : xald (xb g) (xold g) σ i st = some st')
    (kk : W p l e R s m args below meth c H locs cells slots Q (F0 m (pc + 1) ls st')) : W p l e R s m args below meth c H locs cells slots Q (F0 m pc ls st) := by
  obtain ⟨j, a, r, ty, y, v, rfl, hc, hi, hv, rfl⟩ := xald_inv h
  obtain ⟨hP, hT⟩ := hH.rd hE hc
  obtain ⟨t0, ht⟩ := hE.ty (hT ty y rfl)
  have hin := xin_in hi
  obtain ⟨n, y⟩ := y
  unfold xel at hv
  split at hv
  · rename_i f hf; cases hv; cases hf; exact va_iald hx hb hE.1 hP 0 t0 rfl ht hin hd kk
  · rename_i f hf; cases hv; cases hf; exact va_bald hx hb hE.1 hP 0 t0 rfl ht hin hd kk
  · rename_i f hf; cases hv; cases hf; exact va_zald hx hb hE.1 hP 0 t0 rfl ht hin hd kk
  · rename_i f hf; cases hv; cases hf; exact va_cald hx hb hE.1 hP 0 t0 rfl ht hin hd kk
  · rename_i f hf; cases hv; cases hf; exact va_sald hx hb hE.1 hP 0 t0 rfl ht hin hd kk
  · rename_i f hf; cases hv; cases hf; exact va_lald hx hb hE.1 hP 0 t0 rfl ht hin hd kk
  · rename_i f hf; cases hv; cases hf; exact va_aldq hx hb hE.1 hP 0 t0 rfl ht hin hd kk
  · rename_i t f hf
    cases hv
    cases hf
    have hcell : H[a]? = some (arrV (xA g (.array t)) n (fun j => va_rf (f j))) := hP 0 _ rfl
    have hlt : j.toNatClampNeg < n := Nat.not_le.mp fun q => hin (Or.inr q)
    exact W.aald hx hb hcell ((hE.1.2 t0 _ ht).1 n (fun j => va_rf (f j))) rfl (fun q => by cases q) (by rw [arrV_size]; exact hin) (arrV_read _ _ hlt) rfl rfl hd kk
  · cases hv
theorem xHp.key (hH : xHp g cl tyl σ s H locs cells) {a : Nat} {x0 x : xE} (hc : xnw (xb g) σ a = some x0) (hT : ∀ (ty : FieldType) (y : vp_A), x = .inl (ty, y) → ty ∈ tyl) {H1 : Heap} {locs1 : List Loc} (hP : va_P (xD g) cl ((xws (xA g) (xb g) σ.1).set (a - xb g) (a, xemb (xA g) x)) H1) (hD : va_D (fun q => xb g ≤ q) ((xws (xA g) (xb g) σ.1).set (a - xb g) (a, xemb (xA g) x))) (hS : va_S (fun q => xb g ≤ q) H H1 locs1) (hz : H1.size ≤ s.heap.size + cells) :
    xHp g cl tyl (xput (xb g) σ a x) s H1 locs1 cells :=
  hH.wr hc hT hP hD ⟨Nat.le_trans hH.2.2.2.2.1.1 hS.1, fun q h1 h2 => (hS.2.1 q (Nat.lt_of_lt_of_le h1 hH.2.2.2.2.1.1) h2).trans (hH.2.2.2.2.1.2.1 q h1 h2), hS.2.2⟩ hS.1 hz
theorem xHp.self (hH : xHp g cl tyl σ s H locs cells) : va_S (fun q => xb g ≤ q) H H locs := ⟨Nat.le_refl _, fun _ _ _ => rfl, hH.2.2.2.2.1.2.2⟩
theorem xws_nw {a : Nat} {x : xE} (hc : xnw (xb g) σ a = some x) : (xws (xA g) (xb g) σ.1)[a - xb g]? = some (a, xemb (xA g) x) := by
  obtain ⟨hba, hk⟩ := xnw_inv hc
  rw [xws_at, hk]
  simp
  omega
theorem xast_W (hx : p.tables.exec = Jvm.exec) (hb : c.code = cc) (hE : xEnv g cl tyl s) (hH : xHp g cl tyl σ s H locs cells) {i : Instr} (hd : decode cc pc = .ok (i, 1)) (h : xast (xb g) σ i st = some (st', σ'))
    (kk : ∀ (H1 : Heap) (locs1 : List Loc), xHp g cl tyl σ' s H1 locs1 cells → W p l e R s m args below meth c H1 locs1 cells slots Q (F0 m (pc + 1) ls st')) : W p l e R s m args below meth c H locs cells slots Q (F0 m pc ls st) := by
  obtain ⟨v, j, a, ty, y, y', rfl, hc, hi, hv, rfl⟩ := xast_inv h
  have hT : ty ∈ tyl := hH.2.2.2.2.2 _ (List.mem_of_getElem? (xnw_inv hc).2) ty y rfl
  obtain ⟨t0, ht⟩ := hE.ty hT
  have ha := xws_nw hc
  have hin := xin_in hi
  have hk : ∀ (H1 : Heap) (locs1 : List Loc), va_P (xD g) cl ((xws (xA g) (xb g) σ.1).set (a - xb g) (a, .inl (xA g ty, y'))) H1 → va_D (fun q => xb g ≤ q) ((xws (xA g) (xb g) σ.1).set (a - xb g) (a, .inl (xA g ty, y'))) → va_S (fun q => xb g ≤ q) H H1 locs1 → W p l e R s m args below meth c H1 locs1 cells slots Q (F0 m (pc + 1) ls st') :=
    fun H1 locs1 hP hD hS => W.szb fun hz => kk H1 locs1 (hH.key hc (x := .inl (ty, y')) (fun ty' y2 he => by cases he; exact hT) hP hD hS hz)
  obtain ⟨n, y⟩ := y
  unfold xup at hv
  split at hv
  · rename_i f x hf; cases hv; cases hf; exact va_iast hx hb hE.1 hH.2.2.1 hH.2.2.2.1 hH.self _ t0 ha ht hin hd hk
  · rename_i f x hf; cases hv; cases hf; exact va_bast hx hb hE.1 hH.2.2.1 hH.2.2.2.1 hH.self _ t0 ha ht hin hd hk
  · rename_i f x hf; cases hv; cases hf; exact va_zast hx hb hE.1 hH.2.2.1 hH.2.2.2.1 hH.self _ t0 ha ht hin hd hk
  · rename_i f x hf; cases hv; cases hf; exact va_cast hx hb hE.1 hH.2.2.1 hH.2.2.2.1 hH.self _ t0 ha ht hin hd hk
  · rename_i f x hf; cases hv; cases hf; exact va_last hx hb hE.1 hH.2.2.1 hH.2.2.2.1 hH.self _ t0 ha ht hin hd hk
  · cases hv
end XHEAP
