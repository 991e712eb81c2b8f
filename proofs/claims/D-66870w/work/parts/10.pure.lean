/-! THE PLAIN MACHINE, 1: instructions that look at locals and the operand stack alone. -/
def xlo (lv : List (Nat × Value)) (i : Nat) : Option Value := (lv.find? (fun q => q.1 == i)).map (fun q => q.2)
def xst1 (lv : List (Nat × Value)) (i : Nat) (v : Value) : List (Nat × Value) := (i, v) :: lv.filter (fun q => !(q.1 == i) && !(q.1 + 1 == i && q.2.category == 2))
def xst2 (lv : List (Nat × Value)) (i : Nat) (v : Value) : List (Nat × Value) := (i, v) :: lv.filter (fun q => !(q.1 == i) && (!(q.1 == i + 1) && !(q.1 + 1 == i && q.2.category == 2)))
theorem xlo_at {ls : Array Slot} {nL : Nat} {lv : List (Nat × Value)} (h : lv_has ls nL lv) {i : Nat} {v : Value} (hv : xlo lv i = some v) : ∃ k : Nat, lv[k]? = some (i, v) ∧ ls[i]? = some (.val v) := by
  unfold xlo at hv
  cases hf : lv.find? (fun q => q.1 == i) with
  | none => rw [hf] at hv; cases hv
  | some q =>
    rw [hf] at hv
    have h1 := List.find?_some hf
    have h2 := List.mem_of_find?_eq_some hf
    obtain ⟨k, hk⟩ := List.getElem?_of_mem h2
    obtain ⟨a, w⟩ := q
    have e1 : a = i := by simpa using h1
    have e2 : w = v := by simpa using hv
    subst e1; subst e2
    exact ⟨k, hk, lv_at h k hk⟩
abbrev xR2 : Type := List (Nat × Value) × List Value
def xldI (lv : List (Nat × Value)) (st : List Value) (i : Nat) : Option xR2 := match xlo lv i with
  | some (.int x) => some (lv, .int x :: st)
  | _ => none
def xldL (lv : List (Nat × Value)) (st : List Value) (i : Nat) : Option xR2 := match xlo lv i with
  | some (.long x) => some (lv, .long x :: st)
  | _ => none
def xldA (lv : List (Nat × Value)) (st : List Value) (i : Nat) : Option xR2 := match xlo lv i with
  | some (.ref x) => some (lv, .ref x :: st)
  | some .null => some (lv, .null :: st)
  | _ => none
def xsoI (nL : Nat) (lv : List (Nat × Value)) (st : List Value) (i : Nat) : Option xR2 := match st with
  | .int x :: r => if i < nL then some (xst1 lv i (.int x), r) else none
  | _ => none
def xsoL (nL : Nat) (lv : List (Nat × Value)) (st : List Value) (i : Nat) : Option xR2 := match st with
  | .long x :: r => if i + 1 < nL then some (xst2 lv i (.long x), r) else none
  | _ => none
def xsoA (nL : Nat) (lv : List (Nat × Value)) (st : List Value) (i : Nat) : Option xR2 := match st with
  | .ref x :: r => if i < nL then some (xst1 lv i (.ref x), r) else none
  | .null :: r => if i < nL then some (xst1 lv i .null, r) else none
  | _ => none
def xinc (nL : Nat) (lv : List (Nat × Value)) (st : List Value) (i : Nat) (n : Int) : Option xR2 := match xlo lv i with
  | some (.int x) => if i < nL then some (xst1 lv i (.int (x + Int32.ofInt n)), st) else none
  | _ => none
def xI (f : Int32 → Value) (lv : List (Nat × Value)) (st : List Value) : Option xR2 := match st with
  | .int x :: r => some (lv, f x :: r)
  | _ => none
def xL (f : Int64 → Value) (lv : List (Nat × Value)) (st : List Value) : Option xR2 := match st with
  | .long x :: r => some (lv, f x :: r)
  | _ => none
def xII (f : Int32 → Int32 → Value) (lv : List (Nat × Value)) (st : List Value) : Option xR2 := match st with
  | .int y :: .int x :: r => some (lv, f x y :: r)
  | _ => none
def xIIn (f : Int32 → Int32 → Value) (lv : List (Nat × Value)) (st : List Value) : Option xR2 := match st with
  | .int y :: .int x :: r => if y = 0 then none else some (lv, f x y :: r)
  | _ => none
def xLL (f : Int64 → Int64 → Value) (lv : List (Nat × Value)) (st : List Value) : Option xR2 := match st with
  | .long y :: .long x :: r => some (lv, f x y :: r)
  | _ => none
def xLLn (f : Int64 → Int64 → Value) (lv : List (Nat × Value)) (st : List Value) : Option xR2 := match st with
  | .long y :: .long x :: r => if y = 0 then none else some (lv, f x y :: r)
  | _ => none
def xLI (f : Int64 → Int32 → Value) (lv : List (Nat × Value)) (st : List Value) : Option xR2 := match st with
  | .int y :: .long x :: r => some (lv, f x y :: r)
  | _ => none
def xdup (lv : List (Nat × Value)) (st : List Value) : Option xR2 := match st with
  | v :: r => if v.category = 1 then some (lv, v :: v :: r) else none
  | _ => none
def xpop (lv : List (Nat × Value)) (st : List Value) : Option xR2 := match st with
  | v :: r => if v.category = 1 then some (lv, r) else none
  | _ => none
def xdupx1 (lv : List (Nat × Value)) (st : List Value) : Option xR2 := match st with
  | v :: w :: r => if v.category = 1 ∧ w.category = 1 then some (lv, v :: w :: v :: r) else none
  | _ => none
def xdup2 (lv : List (Nat × Value)) (st : List Value) : Option xR2 := match st with
  | v :: w :: r => if v.category = 1 ∧ w.category = 1 then some (lv, v :: w :: v :: w :: r) else if v.category = 2 then some (lv, v :: v :: w :: r) else none
  | [v] => if v.category = 2 then some (lv, [v, v]) else none
  | _ => none
/-- locals and stack behind an instruction that looks at nothing else -/
def xpure (nL : Nat) (i : Instr) (lv : List (Nat × Value)) (st : List Value) : Option xR2 := match i with
  | .iconst n => some (lv, .int (Int32.ofInt n) :: st)
  | .bipush n => some (lv, .int (Int8.ofInt n).toInt32 :: st)
  | .sipush n => some (lv, .int (Int16.ofInt n).toInt32 :: st)
  | .lconst n => some (lv, .long (Int64.ofNat (n : Nat)) :: st)
  | .aconst_null => some (lv, .null :: st)
  | .iload_n k => xldI lv st (k : Nat)
  | .iload k => xldI lv st k
  | .lload_n k => xldL lv st (k : Nat)
  | .lload k => xldL lv st k
  | .aload_n k => xldA lv st (k : Nat)
  | .aload k => xldA lv st k
  | .istore_n k => xsoI nL lv st (k : Nat)
  | .istore k => xsoI nL lv st k
  | .lstore_n k => xsoL nL lv st (k : Nat)
  | .lstore k => xsoL nL lv st k
  | .astore_n k => xsoA nL lv st (k : Nat)
  | .astore k => xsoA nL lv st k
  | .iinc k n => xinc nL lv st k n
  | .iadd => xII (fun x y => .int (x + y)) lv st
  | .isub => xII (fun x y => .int (x - y)) lv st
  | .imul => xII (fun x y => .int (x * y)) lv st
  | .iand => xII (fun x y => .int (x &&& y)) lv st
  | .ior => xII (fun x y => .int (x ||| y)) lv st
  | .ixor => xII (fun x y => .int (x ^^^ y)) lv st
  | .ishl => xII (fun x y => .int (x <<< (y &&& 31))) lv st
  | .ishr => xII (fun x y => .int (x >>> (y &&& 31))) lv st
  | .iushr => xII (fun x y => .int (x.toUInt32 >>> (y.toUInt32 &&& Int32.toUInt32 31)).toInt32) lv st
  | .idiv => xIIn (fun x y => .int (x / y)) lv st
  | .irem => xIIn (fun x y => .int (x - x / y * y)) lv st
  | .ineg => xI (fun x => .int (-x)) lv st
  | .ladd => xLL (fun x y => .long (x + y)) lv st
  | .lsub => xLL (fun x y => .long (x - y)) lv st
  | .lmul => xLL (fun x y => .long (x * y)) lv st
  | .land => xLL (fun x y => .long (x &&& y)) lv st
  | .lor => xLL (fun x y => .long (x ||| y)) lv st
  | .lxor => xLL (fun x y => .long (x ^^^ y)) lv st
  | .ldiv => xLLn (fun x y => .long (x / y)) lv st
  | .lrem => xLLn (fun x y => .long (x - x / y * y)) lv st
  | .lneg => xL (fun x => .long (-x)) lv st
  | .lcmp => xLL (fun x y => .int (lg_cmp x y)) lv st
  | .lshl => xLI (fun x y => .long (x <<< (y.toInt64 &&& 63))) lv st
  | .lshr => xLI (fun x y => .long (x >>> (y.toInt64 &&& 63))) lv st
  | .lushr => xLI (fun x y => .long (x.toUInt64 >>> (y.toInt64.toUInt64 &&& Int64.toUInt64 63)).toInt64) lv st
  | .i2l => xI (fun x => .long x.toInt64) lv st
  | .l2i => xL (fun x => .int x.toInt32) lv st
  | .i2b => xI (fun x => .int x.toInt8.toInt32) lv st
  | .i2s => xI (fun x => .int x.toInt16.toInt32) lv st
  | .i2c => xI (fun x => .int (x.toUInt32 % 65536).toInt32) lv st
  | .dup => xdup lv st
  | .pop => xpop lv st
  | .dup_x1 => xdupx1 lv st
  | .dup2 => xdup2 lv st
  | _ => none
/-- how long such an instruction is -/
def xlen (i : Instr) : Nat := match i with
  | .bipush _ | .iload _ | .lload _ | .aload _ | .istore _ | .lstore _ | .astore _ => 2
  | .sipush _ | .iinc _ _ => 3
  | _ => 1
section XPURE
variable {p : Program} {l : Launch} {e : Env} {R : Room} {s : State} {m : MethodId} {args : Array Value} {below : List Frame} {meth : Method} {c : Code} {H : Heap} {locs : List Loc} {cells slots : Nat} {Q : State → Prop}
variable {cc : ByteArray} {pc : Nat} {ls : Array Slot} {nL : Nat} {lv lv' : List (Nat × Value)} {st st' : List Value}
theorem xldI_inv {i : Nat} (h : xldI lv st i = some (lv', st')) : ∃ x, xlo lv i = some (.int x) ∧ lv' = lv ∧ st' = .int x :: st := by
  unfold xldI at h
  split at h
  · cases h; exact ⟨_, by assumption, rfl, rfl⟩
  · cases h
theorem xldL_inv {i : Nat} (h : xldL lv st i = some (lv', st')) : ∃ x, xlo lv i = some (.long x) ∧ lv' = lv ∧ st' = .long x :: st := by
  unfold xldL at h
  split at h
  · cases h; exact ⟨_, by assumption, rfl, rfl⟩
  · cases h
theorem xldA_inv {i : Nat} (h : xldA lv st i = some (lv', st')) : (∃ x, xlo lv i = some (.ref x) ∧ lv' = lv ∧ st' = .ref x :: st) ∨ (xlo lv i = some .null ∧ lv' = lv ∧ st' = .null :: st) := by
  unfold xldA at h
  split at h
  · cases h; exact Or.inl ⟨_, by assumption, rfl, rfl⟩
  · cases h; exact Or.inr ⟨by assumption, rfl, rfl⟩
  · cases h
theorem xsoI_inv {i : Nat} (h : xsoI nL lv st i = some (lv', st')) : ∃ x, st = .int x :: st' ∧ i < nL ∧ lv' = xst1 lv i (.int x) := by
  unfold xsoI at h
  split at h
  · split at h
    · cases h; exact ⟨_, rfl, by assumption, rfl⟩
    · cases h
  · cases h
theorem xsoL_inv {i : Nat} (h : xsoL nL lv st i = some (lv', st')) : ∃ x, st = .long x :: st' ∧ i + 1 < nL ∧ lv' = xst2 lv i (.long x) := by
  unfold xsoL at h
  split at h
  · split at h
    · cases h; exact ⟨_, rfl, by assumption, rfl⟩
    · cases h
  · cases h
theorem xsoA_inv {i : Nat} (h : xsoA nL lv st i = some (lv', st')) : i < nL ∧ ((∃ x, st = .ref x :: st' ∧ lv' = xst1 lv i (.ref x)) ∨ (st = .null :: st' ∧ lv' = xst1 lv i .null)) := by
  unfold xsoA at h
  split at h
  · split at h
    · cases h; exact ⟨by assumption, Or.inl ⟨_, rfl, rfl⟩⟩
    · cases h
  · split at h
    · cases h; exact ⟨by assumption, Or.inr ⟨rfl, rfl⟩⟩
    · cases h
  · cases h
theorem xinc_inv {i : Nat} {n : Int} (h : xinc nL lv st i n = some (lv', st')) : ∃ x, xlo lv i = some (.int x) ∧ i < nL ∧ lv' = xst1 lv i (.int (x + Int32.ofInt n)) ∧ st' = st := by
  unfold xinc at h
  split at h
  · split at h
    · cases h; exact ⟨_, by assumption, by assumption, rfl, rfl⟩
    · cases h
  · cases h
theorem xI_inv {f : Int32 → Value} (h : xI f lv st = some (lv', st')) : ∃ x r, st = .int x :: r ∧ lv' = lv ∧ st' = f x :: r := by
  unfold xI at h
  split at h
  · cases h; exact ⟨_, _, rfl, rfl, rfl⟩
  · cases h
theorem xL_inv {f : Int64 → Value} (h : xL f lv st = some (lv', st')) : ∃ x r, st = .long x :: r ∧ lv' = lv ∧ st' = f x :: r := by
  unfold xL at h
  split at h
  · cases h; exact ⟨_, _, rfl, rfl, rfl⟩
  · cases h
theorem xII_inv {f : Int32 → Int32 → Value} (h : xII f lv st = some (lv', st')) : ∃ x y r, st = .int y :: .int x :: r ∧ lv' = lv ∧ st' = f x y :: r := by
  unfold xII at h
  split at h
  · cases h; exact ⟨_, _, _, rfl, rfl, rfl⟩
  · cases h
theorem xIIn_inv {f : Int32 → Int32 → Value} (h : xIIn f lv st = some (lv', st')) : ∃ x y r, st = .int y :: .int x :: r ∧ ¬ y = 0 ∧ lv' = lv ∧ st' = f x y :: r := by
  unfold xIIn at h
  split at h
  · split at h
    · cases h
    · cases h; exact ⟨_, _, _, rfl, by assumption, rfl, rfl⟩
  · cases h
theorem xLL_inv {f : Int64 → Int64 → Value} (h : xLL f lv st = some (lv', st')) : ∃ x y r, st = .long y :: .long x :: r ∧ lv' = lv ∧ st' = f x y :: r := by
  unfold xLL at h
  split at h
  · cases h; exact ⟨_, _, _, rfl, rfl, rfl⟩
  · cases h
theorem xLLn_inv {f : Int64 → Int64 → Value} (h : xLLn f lv st = some (lv', st')) : ∃ x y r, st = .long y :: .long x :: r ∧ ¬ y = 0 ∧ lv' = lv ∧ st' = f x y :: r := by
  unfold xLLn at h
  split at h
  · split at h
    · cases h
    · cases h; exact ⟨_, _, _, rfl, by assumption, rfl, rfl⟩
  · cases h
theorem xLI_inv {f : Int64 → Int32 → Value} (h : xLI f lv st = some (lv', st')) : ∃ x y r, st = .int y :: .long x :: r ∧ lv' = lv ∧ st' = f x y :: r := by
  unfold xLI at h
  split at h
  · cases h; exact ⟨_, _, _, rfl, rfl, rfl⟩
  · cases h
theorem xpure_W (hx : p.tables.exec = Jvm.exec) (hb : c.code = cc) {i : Instr} {len : Nat} (hd : decode cc pc = .ok (i, len)) (hlen : len = xlen i) (hl : lv_has ls nL lv) (h : xpure nL i lv st = some (lv', st'))
    (kk : ∀ ls' : Array Slot, lv_has ls' nL lv' → W p l e R s m args below meth c H locs cells slots Q (F0 m (pc + len) ls' st')) : W p l e R s m args below meth c H locs cells slots Q (F0 m pc ls st) := by
  subst hlen
  cases i with
  | iconst n => cases h; exact lv_iconst hx hb hd rfl (kk ls hl)
  | bipush n => cases h; exact lv_bipush hx hb hd rfl (kk ls hl)
  | sipush n => cases h; exact lv_sipush hx hb hd rfl (kk ls hl)
  | lconst n => cases h; exact lv_lconst hx hb hd rfl (kk ls hl)
  | aconst_null => cases h; exact lv_null hx hb hd (kk ls hl)
  | iload_n k => obtain ⟨x, h1, rfl, rfl⟩ := xldI_inv h; obtain ⟨-, -, h2⟩ := xlo_at hl h1; exact lv_iload_n hx hb hd rfl h2 (kk ls hl)
  | iload k => obtain ⟨x, h1, rfl, rfl⟩ := xldI_inv h; obtain ⟨-, -, h2⟩ := xlo_at hl h1; exact lv_iload hx hb hd h2 (kk ls hl)
  | lload_n k => obtain ⟨x, h1, rfl, rfl⟩ := xldL_inv h; obtain ⟨-, -, h2⟩ := xlo_at hl h1; exact lv_lload_n hx hb hd rfl h2 (kk ls hl)
  | lload k => obtain ⟨x, h1, rfl, rfl⟩ := xldL_inv h; obtain ⟨-, -, h2⟩ := xlo_at hl h1; exact lv_lload hx hb hd h2 (kk ls hl)
  | aload_n k => rcases xldA_inv h with ⟨x, h1, rfl, rfl⟩ | ⟨h1, rfl, rfl⟩ <;> obtain ⟨-, -, h2⟩ := xlo_at hl h1; exact lv_aload_n hx hb hd rfl h2 (kk ls hl); exact lv_aload_nN hx hb hd rfl h2 (kk ls hl)
  | aload k => rcases xldA_inv h with ⟨x, h1, rfl, rfl⟩ | ⟨h1, rfl, rfl⟩ <;> obtain ⟨-, -, h2⟩ := xlo_at hl h1; exact lv_aload hx hb hd h2 (kk ls hl); exact lv_aloadN hx hb hd h2 (kk ls hl)
  | istore_n k => obtain ⟨x, rfl, h2, rfl⟩ := xsoI_inv h; exact lv_istore_n hx hb hd rfl hl h2 rfl kk
  | istore k => obtain ⟨x, rfl, h2, rfl⟩ := xsoI_inv h; exact lv_istore hx hb hd hl h2 rfl kk
  | lstore_n k => obtain ⟨x, rfl, h2, rfl⟩ := xsoL_inv h; exact lv_lstore_n hx hb hd rfl hl h2 rfl kk
  | lstore k => obtain ⟨x, rfl, h2, rfl⟩ := xsoL_inv h; exact lv_lstore hx hb hd hl h2 rfl kk
  | astore_n k => obtain ⟨h2, ⟨x, rfl, rfl⟩ | ⟨rfl, rfl⟩⟩ := xsoA_inv h; exact lv_astore_n hx hb hd rfl hl h2 rfl kk; exact lv_astore_nN hx hb hd rfl hl h2 rfl kk
  | astore k => obtain ⟨h2, ⟨x, rfl, rfl⟩ | ⟨rfl, rfl⟩⟩ := xsoA_inv h; exact lv_astore hx hb hd hl h2 rfl kk; exact lv_astoreN hx hb hd hl h2 rfl kk
  | iinc k n => obtain ⟨x, h1, h2, rfl, rfl⟩ := xinc_inv h; obtain ⟨j, h3, -⟩ := xlo_at hl h1; exact lv_iinc hx hb hd hl h3 rfl h2 rfl kk
  | iadd => obtain ⟨x, y, r, rfl, rfl, rfl⟩ := xII_inv h; exact lv_iadd hx hb hd (kk ls hl)
  | isub => obtain ⟨x, y, r, rfl, rfl, rfl⟩ := xII_inv h; exact lv_isub hx hb hd (kk ls hl)
  | imul => obtain ⟨x, y, r, rfl, rfl, rfl⟩ := xII_inv h; exact lv_imul hx hb hd (kk ls hl)
  | iand => obtain ⟨x, y, r, rfl, rfl, rfl⟩ := xII_inv h; exact lv_iand hx hb hd (kk ls hl)
  | ior => obtain ⟨x, y, r, rfl, rfl, rfl⟩ := xII_inv h; exact lv_ior hx hb hd (kk ls hl)
  | ixor => obtain ⟨x, y, r, rfl, rfl, rfl⟩ := xII_inv h; exact lv_ixor hx hb hd (kk ls hl)
  | ishl => obtain ⟨x, y, r, rfl, rfl, rfl⟩ := xII_inv h; exact lv_ishl hx hb hd (kk ls hl)
  | ishr => obtain ⟨x, y, r, rfl, rfl, rfl⟩ := xII_inv h; exact lv_ishr hx hb hd (kk ls hl)
  | iushr => obtain ⟨x, y, r, rfl, rfl, rfl⟩ := xII_inv h; exact lv_iushr hx hb hd rfl (kk ls hl)
  | idiv => obtain ⟨x, y, r, rfl, h0, rfl, rfl⟩ := xIIn_inv h; exact lv_idiv hx hb hd h0 (kk ls hl)
  | irem => obtain ⟨x, y, r, rfl, h0, rfl, rfl⟩ := xIIn_inv h; exact lv_irem hx hb hd h0 (kk ls hl)
  | ineg => obtain ⟨x, r, rfl, rfl, rfl⟩ := xI_inv h; exact lv_ineg hx hb hd (kk ls hl)
  | ladd => obtain ⟨x, y, r, rfl, rfl, rfl⟩ := xLL_inv h; exact lv_ladd hx hb hd (kk ls hl)
  | lsub => obtain ⟨x, y, r, rfl, rfl, rfl⟩ := xLL_inv h; exact lv_lsub hx hb hd (kk ls hl)
  | lmul => obtain ⟨x, y, r, rfl, rfl, rfl⟩ := xLL_inv h; exact lv_lmul hx hb hd (kk ls hl)
  | land => obtain ⟨x, y, r, rfl, rfl, rfl⟩ := xLL_inv h; exact lv_land hx hb hd (kk ls hl)
  | lor => obtain ⟨x, y, r, rfl, rfl, rfl⟩ := xLL_inv h; exact lv_lor hx hb hd (kk ls hl)
  | lxor => obtain ⟨x, y, r, rfl, rfl, rfl⟩ := xLL_inv h; exact lv_lxor hx hb hd (kk ls hl)
  | ldiv => obtain ⟨x, y, r, rfl, h0, rfl, rfl⟩ := xLLn_inv h; exact lv_ldiv hx hb hd h0 (kk ls hl)
  | lrem => obtain ⟨x, y, r, rfl, h0, rfl, rfl⟩ := xLLn_inv h; exact lv_lrem hx hb hd h0 (kk ls hl)
  | lneg => obtain ⟨x, r, rfl, rfl, rfl⟩ := xL_inv h; exact lv_lneg hx hb hd (kk ls hl)
  | lcmp => obtain ⟨x, y, r, rfl, rfl, rfl⟩ := xLL_inv h; exact W.lcmp hx hb hd (kk ls hl)
  | lshl => obtain ⟨x, y, r, rfl, rfl, rfl⟩ := xLI_inv h; exact lv_lshl hx hb hd rfl (kk ls hl)
  | lshr => obtain ⟨x, y, r, rfl, rfl, rfl⟩ := xLI_inv h; exact lv_lshr hx hb hd rfl (kk ls hl)
  | lushr => obtain ⟨x, y, r, rfl, rfl, rfl⟩ := xLI_inv h; exact lv_lushr hx hb hd rfl (kk ls hl)
  | i2l => obtain ⟨x, r, rfl, rfl, rfl⟩ := xI_inv h; exact lv_i2l hx hb hd rfl (kk ls hl)
  | l2i => obtain ⟨x, r, rfl, rfl, rfl⟩ := xL_inv h; exact lv_l2i hx hb hd rfl (kk ls hl)
  | i2b => obtain ⟨x, r, rfl, rfl, rfl⟩ := xI_inv h; exact lv_i2b hx hb hd rfl (kk ls hl)
  | i2s => obtain ⟨x, r, rfl, rfl, rfl⟩ := xI_inv h; exact lv_i2s hx hb hd rfl (kk ls hl)
  | i2c => obtain ⟨x, r, rfl, rfl, rfl⟩ := xI_inv h; exact lv_i2c hx hb hd rfl (kk ls hl)
  | dup =>
    change xdup lv st = _ at h
    unfold xdup at h
    split at h
    · split at h
      · cases h; exact lv_dup hx hb hd (by assumption) (kk ls hl)
      · cases h
    · cases h
  | pop =>
    change xpop lv st = _ at h
    unfold xpop at h
    split at h
    · split at h
      · cases h; exact lv_pop hx hb hd (by assumption) (kk ls hl)
      · cases h
    · cases h
  | dup_x1 =>
    change xdupx1 lv st = _ at h
    unfold xdupx1 at h
    split at h
    · split at h
      · rename_i h1; cases h; exact lv_dup_x1 hx hb hd h1.1 h1.2 (kk ls hl)
      · cases h
    · cases h
  | dup2 =>
    change xdup2 lv st = _ at h
    unfold xdup2 at h
    split at h
    · split at h
      · rename_i h1; cases h; exact lv_dup2_11 hx hb hd h1.1 h1.2 (kk ls hl)
      · split at h
        · cases h; exact lv_dup2_2 hx hb hd (by assumption) (kk ls hl)
        · cases h
    · split at h
      · cases h; exact lv_dup2_2 hx hb hd (by assumption) (kk ls hl)
      · cases h
    · cases h
  | _ => exact absurd h (by simp [xpure])
end XPURE
