/-! THE PLAIN MACHINE, 2: branches and switches: where it goes on, and the stack there. -/
def xtgt (pc : Nat) (off : Int) : Option Nat := if 0 ≤ (pc : Int) + off then some ((pc : Int) + off).toNat else none
theorem xtgt_inv {pc t : Nat} {off : Int} (h : xtgt pc off = some t) : (pc : Int) + off = (t : Int) := by
  unfold xtgt at h
  split at h
  · cases h; omega
  · cases h
def xgo (pc : Nat) (off : Int) (b : Bool) (r : List Value) : Option (Nat × List Value) := match xtgt pc off with
  | some t => if b then some (t, r) else some (pc + 3, r)
  | none => none
def xjmp (pc : Nat) (off : Int) (r : List Value) : Option (Nat × List Value) := match xtgt pc off with
  | some t => some (t, r)
  | none => none
def xc1 (cd : Jvm.ClassFile.Cond) (x : Int32) : Bool := match cd with
  | .eq => decide (x = 0)
  | .ne => decide (¬ x = 0)
  | .lt => decide (x < 0)
  | .ge => decide (0 ≤ x)
  | .gt => decide (0 < x)
  | .le => decide (x ≤ 0)
def xc2 (cd : Jvm.ClassFile.Cond) (x y : Int32) : Bool := match cd with
  | .eq => decide (x = y)
  | .ne => decide (¬ x = y)
  | .lt => decide (x < y)
  | .ge => decide (y ≤ x)
  | .gt => decide (y < x)
  | .le => decide (x ≤ y)
/-- a reference, or null -/
def xrf (v : Value) : Option (Option Nat) := match v with
  | .null => some none
  | .ref a => some (some a)
  | _ => none
theorem xrf_inv {v : Value} {r : Option Nat} (h : xrf v = some r) : v = va_rf r := by
  cases v <;> simp [xrf] at h <;> subst h <;> rfl
def xacmp (pc : Nat) (cd : Jvm.ClassFile.ACond) (off : Int) (st : List Value) : Option (Nat × List Value) := match st with
  | v :: w :: r => match xrf v, xrf w with
    | some y, some x => match cd with
      | .eq => xgo pc off (decide (x = y)) r
      | .ne => xgo pc off (decide (¬ x = y)) r
    | _, _ => none
  | _ => none
def xnull (pc : Nat) (off : Int) (b : Bool) (st : List Value) : Option (Nat × List Value) := match st with
  | .null :: r => if b then xjmp pc off r else some (pc + 3, r)
  | .ref _ :: r => if b then some (pc + 3, r) else xjmp pc off r
  | _ => none
def xtab (pc : Nat) (dflt lo hi : Int) (offs : Array Int) (st : List Value) : Option (Nat × List Value) := match st with
  | .int x :: r => if x.toInt < lo ∨ hi < x.toInt then xjmp pc dflt r else match offs[(x.toInt - lo).toNat]? with
    | some off => xjmp pc off r
    | none => none
  | _ => none
def xlook (pc : Nat) (dflt : Int) (ps : Array (Int × Int)) (st : List Value) : Option (Nat × List Value) := match st with
  | .int x :: r => if (ps.toList.zip (ps.toList.drop 1)).all (fun (a, next) => a.1 < next.1) = true then xjmp pc (Op.lookupswitch.offset ps.toList dflt x.toInt) r else none
  | _ => none
def xbr (pc : Nat) (i : Instr) (st : List Value) : Option (Nat × List Value) := match i with
  | .goto off => xjmp pc off st
  | .ifCond cd off => match st with
    | .int x :: r => xgo pc off (xc1 cd x) r
    | _ => none
  | .if_icmp cd off => match st with
    | .int y :: .int x :: r => xgo pc off (xc2 cd x y) r
    | _ => none
  | .if_acmp cd off => xacmp pc cd off st
  | .ifnull off => xnull pc off true st
  | .ifnonnull off => xnull pc off false st
  | .tableswitch dflt lo hi offs => xtab pc dflt lo hi offs st
  | .lookupswitch dflt ps => xlook pc dflt ps st
  | _ => none
/-- the length of a branch; switches have any -/
def xlenb (i : Instr) (len : Nat) : Bool := match i with
  | .tableswitch _ _ _ _ => true
  | .lookupswitch _ _ => true
  | _ => len == 3
section XBR
variable {p : Program} {l : Launch} {e : Env} {R : Room} {s : State} {m : MethodId} {args : Array Value} {below : List Frame} {meth : Method} {c : Code} {H : Heap} {locs : List Loc} {cells slots : Nat} {Q : State → Prop}
variable {cc : ByteArray} {pc t : Nat} {ls : Array Slot} {st st' : List Value}
theorem xgo_inv {off : Int} {b : Bool} {r : List Value} (h : xgo pc off b r = some (t, st')) : ∃ tg : Nat, (pc : Int) + off = (tg : Int) ∧ st' = r ∧ ((b = true ∧ t = tg) ∨ (b = false ∧ t = pc + 3)) := by
  unfold xgo at h
  split at h
  · rename_i tg ht
    split at h
    · rename_i hb; cases h; exact ⟨_, xtgt_inv ht, rfl, Or.inl ⟨hb, rfl⟩⟩
    · rename_i hb; cases h; exact ⟨_, xtgt_inv ht, rfl, Or.inr ⟨by simpa using hb, rfl⟩⟩
  · cases h
theorem xjmp_inv {off : Int} {r : List Value} (h : xjmp pc off r = some (t, st')) : (pc : Int) + off = (t : Int) ∧ st' = r := by
  unfold xjmp at h
  split at h
  · rename_i tg ht; cases h; exact ⟨xtgt_inv ht, rfl⟩
  · cases h
theorem xbr_W (hx : p.tables.exec = Jvm.exec) (hb : c.code = cc) {i : Instr} {len : Nat} (hd : decode cc pc = .ok (i, len)) (hlen : xlenb i len = true) (h : xbr pc i st = some (t, st'))
    (kk : W p l e R s m args below meth c H locs cells slots Q (F0 m t ls st')) : W p l e R s m args below meth c H locs cells slots Q (F0 m pc ls st) := by
  cases i with
  | goto off =>
    obtain rfl : len = 3 := by simpa [xlenb] using hlen
    obtain ⟨h1, rfl⟩ := xjmp_inv h
    exact lv_goto hx hb hd h1 kk
  | ifCond cd off =>
    obtain rfl : len = 3 := by simpa [xlenb] using hlen
    simp only [xbr] at h
    split at h
    · obtain ⟨tg, h1, rfl, h2⟩ := xgo_inv h
      cases cd <;> simp only [xc1, decide_eq_true_eq, decide_eq_false_iff_not] at h2 <;> rcases h2 with ⟨h2, rfl⟩ | ⟨h2, rfl⟩
      · exact lv_if_eq hx hb hd h1 (fun _ => kk) (fun h => absurd h2 h)
      · exact lv_if_eq hx hb hd h1 (fun h => absurd h h2) (fun _ => kk)
      · exact lv_if_ne hx hb hd h1 (fun _ => kk) (fun h => absurd h h2)
      · exact lv_if_ne hx hb hd h1 (fun h => absurd h h2) (fun _ => kk)
      · exact lv_if_lt hx hb hd h1 (fun _ => kk) (fun h => absurd h2 h)
      · exact lv_if_lt hx hb hd h1 (fun h => absurd h h2) (fun _ => kk)
      · exact lv_if_ge hx hb hd h1 (fun _ => kk) (fun h => absurd h2 h)
      · exact lv_if_ge hx hb hd h1 (fun h => absurd h h2) (fun _ => kk)
      · exact lv_if_gt hx hb hd h1 (fun _ => kk) (fun h => absurd h2 h)
      · exact lv_if_gt hx hb hd h1 (fun h => absurd h h2) (fun _ => kk)
      · exact lv_if_le hx hb hd h1 (fun _ => kk) (fun h => absurd h2 h)
      · exact lv_if_le hx hb hd h1 (fun h => absurd h h2) (fun _ => kk)
    · cases h
  | if_icmp cd off =>
    obtain rfl : len = 3 := by simpa [xlenb] using hlen
    simp only [xbr] at h
    split at h
    · obtain ⟨tg, h1, rfl, h2⟩ := xgo_inv h
      cases cd <;> simp only [xc2, decide_eq_true_eq, decide_eq_false_iff_not] at h2 <;> rcases h2 with ⟨h2, rfl⟩ | ⟨h2, rfl⟩
      · exact lv_icmp_eq hx hb hd h1 (fun _ => kk) (fun h => absurd h2 h)
      · exact lv_icmp_eq hx hb hd h1 (fun h => absurd h h2) (fun _ => kk)
      · exact lv_icmp_ne hx hb hd h1 (fun _ => kk) (fun h => absurd h h2)
      · exact lv_icmp_ne hx hb hd h1 (fun h => absurd h h2) (fun _ => kk)
      · exact lv_icmp_lt hx hb hd h1 (fun _ => kk) (fun h => absurd h2 h)
      · exact lv_icmp_lt hx hb hd h1 (fun h => absurd h h2) (fun _ => kk)
      · exact lv_icmp_ge hx hb hd h1 (fun _ => kk) (fun h => absurd h2 h)
      · exact lv_icmp_ge hx hb hd h1 (fun h => absurd h h2) (fun _ => kk)
      · exact lv_icmp_gt hx hb hd h1 (fun _ => kk) (fun h => absurd h2 h)
      · exact lv_icmp_gt hx hb hd h1 (fun h => absurd h h2) (fun _ => kk)
      · exact lv_icmp_le hx hb hd h1 (fun _ => kk) (fun h => absurd h2 h)
      · exact lv_icmp_le hx hb hd h1 (fun h => absurd h h2) (fun _ => kk)
    · cases h
  | if_acmp cd off =>
    obtain rfl : len = 3 := by simpa [xlenb] using hlen
    simp only [xbr, xacmp] at h
    split at h
    · split at h
      · rename_i hy hx2
        rw [xrf_inv hy, xrf_inv hx2]
        cases cd
        · obtain ⟨tg, h1, rfl, h2⟩ := xgo_inv h
          simp only [decide_eq_true_eq, decide_eq_false_iff_not] at h2
          rcases h2 with ⟨h2, rfl⟩ | ⟨h2, rfl⟩
          · exact lv_acmp_eq hx hb hd h1 (fun _ => kk) (fun h => absurd h2 h)
          · exact lv_acmp_eq hx hb hd h1 (fun h => absurd h h2) (fun _ => kk)
        · obtain ⟨tg, h1, rfl, h2⟩ := xgo_inv h
          simp only [decide_eq_true_eq, decide_eq_false_iff_not] at h2
          rcases h2 with ⟨h2, rfl⟩ | ⟨h2, rfl⟩
          · exact lv_acmp_ne hx hb hd h1 (fun _ => kk) (fun h => absurd h h2)
          · exact lv_acmp_ne hx hb hd h1 (fun h => absurd h h2) (fun _ => kk)
      · cases h
    · cases h
  | ifnull off =>
    obtain rfl : len = 3 := by simpa [xlenb] using hlen
    simp only [xbr, xnull, if_true] at h
    split at h
    · obtain ⟨h1, rfl⟩ := xjmp_inv h
      exact lv_ifnullN hx hb hd h1 kk
    · cases h; exact lv_ifnull hx hb hd kk
    · cases h
  | ifnonnull off =>
    obtain rfl : len = 3 := by simpa [xlenb] using hlen
    simp only [xbr, xnull, Bool.false_eq_true, if_false] at h
    split at h
    · cases h; exact lv_ifnonnullN hx hb hd kk
    · obtain ⟨h1, rfl⟩ := xjmp_inv h
      exact lv_ifnonnull hx hb hd h1 kk
    · cases h
  | tableswitch dflt lo hi offs =>
    simp only [xbr, xtab] at h
    split at h
    · split at h
      · rename_i h0
        obtain ⟨h1, rfl⟩ := xjmp_inv h
        exact lv_tableOut hx hb hd h0 h1 kk
      · rename_i h0
        split at h
        · rename_i off ho
          obtain ⟨h1, rfl⟩ := xjmp_inv h
          exact lv_tableIn hx hb hd (fun z => h0 (Or.inl z)) (fun z => h0 (Or.inr z)) ho h1 kk
        · cases h
    · cases h
  | lookupswitch dflt ps =>
    simp only [xbr, xlook] at h
    split at h
    · split at h
      · rename_i h0
        obtain ⟨h1, rfl⟩ := xjmp_inv h
        exact lv_lookup hx hb hd h0 rfl h1 kk
      · cases h
    · cases h
  | _ => exact absurd h (by simp [xbr])
end XBR
