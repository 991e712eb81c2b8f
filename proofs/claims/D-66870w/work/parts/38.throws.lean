/-! THE PLAIN MACHINE, 15: forms of what throws. -/
/-- the end of a method that may throw -/
def xJX {ρ : Type} (J : ρ → xS → Outcome → xS → Prop) : (ρ ⊕ Nat) → xS → Outcome → xS → Prop := fun r σ1 o σ' => match r with
  | .inl v => J v σ1 o σ'
  | .inr q => o = .threw q ∧ σ' = σ1
/-- q is thrown at this place -/
def xSndT {α : Type} (K : xC) (d : Nat) (M : xMd) (J : α → xS → Outcome → xS → Prop) (pc : Nat) (lv : List (Nat × Value)) (st : List Value) (σ : xS) (q : Nat) (f : xF α) : Prop :=
  ∀ (r : α) (σ1 : xS), f = some (r, σ1) → ∀ (o : Outcome) (σ' : xS), J r σ1 o σ' → xT K d M pc lv st σ q o σ'
/-- an object of ours, whose class has a place -/
def xthr (K : xC) (σ : xS) (q : Nat) : Bool := match xnw (xb (xg K)) σ q with
  | some (.inr (c, _)) => ((xcl K)[c]?).isSome
  | _ => false
def xisN (K : xC) (σ : xS) (q : Nat) (ci : Nat) : Bool := match xnw (xb (xg K)) σ q with
  | some (.inr (c, _)) => c == ci
  | _ => false
/-- what a call does that may throw -/
def xcase {ρ α : Type} (f : xF (ρ ⊕ Nat)) (g : ρ × xS → xF α) (h : Nat × xS → xF α) : xF α := match f with
  | some (.inl x, σ) => g (x, σ)
  | some (.inr q, σ) => h (q, σ)
  | none => none
section XFT
variable {α β : Type} {K : xC} {d : Nat} {M : xMd} {J : α → xS → Outcome → xS → Prop} {pc len : Nat} {i : Instr} {lv lv' : List (Nat × Value)} {st st' : List Value} {σ : xS} {f f1 f2 : xF α} {q : Nat}
theorem xT.sub {o : Outcome} {σ' : xS} (h : xSub lv' lv) (kk : xT K d M pc lv' st σ q o σ') : xT K d M pc lv st σ q o σ' := by
  refine ⟨kk.1, fun p e R s m args below meth c H locs cells slots ls hC hH hl h1 h2 => kk.2 p e R s m args below meth c H locs cells slots ls hC hH ⟨hl.1, hl.2.1, fun q hq => ?_⟩ h1 h2⟩
  obtain ⟨k, hk, h3⟩ := xlo_at hl (h q hq)
  exact h3
theorem xSnd.athrow {r : Option Nat} {g : Nat → xF α} (hd : decode (xMb M) pc = .ok (.athrow, 1)) (kk : ∀ q, xSndT K d M J pc lv st σ q (g q)) : xSnd K d M J pc lv (va_rf r :: st) σ (r.bind g) := by
  intro x σ1 hf o σ' hJ
  obtain ⟨a, h1, h2⟩ := xbind hf
  subst h1
  exact xB.athrow hd (kk a x σ1 h2 o σ' hJ)
theorem xSndT.out {r : α} (hJ : ∀ o σ', J r σ o σ' → o = .threw q ∧ σ' = σ) (ho : (xMh M).all (fun h => !(covers ⟨h.1, h.2.1, h.2.2.1, h.2.2.2⟩ pc)) = true) : xSndT K d M J pc lv st σ q (if xthr K σ q = true then some (r, σ) else none) := by
  intro x σ1 hf o σ' h
  split at hf
  · rename_i hx
    cases hf
    obtain ⟨rfl, rfl⟩ := hJ _ _ h
    unfold xthr at hx
    split at hx
    · rename_i c fs hc
      obtain ⟨row, hr⟩ := Option.isSome_iff_exists.mp hx
      exact xT.out hc hr ho
    · cases hx
  · cases hf
theorem xSndT.caught {ci : Nat} {row : vw_C} (hr : (xcl K)[ci]? = some row) (pre suf : List (Nat × Nat × Nat × Nat)) (x : Nat × Nat × Nat × Nat) (hs : xMh M = pre ++ x :: suf) (hp : pre.all (fun h => !(covers ⟨h.1, h.2.1, h.2.2.1, h.2.2.2⟩ pc)) = true) (hx : covers ⟨x.1, x.2.1, x.2.2.1, x.2.2.2⟩ pc = true) (h0 : x.2.2.2 ≠ 0)
    {nm : String} (hl : Cond.classLink (xMy M).cls x.2.2.2 nm ∈ lw_all) (hn : row.1 = nm ∨ Cond.castable row.1 nm ∈ lw_tbl) (hself : Cond.castable row.1 row.1 ∈ lw_tbl ∨ row.1 ≠ nm) (kk : xSnd K d M J x.2.2.1 lv [va_rf (some q)] σ f) : xSndT K d M J pc lv st σ q (if xisN K σ q ci = true then f else none) := by
  intro y σ1 hf o σ' h
  split at hf
  · rename_i hy
    unfold xisN at hy
    split at hy
    · rename_i c fs hc
      have e : c = ci := by simpa using hy
      subst e
      exact xT.caught hc hr pre suf x hs hp hx h0 hl hn hself (kk y σ1 hf o σ' h)
    · cases hy
  · cases hf
theorem xSndT.ite {p : Prop} [Decidable p] (k1 : p → xSndT K d M J pc lv st σ q f1) (k2 : ¬ p → xSndT K d M J pc lv st σ q f2) : xSndT K d M J pc lv st σ q (if p then f1 else f2) := by
  by_cases h : p
  · rw [if_pos h]; exact k1 h
  · rw [if_neg h]; exact k2 h
theorem xSndT.orelse {p : Prop} [Decidable p] (h1 : xSndT K d M J pc lv st σ q (if p then f1 else Option.none)) (h2 : xSndT K d M J pc lv st σ q f2) : xSndT K d M J pc lv st σ q (if p then f1 else f2) := by
  by_cases h : p
  · rw [if_pos h] at h1 ⊢; exact h1
  · rw [if_neg h]; exact h2
theorem xSndT.non : xSndT K d M J pc lv st σ q Option.none := fun _ _ hf => by cases hf
theorem xSndT.lift {γ : Type} {lvh : γ → List (Nat × Value)} {sth : γ → List Value} {ph : Nat} (kk : xSndT K d M J pc lv st σ q f) : xSndT K d M (xJl K d M J ph lvh sth) pc lv st σ q (xinr f) := by
  intro x σ1 hf o σ' hJ
  unfold xinr at hf
  cases hx : f with
  | none => rw [hx] at hf; cases hf
  | some y => rw [hx] at hf; cases hf; exact kk _ _ hx o σ' hJ
theorem xcase_inv {ρ : Type} {fN : xF (ρ ⊕ Nat)} {g : ρ × xS → xF α} {h : Nat × xS → xF α} {z : α × xS} (e : xcase fN g h = some z) : (∃ x σ, fN = some (.inl x, σ) ∧ g (x, σ) = some z) ∨ ∃ q σ, fN = some (.inr q, σ) ∧ h (q, σ) = some z := by
  unfold xcase at e
  split at e
  · exact Or.inl ⟨_, _, rfl, e⟩
  · exact Or.inr ⟨_, _, rfl, e⟩
  · cases e
theorem xSnd.callXI {N : xMd} {d' n : Nat} {rc : Option String} {As : List Value} {fN : xF (Int32 ⊕ Nat)} {g : Int32 × xS → xF α} {h : Nat × xS → xF α} (hN : xFor K d' N (xJX xJI) As σ fN) (hC : xCal K (xMy M).cls i len N rc n) (hdd : d' + 1 ≤ d) (hL : xML N ≤ 100) (hr : xRc K σ rc As) (hn : As.length = n) (h8 : (st.map fun v => v.category).sum ≤ 8) (hd : decode (xMb M) pc = .ok (i, len)) (hst : st' = As.reverse ++ st)
    (k1 : ∀ p : Int32 × xS, xSnd K d M J (pc + len) lv (.int p.1 :: st) p.2 (g p)) (k2 : ∀ p : Nat × xS, xSndT K d M J pc lv st p.2 p.1 (h p)) : xSnd K d M J pc lv st' σ (xcase fN g h) := by
  intro q σ1 hf o σ' hJ
  subst hst
  rcases xcase_inv hf with ⟨x, σ2, h1, h2⟩ | ⟨x, σ2, h1, h2⟩
  · exact xB.call hC (hN _ σ2 h1 _ _ ⟨rfl, rfl⟩) hdd hL hr hn h8 hd (k1 (x, σ2) q σ1 h2 o σ' hJ)
  · exact xB.callX hC (hN _ σ2 h1 _ _ ⟨rfl, rfl⟩) hdd hL hr hn h8 hd (k2 (x, σ2) q σ1 h2 o σ' hJ)
theorem xSnd.callXJ {N : xMd} {d' n : Nat} {rc : Option String} {As : List Value} {fN : xF (Int64 ⊕ Nat)} {g : Int64 × xS → xF α} {h : Nat × xS → xF α} (hN : xFor K d' N (xJX xJJ) As σ fN) (hC : xCal K (xMy M).cls i len N rc n) (hdd : d' + 1 ≤ d) (hL : xML N ≤ 100) (hr : xRc K σ rc As) (hn : As.length = n) (h8 : (st.map fun v => v.category).sum ≤ 8) (hd : decode (xMb M) pc = .ok (i, len)) (hst : st' = As.reverse ++ st)
    (k1 : ∀ p : Int64 × xS, xSnd K d M J (pc + len) lv (.long p.1 :: st) p.2 (g p)) (k2 : ∀ p : Nat × xS, xSndT K d M J pc lv st p.2 p.1 (h p)) : xSnd K d M J pc lv st' σ (xcase fN g h) := by
  intro q σ1 hf o σ' hJ
  subst hst
  rcases xcase_inv hf with ⟨x, σ2, h1, h2⟩ | ⟨x, σ2, h1, h2⟩
  · exact xB.call hC (hN _ σ2 h1 _ _ ⟨rfl, rfl⟩) hdd hL hr hn h8 hd (k1 (x, σ2) q σ1 h2 o σ' hJ)
  · exact xB.callX hC (hN _ σ2 h1 _ _ ⟨rfl, rfl⟩) hdd hL hr hn h8 hd (k2 (x, σ2) q σ1 h2 o σ' hJ)
theorem xSnd.callXA {N : xMd} {d' n : Nat} {rc : Option String} {As : List Value} {fN : xF (Option Nat ⊕ Nat)} {g : Option Nat × xS → xF α} {h : Nat × xS → xF α} (hN : xFor K d' N (xJX xJA) As σ fN) (hC : xCal K (xMy M).cls i len N rc n) (hdd : d' + 1 ≤ d) (hL : xML N ≤ 100) (hr : xRc K σ rc As) (hn : As.length = n) (h8 : (st.map fun v => v.category).sum ≤ 8) (hd : decode (xMb M) pc = .ok (i, len)) (hst : st' = As.reverse ++ st)
    (k1 : ∀ p : Option Nat × xS, xSnd K d M J (pc + len) lv (va_rf p.1 :: st) p.2 (g p)) (k2 : ∀ p : Nat × xS, xSndT K d M J pc lv st p.2 p.1 (h p)) : xSnd K d M J pc lv st' σ (xcase fN g h) := by
  intro q σ1 hf o σ' hJ
  subst hst
  rcases xcase_inv hf with ⟨x, σ2, h1, h2⟩ | ⟨x, σ2, h1, h2⟩
  · exact xB.call hC (hN _ σ2 h1 _ _ ⟨rfl, rfl⟩) hdd hL hr hn h8 hd (k1 (x, σ2) q σ1 h2 o σ' hJ)
  · exact xB.callX hC (hN _ σ2 h1 _ _ ⟨rfl, rfl⟩) hdd hL hr hn h8 hd (k2 (x, σ2) q σ1 h2 o σ' hJ)
theorem xSnd.callXV {N : xMd} {d' n : Nat} {rc : Option String} {As : List Value} {fN : xF (Unit ⊕ Nat)} {g : Unit × xS → xF α} {h : Nat × xS → xF α} (hN : xFor K d' N (xJX xJV) As σ fN) (hC : xCal K (xMy M).cls i len N rc n) (hdd : d' + 1 ≤ d) (hL : xML N ≤ 100) (hr : xRc K σ rc As) (hn : As.length = n) (h8 : (st.map fun v => v.category).sum ≤ 8) (hd : decode (xMb M) pc = .ok (i, len)) (hst : st' = As.reverse ++ st)
    (k1 : ∀ p : Unit × xS, xSnd K d M J (pc + len) lv st p.2 (g p)) (k2 : ∀ p : Nat × xS, xSndT K d M J pc lv st p.2 p.1 (h p)) : xSnd K d M J pc lv st' σ (xcase fN g h) := by
  intro q σ1 hf o σ' hJ
  subst hst
  rcases xcase_inv hf with ⟨x, σ2, h1, h2⟩ | ⟨x, σ2, h1, h2⟩
  · exact xB.call hC (hN _ σ2 h1 _ _ ⟨rfl, rfl⟩) hdd hL hr hn h8 hd (k1 (x, σ2) q σ1 h2 o σ' hJ)
  · exact xB.callX hC (hN _ σ2 h1 _ _ ⟨rfl, rfl⟩) hdd hL hr hn h8 hd (k2 (x, σ2) q σ1 h2 o σ' hJ)
end XFT
