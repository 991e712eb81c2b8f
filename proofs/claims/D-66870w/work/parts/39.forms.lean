/-! THE PLAIN MACHINE, 14: a method's start; Math. -/
section XFS
variable {α β : Type} {K : xC} {d : Nat} {M : xMd} {J : α → xS → Outcome → xS → Prop} {pc len : Nat} {i : Instr} {lv lv' : List (Nat × Value)} {st st' : List Value} {σ : xS} {f f1 f2 : xF α}
theorem xlo_st1 {k j : Nat} {v w : Value} (h : xlo lv j = some w) (hj : (j == k) = false) (hc : w.category = 1) : xlo (xst1 lv k v) j = some w := by
  unfold xlo at h
  cases hf : lv.find? (fun q => q.1 == j) with
  | none => rw [hf] at h; cases h
  | some x =>
    rw [hf] at h
    obtain ⟨a, b⟩ := x
    have hb : b = w := by simpa using h
    subst hb
    have ha : a = j := by have := List.find?_some hf; simpa using this
    subst ha
    have key : ∀ (l : List (Nat × Value)), l.find? (fun q => q.1 == a) = some (a, b) → (l.filter (fun q => !(q.1 == k) && !(q.1 + 1 == k && q.2.category == 2))).find? (fun q => q.1 == a) = some (a, b) := by
      intro l
      induction l with
      | nil => intro h; cases h
      | cons y l ih =>
        intro h
        simp only [List.find?_cons] at h
        cases hy : (y.1 == a)
        · rw [hy] at h
          simp only at h
          simp only [List.filter_cons]
          split
          · simp only [List.find?_cons, hy]; exact ih h
          · exact ih h
        · rw [hy] at h
          simp only [Option.some.injEq] at h
          subst h
          have hp : (!((a, b).1 == k) && !((a, b).1 + 1 == k && (a, b).2.category == 2)) = true := by
            simp only [hj, hc]
            simp
          simp only [List.filter_cons]
          rw [if_pos hp]
          simp [List.find?_cons]
    have hk : (k == a) = false := by
      have h9 : ¬ a = k := by simpa using hj
      simpa using fun h8 => h9 h8.symm
    unfold xlo xst1
    simp only [List.find?_cons, hk]
    rw [key lv hf]
    rfl
theorem xSnd.ifaE {off : Int} {x y : Option Nat} {t : Nat} (hd : decode (xMb M) pc = .ok (.if_acmp .eq off, 3)) (ht : xtgt pc off = some t) (k1 : xSnd K d M J t lv st σ f1) (k2 : xSnd K d M J (pc + 3) lv st σ f2) : xSnd K d M J pc lv (va_rf y :: va_rf x :: st) σ (if x = y then f1 else f2) := xSnd.ifa (cd := .eq) hd ht k1 k2
theorem xSnd.ifaN {off : Int} {x y : Option Nat} {t : Nat} (hd : decode (xMb M) pc = .ok (.if_acmp .ne off, 3)) (ht : xtgt pc off = some t) (k1 : xSnd K d M J t lv st σ f1) (k2 : xSnd K d M J (pc + 3) lv st σ f2) : xSnd K d M J pc lv (va_rf y :: va_rf x :: st) σ (if ¬ x = y then f1 else f2) := xSnd.ifa (cd := .ne) hd ht k1 k2
theorem catI (x : Int32) : (Value.int x).category = 1 := rfl
theorem catJ (x : Int64) : (Value.long x).category = 2 := rfl
theorem lg_len0 : (lg_sl []).length = 0 := rfl
theorem lg_lenI (x : Int32) (t : List Value) : (lg_sl (.int x :: t)).length = (lg_sl t).length + 1 := by simp [lg_sl, Value.category]
theorem lg_lenJ (x : Int64) (t : List Value) : (lg_sl (.long x :: t)).length = (lg_sl t).length + 2 := by simp [lg_sl, Value.category]
theorem lg_lenA (r : Option Nat) (t : List Value) : (lg_sl (va_rf r :: t)).length = (lg_sl t).length + 1 := by cases r <;> simp [lg_sl, va_rf, Value.category] <;> omega
theorem lv_args0 (i : Nat) : lv_args i [] = [] := rfl
theorem lv_argsI (i : Nat) (x : Int32) (t : List Value) : lv_args i (.int x :: t) = (i, .int x) :: lv_args (i + 1) t := rfl
theorem lv_argsJ (i : Nat) (x : Int64) (t : List Value) : lv_args i (.long x :: t) = (i, .long x) :: lv_args (i + 2) t := rfl
theorem lv_argsA (i : Nat) (r : Option Nat) (t : List Value) : lv_args i (va_rf r :: t) = (i, va_rf r) :: lv_args (i + 1) t := by cases r <;> rfl
theorem xFor.start {ρ : Type} {N : xMd} {J : ρ → xS → Outcome → xS → Prop} {As : List Value} {f : xF ρ} (hy : plainName (xMy N).cls = true) (hL : (lg_sl As).length ≤ xML N) (hl : lv_args 0 As = lv') (h : xSnd K d N J 0 lv' [] σ f) : xFor K d N J As σ f := xFor.of hy hL (by rw [hl]; exact h)
theorem xSnd.mmax {idx : Nat} {x y : Int32} (hw : Cond.methodLink (xMy M).cls idx Lib.Math.max.name ∈ lw_all) (hw2 : Cond.static Lib.Math.max.name ∈ lw_all) (hw3 : Cond.initialized "java/lang/Math" ∈ lw_all) (hw4 : Cond.code Lib.Math.max.name Lib.Math.max.code 2 (some .int) ∈ lw_all) (hd : decode (xMb M) pc = .ok (.invokestatic idx, 3)) (h8 : (st.map fun v => v.category).sum ≤ 8) (h0 : 1 ≤ d) (kk : xSnd K d M J (pc + 3) lv (.int (if x < y then y else x) :: st) σ f) : xSnd K d M J pc lv (.int y :: .int x :: st) σ f := by
  intro q σ1 hf o σ' hJ
  have kb := kk q σ1 hf o σ' hJ
  refine ⟨kb.1, fun p e R s m args below meth c H locs cells slots ls hC hH hl h1 h2 => ?_⟩
  have hf : d ≤ R.frames := hC.2.2.2.2.2.2.2.2.2.2.2.1
  have hlo : 128 * d ≤ R.locals := hC.2.2.2.2.2.2.2.2.2.2.2.2
  exact va_mmax hC.1 hC.2.1 (hC.2.2.1.trans hl.1.symm) hC.2.2.2.1 (hC.2.2.2.2.1 _ hw) (hC.2.2.2.2.1 _ hw2) (hC.2.2.2.2.1 _ hw3) (hC.2.2.2.2.1 _ hw4) (by omega) (by omega) (by omega) (by omega) hd (kb.2 p e R s m args below meth c H locs cells slots ls hC hH hl h1 h2)
theorem xSnd.mmin {idx : Nat} {x y : Int32} (hw : Cond.methodLink (xMy M).cls idx Lib.Math.min.name ∈ lw_all) (hw2 : Cond.static Lib.Math.min.name ∈ lw_all) (hw3 : Cond.initialized "java/lang/Math" ∈ lw_all) (hw4 : Cond.code Lib.Math.min.name Lib.Math.min.code 2 (some .int) ∈ lw_all) (hd : decode (xMb M) pc = .ok (.invokestatic idx, 3)) (h8 : (st.map fun v => v.category).sum ≤ 8) (h0 : 1 ≤ d) (kk : xSnd K d M J (pc + 3) lv (.int (if y < x then y else x) :: st) σ f) : xSnd K d M J pc lv (.int y :: .int x :: st) σ f := by
  intro q σ1 hf o σ' hJ
  have kb := kk q σ1 hf o σ' hJ
  refine ⟨kb.1, fun p e R s m args below meth c H locs cells slots ls hC hH hl h1 h2 => ?_⟩
  have hf : d ≤ R.frames := hC.2.2.2.2.2.2.2.2.2.2.2.1
  have hlo : 128 * d ≤ R.locals := hC.2.2.2.2.2.2.2.2.2.2.2.2
  exact va_mmin hC.1 hC.2.1 (hC.2.2.1.trans hl.1.symm) hC.2.2.2.1 (hC.2.2.2.2.1 _ hw) (hC.2.2.2.2.1 _ hw2) (hC.2.2.2.2.1 _ hw3) (hC.2.2.2.2.1 _ hw4) (by omega) (by omega) (by omega) (by omega) hd (kb.2 p e R s m args below meth c H locs cells slots ls hC hH hl h1 h2)
theorem xSnd.mabs {idx : Nat} {x : Int32} (hw : Cond.methodLink (xMy M).cls idx Lib.Math.abs.name ∈ lw_all) (hw2 : Cond.static Lib.Math.abs.name ∈ lw_all) (hw3 : Cond.initialized "java/lang/Math" ∈ lw_all) (hw4 : Cond.code Lib.Math.abs.name Lib.Math.abs.code 1 (some .int) ∈ lw_all) (hd : decode (xMb M) pc = .ok (.invokestatic idx, 3)) (h8 : (st.map fun v => v.category).sum ≤ 8) (h0 : 1 ≤ d) (kk : xSnd K d M J (pc + 3) lv (.int (if 0 ≤ x then x else 0 - x) :: st) σ f) : xSnd K d M J pc lv (.int x :: st) σ f := by
  intro q σ1 hf o σ' hJ
  have kb := kk q σ1 hf o σ' hJ
  refine ⟨kb.1, fun p e R s m args below meth c H locs cells slots ls hC hH hl h1 h2 => ?_⟩
  have hf : d ≤ R.frames := hC.2.2.2.2.2.2.2.2.2.2.2.1
  have hlo : 128 * d ≤ R.locals := hC.2.2.2.2.2.2.2.2.2.2.2.2
  exact va_mabs hC.1 hC.2.1 (hC.2.2.1.trans hl.1.symm) hC.2.2.2.1 (hC.2.2.2.2.1 _ hw) (hC.2.2.2.2.1 _ hw2) (hC.2.2.2.2.1 _ hw3) (hC.2.2.2.2.1 _ hw4) (by omega) (by omega) (by omega) (by omega) hd (kb.2 p e R s m args below meth c H locs cells slots ls hC hH hl h1 h2)
theorem xSnd.mmax_long {idx : Nat} {x y : Int64} (hw : Cond.methodLink (xMy M).cls idx Lib.MathLoose.max_long.x ∈ lw_all) (hw2 : Cond.static Lib.MathLoose.max_long.x ∈ lw_all) (hw3 : Cond.initialized "java/lang/Math" ∈ lw_all) (hw4 : Cond.code Lib.MathLoose.max_long.x Lib.MathLoose.max_long.code 4 (some .long) ∈ lw_all) (hd : decode (xMb M) pc = .ok (.invokestatic idx, 3)) (h8 : (st.map fun v => v.category).sum ≤ 8) (h0 : 1 ≤ d) (kk : xSnd K d M J (pc + 3) lv (.long (if y < x then x else y) :: st) σ f) : xSnd K d M J pc lv (.long y :: .long x :: st) σ f := by
  intro q σ1 hf o σ' hJ
  have kb := kk q σ1 hf o σ' hJ
  refine ⟨kb.1, fun p e R s m args below meth c H locs cells slots ls hC hH hl h1 h2 => ?_⟩
  have hf : d ≤ R.frames := hC.2.2.2.2.2.2.2.2.2.2.2.1
  have hlo : 128 * d ≤ R.locals := hC.2.2.2.2.2.2.2.2.2.2.2.2
  exact va_mmax_long hC.1 hC.2.1 (hC.2.2.1.trans hl.1.symm) hC.2.2.2.1 (hC.2.2.2.2.1 _ hw) (hC.2.2.2.2.1 _ hw2) (hC.2.2.2.2.1 _ hw3) (hC.2.2.2.2.1 _ hw4) (by omega) (by omega) (by omega) (by omega) hd (kb.2 p e R s m args below meth c H locs cells slots ls hC hH hl h1 h2)
theorem xSnd.mmin_long {idx : Nat} {x y : Int64} (hw : Cond.methodLink (xMy M).cls idx Lib.MathLoose.min_long.x ∈ lw_all) (hw2 : Cond.static Lib.MathLoose.min_long.x ∈ lw_all) (hw3 : Cond.initialized "java/lang/Math" ∈ lw_all) (hw4 : Cond.code Lib.MathLoose.min_long.x Lib.MathLoose.min_long.code 4 (some .long) ∈ lw_all) (hd : decode (xMb M) pc = .ok (.invokestatic idx, 3)) (h8 : (st.map fun v => v.category).sum ≤ 8) (h0 : 1 ≤ d) (kk : xSnd K d M J (pc + 3) lv (.long (if y < x then y else x) :: st) σ f) : xSnd K d M J pc lv (.long y :: .long x :: st) σ f := by
  intro q σ1 hf o σ' hJ
  have kb := kk q σ1 hf o σ' hJ
  refine ⟨kb.1, fun p e R s m args below meth c H locs cells slots ls hC hH hl h1 h2 => ?_⟩
  have hf : d ≤ R.frames := hC.2.2.2.2.2.2.2.2.2.2.2.1
  have hlo : 128 * d ≤ R.locals := hC.2.2.2.2.2.2.2.2.2.2.2.2
  exact va_mmin_long hC.1 hC.2.1 (hC.2.2.1.trans hl.1.symm) hC.2.2.2.1 (hC.2.2.2.2.1 _ hw) (hC.2.2.2.2.1 _ hw2) (hC.2.2.2.2.1 _ hw3) (hC.2.2.2.2.1 _ hw4) (by omega) (by omega) (by omega) (by omega) hd (kb.2 p e R s m args below meth c H locs cells slots ls hC hH hl h1 h2)
theorem xSnd.ldcwA {idx : Nat} {g : Option Nat → xF α} (hd : decode (xMb M) pc = .ok (.ldc_w idx, 3)) (kk : ∀ x, xSnd K d M J (pc + 3) lv (va_rf x :: st) σ (g x)) : xSnd K d M J pc lv st σ ((xkA K (xMy M).cls idx).bind g) := by
  intro q σ1 hf o σ' hJ
  obtain ⟨x, h1, h2⟩ := xbind hf
  obtain ⟨v, h3, h4⟩ := xbind h1
  have kb := kk x q σ1 h2 o σ' hJ
  refine ⟨kb.1, fun p e R s m args below meth c H locs cells slots ls hC hH hl r1 r2 => ?_⟩
  have h5 := hC.2.2.2.2.2.1.2.2.1 _ _ _ h3
  rcases id h5 with ⟨y, rfl, -⟩ | ⟨y, rfl, -⟩ | ⟨tx, a, rfl, h6⟩
  · cases h4
  · cases h4
  · cases h4
    exact x_ldcw hC.1 hC.2.1 hC.2.2.2.2.1 hC.2.2.2.1 h5 (Or.inr ⟨tx, a, rfl, h6⟩) hd (kb.2 p e R s m args below meth c H locs cells slots ls hC hH hl r1 r2)
/-- how deep a circle of calls may go -/
def xRec : Nat := 300
/-- no case of the switch -/
def xnone (ps : Array (Int × Int)) (x : Int32) : Bool := ps.toList.all (fun q => decide (¬ q.1 = x.toInt))
theorem xoff_none {l : List (Int × Int)} {dflt : Int} {v : Int} (h : l.all (fun q => decide (¬ q.1 = v)) = true) : Op.lookupswitch.offset l dflt v = dflt := by
  induction l with
  | nil => rfl
  | cons q l ih =>
    simp only [List.all_cons, Bool.and_eq_true, decide_eq_true_eq] at h
    have h1 := ih h.2
    simp only [Op.lookupswitch.offset] at h1 ⊢
    simp_all
theorem xSnd.lsD {dflt : Int} {ps : Array (Int × Int)} {x : Int32} {t : Nat} (hd : decode (xMb M) pc = .ok (.lookupswitch dflt ps, len)) (ht : xtgt pc dflt = some t) (hs : (ps.toList.zip (ps.toList.drop 1)).all (fun (a, next) => a.1 < next.1) = true) (hx : xnone ps x = true) (kk : xSnd K d M J t lv st σ f) : xSnd K d M J pc lv (.int x :: st) σ f := by
  refine xSnd.j hd rfl ?_ kk
  simp only [xbr, xlook]
  rw [if_pos hs, xoff_none hx]
  exact xjmp_t ht
theorem xSnd.lsC {dflt : Int} {ps : Array (Int × Int)} {x c : Int32} {t : Nat} (hd : decode (xMb M) pc = .ok (.lookupswitch dflt ps, len)) (hc : xlook pc dflt ps [.int c] = some (t, [])) (hx : x = c) (kk : xSnd K d M J t lv st σ f) : xSnd K d M J pc lv (.int x :: st) σ f := by
  subst hx
  refine xSnd.j hd rfl ?_ kk
  simp only [xbr, xlook] at hc ⊢
  split at hc
  · rename_i h; rw [if_pos h]
    unfold xjmp at hc ⊢
    split at hc
    · rename_i ht; cases hc; simp only [ht]
    · cases hc
  · cases hc
end XFS
