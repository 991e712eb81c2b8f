/-! THE PLAIN MACHINE, 12: forms that look at the store, calls, loops. -/
section XFH
variable {α β : Type} {K : xC} {d : Nat} {M : xMd} {J : α → xS → Outcome → xS → Prop} {pc len : Nat} {i : Instr} {lv lv' : List (Nat × Value)} {st st' : List Value} {σ : xS} {f f1 f2 : xF α}
theorem xbind {γ δ : Type} {a : Option γ} {g : γ → Option δ} {r : δ} (h : a.bind g = some r) : ∃ x, a = some x ∧ g x = some r := by
  cases a with
  | none => cases h
  | some x => exact ⟨x, rfl, h⟩
theorem xfV_inv {r : Option Nat} {ci k : Nat} {v : Value} (h : xfV K σ r ci k = some v) : ∃ (a : Nat) (fs : List Value), r = some a ∧ xat (xb (xg K)) (xold (xg K)) σ a = some (.inr (ci, fs)) ∧ fs[k]? = some v := by
  unfold xfV at h
  split at h
  · rename_i a
    split at h
    · rename_i c fs hc
      split at h
      · rename_i he
        subst he
        exact ⟨a, fs, rfl, hc, h⟩
      · cases h
    · cases h
  · cases h
theorem xfI_inv {r : Option Nat} {ci k : Nat} {x : Int32} (h : xfI K σ r ci k = some x) : xfV K σ r ci k = some (.int x) := by
  unfold xfI at h
  split at h
  · rename_i y hy; cases h; exact hy
  · cases h
theorem xfJ_inv {r : Option Nat} {ci k : Nat} {x : Int64} (h : xfJ K σ r ci k = some x) : xfV K σ r ci k = some (.long x) := by
  unfold xfJ at h
  split at h
  · rename_i y hy; cases h; exact hy
  · cases h
theorem xfA_inv {r x : Option Nat} {ci k : Nat} (h : xfA K σ r ci k = some x) : xfV K σ r ci k = some (va_rf x) := by
  unfold xfA at h
  split at h
  · rename_i y hy; rw [hy, xrf_inv h]
  · cases h
theorem xB.getV {o : Outcome} {σ' : xS} {r : Option Nat} {idx k ci mode : Nat} {v : Value} (hF : xFd (xcl K) (xMy M).cls idx k ci mode) (hv : xfV K σ r ci k = some v) (hd : decode (xMb M) pc = .ok (.getfield idx, 3)) (kk : xB K d M (pc + 3) lv (v :: st) σ o σ') : xB K d M pc lv (va_rf r :: st) σ o σ' := by
  obtain ⟨a, fs, rfl, h1, h2⟩ := xfV_inv hv
  exact xB.get hF h1 h2 hd kk
theorem xSnd.getI {r : Option Nat} {idx k ci mode : Nat} {g : Int32 → xF α} (hF : xFd (xcl K) (xMy M).cls idx k ci mode) (hd : decode (xMb M) pc = .ok (.getfield idx, 3)) (kk : ∀ x, xSnd K d M J (pc + 3) lv (.int x :: st) σ (g x)) : xSnd K d M J pc lv (va_rf r :: st) σ ((xfI K σ r ci k).bind g) := by
  intro q σ1 hf o σ' hJ
  obtain ⟨x, h1, h2⟩ := xbind hf
  exact xB.getV hF (xfI_inv h1) hd (kk x q σ1 h2 o σ' hJ)
theorem xSnd.getJ {r : Option Nat} {idx k ci mode : Nat} {g : Int64 → xF α} (hF : xFd (xcl K) (xMy M).cls idx k ci mode) (hd : decode (xMb M) pc = .ok (.getfield idx, 3)) (kk : ∀ x, xSnd K d M J (pc + 3) lv (.long x :: st) σ (g x)) : xSnd K d M J pc lv (va_rf r :: st) σ ((xfJ K σ r ci k).bind g) := by
  intro q σ1 hf o σ' hJ
  obtain ⟨x, h1, h2⟩ := xbind hf
  exact xB.getV hF (xfJ_inv h1) hd (kk x q σ1 h2 o σ' hJ)
theorem xSnd.getA {r : Option Nat} {idx k ci mode : Nat} {g : Option Nat → xF α} (hF : xFd (xcl K) (xMy M).cls idx k ci mode) (hd : decode (xMb M) pc = .ok (.getfield idx, 3)) (kk : ∀ x, xSnd K d M J (pc + 3) lv (va_rf x :: st) σ (g x)) : xSnd K d M J pc lv (va_rf r :: st) σ ((xfA K σ r ci k).bind g) := by
  intro q σ1 hf o σ' hJ
  obtain ⟨x, h1, h2⟩ := xbind hf
  exact xB.getV hF (xfA_inv h1) hd (kk x q σ1 h2 o σ' hJ)
theorem xpV_inv {r : Option Nat} {ci k : Nat} {v : Value} {σ1 : xS} (h : xpV K σ r ci k v = some σ1) : ∃ (a : Nat) (fs : List Value), r = some a ∧ xnw (xb (xg K)) σ a = some (.inr (ci, fs)) ∧ k < fs.length ∧ σ1 = xput (xb (xg K)) σ a (.inr (ci, fs.set k v)) := by
  unfold xpV at h
  split at h
  · rename_i a
    split at h
    · rename_i c fs hc
      split at h
      · rename_i he
        obtain ⟨rfl, he⟩ := he
        cases h
        exact ⟨a, fs, rfl, hc, he, rfl⟩
      · cases h
    · cases h
  · cases h
theorem xSnd.put {r : Option Nat} {idx k ci mode N : Nat} {v : Value} {tyf : Nat → FieldType} {g : xS → xF α} (hF : xFd (xcl K) (xMy M).cls idx k ci mode) (hCk : xCk (xcl K) ci tyf N) (hm : mode = 1 ∨ (mode = 2 ∧ (xMy M).name = "<init>")) (hn : narrow (tyf k) v = v) (hf : fits (tyf k) v = true) (hd : decode (xMb M) pc = .ok (.putfield idx, 3)) (kk : ∀ σ1, xSnd K d M J (pc + 3) lv st σ1 (g σ1)) :
    xSnd K d M J pc lv (v :: va_rf r :: st) σ ((xpV K σ r ci k v).bind g) := by
  intro q σ1 h o σ' hJ
  obtain ⟨σ2, h1, h2⟩ := xbind h
  obtain ⟨a, fs, rfl, h3, h4, rfl⟩ := xpV_inv h1
  exact xB.put hF hCk hm h3 h4 hn hf hd (kk _ q σ1 h2 o σ' hJ)
theorem xnarrow_rf {ty : FieldType} (h : (∃ n, ty = .object n) ∨ ∃ t, ty = .array t) (r : Option Nat) : narrow ty (va_rf r) = va_rf r ∧ fits ty (va_rf r) = true := by
  rcases h with ⟨n, rfl⟩ | ⟨t, rfl⟩ <;> cases r <;> exact ⟨rfl, rfl⟩
theorem xSnd.putN {r : Option Nat} {idx k ci mode N : Nat} {x : Int32} {tyf : Nat → FieldType} {ty : FieldType} {g : xS → xF α} (hF : xFd (xcl K) (xMy M).cls idx k ci mode) (hCk : xCk (xcl K) ci tyf N) (hm : mode = 1 ∨ (mode = 2 ∧ (xMy M).name = "<init>")) (hty : tyf k = ty) (hd : decode (xMb M) pc = .ok (.putfield idx, 3)) (kk : ∀ σ1, xSnd K d M J (pc + 3) lv st σ1 (g σ1)) :
    xSnd K d M J pc lv (.int x :: va_rf r :: st) σ ((xpN K σ r ci k ty x).bind g) := by
  intro q σ1 h o σ' hJ
  obtain ⟨σ2, h1, h2⟩ := xbind h
  unfold xpN at h1
  split at h1
  · rename_i hg
    rw [← hty] at hg
    exact xSnd.put (g := g) hF hCk hm hg.1 hg.2 hd kk q σ1 (by rw [h1]; exact h2) o σ' hJ
  · cases h1
theorem xSnd.alen {r : Option Nat} {g : Int32 → xF α} (hd : decode (xMb M) pc = .ok (.arraylength, 1)) (kk : ∀ x, xSnd K d M J (pc + 1) lv (.int x :: st) σ (g x)) : xSnd K d M J pc lv (va_rf r :: st) σ ((xalen K σ r).bind g) := by
  intro q σ1 hf o σ' hJ
  obtain ⟨x, h1, h2⟩ := xbind hf
  unfold xalen at h1
  split at h1
  · split at h1
    · rename_i hc
      cases h1
      exact xB.alen hc hd (kk _ q σ1 h2 o σ' hJ)
    · cases h1
  · cases h1
theorem xaV_inv {r : Option Nat} {j : Int32} {v : Value} (h : xaV K σ i r j = some v) : xald (xb (xg K)) (xold (xg K)) σ i (.int j :: va_rf r :: st) = some (v :: st) := by
  unfold xaV at h
  split at h
  · split at h
    · rename_i hc
      split at h
      · rename_i hi
        simp only [xald, va_rf, hc, hi, if_true, h, Option.map_some]
      · cases h
    · cases h
  · cases h
theorem xSnd.aldI {r : Option Nat} {j : Int32} {g : Int32 → xF α} (hd : decode (xMb M) pc = .ok (i, 1)) (kk : ∀ x, xSnd K d M J (pc + 1) lv (.int x :: st) σ (g x)) : xSnd K d M J pc lv (.int j :: va_rf r :: st) σ ((xaI K σ i r j).bind g) := by
  intro q σ1 hf o σ' hJ
  obtain ⟨x, h1, h2⟩ := xbind hf
  unfold xaI at h1
  split at h1
  · rename_i hc
    cases h1
    exact xB.ald hd (xaV_inv hc) (kk _ q σ1 h2 o σ' hJ)
  · cases h1
theorem xSnd.aldJ {r : Option Nat} {j : Int32} {g : Int64 → xF α} (hd : decode (xMb M) pc = .ok (i, 1)) (kk : ∀ x, xSnd K d M J (pc + 1) lv (.long x :: st) σ (g x)) : xSnd K d M J pc lv (.int j :: va_rf r :: st) σ ((xaJ K σ i r j).bind g) := by
  intro q σ1 hf o σ' hJ
  obtain ⟨x, h1, h2⟩ := xbind hf
  unfold xaJ at h1
  split at h1
  · rename_i hc
    cases h1
    exact xB.ald hd (xaV_inv hc) (kk _ q σ1 h2 o σ' hJ)
  · cases h1
theorem xSnd.aldA {r : Option Nat} {j : Int32} {g : Option Nat → xF α} (hd : decode (xMb M) pc = .ok (i, 1)) (kk : ∀ x, xSnd K d M J (pc + 1) lv (va_rf x :: st) σ (g x)) : xSnd K d M J pc lv (.int j :: va_rf r :: st) σ ((xaA K σ i r j).bind g) := by
  intro q σ1 hf o σ' hJ
  obtain ⟨x, h1, h2⟩ := xbind hf
  unfold xaA at h1
  split at h1
  · rename_i hc
    exact xB.ald hd (by rw [xaV_inv hc, xrf_inv h1]) (kk _ q σ1 h2 o σ' hJ)
  · cases h1
theorem xas_inv {r : Option Nat} {j : Int32} {v : Value} {σ1 : xS} (h : xas K σ i r j v = some σ1) : xast (xb (xg K)) σ i (v :: .int j :: va_rf r :: st) = some (st, σ1) := by
  unfold xas at h
  split at h
  · split at h
    · rename_i hc
      split at h
      · rename_i hi
        split at h
        · rename_i y' hy
          cases h
          simp only [xast, va_rf, hc, hi, if_true, hy, Option.map_some]
        · cases h
      · cases h
    · cases h
  · cases h
theorem xSnd.ast {r : Option Nat} {j : Int32} {v : Value} {g : xS → xF α} (hd : decode (xMb M) pc = .ok (i, 1)) (kk : ∀ σ1, xSnd K d M J (pc + 1) lv st σ1 (g σ1)) : xSnd K d M J pc lv (v :: .int j :: va_rf r :: st) σ ((xas K σ i r j v).bind g) := by
  intro q σ1 hf o σ' hJ
  obtain ⟨σ2, h1, h2⟩ := xbind hf
  exact xB.ast hd (xas_inv h1) (kk _ q σ1 h2 o σ' hJ)
theorem xSnd.astA {E : String} {ok : List Nat} {r v : Option Nat} {j : Int32} {g : xS → xF α} (hok : ∀ c ∈ ok, ∀ fs, xAny (xg K) (xcl K) E (.inr (c, fs))) (hd : decode (xMb M) pc = .ok (.aastore, 1)) (kk : ∀ σ1, xSnd K d M J (pc + 1) lv st σ1 (g σ1)) : xSnd K d M J pc lv (va_rf v :: .int j :: va_rf r :: st) σ ((xasA K σ E ok r j v).bind g) := by
  intro q σ1 hf o σ' hJ
  obtain ⟨σ2, h1, h2⟩ := xbind hf
  unfold xasA at h1
  split at h1
  · split at h1
    · rename_i hc
      split at h1
      · rename_i hi
        obtain ⟨rfl, hi⟩ := hi
        split at h1
        · cases h1
          exact xB.astqN hc hi hd (kk _ q σ1 h2 o σ' hJ)
        · split at h1
          · rename_i hv
            split at h1
            · rename_i hm
              cases h1
              exact xB.astq hc hv (hok _ hm _) hi hd (kk _ q σ1 h2 o σ' hJ)
            · cases h1
          · cases h1
      · cases h1
    · cases h1
  · cases h1
theorem xSnd.mkO {idx ci N : Nat} {tyf : Nat → FieldType} {g : Option Nat × xS → xF α} (hNc : xNc (xcl K) (xMy M).cls idx ci N) (hCk : xCk (xcl K) ci tyf N) (hd : decode (xMb M) pc = .ok (.new idx, 3)) (kk : ∀ p : Option Nat × xS, xSnd K d M J (pc + 3) lv (va_rf p.1 :: st) p.2 (g p)) : xSnd K d M J pc lv st σ ((xmkO K σ ci tyf N).bind g) := by
  intro q σ1 hf o σ' hJ
  obtain ⟨⟨r, σ2⟩, h1, h2⟩ := xbind hf
  cases h1
  exact xB.new hNc hCk hd (kk (_, _) q σ1 h2 o σ' hJ)
theorem xSnd.mkA {atype : ArrayType} {ty : FieldType} {n : Int32} {g : Option Nat × xS → xF α} (hty : newarray.typeOf atype = ty) (hw : Cond.arrayClass ty ∈ lw_all) (ht : ty ∈ xtl K) (hd : decode (xMb M) pc = .ok (.newarray atype, 2)) (kk : ∀ p : Option Nat × xS, xSnd K d M J (pc + 2) lv (va_rf p.1 :: st) p.2 (g p)) : xSnd K d M J pc lv (.int n :: st) σ ((xmkA K σ ty n).bind g) := by
  intro q σ1 hf o σ' hJ
  obtain ⟨⟨r, σ2⟩, h1, h2⟩ := xbind hf
  subst hty
  unfold xmkA at h1
  split at h1
  · cases h1
  · rename_i hn
    split at h1
    · rename_i y hy
      cases h1
      exact xB.newa hw ht hy (fun h => hn (Or.inl h)) (Nat.le_of_not_lt fun h => hn (Or.inr h)) hd (kk (_, _) q σ1 h2 o σ' hJ)
    · cases h1
theorem xSnd.mkQ {idx : Nat} {C : String} {n : Int32} {g : Option Nat × xS → xF α} (hw : Cond.classLink (xMy M).cls idx C ∈ lw_all) (hw2 : Cond.arrayOver (.object C) ∈ lw_tbl) (ht : FieldType.object C ∈ xtl K) (hd : decode (xMb M) pc = .ok (.anewarray idx, 3)) (kk : ∀ p : Option Nat × xS, xSnd K d M J (pc + 3) lv (va_rf p.1 :: st) p.2 (g p)) : xSnd K d M J pc lv (.int n :: st) σ ((xmkQ K σ C n).bind g) := by
  intro q σ1 hf o σ' hJ
  obtain ⟨⟨r, σ2⟩, h1, h2⟩ := xbind hf
  unfold xmkQ at h1
  split at h1
  · cases h1
  · rename_i hn
    cases h1
    exact xB.newq hw hw2 ht (fun h => hn (Or.inl h)) (Nat.le_of_not_lt fun h => hn (Or.inr h)) hd (kk (_, _) q σ1 h2 o σ' hJ)
theorem xSnd.object {idx : Nat} {r : Option Nat} (hw : Cond.methodLink (xMy M).cls idx Lib.objectInit ∈ lw_all) (hw2 : Cond.instanceMethod Lib.objectInit ∈ lw_all) (hw3 : Cond.code Lib.objectInit ⟨#[0xb1]⟩ 1 none ∈ lw_all) (hd : decode (xMb M) pc = .ok (.invokespecial idx, 3)) (h8 : (st.map fun v => v.category).sum ≤ 8) (h0 : 1 ≤ d) (kk : xSnd K d M J (pc + 3) lv st σ f) : xSnd K d M J pc lv (va_rf r :: st) σ (if r = none then none else f) := by
  cases r with
  | none => intro q σ1 hf; cases hf
  | some a => intro q σ1 hf o σ' hJ; exact xB.object hw hw2 hw3 hd h8 h0 (kk q σ1 hf o σ' hJ)
/-! constants -/
theorem xSnd.ldcI {idx : Nat} {x : Int32} (hw : Cond.constant (xMy M).cls idx x ∈ lw_all) (hd : decode (xMb M) pc = .ok (.ldc idx, 2)) (kk : xSnd K d M J (pc + 2) lv (.int x :: st) σ f) : xSnd K d M J pc lv st σ f := fun q σ1 hf o σ' hJ => by
  have kb := kk q σ1 hf o σ' hJ
  exact ⟨kb.1, fun p e R s m args below meth c H locs cells slots ls hC hH hl h1 h2 => lv_ldc hC.1 hC.2.1 hC.2.2.2.1 (hC.2.2.2.2.1 _ hw) hd (kb.2 p e R s m args below meth c H locs cells slots ls hC hH hl h1 h2)⟩
theorem xSnd.ldcwI {idx : Nat} {x : Int32} (hw : Cond.constant (xMy M).cls idx x ∈ lw_all) (hd : decode (xMb M) pc = .ok (.ldc_w idx, 3)) (kk : xSnd K d M J (pc + 3) lv (.int x :: st) σ f) : xSnd K d M J pc lv st σ f := fun q σ1 hf o σ' hJ => by
  have kb := kk q σ1 hf o σ' hJ
  exact ⟨kb.1, fun p e R s m args below meth c H locs cells slots ls hC hH hl h1 h2 => lv_ldcw hC.1 hC.2.1 hC.2.2.2.1 (hC.2.2.2.2.1 _ hw) hd (kb.2 p e R s m args below meth c H locs cells slots ls hC hH hl h1 h2)⟩
theorem xSnd.ldcJ {idx : Nat} {x : Int64} (hw : Cond.constantLong (xMy M).cls idx x ∈ lw_all) (hd : decode (xMb M) pc = .ok (.ldc2_w idx, 3)) (kk : xSnd K d M J (pc + 3) lv (.long x :: st) σ f) : xSnd K d M J pc lv st σ f := fun q σ1 hf o σ' hJ => by
  have kb := kk q σ1 hf o σ' hJ
  exact ⟨kb.1, fun p e R s m args below meth c H locs cells slots ls hC hH hl h1 h2 => lv_ldc2 hC.1 hC.2.1 hC.2.2.2.1 (hC.2.2.2.2.1 _ hw) hd (kb.2 p e R s m args below meth c H locs cells slots ls hC hH hl h1 h2)⟩
/-- a text or a mirror of the pool; a static field -/
def xkA (K : xC) (own : String) (idx : Nat) : Option (Option Nat) := (xko K own idx).bind xrf
def xsA (K : xC) (own : String) (idx : Nat) : Option (Option Nat) := (xsk K own idx).bind xrf
def xsI (K : xC) (own : String) (idx : Nat) : Option Int32 := match xsk K own idx with
  | some (.int x) => some x
  | _ => none
theorem xSnd.ldcA {idx : Nat} {g : Option Nat → xF α} (hd : decode (xMb M) pc = .ok (.ldc idx, 2)) (kk : ∀ x, xSnd K d M J (pc + 2) lv (va_rf x :: st) σ (g x)) : xSnd K d M J pc lv st σ ((xkA K (xMy M).cls idx).bind g) := by
  intro q σ1 hf o σ' hJ
  obtain ⟨x, h1, h2⟩ := xbind hf
  obtain ⟨v, h3, h4⟩ := xbind h1
  have h5 := xrf_inv h4
  subst h5
  exact xB.ldc h3 (va_rf_cat x) hd (kk x q σ1 h2 o σ' hJ)
theorem xSnd.getsA {idx : Nat} {g : Option Nat → xF α} (hd : decode (xMb M) pc = .ok (.getstatic idx, 3)) (kk : ∀ x, xSnd K d M J (pc + 3) lv (va_rf x :: st) σ (g x)) : xSnd K d M J pc lv st σ ((xsA K (xMy M).cls idx).bind g) := by
  intro q σ1 hf o σ' hJ
  obtain ⟨x, h1, h2⟩ := xbind hf
  obtain ⟨v, h3, h4⟩ := xbind h1
  have h5 := xrf_inv h4
  subst h5
  exact xB.gets h3 hd (kk x q σ1 h2 o σ' hJ)
theorem xSnd.getsI {idx : Nat} {g : Int32 → xF α} (hd : decode (xMb M) pc = .ok (.getstatic idx, 3)) (kk : ∀ x, xSnd K d M J (pc + 3) lv (.int x :: st) σ (g x)) : xSnd K d M J pc lv st σ ((xsI K (xMy M).cls idx).bind g) := by
  intro q σ1 hf o σ' hJ
  obtain ⟨x, h1, h2⟩ := xbind hf
  unfold xsI at h1
  split at h1
  · rename_i hv; cases h1; exact xB.gets hv hd (kk _ q σ1 h2 o σ' hJ)
  · cases h1
/-! ends -/
theorem xSnd.retI {v : Int32} {r : α} {ty : FieldType} (hJ : ∀ o σ', J r σ o σ' → o = .returned (some (.int v)) ∧ σ' = σ) (hr : xMr M = some ty) (hn : narrow ty (.int v) = .int v) (hd : decode (xMb M) pc = .ok (.ireturn, 1)) : xSnd K d M J pc lv [.int v] σ (some (r, σ)) := by
  intro q σ1 hf o σ' h
  cases hf
  obtain ⟨rfl, rfl⟩ := hJ _ _ h
  exact xB.ireturn hr hn hd
/-- a truth value that is returned -/
theorem xSnd.retZ {v : Int32} {r : α} {ty : FieldType} (hJ : ∀ o σ', J r σ o σ' → o = .returned (some (.int v)) ∧ σ' = σ) (hr : xMr M = some ty) (hd : decode (xMb M) pc = .ok (.ireturn, 1)) : xSnd K d M J pc lv [.int v] σ (if narrow ty (.int v) = .int v then some (r, σ) else none) := by
  by_cases h : narrow ty (.int v) = .int v
  · rw [if_pos h]; exact xSnd.retI hJ hr h hd
  · rw [if_neg h]; intro q σ1 hf; cases hf
theorem xSnd.retJ {v : Int64} {r : α} (hJ : ∀ o σ', J r σ o σ' → o = .returned (some (.long v)) ∧ σ' = σ) (hr : xMr M = some .long) (hd : decode (xMb M) pc = .ok (.lreturn, 1)) : xSnd K d M J pc lv [.long v] σ (some (r, σ)) := by
  intro q σ1 hf o σ' h
  cases hf
  obtain ⟨rfl, rfl⟩ := hJ _ _ h
  exact xB.lreturn hr hd
theorem xSnd.retA {v : Option Nat} {r : α} {rt : FieldType} (hJ : ∀ o σ', J r σ o σ' → o = .returned (some (va_rf v)) ∧ σ' = σ) (hr : xMr M = some rt) (hrt : (∃ n, rt = .object n) ∨ ∃ t, rt = .array t) (hd : decode (xMb M) pc = .ok (.areturn, 1)) : xSnd K d M J pc lv [va_rf v] σ (some (r, σ)) := by
  intro q σ1 hf o σ' h
  cases hf
  obtain ⟨rfl, rfl⟩ := hJ _ _ h
  exact xB.areturn hr hrt (by cases v with | none => exact Or.inl rfl | some a => exact Or.inr ⟨a, rfl⟩) hd
theorem xSnd.retV {r : α} (hJ : ∀ o σ', J r σ o σ' → o = .returned none ∧ σ' = σ) (hr : xMr M = none) (hd : decode (xMb M) pc = .ok (.return_, 1)) : xSnd K d M J pc lv [] σ (some (r, σ)) := by
  intro q σ1 hf o σ' h
  cases hf
  obtain ⟨rfl, rfl⟩ := hJ _ _ h
  exact xB.vreturn hr hd
/-! loops -/
theorem xSnd.lift {γ : Type} {lvh : γ → List (Nat × Value)} {sth : γ → List Value} {ph : Nat} (kk : xSnd K d M J pc lv st σ f) : xSnd K d M (xJl K d M J ph lvh sth) pc lv st σ (xinr f) := by
  intro q σ1 hf o σ' hJ
  unfold xinr at hf
  cases hx : f with
  | none => rw [hx] at hf; cases hf
  | some x => rw [hx] at hf; cases hf; exact kk _ _ hx o σ' hJ
theorem xSnd.back {γ : Type} {lvh : γ → List (Nat × Value)} {sth : γ → List Value} {ph : Nat} {a : γ} : xSnd K d M (xJl K d M J ph lvh sth) ph (lvh a) (sth a) σ (some (.inl a, σ)) := by
  intro q σ1 hf o σ' hJ
  cases hf
  exact hJ
theorem xSnd.loop {γ : Type} {lvh : γ → List (Nat × Value)} {sth : γ → List Value} {ph : Nat} {body : γ → xS → xF (γ ⊕ α)} (hb : ∀ a σ, xSnd K d M (xJl K d M J ph lvh sth) ph (lvh a) (sth a) σ (body a σ)) : ∀ (n : Nat) (a : γ) (σ : xS), xSnd K d M J ph (lvh a) (sth a) σ (xloop body n a σ) := by
  intro n
  induction n with
  | zero => intro a σ r σ1 hf; cases hf
  | succ n ih =>
    intro a σ r σ1 hf o σ' hJ
    rw [xloop] at hf
    split at hf
    · rename_i a' σ2 hx
      exact hb a σ _ _ hx o σ' (ih a' σ2 r σ1 hf o σ' hJ)
    · rename_i b σ2 hx
      cases hf
      exact hb a σ _ _ hx o σ' hJ
    · cases hf
/-! calls -/
/-- a form is right for a method: what it tells, the method does -/
def xFor {ρ : Type} (K : xC) (d : Nat) (N : xMd) (J : ρ → xS → Outcome → xS → Prop) (As : List Value) (σ : xS) (f : xF ρ) : Prop := ∀ (r : ρ) (σ1 : xS), f = some (r, σ1) → ∀ (o : Outcome) (σ' : xS), J r σ1 o σ' → xMt K d N As σ o σ'
theorem xFor.of {ρ : Type} {N : xMd} {J : ρ → xS → Outcome → xS → Prop} {As : List Value} {f : xF ρ} (hy : plainName (xMy N).cls = true) (hL : (lg_sl As).length ≤ xML N) (h : xSnd K d N J 0 (lv_args 0 As) [] σ f) : xFor K d N J As σ f := fun r σ1 hf o σ' hJ => xMt.of hy hL (h r σ1 hf o σ' hJ)
theorem xis_rc {r : Option Nat} {ci : Nat} {q : vw_C} {C : String} {At : List Value} (h : xis K σ r ci = true) (hq : (xcl K)[ci]? = some q) (hC : q.1 = C) : xRc K σ (some C) (va_rf r :: At) := by
  intro C' hC'
  cases hC'
  unfold xis at h
  split at h
  · rename_i a
    split at h
    · rename_i c fs hc
      have e : c = ci := by simpa using h
      subst e
      exact ⟨a, At, c, fs, q, rfl, hc, hq, hC⟩
    · cases h
  · cases h
theorem xSnd.callI {N : xMd} {d' n : Nat} {rc : Option String} {As : List Value} {fN : xF Int32} {g : Int32 × xS → xF α} (hN : xFor K d' N xJI As σ fN) (hC : xCal K (xMy M).cls i len N rc n) (hdd : d' + 1 ≤ d) (hL : xML N ≤ 100) (hr : xRc K σ rc As) (hn : As.length = n) (h8 : (st.map fun v => v.category).sum ≤ 8) (hd : decode (xMb M) pc = .ok (i, len)) (hst : st' = As.reverse ++ st)
    (kk : ∀ p : Int32 × xS, xSnd K d M J (pc + len) lv (.int p.1 :: st) p.2 (g p)) : xSnd K d M J pc lv st' σ (fN.bind g) := by
  intro q σ1 hf o σ' hJ
  obtain ⟨⟨x, σ2⟩, h1, h2⟩ := xbind hf
  subst hst
  exact xB.call hC (hN x σ2 h1 _ _ ⟨rfl, rfl⟩) hdd hL hr hn h8 hd (kk (x, σ2) q σ1 h2 o σ' hJ)
theorem xSnd.callJ {N : xMd} {d' n : Nat} {rc : Option String} {As : List Value} {fN : xF Int64} {g : Int64 × xS → xF α} (hN : xFor K d' N xJJ As σ fN) (hC : xCal K (xMy M).cls i len N rc n) (hdd : d' + 1 ≤ d) (hL : xML N ≤ 100) (hr : xRc K σ rc As) (hn : As.length = n) (h8 : (st.map fun v => v.category).sum ≤ 8) (hd : decode (xMb M) pc = .ok (i, len)) (hst : st' = As.reverse ++ st)
    (kk : ∀ p : Int64 × xS, xSnd K d M J (pc + len) lv (.long p.1 :: st) p.2 (g p)) : xSnd K d M J pc lv st' σ (fN.bind g) := by
  intro q σ1 hf o σ' hJ
  obtain ⟨⟨x, σ2⟩, h1, h2⟩ := xbind hf
  subst hst
  exact xB.call hC (hN x σ2 h1 _ _ ⟨rfl, rfl⟩) hdd hL hr hn h8 hd (kk (x, σ2) q σ1 h2 o σ' hJ)
theorem xSnd.callA {N : xMd} {d' n : Nat} {rc : Option String} {As : List Value} {fN : xF (Option Nat)} {g : Option Nat × xS → xF α} (hN : xFor K d' N xJA As σ fN) (hC : xCal K (xMy M).cls i len N rc n) (hdd : d' + 1 ≤ d) (hL : xML N ≤ 100) (hr : xRc K σ rc As) (hn : As.length = n) (h8 : (st.map fun v => v.category).sum ≤ 8) (hd : decode (xMb M) pc = .ok (i, len)) (hst : st' = As.reverse ++ st)
    (kk : ∀ p : Option Nat × xS, xSnd K d M J (pc + len) lv (va_rf p.1 :: st) p.2 (g p)) : xSnd K d M J pc lv st' σ (fN.bind g) := by
  intro q σ1 hf o σ' hJ
  obtain ⟨⟨x, σ2⟩, h1, h2⟩ := xbind hf
  subst hst
  exact xB.call hC (hN x σ2 h1 _ _ ⟨rfl, rfl⟩) hdd hL hr hn h8 hd (kk (x, σ2) q σ1 h2 o σ' hJ)
theorem xSnd.callV {N : xMd} {d' n : Nat} {rc : Option String} {As : List Value} {fN : xF Unit} {g : Unit × xS → xF α} (hN : xFor K d' N xJV As σ fN) (hC : xCal K (xMy M).cls i len N rc n) (hdd : d' + 1 ≤ d) (hL : xML N ≤ 100) (hr : xRc K σ rc As) (hn : As.length = n) (h8 : (st.map fun v => v.category).sum ≤ 8) (hd : decode (xMb M) pc = .ok (i, len)) (hst : st' = As.reverse ++ st)
    (kk : ∀ p : Unit × xS, xSnd K d M J (pc + len) lv st p.2 (g p)) : xSnd K d M J pc lv st' σ (fN.bind g) := by
  intro q σ1 hf o σ' hJ
  obtain ⟨⟨x, σ2⟩, h1, h2⟩ := xbind hf
  subst hst
  exact xB.call hC (hN x σ2 h1 _ _ ⟨rfl, rfl⟩) hdd hL hr hn h8 hd (kk (x, σ2) q σ1 h2 o σ' hJ)
/-- a receiver of class ci -/
theorem xSnd.is {r : Option Nat} {ci : Nat} (kk : xis K σ r ci = true → xSnd K d M J pc lv st σ f) : xSnd K d M J pc lv st σ (if xis K σ r ci = true then f else none) :=
  xSnd.ite kk (fun _ _ _ hf => by cases hf)
end XFH
