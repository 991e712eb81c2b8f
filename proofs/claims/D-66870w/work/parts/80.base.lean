/-! THE PURE LAYER, 1: loops, numbers, frames. -/
section PLB
theorem zloop_step {ρ β : Type} {body : ρ → zS → zF (ρ ⊕ β)} {n : Nat} {a a' : ρ} {α α' : zS} (h : body a α = some (.inl a', α')) : zloop body (n + 1) a α = zloop body n a' α' := by
  simp only [zloop, h]
theorem zloop_done {ρ β : Type} {body : ρ → zS → zF (ρ ⊕ β)} {n : Nat} {a : ρ} {b : β} {α α' : zS} (h : body a α = some (.inr b, α')) : zloop body (n + 1) a α = some (b, α') := by
  simp only [zloop, h]
/-- a loop that goes through the states st 0 .. st n and then ends -/
theorem zloop_seq {ρ β : Type} {body : ρ → zS → zF (ρ ⊕ β)} {st : Nat → ρ} {S : Nat → zS} {b : β} {α' : zS} : ∀ {n fuel : Nat}, (∀ k, k < n → body (st k) (S k) = some (.inl (st (k + 1)), S (k + 1))) → body (st n) (S n) = some (.inr b, α') → n < fuel → zloop body fuel (st 0) (S 0) = some (b, α') := by
  intro n
  induction n generalizing st S with
  | zero =>
    intro fuel h1 h2 h3
    obtain ⟨q, rfl⟩ : ∃ q, fuel = q + 1 := ⟨fuel - 1, by omega⟩
    exact zloop_done h2
  | succ n ih =>
    intro fuel h1 h2 h3
    obtain ⟨q, rfl⟩ : ∃ q, fuel = q + 1 := ⟨fuel - 1, by omega⟩
    rw [zloop_step (h1 0 (by omega))]
    exact ih (st := fun k => st (k + 1)) (S := fun k => S (k + 1)) (fun k hk => h1 (k + 1) (by omega)) h2 (by omega)
/-- a loop that keeps I k at its k-th turn, and ends at the n-th -/
theorem zloop_inv {ρ β : Type} {body : ρ → zS → zF (ρ ⊕ β)} {I : Nat → ρ → zS → Prop} {Q : β → zS → Prop} : ∀ {n fuel : Nat} {a : ρ} {α : zS}, (∀ k a α, k < n → I k a α → (∃ a' α', body a α = some (.inl a', α') ∧ I (k + 1) a' α') ∨ ∃ b α', body a α = some (.inr b, α') ∧ Q b α') → (∀ a α, I n a α → ∃ b α', body a α = some (.inr b, α') ∧ Q b α') → n < fuel → I 0 a α → ∃ b α', zloop body fuel a α = some (b, α') ∧ Q b α' := by
  intro n
  induction n generalizing I with
  | zero =>
    intro fuel a α h1 h2 h3 h0
    obtain ⟨q, rfl⟩ : ∃ q, fuel = q + 1 := ⟨fuel - 1, by omega⟩
    obtain ⟨b, α', hb, hq⟩ := h2 a α h0
    exact ⟨b, α', zloop_done hb, hq⟩
  | succ n ih =>
    intro fuel a α h1 h2 h3 h0
    obtain ⟨q, rfl⟩ : ∃ q, fuel = q + 1 := ⟨fuel - 1, by omega⟩
    rcases h1 0 a α (by omega) h0 with ⟨a', α', hb, hi⟩ | ⟨b, α', hb, hq⟩
    · rw [zloop_step hb]
      exact ih (I := fun k => I (k + 1)) (fun k a α hk => h1 (k + 1) a α (by omega)) h2 (by omega) hi
    · exact ⟨b, α', zloop_done hb, hq⟩
/-- what comes behind the last turn of a loop -/
def zfin {ρ β : Type} (f : zF (ρ ⊕ β)) (k : ρ → zS → zF β) : zF β := match f with
  | some (.inl a, α) => k a α
  | some (.inr b, α) => some (b, α)
  | none => none
theorem zfin_inr {ρ β : Type} {r : zF β} {k : ρ → zS → zF β} : zfin (zinr r) k = r := by
  cases r with
  | none => rfl
  | some p => rfl
theorem zloop_skip {ρ β : Type} {body : ρ → zS → zF (ρ ⊕ β)} {st : Nat → ρ} {S : Nat → zS} : ∀ {n fuel : Nat}, (∀ k, k < n → body (st k) (S k) = some (.inl (st (k + 1)), S (k + 1))) → n < fuel → zloop body fuel (st 0) (S 0) = zfin (body (st n) (S n)) (zloop body (fuel - n - 1)) := by
  intro n
  induction n generalizing st S with
  | zero =>
    intro fuel h1 h3
    obtain ⟨q, rfl⟩ : ∃ q, fuel = q + 1 := ⟨fuel - 1, by omega⟩
    simp only [zloop, zfin, Nat.sub_zero, Nat.add_sub_cancel]
    rfl
  | succ n ih =>
    intro fuel h1 h3
    obtain ⟨q, rfl⟩ : ∃ q, fuel = q + 1 := ⟨fuel - 1, by omega⟩
    rw [zloop_step (h1 0 (by omega))]
    have := ih (st := fun k => st (k + 1)) (S := fun k => S (k + 1)) (fuel := q) (fun k hk => h1 (k + 1) (by omega)) (by omega)
    rw [this, show q + 1 - (n + 1) - 1 = q - n - 1 by omega]
theorem zlim {n : Nat} (h : n < 1000000000) : n < xLim := h
/-- the first place of a property -/
theorem first_of {P : Nat → Prop} {n : Nat} (h : ∃ k, k < n ∧ P k) : ∃ k, k < n ∧ P k ∧ ∀ j, j < k → ¬ P j := by
  obtain ⟨k, hk, hp⟩ := h
  induction k using Nat.strongRecOn with
  | ind k ih =>
    by_cases hj : ∃ j, j < k ∧ P j
    · obtain ⟨j, h1, h2⟩ := hj
      exact ih j h1 (by omega) h2
    · exact ⟨k, hk, hp, fun j h1 h2 => hj ⟨j, h1, h2⟩⟩
theorem findSome_first {α : Type} {g : Nat → Option α} {n k : Nat} {x : α} (hk : k < n) (h0 : ∀ j, j < k → g j = none) (h1 : g k = some x) : (List.range n).findSome? g = some x := by
  rw [List.findSome?_eq_some_iff]
  refine ⟨List.range k, k, (List.range n).drop (k + 1), ?_, h1, ?_⟩
  · apply List.ext_getElem?
    intro i
    rw [List.getElem?_append]
    simp only [List.length_range]
    split
    · rw [List.getElem?_range (by omega), List.getElem?_range (by omega)]
    · rename_i hi
      by_cases he : i = k
      · subst he; simp [List.getElem?_range hk]
      · obtain ⟨d, hd⟩ : ∃ d, i - k = d + 1 := ⟨i - k - 1, by omega⟩
        rw [hd, List.getElem?_cons_succ, List.getElem?_drop]
        rw [show k + 1 + d = i by omega]
  · intro a ha
    exact h0 a (List.mem_range.mp ha)
theorem findSome_none {α : Type} {g : Nat → Option α} {n : Nat} (h0 : ∀ j, j < n → g j = none) : (List.range n).findSome? g = none := by
  rw [List.findSome?_eq_none_iff]
  intro a ha
  exact h0 a (List.mem_range.mp ha)
/-! numbers -/
theorem pI_clamp {k : Nat} (h : k < 2 ^ 31) : (nI k).toNatClampNeg = k := by
  unfold nI; exact Int32.toNatClampNeg_ofNat_of_lt (n := k) (by omega)
theorem pI_toInt {k : Nat} (h : k < 2 ^ 31) : (nI k).toInt = (k : Int) := by
  unfold nI; exact Int32.toInt_ofNat_of_lt (by omega)
theorem pI_neg {k : Nat} (h : k < 2 ^ 31) : ¬ nI k < 0 := by
  rw [Int32.lt_iff_toInt_lt, pI_toInt h, Int32.toInt_zero]; omega
theorem pI_in {k n : Nat} (hk : k < n) (h : n < 2 ^ 31) : xin (nI k) n = true := by
  simp only [xin, Bool.and_eq_true, decide_eq_true_eq]
  exact ⟨pI_neg (by omega), by rw [pI_clamp (by omega)]; exact hk⟩
theorem pI_succ (k : Nat) : nI k + 1 = nI (k + 1) := by unfold nI; rw [Int32.ofNat_add]; rfl
theorem pI_add (a b : Nat) : nI a + nI b = nI (a + b) := by unfold nI; rw [Int32.ofNat_add]
theorem pI_mul (a b : Nat) : nI a * nI b = nI (a * b) := by unfold nI; rw [Int32.ofNat_mul]
theorem pI_sub {a b : Nat} (h : b ≤ a) : nI a - nI b = nI (a - b) := by
  unfold nI; exact (Int32.ofNat_sub _ _ h).symm
theorem pI_subs {a b : Nat} (h : b ≤ a + 1) : nI a - nI b + 1 = nI (a + 1 - b) := by
  rw [← pI_sub h, ← pI_succ]
  simp only [Int32.sub_eq_add_neg]
  rw [Int32.add_assoc, Int32.add_comm (-nI b), ← Int32.add_assoc]
theorem pI_le {a b : Nat} (ha : a < 2 ^ 31) (hb : b < 2 ^ 31) : (nI a ≤ nI b) ↔ a ≤ b := by
  rw [Int32.le_iff_toInt_le, pI_toInt ha, pI_toInt hb]; omega
theorem pI_lt {a b : Nat} (ha : a < 2 ^ 31) (hb : b < 2 ^ 31) : (nI a < nI b) ↔ a < b := by
  rw [Int32.lt_iff_toInt_lt, pI_toInt ha, pI_toInt hb]; omega
theorem pI_inj {a b : Nat} (ha : a < 2 ^ 31) (hb : b < 2 ^ 31) : (nI a = nI b) ↔ a = b := by
  constructor
  · intro h; have := congrArg Int32.toInt h; rw [pI_toInt ha, pI_toInt hb] at this; omega
  · intro h; rw [h]
theorem pI_zero : (0 : Int32) = nI 0 := rfl
theorem pI_one : (1 : Int32) = nI 1 := rfl
theorem pI_div {a b : Nat} (ha : a < 2 ^ 31) (hb : b < 2 ^ 31) (h0 : 0 < b) : nI a / nI b = nI (a / b) := by
  apply Int32.toInt_inj.mp
  have hne : nI b ≠ -1 := by
    intro e
    have e1 := congrArg Int32.toInt e
    have e2 : (-1 : Int32).toInt = -1 := rfl
    rw [pI_toInt hb, e2] at e1
    omega
  rw [Int32.toInt_div_of_ne_right _ _ hne, pI_toInt ha, pI_toInt hb, pI_toInt (Nat.lt_of_le_of_lt (Nat.div_le_self _ _) ha), Int.tdiv_eq_ediv_of_nonneg (by omega)]
  rfl
theorem pclamp (o : Int32) : o.toNatClampNeg = o.toInt.toNat := rfl
/-- a number that lies in a row -/
theorem pin {o : Int32} {n N : Nat} (h1 : 0 ≤ o) (h2 : o ≤ nI n) (h3 : n < N) (h4 : n < 2 ^ 31) : xin o N = true := by
  rw [Int32.le_iff_toInt_le] at h1 h2
  rw [pI_toInt h4] at h2
  rw [Int32.toInt_zero] at h1
  simp only [xin, Bool.and_eq_true, decide_eq_true_eq, Int32.lt_iff_toInt_lt, Int32.toInt_zero, pclamp]
  omega
theorem pin_lt {o : Int32} {n N : Nat} (h1 : 0 ≤ o) (h2 : o < nI n) (h3 : n ≤ N) (h4 : n < 2 ^ 31) : xin o N = true := by
  rw [Int32.le_iff_toInt_le, Int32.toInt_zero] at h1
  rw [Int32.lt_iff_toInt_lt, pI_toInt h4] at h2
  simp only [xin, Bool.and_eq_true, decide_eq_true_eq, Int32.lt_iff_toInt_lt, Int32.toInt_zero, pclamp]
  omega
theorem pnat {o : Int32} (h : 0 ≤ o) : nI o.toNatClampNeg = o := by
  rw [Int32.le_iff_toInt_le, Int32.toInt_zero] at h
  apply Int32.toInt_inj.mp
  have h2 := Int32.toInt_lt o
  rw [pI_toInt (by rw [pclamp]; omega), pclamp]
  omega
theorem pnum {o : Int32} {n : Nat} (h1 : 0 < o) (h2 : o ≤ nI n) (h4 : n < 2 ^ 31) : 1 ≤ o.toNatClampNeg ∧ o.toNatClampNeg ≤ n := by
  rw [Int32.lt_iff_toInt_lt, Int32.toInt_zero] at h1
  rw [Int32.le_iff_toInt_le, pI_toInt h4] at h2
  rw [pclamp]
  omega
/-! tables of numbers -/
def zu2 (S : Nat → Nat → Int32) (f o : Nat) (x : Int32) : Nat → Nat → Int32 := fun f' o' => if f' = f ∧ o' = o then x else S f' o'
theorem zu2_col {S : Nat → Nat → Int32} {f o : Nat} {x : Int32} : zu2 S f o x f = upd (S f) o x := by funext k; simp [zu2, upd]
theorem zu2_ne {S : Nat → Nat → Int32} {f g o : Nat} {x : Int32} (h : g ≠ f) : zu2 S f o x g = S g := by funext k; simp [zu2, h]
theorem pbool {x : Int32} (h : x = 0 ∨ x = 1) : vp_nar .boolean x = x := by rcases h with rfl | rfl <;> rfl
theorem znar0 : (narrow .boolean (.int 0) = .int 0) = True := eq_true rfl
theorem znar1 : (narrow .boolean (.int 1) = .int 1) = True := eq_true rfl
theorem zite01 {c : Prop} [Decidable c] : ((if c then (1 : Int32) else 0) = 0) ↔ ¬ c := by by_cases h : c <;> simp [h]
theorem zite_bind {β γ : Type} {c : Prop} [Decidable c] {a b : Option β} {f : β → Option γ} : (if c then a else b).bind f = if c then a.bind f else b.bind f := by by_cases h : c <;> simp [h]
theorem zaI_zsIf {α : zS} {a q : Nat} {f : Nat → Int32} : zaI (zsI α a f) q = if q = a then f else zaI α q := by funext j; rw [zaI_zsI]; split <;> rfl
theorem zaJ_zsJf {α : zS} {a q : Nat} {f : Nat → Int64} : zaJ (zsJ α a f) q = if q = a then f else zaJ α q := by funext j; rw [zaJ_zsJ]; split <;> rfl
theorem zaA_zsAf {α : zS} {a q : Nat} {f : Nat → Option Nat} : zaA (zsA α a f) q = if q = a then f else zaA α q := by funext j; rw [zaA_zsA]; split <;> rfl
theorem zaI_zwIf {α : zS} {q : Nat} (e h a : Nat) (x : Int32) : zaI (zwI α e h a x) q = zaI α q := funext fun _ => zaI_zwI _ e h a x
theorem zaJ_zwIf {α : zS} {q : Nat} (e h a : Nat) (x : Int32) : zaJ (zwI α e h a x) q = zaJ α q := funext fun _ => zaJ_zwI _ e h a x
theorem zaA_zwIf {α : zS} {q : Nat} (e h a : Nat) (x : Int32) : zaA (zwI α e h a x) q = zaA α q := funext fun _ => zaA_zwI _ e h a x
theorem zaI_zwJf {α : zS} {q : Nat} (e h a : Nat) (x : Int64) : zaI (zwJ α e h a x) q = zaI α q := funext fun _ => zaI_zwJ _ e h a x
theorem zaJ_zwJf {α : zS} {q : Nat} (e h a : Nat) (x : Int64) : zaJ (zwJ α e h a x) q = zaJ α q := funext fun _ => zaJ_zwJ _ e h a x
theorem zaA_zwJf {α : zS} {q : Nat} (e h a : Nat) (x : Int64) : zaA (zwJ α e h a x) q = zaA α q := funext fun _ => zaA_zwJ _ e h a x
theorem zaI_zwAf {α : zS} {q : Nat} (e h a : Nat) (x : Option Nat) : zaI (zwA α e h a x) q = zaI α q := funext fun _ => zaI_zwA _ e h a x
theorem zaJ_zwAf {α : zS} {q : Nat} (e h a : Nat) (x : Option Nat) : zaJ (zwA α e h a x) q = zaJ α q := funext fun _ => zaJ_zwA _ e h a x
theorem zaA_zwAf {α : zS} {q : Nat} (e h a : Nat) (x : Option Nat) : zaA (zwA α e h a x) q = zaA α q := funext fun _ => zaA_zwA _ e h a x
theorem zaJ_zsIf {α : zS} {q : Nat} (a : Nat) (f : Nat → Int32) : zaJ (zsI α a f) q = zaJ α q := funext fun _ => zaJ_zsI _ a f
theorem zaA_zsIf {α : zS} {q : Nat} (a : Nat) (f : Nat → Int32) : zaA (zsI α a f) q = zaA α q := funext fun _ => zaA_zsI _ a f
theorem zaI_zsJf {α : zS} {q : Nat} (a : Nat) (f : Nat → Int64) : zaI (zsJ α a f) q = zaI α q := funext fun _ => zaI_zsJ _ a f
theorem zaA_zsJf {α : zS} {q : Nat} (a : Nat) (f : Nat → Int64) : zaA (zsJ α a f) q = zaA α q := funext fun _ => zaA_zsJ _ a f
theorem zaI_zsAf {α : zS} {q : Nat} (a : Nat) (f : Nat → Option Nat) : zaI (zsA α a f) q = zaI α q := funext fun _ => zaI_zsA _ a f
theorem zaJ_zsAf {α : zS} {q : Nat} (a : Nat) (f : Nat → Option Nat) : zaJ (zsA α a f) q = zaJ α q := funext fun _ => zaJ_zsA _ a f
theorem zaI_zsLf {α : zS} {q : Nat} (a n c0 w bk cap : Nat) (xs : List (Option Nat)) (m : Int32) : zaI (zsL α a n c0 w bk cap xs m) q = zaI α q := funext fun _ => zaI_zsL _ a n c0 w bk cap xs m
theorem zaJ_zsLf {α : zS} {q : Nat} (a n c0 w bk cap : Nat) (xs : List (Option Nat)) (m : Int32) : zaJ (zsL α a n c0 w bk cap xs m) q = zaJ α q := funext fun _ => zaJ_zsL _ a n c0 w bk cap xs m
theorem zaA_zsLf {α : zS} {q : Nat} (a n c0 w bk cap : Nat) (xs : List (Option Nat)) (m : Int32) : zaA (zsL α a n c0 w bk cap xs m) q = zaA α q := funext fun _ => zaA_zsL _ a n c0 w bk cap xs m
theorem zaI_zsTf {α : zS} {q : Nat} (a n c0 w bk cap : Nat) (t : List Int32) : zaI (zsT α a n c0 w bk cap t) q = zaI α q := funext fun _ => zaI_zsT _ a n c0 w bk cap t
theorem zaJ_zsTf {α : zS} {q : Nat} (a n c0 w bk cap : Nat) (t : List Int32) : zaJ (zsT α a n c0 w bk cap t) q = zaJ α q := funext fun _ => zaJ_zsT _ a n c0 w bk cap t
theorem zaA_zsTf {α : zS} {q : Nat} (a n c0 w bk cap : Nat) (t : List Int32) : zaA (zsT α a n c0 w bk cap t) q = zaA α q := funext fun _ => zaA_zsT _ a n c0 w bk cap t
/-- nothing changes but at the places A -/
def zFr (α α' : zS) (A : Nat → Prop) : Prop := zn α ≤ zn α' ∧ ∀ a, (a < zn α ∨ zn α' ≤ a) → ¬ A a → α'.2 a = α.2 a
theorem zFr.rf {α : zS} {A : Nat → Prop} : zFr α α A := ⟨Nat.le_refl _, fun _ _ _ => rfl⟩
theorem zFr.tr {α α' β : zS} {A : Nat → Prop} (h1 : zFr α α' A) (h2 : zFr α' β A) : zFr α β A := ⟨Nat.le_trans h1.1 h2.1, fun a h hA => (h2.2 a (by have := h1.1; have := h2.1; omega) hA).trans (h1.2 a (by have := h1.1; have := h2.1; omega) hA)⟩
theorem zFr.up {α : zS} {A : Nat → Prop} {a : Nat} {r : zLoc} (h : A a) : zFr α (α.1, va_up α.2 a r) A := by
  refine ⟨Nat.le_refl _, fun q _ hA => ?_⟩
  have e : q ≠ a := fun e => hA (by rw [e]; exact h)
  show va_up α.2 a r q = α.2 q
  unfold va_up
  rw [if_neg e]
theorem zFr.sI {α : zS} {A : Nat → Prop} {a : Nat} {f : Nat → Int32} (h : A a) : zFr α (zsI α a f) A := zFr.up h
theorem zFr.sJ {α : zS} {A : Nat → Prop} {a : Nat} {f : Nat → Int64} (h : A a) : zFr α (zsJ α a f) A := zFr.up h
theorem zFr.sA {α : zS} {A : Nat → Prop} {a : Nat} {f : Nat → Option Nat} (h : A a) : zFr α (zsA α a f) A := zFr.up h
theorem zFr.wI {α : zS} {A : Nat → Prop} {c k a : Nat} {x : Int32} (h : A a) : zFr α (zwI α c k a x) A := zFr.up h
theorem zFr.wJ {α : zS} {A : Nat → Prop} {c k a : Nat} {x : Int64} (h : A a) : zFr α (zwJ α c k a x) A := zFr.up h
theorem zFr.wA {α : zS} {A : Nat → Prop} {c k a : Nat} {x : Option Nat} (h : A a) : zFr α (zwA α c k a x) A := zFr.up h
/-- nothing changes but at the places A, nothing is new -/
def zF0 (α α' : zS) (A : Nat → Prop) : Prop := α'.1 = α.1 ∧ ∀ a, ¬ A a → α'.2 a = α.2 a
theorem zF0.rf {α : zS} {A : Nat → Prop} : zF0 α α A := ⟨rfl, fun _ _ => rfl⟩
theorem zF0.tr {α α' β : zS} {A : Nat → Prop} (h1 : zF0 α α' A) (h2 : zF0 α' β A) : zF0 α β A := ⟨h2.1.trans h1.1, fun a hA => (h2.2 a hA).trans (h1.2 a hA)⟩
theorem zF0.up {α : zS} {A : Nat → Prop} {a : Nat} {r : zLoc} (h : A a) : zF0 α (α.1, va_up α.2 a r) A := by
  refine ⟨rfl, fun q hA => ?_⟩
  have e : q ≠ a := fun e => hA (by rw [e]; exact h)
  show va_up α.2 a r q = α.2 q
  unfold va_up
  rw [if_neg e]
theorem zF0.sI {α : zS} {A : Nat → Prop} {a : Nat} {f : Nat → Int32} (h : A a) : zF0 α (zsI α a f) A := zF0.up h
theorem zF0.sJ {α : zS} {A : Nat → Prop} {a : Nat} {f : Nat → Int64} (h : A a) : zF0 α (zsJ α a f) A := zF0.up h
theorem zF0.sA {α : zS} {A : Nat → Prop} {a : Nat} {f : Nat → Option Nat} (h : A a) : zF0 α (zsA α a f) A := zF0.up h
theorem zF0.wI {α : zS} {A : Nat → Prop} {c k a : Nat} {x : Int32} (h : A a) : zF0 α (zwI α c k a x) A := zF0.up h
theorem zF0.wJ {α : zS} {A : Nat → Prop} {c k a : Nat} {x : Int64} (h : A a) : zF0 α (zwJ α c k a x) A := zF0.up h
theorem zF0.wA {α : zS} {A : Nat → Prop} {c k a : Nat} {x : Option Nat} (h : A a) : zF0 α (zwA α c k a x) A := zF0.up h
theorem zF0.fr {α α' : zS} {A : Nat → Prop} (h : zF0 α α' A) : zFr α α' A := ⟨by unfold zn; rw [h.1]; exact Nat.le_refl _, fun a _ hA => h.2 a hA⟩
/-! equal records -/
section ZEQ
variable {α β : zS} {a : Nat}
theorem zkd_eq (h : β.2 a = α.2 a) : zkd β a = zkd α a := by unfold zkd; rw [h]
theorem zln_eq (h : β.2 a = α.2 a) : zln β a = zln α a := by unfold zln; rw [h]
theorem zI_eq (h : β.2 a = α.2 a) (c k : Nat) : zI β c k a = zI α c k a := by unfold zI; rw [h]
theorem zJ_eq (h : β.2 a = α.2 a) (c k : Nat) : zJ β c k a = zJ α c k a := by unfold zJ; rw [h]
theorem zA_eq (h : β.2 a = α.2 a) (c k : Nat) : zA β c k a = zA α c k a := by unfold zA; rw [h]
theorem zaI_eq (h : β.2 a = α.2 a) : zaI β a = zaI α a := by funext j; unfold zaI; rw [h]
theorem zaJ_eq (h : β.2 a = α.2 a) : zaJ β a = zaJ α a := by funext j; unfold zaJ; rw [h]
theorem zaA_eq (h : β.2 a = α.2 a) : zaA β a = zaA α a := by funext j; unfold zaA; rw [h]
theorem zL_eq (h : β.2 a = α.2 a) : zL β a = zL α a := by unfold zL; rw [h]
theorem zT_eq (h : β.2 a = α.2 a) : zT β a = zT α a := by unfold zT; rw [h]
end ZEQ
/-! records elsewhere -/
section ZNE
variable {α : zS} {a q : Nat}
theorem zup_ne (h : q ≠ a) {f : Nat → zLoc} {r : zLoc} : va_up f a r q = f q := by unfold va_up; rw [if_neg h]
theorem zwI_ne (h : q ≠ a) {c k : Nat} {x : Int32} : (zwI α c k a x).2 q = α.2 q := zup_ne h
theorem zwJ_ne (h : q ≠ a) {c k : Nat} {x : Int64} : (zwJ α c k a x).2 q = α.2 q := zup_ne h
theorem zwA_ne (h : q ≠ a) {c k : Nat} {x : Option Nat} : (zwA α c k a x).2 q = α.2 q := zup_ne h
theorem zsI_ne (h : q ≠ a) {f : Nat → Int32} : (zsI α a f).2 q = α.2 q := zup_ne h
theorem zsJ_ne (h : q ≠ a) {f : Nat → Int64} : (zsJ α a f).2 q = α.2 q := zup_ne h
theorem zsA_ne (h : q ≠ a) {f : Nat → Option Nat} : (zsA α a f).2 q = α.2 q := zup_ne h
theorem zsL_ne (h : q ≠ a) {n c w bk cap : Nat} {xs : List (Option Nat)} {m : Int32} : (zsL α a n c w bk cap xs m).2 q = α.2 q := zup_ne h
theorem zsT_ne (h : q ≠ a) {n c w bk cap : Nat} {t : List Int32} : (zsT α a n c w bk cap t).2 q = α.2 q := zup_ne h
end ZNE
theorem zmk_ne {α : zS} {q k l w : Nat} (h : q < zn α) : (zmk α k l w).2 q = α.2 q := zup_ne (Nat.ne_of_lt h)
theorem zmT_ne {α : zS} {q : Nat} {t : List Int32} (h : q < zn α) : (zmT α t).2 q = α.2 q := zup_ne (Nat.ne_of_lt h)
/-- cells of a part of the store, and what is new -/
def zGr (A : Nat → Prop) (α α' : zS) : Nat → Prop := fun a => A a ∨ (zn α ≤ a ∧ a < zn α')
/-- nothing changes but at A; c cells and w words at most are new -/
def zFc (α α' : zS) (A : Nat → Prop) (c w : Nat) : Prop := zFr α α' A ∧ zc α' ≤ zc α + c ∧ zw α' ≤ zw α + w
theorem zF0.fc {α α' : zS} {A : Nat → Prop} (h : zF0 α α' A) : zFc α α' A 0 0 := ⟨h.fr, by unfold zc; rw [h.1]; exact Nat.le_refl _, by unfold zw; rw [h.1]; exact Nat.le_refl _⟩
end PLB
/-! lists of objects, numbered from 1 -/
section PLL
def zls (n : Nat) (oa : Nat → Nat) : List (Option Nat) := (List.range n).map fun k => some (oa (k + 1))
theorem zls_len {n : Nat} {oa : Nat → Nat} : (zls n oa).length = n := by simp [zls]
theorem zls_get {n k : Nat} {oa : Nat → Nat} : (zls n oa)[k]? = if k < n then some (some (oa (k + 1))) else none := by
  unfold zls
  split
  · rename_i h
    rw [List.getElem?_map, List.getElem?_range h]; rfl
  · rw [List.getElem?_eq_none (by simp; omega)]
theorem zls_add {n a : Nat} {oa : Nat → Nat} : zls n oa ++ [some a] = zls (n + 1) (va_up oa (n + 1) a) := by
  apply List.ext_getElem?
  intro k
  rw [zls_get]
  by_cases h : k < n
  · rw [List.getElem?_append_left (by rw [zls_len]; exact h), zls_get, if_pos h, if_pos (by omega)]
    unfold va_up
    rw [if_neg (by omega)]
  · rw [List.getElem?_append_right (by rw [zls_len]; omega), zls_len]
    by_cases h2 : k = n
    · subst h2
      rw [Nat.sub_self, if_pos (by omega)]
      simp [va_up]
    · rw [if_neg (by omega), List.getElem?_eq_none (by simp; omega)]
theorem zls_nil {n : Nat} {oa : Nat → Nat} : (zls n oa = []) ↔ n = 0 := by
  unfold zls; cases n <;> simp
/-- an element by its number -/
theorem zLget_ls {α : zS} {l n : Nat} {oa : Nat → Nat} {o : Int32} (h1 : zkd α l = 3) (h2 : zL α l = zls n oa) (h3 : 0 < o) (h4 : o ≤ nI n) (h5 : n < 2 ^ 31) : zLget α (some l) (o - 1) = some (some (oa o.toNatClampNeg)) := by
  have e3 := Int32.lt_iff_toInt_lt.mp h3
  have e4 := Int32.le_iff_toInt_le.mp h4
  rw [Int32.toInt_zero] at e3
  rw [pI_toInt h5] at e4
  have e : (o - 1) = nI (o.toNatClampNeg - 1) := by
    rw [← pnat (Int32.le_of_lt h3), pI_one, pI_sub (by rw [pclamp]; omega), pI_clamp (by rw [pclamp]; omega)]
  have hc : o.toNatClampNeg = o.toInt.toNat := rfl
  rw [e]
  simp only [zLget, h1, h2]
  rw [if_pos ⟨trivial, pI_neg (by omega)⟩, pI_clamp (by omega), zls_get, if_pos (by omega)]
  congr 3
  omega
theorem zLget_k {α : zS} {l n k : Nat} {oa : Nat → Nat} (h1 : zkd α l = 3) (h2 : zL α l = zls n oa) (h3 : k < n) (h5 : n < 2 ^ 31) : zLget α (some l) (nI k) = some (some (oa (k + 1))) := by
  simp only [zLget, h1, h2]
  rw [if_pos ⟨trivial, pI_neg (by omega)⟩, pI_clamp (by omega), zls_get, if_pos h3]
theorem zLsize_ls {α : zS} {l n : Nat} {oa : Nat → Nat} (h1 : zkd α l = 3) (h2 : zL α l = zls n oa) : zLsize α (some l) = some (nI n) := by
  simp only [zLsize, h1, h2, zls_len, if_true]
end PLL
