/-! THE PURE LAYER: functions on what an object shows (gF), and how they are forms. -/
abbrev gF (ρ : Type) : Type := Option (ρ × zM)
def gld (s : zM) (k n : Nat) (j : Int32) : Option Int32 := if xin j n = true then some (la s k j.toNatClampNeg) else none
def gst (s : zM) (k n : Nat) (j x : Int32) : Option zM := if xin j n = true then some (ua s k (upd (la s k) j.toNatClampNeg x)) else none
def glj (s : zM) (k n : Nat) (j : Int32) : Option Int64 := if xin j n = true then some (lb s k j.toNatClampNeg) else none
def gsj (s : zM) (k n : Nat) (j : Int32) (x : Int64) : Option zM := if xin j n = true then some (ub s k (vp_updL (lb s k) j.toNatClampNeg x)) else none
def gpN (s : zM) (k : Nat) (ty : FieldType) (x : Int32) : Option zM := if narrow ty (.int x) = .int x ∧ fits ty (.int x) = true then some (us s k x) else none
def gloop {S ρ β : Type} (body : ρ → S → Option ((ρ ⊕ β) × S)) : Nat → ρ → S → Option (β × S)
  | 0, _, _ => none
  | n + 1, a, s => match body a s with
    | some (.inl a', s') => gloop body n a' s'
    | some (.inr b, s') => some (b, s')
    | none => none
def ginr {S ρ β : Type} (f : Option (β × S)) : Option ((ρ ⊕ β) × S) := f.map (fun r => (.inr r.1, r.2))
section GL
variable {A B C : Type}
theorem gl_bm {o : Option A} {f : A → B} {g : B → Option C} : (o.map f).bind g = o.bind (fun x => g (f x)) := by cases o <;> rfl
theorem gl_mb {o : Option A} {g : A → Option B} {f : B → C} : (o.bind g).map f = o.bind (fun x => (g x).map f) := by cases o <;> rfl
theorem gl_mm {o : Option A} {f : A → B} {g : B → C} : (o.map f).map g = o.map (fun x => g (f x)) := by cases o <;> rfl
theorem gl_mi {c : Prop} [Decidable c] {x y : Option A} {f : A → B} : (if c then x else y).map f = if c then x.map f else y.map f := by split <;> rfl
theorem gl_bi {c : Prop} [Decidable c] {x y : Option A} {f : A → Option B} : (if c then x else y).bind f = if c then x.bind f else y.bind f := by split <;> rfl
/-! the same as rows that the kernel doesn't unfold -/
theorem gl_bs {a : A} {f : A → Option B} : (some a).bind f = f a := (Classical.em True).elim (fun _ => rfl) (fun _ => rfl)
theorem gl_bn {f : A → Option B} : (none : Option A).bind f = none := (Classical.em True).elim (fun _ => rfl) (fun _ => rfl)
theorem gl_ms {a : A} {f : A → B} : (some a).map f = some (f a) := (Classical.em True).elim (fun _ => rfl) (fun _ => rfl)
theorem gl_mn {f : A → B} : (none : Option A).map f = none := (Classical.em True).elim (fun _ => rfl) (fun _ => rfl)
theorem gl_x {a : A} {f : A → B} : xlet a f = f a := (Classical.em True).elim (fun _ => rfl) (fun _ => rfl)
theorem gl_zi {ρ β : Type} {f : zF β} : (zinr f : zF (ρ ⊕ β)) = f.map (fun r => (.inr r.1, r.2)) := (Classical.em True).elim (fun _ => rfl) (fun _ => rfl)
theorem gl_gi {S ρ β : Type} {f : Option (β × S)} : (ginr f : Option ((ρ ⊕ β) × S)) = f.map (fun r => (.inr r.1, r.2)) := (Classical.em True).elim (fun _ => rfl) (fun _ => rfl)
end GL
theorem gloop_lift {S ρ ρ' β β' : Type} {body : ρ → zS → zF (ρ ⊕ β)} {gb : ρ' → S → Option ((ρ' ⊕ β') × S)} {f : ρ' → ρ} {F : β' → β} {put : S → zS} (h : ∀ a s, body (f a) (put s) = (gb a s).map (fun p => (Sum.map f F p.1, put p.2))) : ∀ n a s, zloop body n (f a) (put s) = (gloop gb n a s).map (fun p => (F p.1, put p.2)) := by
  intro n
  induction n with
  | zero => intro a s; rfl
  | succ n ih =>
    intro a s
    unfold zloop gloop
    rw [h a s]
    rcases hg : gb a s with _ | ⟨a' | b, s'⟩
    · rfl
    · exact ih a' s'
    · rfl
theorem gloop_lift0 {S ρ β : Type} {body : ρ → zS → zF (ρ ⊕ β)} {gb : ρ → S → Option ((ρ ⊕ β) × S)} {put : S → zS} (h : ∀ a s, body a (put s) = (gb a s).map (fun p => (p.1, put p.2))) : ∀ n a s, zloop body n a (put s) = (gloop gb n a s).map (fun p => (p.1, put p.2)) := by
  intro n a s
  refine gloop_lift (f := id) (F := id) (fun a s => ?_) n a s
  show body a (put s) = _
  rw [h]
  rcases gb a s with _ | ⟨a' | b, s'⟩ <;> rfl
/-! loops -/
section GLOOP
variable {S ρ β : Type} {body : ρ → S → Option ((ρ ⊕ β) × S)}
theorem gl_step {n : Nat} {a a' : ρ} {s s' : S} (h : body a s = some (.inl a', s')) : gloop body (n + 1) a s = gloop body n a' s' := by
  simp only [gloop, h]
theorem gl_done {n : Nat} {a : ρ} {b : β} {s s' : S} (h : body a s = some (.inr b, s')) : gloop body (n + 1) a s = some (b, s') := by
  simp only [gloop, h]
/-- a loop that goes through the states st 0 .. st n and then ends -/
theorem gl_seq {st : Nat → ρ} {T : Nat → S} {b : β} {s' : S} : ∀ {n fuel : Nat}, (∀ k, k < n → body (st k) (T k) = some (.inl (st (k + 1)), T (k + 1))) → body (st n) (T n) = some (.inr b, s') → n < fuel → gloop body fuel (st 0) (T 0) = some (b, s') := by
  intro n
  induction n generalizing st T with
  | zero =>
    intro fuel h1 h2 h3
    obtain ⟨q, rfl⟩ : ∃ q, fuel = q + 1 := ⟨fuel - 1, by omega⟩
    exact gl_done h2
  | succ n ih =>
    intro fuel h1 h2 h3
    obtain ⟨q, rfl⟩ : ∃ q, fuel = q + 1 := ⟨fuel - 1, by omega⟩
    rw [gl_step (h1 0 (by omega))]
    exact ih (st := fun k => st (k + 1)) (T := fun k => T (k + 1)) (fun k hk => h1 (k + 1) (by omega)) h2 (by omega)
/-- a loop that keeps I k at its k-th turn, and ends at the n-th at the latest -/
theorem gl_inv {I : Nat → ρ → S → Prop} {Q : β → S → Prop} : ∀ {n fuel : Nat} {a : ρ} {s : S}, (∀ k a s, k < n → I k a s → (∃ a' s', body a s = some (.inl a', s') ∧ I (k + 1) a' s') ∨ ∃ b s', body a s = some (.inr b, s') ∧ Q b s') → (∀ a s, I n a s → ∃ b s', body a s = some (.inr b, s') ∧ Q b s') → n < fuel → I 0 a s → ∃ b s', gloop body fuel a s = some (b, s') ∧ Q b s' := by
  intro n
  induction n generalizing I with
  | zero =>
    intro fuel a s h1 h2 h3 h0
    obtain ⟨q, rfl⟩ : ∃ q, fuel = q + 1 := ⟨fuel - 1, by omega⟩
    obtain ⟨b, s', hb, hq⟩ := h2 a s h0
    exact ⟨b, s', gl_done hb, hq⟩
  | succ n ih =>
    intro fuel a s h1 h2 h3 h0
    obtain ⟨q, rfl⟩ : ∃ q, fuel = q + 1 := ⟨fuel - 1, by omega⟩
    rcases h1 0 a s (by omega) h0 with ⟨a', s', hb, hi⟩ | ⟨b, s', hb, hq⟩
    · rw [gl_step hb]
      exact ih (I := fun k => I (k + 1)) (fun k a s hk => h1 (k + 1) a s (by omega)) h2 (by omega) hi
    · exact ⟨b, s', gl_done hb, hq⟩
/-- a loop with a measure: as long as J holds, it goes on with J and less, or it ends with Q -/
theorem gl_wf {J : ρ → S → Prop} {Q : β → S → Prop} (μ : ρ → S → Nat) (h : ∀ a s, J a s → (∃ a' s', body a s = some (.inl a', s') ∧ J a' s' ∧ μ a' s' < μ a s) ∨ ∃ b s', body a s = some (.inr b, s') ∧ Q b s') : ∀ {fuel : Nat} {a : ρ} {s : S}, μ a s < fuel → J a s → ∃ b s', gloop body fuel a s = some (b, s') ∧ Q b s' := by
  intro fuel
  induction fuel with
  | zero => intro a s h1; omega
  | succ q ih =>
    intro a s h1 hj
    rcases h a s hj with ⟨a', s', hb, hj', hm⟩ | ⟨b, s', hb, hq⟩
    · rw [gl_step hb]
      exact ih (by omega) hj'
    · exact ⟨b, s', gl_done hb, hq⟩
end GLOOP
/-! numbers that are written -/
theorem nl0 : (0 : Int32) = nI 0 := rfl
theorem nl1 : (1 : Int32) = nI 1 := rfl
theorem nl2 : (2 : Int32) = nI 2 := rfl
theorem nl3 : (3 : Int32) = nI 3 := rfl
theorem nl4 : (4 : Int32) = nI 4 := rfl
theorem nl5 : (5 : Int32) = nI 5 := rfl
theorem nl6 : (6 : Int32) = nI 6 := rfl
theorem nl7 : (7 : Int32) = nI 7 := rfl
theorem nl8 : (8 : Int32) = nI 8 := rfl
theorem nl9 : (9 : Int32) = nI 9 := rfl
theorem nl10 : (10 : Int32) = nI 10 := rfl
theorem nl11 : (11 : Int32) = nI 11 := rfl
theorem nl12 : (12 : Int32) = nI 12 := rfl
theorem nl13 : (13 : Int32) = nI 13 := rfl
theorem nl14 : (14 : Int32) = nI 14 := rfl
theorem nl15 : (15 : Int32) = nI 15 := rfl
theorem nl16 : (16 : Int32) = nI 16 := rfl
theorem nl17 : (17 : Int32) = nI 17 := rfl
theorem nl18 : (18 : Int32) = nI 18 := rfl
theorem nl19 : (19 : Int32) = nI 19 := rfl
theorem nl20 : (20 : Int32) = nI 20 := rfl
theorem nl21 : (21 : Int32) = nI 21 := rfl
theorem nl22 : (22 : Int32) = nI 22 := rfl
theorem nl23 : (23 : Int32) = nI 23 := rfl
theorem nl24 : (24 : Int32) = nI 24 := rfl
theorem nl25 : (25 : Int32) = nI 25 := rfl
theorem nl26 : (26 : Int32) = nI 26 := rfl
theorem nl27 : (27 : Int32) = nI 27 := rfl
theorem nl28 : (28 : Int32) = nI 28 := rfl
theorem nl29 : (29 : Int32) = nI 29 := rfl
theorem nl30 : (30 : Int32) = nI 30 := rfl
theorem nl31 : (31 : Int32) = nI 31 := rfl
theorem nl32 : (32 : Int32) = nI 32 := rfl
theorem nl33 : (33 : Int32) = nI 33 := rfl
theorem nl34 : (34 : Int32) = nI 34 := rfl
theorem nl35 : (35 : Int32) = nI 35 := rfl
theorem nl36 : (36 : Int32) = nI 36 := rfl
theorem nl37 : (37 : Int32) = nI 37 := rfl
theorem nl38 : (38 : Int32) = nI 38 := rfl
theorem nl39 : (39 : Int32) = nI 39 := rfl
theorem nl40 : (40 : Int32) = nI 40 := rfl
theorem nl41 : (41 : Int32) = nI 41 := rfl
theorem nl42 : (42 : Int32) = nI 42 := rfl
theorem nl43 : (43 : Int32) = nI 43 := rfl
theorem nl44 : (44 : Int32) = nI 44 := rfl
theorem nl45 : (45 : Int32) = nI 45 := rfl
theorem nl46 : (46 : Int32) = nI 46 := rfl
theorem nl47 : (47 : Int32) = nI 47 := rfl
theorem nl48 : (48 : Int32) = nI 48 := rfl
theorem nl49 : (49 : Int32) = nI 49 := rfl
theorem nl50 : (50 : Int32) = nI 50 := rfl
theorem nl51 : (51 : Int32) = nI 51 := rfl
theorem nl52 : (52 : Int32) = nI 52 := rfl
theorem nl53 : (53 : Int32) = nI 53 := rfl
theorem nl54 : (54 : Int32) = nI 54 := rfl
theorem nl55 : (55 : Int32) = nI 55 := rfl
theorem nl56 : (56 : Int32) = nI 56 := rfl
theorem nl57 : (57 : Int32) = nI 57 := rfl
theorem nl58 : (58 : Int32) = nI 58 := rfl
theorem nl59 : (59 : Int32) = nI 59 := rfl
theorem nl60 : (60 : Int32) = nI 60 := rfl
theorem nl61 : (61 : Int32) = nI 61 := rfl
theorem nl62 : (62 : Int32) = nI 62 := rfl
theorem nl63 : (63 : Int32) = nI 63 := rfl
theorem nl64 : (64 : Int32) = nI 64 := rfl
theorem nl65 : (65 : Int32) = nI 65 := rfl
theorem nl66 : (66 : Int32) = nI 66 := rfl
theorem nl67 : (67 : Int32) = nI 67 := rfl
theorem nl68 : (68 : Int32) = nI 68 := rfl
theorem nl69 : (69 : Int32) = nI 69 := rfl
theorem nl70 : (70 : Int32) = nI 70 := rfl
theorem nl71 : (71 : Int32) = nI 71 := rfl
theorem nl72 : (72 : Int32) = nI 72 := rfl
theorem nl73 : (73 : Int32) = nI 73 := rfl
theorem nl74 : (74 : Int32) = nI 74 := rfl
theorem nl75 : (75 : Int32) = nI 75 := rfl
theorem nl76 : (76 : Int32) = nI 76 := rfl
theorem nl77 : (77 : Int32) = nI 77 := rfl
theorem nl78 : (78 : Int32) = nI 78 := rfl
theorem nl79 : (79 : Int32) = nI 79 := rfl
theorem nl80 : (80 : Int32) = nI 80 := rfl
theorem nl82 : (82 : Int32) = nI 82 := rfl
theorem nl83 : (83 : Int32) = nI 83 := rfl
theorem nl84 : (84 : Int32) = nI 84 := rfl
theorem nl85 : (85 : Int32) = nI 85 := rfl
theorem nl86 : (86 : Int32) = nI 86 := rfl
theorem nl88 : (88 : Int32) = nI 88 := rfl
theorem nl90 : (90 : Int32) = nI 90 := rfl
theorem nl96 : (96 : Int32) = nI 96 := rfl
theorem nl97 : (97 : Int32) = nI 97 := rfl
theorem nl99 : (99 : Int32) = nI 99 := rfl
theorem nl100 : (100 : Int32) = nI 100 := rfl
theorem nl101 : (101 : Int32) = nI 101 := rfl
theorem nl104 : (104 : Int32) = nI 104 := rfl
theorem nl112 : (112 : Int32) = nI 112 := rfl
theorem nl115 : (115 : Int32) = nI 115 := rfl
theorem nl120 : (120 : Int32) = nI 120 := rfl
theorem nl121 : (121 : Int32) = nI 121 := rfl
theorem nl122 : (122 : Int32) = nI 122 := rfl
theorem nl126 : (126 : Int32) = nI 126 := rfl
theorem nl127 : (127 : Int32) = nI 127 := rfl
theorem nl128 : (128 : Int32) = nI 128 := rfl
theorem nl160 : (160 : Int32) = nI 160 := rfl
theorem nl200 : (200 : Int32) = nI 200 := rfl
theorem nl201 : (201 : Int32) = nI 201 := rfl
theorem nl202 : (202 : Int32) = nI 202 := rfl
theorem nl255 : (255 : Int32) = nI 255 := rfl
theorem nl256 : (256 : Int32) = nI 256 := rfl
theorem nl300 : (300 : Int32) = nI 300 := rfl
theorem nl320 : (320 : Int32) = nI 320 := rfl
theorem nl322 : (322 : Int32) = nI 322 := rfl
theorem nl400 : (400 : Int32) = nI 400 := rfl
theorem nl500 : (500 : Int32) = nI 500 := rfl
theorem nl600 : (600 : Int32) = nI 600 := rfl
theorem nl640 : (640 : Int32) = nI 640 := rfl
theorem nl732 : (732 : Int32) = nI 732 := rfl
theorem nl968 : (968 : Int32) = nI 968 := rfl
theorem nl999 : (999 : Int32) = nI 999 := rfl
theorem nl1000 : (1000 : Int32) = nI 1000 := rfl
theorem nl1001 : (1001 : Int32) = nI 1001 := rfl
theorem nl1040 : (1040 : Int32) = nI 1040 := rfl
theorem nl1440 : (1440 : Int32) = nI 1440 := rfl
theorem nl1500 : (1500 : Int32) = nI 1500 := rfl
theorem nl1501 : (1501 : Int32) = nI 1501 := rfl
theorem nl1600 : (1600 : Int32) = nI 1600 := rfl
theorem nl2000 : (2000 : Int32) = nI 2000 := rfl
theorem nl2240 : (2240 : Int32) = nI 2240 := rfl
theorem nl3131 : (3131 : Int32) = nI 3131 := rfl
theorem nl4000 : (4000 : Int32) = nI 4000 := rfl
theorem nl4095 : (4095 : Int32) = nI 4095 := rfl
theorem nl4096 : (4096 : Int32) = nI 4096 := rfl
theorem nl4960 : (4960 : Int32) = nI 4960 := rfl
theorem nl5000 : (5000 : Int32) = nI 5000 := rfl
theorem nl6000 : (6000 : Int32) = nI 6000 := rfl
theorem nl6001 : (6001 : Int32) = nI 6001 := rfl
theorem nl8000 : (8000 : Int32) = nI 8000 := rfl
theorem nl9999 : (9999 : Int32) = nI 9999 := rfl
theorem nl10000 : (10000 : Int32) = nI 10000 := rfl
theorem nl10200 : (10200 : Int32) = nI 10200 := rfl
theorem nl13520 : (13520 : Int32) = nI 13520 := rfl
theorem nl14000 : (14000 : Int32) = nI 14000 := rfl
theorem nl20000 : (20000 : Int32) = nI 20000 := rfl
theorem nl32768 : (32768 : Int32) = nI 32768 := rfl
theorem nl40000 : (40000 : Int32) = nI 40000 := rfl
theorem nl46000 : (46000 : Int32) = nI 46000 := rfl
theorem nl64000 : (64000 : Int32) = nI 64000 := rfl
theorem nl65536 : (65536 : Int32) = nI 65536 := rfl
theorem nl78000 : (78000 : Int32) = nI 78000 := rfl
theorem nl100000 : (100000 : Int32) = nI 100000 := rfl
theorem nl128000 : (128000 : Int32) = nI 128000 := rfl
theorem nl400000 : (400000 : Int32) = nI 400000 := rfl
theorem nl730000 : (730000 : Int32) = nI 730000 := rfl
theorem nl_m1 : (-1 : Int32) = nZ (-1) := by decide
section GAR
variable {a b : Nat} {C : Type} {x y : C}
theorem gi_le (h : a ≤ b) {_ : Decidable (a ≤ b)} : (if a ≤ b then x else y) = x := if_pos h
theorem gi_nle (h : b < a) {_ : Decidable (a ≤ b)} : (if a ≤ b then x else y) = y := if_neg (by omega)
theorem gi_lt (h : a < b) {_ : Decidable (a < b)} : (if a < b then x else y) = x := if_pos h
theorem gi_nlt (h : b ≤ a) {_ : Decidable (a < b)} : (if a < b then x else y) = y := if_neg (by omega)
theorem gi_eq (h : a = b) {_ : Decidable (a = b)} : (if a = b then x else y) = x := if_pos h
theorem gi_ne (h : ¬ a = b) {_ : Decidable (a = b)} : (if a = b then x else y) = y := if_neg h
variable {p q : Int}
theorem zi_le (h : p ≤ q) {_ : Decidable (p ≤ q)} : (if p ≤ q then x else y) = x := if_pos h
theorem zi_nle (h : q < p) {_ : Decidable (p ≤ q)} : (if p ≤ q then x else y) = y := if_neg (by omega)
theorem zi_lt (h : p < q) {_ : Decidable (p < q)} : (if p < q then x else y) = x := if_pos h
theorem zi_nlt (h : q ≤ p) {_ : Decidable (p < q)} : (if p < q then x else y) = y := if_neg (by omega)
theorem zi_eq (h : p = q) {_ : Decidable (p = q)} : (if p = q then x else y) = x := if_pos h
theorem zi_ne (h : ¬ p = q) {_ : Decidable (p = q)} : (if p = q then x else y) = y := if_neg h
theorem ni_lt (ha : a < 2 ^ 31) (hb : b < 2 ^ 31) : (nI a < nI b) = (a < b) := propext (pI_lt ha hb)
theorem ni_le (ha : a < 2 ^ 31) (hb : b < 2 ^ 31) : (nI a ≤ nI b) = (a ≤ b) := propext (pI_le ha hb)
theorem ni_eq (ha : a < 2 ^ 31) (hb : b < 2 ^ 31) : (nI a = nI b) = (a = b) := propext (pI_inj ha hb)
theorem ni_zlt (ha : a < 2 ^ 31) (q1 : -2147483648 ≤ q) (q2 : q < 2147483648) : (nI a < nZ q) = ((a : Int) < q) := by rw [nZ_nat]; exact propext (nZ_lt ⟨by omega, by omega⟩ ⟨q1, q2⟩)
theorem ni_zle (ha : a < 2 ^ 31) (q1 : -2147483648 ≤ q) (q2 : q < 2147483648) : (nI a ≤ nZ q) = ((a : Int) ≤ q) := by rw [nZ_nat]; exact propext (nZ_le ⟨by omega, by omega⟩ ⟨q1, q2⟩)
theorem ni_zeq (ha : a < 2 ^ 31) (q1 : -2147483648 ≤ q) (q2 : q < 2147483648) : (nI a = nZ q) = ((a : Int) = q) := by rw [nZ_nat]; exact propext (nZ_inj ⟨by omega, by omega⟩ ⟨q1, q2⟩)
theorem zn_lt (ha : a < 2 ^ 31) (q1 : -2147483648 ≤ q) (q2 : q < 2147483648) : (nZ q < nI a) = (q < (a : Int)) := by rw [nZ_nat]; exact propext (nZ_lt ⟨q1, q2⟩ ⟨by omega, by omega⟩)
theorem zn_le (ha : a < 2 ^ 31) (q1 : -2147483648 ≤ q) (q2 : q < 2147483648) : (nZ q ≤ nI a) = (q ≤ (a : Int)) := by rw [nZ_nat]; exact propext (nZ_le ⟨q1, q2⟩ ⟨by omega, by omega⟩)
theorem zn_eq (ha : a < 2 ^ 31) (q1 : -2147483648 ≤ q) (q2 : q < 2147483648) : (nZ q = nI a) = (q = (a : Int)) := by rw [nZ_nat]; exact propext (nZ_inj ⟨q1, q2⟩ ⟨by omega, by omega⟩)
theorem zz_lt (p1 : -2147483648 ≤ p) (p2 : p < 2147483648) (q1 : -2147483648 ≤ q) (q2 : q < 2147483648) : (nZ p < nZ q) = (p < q) := propext (nZ_lt ⟨p1, p2⟩ ⟨q1, q2⟩)
theorem zz_le (p1 : -2147483648 ≤ p) (p2 : p < 2147483648) (q1 : -2147483648 ≤ q) (q2 : q < 2147483648) : (nZ p ≤ nZ q) = (p ≤ q) := propext (nZ_le ⟨p1, p2⟩ ⟨q1, q2⟩)
theorem zz_eq (p1 : -2147483648 ≤ p) (p2 : p < 2147483648) (q1 : -2147483648 ≤ q) (q2 : q < 2147483648) : (nZ p = nZ q) = (p = q) := propext (nZ_inj ⟨p1, p2⟩ ⟨q1, q2⟩)
theorem iB_i (h1 : -2147483648 ≤ p) (h2 : p < 2147483648) : iB p := ⟨h1, h2⟩
theorem ni_zadd : nI a + nZ q = nZ (a + q) := by rw [nZ_nat, nZ_add]
theorem zn_add : nZ q + nI a = nZ (q + a) := by rw [nZ_nat, nZ_add]
theorem ni_zsub : nI a - nZ q = nZ (a - q) := by rw [nZ_nat, nZ_sub]
theorem zn_sub : nZ q - nI a = nZ (q - a) := by rw [nZ_nat, nZ_sub]
theorem ni_zmul : nI a * nZ q = nZ (a * q) := by rw [nZ_nat, nZ_mul]
theorem zn_mul : nZ q * nI a = nZ (q * a) := by rw [nZ_nat, nZ_mul]
/-- a number with a sign that has none -/
theorem zn_nat (h : q = (a : Int)) : nZ q = nI a := by rw [h]; rfl
theorem pI_in' (hk : a < b) (h : b < 2 ^ 31) : (xin (nI a) b = true) = True := eq_true (pI_in hk h)
theorem pI_mod (ha : a < 2 ^ 31) (hb : b < 2 ^ 31) (h0 : 0 < b) : nI a - nI a / nI b * nI b = nI (a % b) := by
  rw [pI_div ha hb h0, pI_mul, pI_sub (Nat.div_mul_le_self a b)]
  congr 1
  have := Nat.div_add_mod a b
  rw [Nat.mul_comm] at this
  omega
theorem nmod_eq : a - a / b * b = a % b := by
  have := Nat.div_add_mod a b
  rw [Nat.mul_comm] at this
  omega
theorem ni_neg : - nI a = nZ (-(a : Int)) := by rw [nZ_nat]; exact (Int32.ofInt_neg _).symm
theorem zn_neg : - nZ q = nZ (-q) := (Int32.ofInt_neg _).symm
theorem upd_same {f : Nat → Int32} {k : Nat} {v : Int32} : upd f k v k = v := by unfold upd; rw [if_pos rfl]
theorem upd_other {f : Nat → Int32} {k j : Nat} {v : Int32} (h : ¬ j = k) : upd f k v j = f j := by unfold upd; rw [if_neg h]
theorem upd_upd {f : Nat → Int32} {k : Nat} {v w : Int32} : upd (upd f k v) k w = upd f k w := by funext p; unfold upd; split <;> rfl
theorem upd_self {f : Nat → Int32} {k : Nat} : upd f k (f k) = f := by funext p; unfold upd; split; (rename_i h; rw [h]); rfl
end GAR
theorem gpN0 {s : zM} {k : Nat} : gpN s k .boolean (nI 0) = some (us s k (nI 0)) := if_pos ⟨rfl, rfl⟩
theorem gpN1 {s : zM} {k : Nat} : gpN s k .boolean (nI 1) = some (us s k (nI 1)) := if_pos ⟨rfl, rfl⟩
theorem gnar0 : (narrow .boolean (.int (nI 0)) = .int (nI 0)) = True := znar0
theorem gnar1 : (narrow .boolean (.int (nI 1)) = .int (nI 1)) = True := znar1
theorem ua_comm {s : zM} {k k' : Nat} {f g : Nat → Int32} (h : k ≠ k') : ua (ua s k f) k' g = ua (ua s k' g) k f := by
  unfold ua
  refine congrArg (fun z => (s.1, s.2.1, z, s.2.2.2)) ?_
  funext q
  show (if q = k' then g else if q = k then f else s.2.2.1 q) = if q = k then f else if q = k' then g else s.2.2.1 q
  by_cases h1 : q = k'
  · rw [if_pos h1, if_neg (fun z => h (by rw [← z, h1])), if_pos h1]
  · rw [if_neg h1, if_neg h1]
/-! rows that are filled one by one -/
def frow (f : Nat → Int32) (b n : Nat) (g : Nat → Int32) : Nat → Int32 := fun p => if b ≤ p ∧ p < b + n then g (p - b) else f p
section FROW
variable {f g : Nat → Int32} {b n k p : Nat}
theorem frow_0 : frow f b 0 g = f := by funext p; unfold frow; rw [if_neg (by omega)]
theorem frow_s : upd (frow f b k g) (b + k) (g k) = frow f b (k + 1) g := by
  funext p
  unfold upd frow
  by_cases h : p = b + k
  · rw [if_pos h, if_pos (by omega), h, Nat.add_sub_cancel_left]
  · rw [if_neg h]
    by_cases h2 : b ≤ p ∧ p < b + k
    · rw [if_pos h2, if_pos (by omega)]
    · rw [if_neg h2, if_neg (by omega)]
theorem frow_in (h1 : b ≤ p) (h2 : p < b + n) : frow f b n g p = g (p - b) := if_pos ⟨h1, h2⟩
theorem frow_out (h : p < b ∨ b + n ≤ p) : frow f b n g p = f p := if_neg (by omega)
theorem frow_at (h : k < n) : frow f b n g (b + k) = g k := by rw [frow_in (by omega) (by omega), Nat.add_sub_cancel_left]
theorem frow_ext {g' : Nat → Int32} (h : ∀ k, k < n → g k = g' k) : frow f b n g = frow f b n g' := by
  funext p; unfold frow
  by_cases h2 : b ≤ p ∧ p < b + n
  · rw [if_pos h2, if_pos h2, h _ (by omega)]
  · rw [if_neg h2, if_neg h2]
theorem frow_self (h : ∀ k, k < n → f (b + k) = g k) : frow f b n g = f := by
  funext p; unfold frow
  by_cases h2 : b ≤ p ∧ p < b + n
  · rw [if_pos h2, ← h (p - b) (by omega)]; congr 1; omega
  · rw [if_neg h2]
end FROW
/-- filled from above -/
theorem frow_d {f g : Nat → Int32} {b j c : Nat} : upd (frow f (b + 1) j (fun q => g (c + 1 + q))) b (g c) = frow f b (j + 1) (fun q => g (c + q)) := by
  funext p
  unfold upd frow
  by_cases h : p = b
  · rw [if_pos h, if_pos (by omega), h]; congr 1; omega
  · rw [if_neg h]
    by_cases h2 : b + 1 ≤ p ∧ p < b + 1 + j
    · rw [if_pos h2, if_pos (by omega)]
      show g (c + 1 + (p - (b + 1))) = g (c + (p - b))
      rw [show c + 1 + (p - (b + 1)) = c + (p - b) by omega]
    · rw [if_neg h2, if_neg (by omega)]
