/-! THE PURE LAYER: the parser: the shape of nodes. -/
/-- an operand of such a sort -/
def grJ (c : pC) (P : Nat → Prop) (e : Int32 × Int32) : Prop := ∃ j x, P j ∧ wV c j x ∧ e = (nI 41, nI (100000 * j + x))
def grOp (c : pC) (e : Int32 × Int32) : Prop := grJ c (fun j => j = 1 ∨ j = 2 ∨ j = 3) e
def grNm (c : pC) (e : Int32 × Int32) : Prop := grJ c (fun j => j = 1) e
/-- a node of a kind from lo to hi -/
def grK (lo hi : Nat) (e : Int32 × Int32) : Prop := ∃ k, lo ≤ k ∧ k ≤ hi ∧ e.1 = nI k
def grSu (c : pC) (e : Int32 × Int32) : Prop := grK 55 55 e ∨ grJ c (fun j => j = 1 ∨ j = 2) e
def grLi (e : Int32 × Int32) : Prop := e = (nI 40, nI 0)
def grBr (e : Int32 × Int32) : Prop := e = (nI 40, nI 0) ∨ e = (nI 42, nI 0)
/-- a value that is a word's -/
def grV (c : pC) (j : Nat) (v : Int32) : Prop := ∃ x, wV c j x ∧ v = nI x
/-- an item: its level and its name -/
def grI (c : pC) (P : Nat → Prop) (e : Int32 × Int32) : Prop := ∃ n x, P n ∧ n ≤ 88 ∧ (x = 0 ∨ wV c 1 (x - 1)) ∧ x < 1000 ∧ e = (nI 12, nI (1000 * n + x))
def grTop (n : Nat) : Prop := n = 1 ∨ n = 77
/-- at most one list -/
def grL1 (l : List (Int32 × Int32)) : Prop := l = [] ∨ l = [(nI 40, nI 0)]
/-- the word behind PIC -/
def wPic (c : pC) (x : Nat) : Prop := ∃ i, i < c.n ∧ c.ks i = 3 ∧ c.vs i = x ∧ ((1 ≤ i ∧ wW c (i - 1) 19 = true) ∨ (2 ≤ i ∧ wW c (i - 1) 67 = true ∧ wW c (i - 2) 19 = true))
/-- what stands below a node of kind k and value v -/
def grN (c : pC) (k : Nat) (v : Int32) (l : List (Int32 × Int32)) : Prop := match k with
  | 3 => v = nI 0 ∧ ∀ e, e ∈ l → grK 4 4 e
  | 4 => grV c 1 v ∧ ∃ e m, l = e :: m ∧ grJ c (fun j => j = 1 ∨ j = 3) e ∧ ∀ f, f ∈ m → grK 5 6 f
  | 5 => l = [] ∧ ∃ x, x ≤ 2 ∧ v = nI x
  | 6 => l = [] ∧ grV c 1 v
  | 7 => v = nI 0 ∧ ∀ e, e ∈ l → grK 8 10 e
  | 8 => v = nI 0 ∧ ∀ e, e ∈ l → grK 11 11 e
  | 9 => v = nI 0 ∧ ∀ e, e ∈ l → grI c grTop e
  | 10 => v = nI 0 ∧ ∀ e, e ∈ l → grI c grTop e
  | 11 => grV c 1 v ∧ ∀ e, e ∈ l → grI c grTop e
  | 12 => grI c (fun n => n = 1 ∨ n = 77 ∨ n = 88 ∨ 2 ≤ n ∧ n ≤ 49) (nI 12, v) ∧ ∃ m n, l = m ++ n ∧ (∀ e, e ∈ m → grK 13 15 e ∨ grK 18 19 e) ∧ (∀ e, e ∈ n → grI c (fun x => x = 88 ∨ 2 ≤ x ∧ x ≤ 49) e) ∧ (grI c (fun x => x = 88) (nI 12, v) → n = [])
  | 13 => l = [] ∧ ∃ x, wPic c x ∧ v = nI x
  | 14 => v = nI 0 ∧ ∃ e m, l = e :: m ∧ grJ c (fun j => j = 2 ∨ j = 3) e ∧ (m = [] ∨ ∃ f, m = [f] ∧ grJ c (fun j => j = 2 ∨ j = 3) f)
  | 15 => grV c 2 v ∧ ∃ m n, l = m ++ n ∧ (m = [] ∨ ∃ f, m = [f] ∧ grK 16 16 f) ∧ ∀ e, e ∈ n → grK 17 17 e
  | 16 => l = [] ∧ grV c 1 v
  | 17 => l = [] ∧ grV c 1 v
  | 18 => l = [] ∧ grV c 1 v
  | 19 => l = [] ∧ ∃ x, x ≤ 1 ∧ v = nI x
  | 20 => v = nI 0 ∧ ∃ m n o, l = m ++ (n ++ o) ∧ (∀ e, e ∈ m → grK 21 21 e) ∧ (n = [] ∨ n = [(nI 22, nI 0)]) ∧ ∀ e, e ∈ o → grK 23 25 e
  | 21 => l = [] ∧ grV c 1 v
  | 22 => v = nI 0 ∧ ∀ e, e ∈ l → grK 23 23 e
  | 23 => grV c 1 v ∧ ∀ e, e ∈ l → grK 24 25 e
  | 24 => grV c 1 v ∧ ∀ e, e ∈ l → grK 25 25 e
  | 25 => v = nI 0 ∧ ∀ e, e ∈ l → grK 26 38 e
  | 26 => v = nI 0 ∧ ∃ e m, l = e :: m ∧ grOp c e ∧ m ≠ [] ∧ ∀ f, f ∈ m → grNm c f
  | 27 => ∃ m n o, l = m ++ (n ++ o) ∧ m ≠ [] ∧ (∀ e, e ∈ m → grOp c e) ∧ n ≠ [] ∧ (∀ e, e ∈ n → grNm c e) ∧ grL1 o ∧ (v = nI n.length ∨ (v = nI 101 ∧ n.length = 1))
  | 28 => v = nI 0 ∧ ∃ e f m, l = e :: f :: m ∧ grK 50 54 e ∧ grBr f ∧ (m = [] ∨ ∃ h, m = [h] ∧ grBr h)
  | 29 => (v = nI 0 ∧ ∃ e m n, l = e :: (m ++ n) ∧ grNm c e ∧ (m = [] ∨ ∃ f, m = [f] ∧ grNm c f) ∧ (n = [] ∨ ∃ f, n = [f] ∧ grK 43 45 f)) ∨ (v = nI 1 ∧ ∃ n, l = n ++ [(nI 40, nI 0)] ∧ (n = [] ∨ ∃ f, n = [f] ∧ grK 43 45 f))
  | 30 => v = nI 0 ∧ ∃ e m, l = e :: m ∧ grOp c e ∧ m ≠ [] ∧ ∀ f, f ∈ m → grK 46 46 f
  | 31 => grV c 1 v ∧ grL1 l
  | 32 => v = nI 0 ∧ ∃ e m n, l = e :: (m ++ n) ∧ grJ c (fun j => j = 1 ∨ j = 3) e ∧ (∀ f, f ∈ m → grK 21 21 f) ∧ grL1 n
  | 33 => v = nI 0 ∧ l ≠ [] ∧ ∀ e, e ∈ l → grOp c e
  | 34 => l = [] ∧ grV c 1 v
  | 35 => l = [] ∧ v = nI 0
  | 36 => l = [] ∧ v = nI 0
  | 37 => l = [] ∧ v = nI 0
  | 38 => grV c 1 v ∧ ∃ e, l = [e] ∧ grSu c e
  | 40 => v = nI 0 ∧ ∀ e, e ∈ l → grK 26 38 e
  | 41 => l = [] ∧ grOp c (nI 41, v)
  | 42 => l = [] ∧ v = nI 0
  | 43 => v = nI 0 ∧ ∃ e, l = [e] ∧ grOp c e
  | 44 => v = nI 0 ∧ ∃ e, l = [e] ∧ grK 50 54 e
  | 45 => v = nI 0 ∧ ∃ e f h i, l = [e, f, h, i] ∧ grNm c e ∧ grOp c f ∧ grOp c h ∧ grK 50 54 i
  | 46 => v = nI 0 ∧ ∃ m, l = m ++ [(nI 40, nI 0)] ∧ m ≠ [] ∧ ∀ e, e ∈ m → grOp c e ∨ e = (nI 47, nI 0)
  | 47 => l = [] ∧ v = nI 0
  | 50 => v = nI 0 ∧ 2 ≤ l.length ∧ ∀ e, e ∈ l → grK 50 54 e
  | 51 => v = nI 0 ∧ 2 ≤ l.length ∧ ∀ e, e ∈ l → grK 50 54 e
  | 52 => v = nI 0 ∧ ∃ e, l = [e] ∧ grK 50 54 e
  | 53 => (∃ x, x ≤ 5 ∧ v = nI x) ∧ ∃ e m, l = e :: m ∧ grOp c e ∧ (m = [] ∨ ∃ f, m = [f] ∧ grOp c f)
  | 54 => l = [] ∧ grV c 1 v
  | 55 => (∃ x, 5 ≤ x ∧ x ≤ 8 ∧ v = nI x) ∧ ∃ e f, l = [e, f] ∧ grSu c e ∧ grSu c f
  | _ => False
/-- the shape of a node with these below it (units aside) -/
def grS (c : pC) (e : Int32 × Int32) (l : List (Int32 × Int32)) : Prop := ∃ k, k < 100 ∧ e.1 = nI k ∧ grN c k e.2 l
section PAZZZK
variable {ρ σ : Type} {c : pC} {G : xQ} {α β γ α0 : zS} {a a' b k w q r t u T E : Nat} {v v' kv : Int32} {l m : List (Int32 × Int32)}
theorem grS_i (h : grN c k v l) (hk : k < 100) : grS c (nI k, v) l := ⟨k, hk, rfl, h⟩
theorem grS_e (h : grS c (nI k, v) l) (hk : k < 100) : grN c k v l := by
  obtain ⟨j, j1, e, z⟩ := h
  have e2 : k = j := by
    have e3 : nI k = nI j := e
    rw [pI_inj (by omega) (by omega)] at e3
    exact e3
  subst e2
  exact z
end PAZZZK
