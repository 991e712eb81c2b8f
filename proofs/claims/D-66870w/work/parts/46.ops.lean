/-! THE CLEAR MACHINE, 3: the words of clear forms: reads, writes, new cells, and the JDK's lists, texts and builders as whole values. -/
/-- an old cell's kind; an old text -/
def zok (G : xQ) (a : Nat) : Nat := if 1000000000 ≤ a ∧ a < 1000000000 + xb (xg (xK G)) then match xold (xg (xK G)) (a - 1000000000) with
    | some (.inr (ci, _)) => if ci < 95 then ci + 1 else 0
    | _ => 0
  else 0
def zot (G : xQ) (a : Nat) : Option (List Int32) := if 1000000000 ≤ a ∧ a < 1000000000 + xb (xg (xK G)) then match xold (xg (xK G)) (a - 1000000000) with
    | some (.inr (ci, fs)) => if ci = 7 then match (fs[0]? : Option Value) with
      | some (Value.ref v) => match xold (xg (xK G)) v with
        | some (.inl (_, n, .inl f)) => some ((List.range n).map f)
        | _ => none
      | _ => none else none
    | _ => none
  else none
def zk (G : xQ) (α : zS) (a : Nat) : Nat := if zkd α a = 0 then zok G a else zkd α a
/-- the text at a place -/
def zt (G : xQ) (α : zS) (a : Nat) : Option (List Int32) := if zkd α a = 8 then some (zT α a) else if zkd α a = 0 then zot G a else none
/-! fields -/
def zfI (α : zS) (r : Option Nat) (c k : Nat) : Option Int32 := match r with
  | some a => if zkd α a = c + 1 then some (zI α c k a) else none
  | none => none
def zfJ (α : zS) (r : Option Nat) (c k : Nat) : Option Int64 := match r with
  | some a => if zkd α a = c + 1 then some (zJ α c k a) else none
  | none => none
def zfA (α : zS) (r : Option Nat) (c k : Nat) : Option (Option Nat) := match r with
  | some a => if zkd α a = c + 1 then some (zA α c k a) else none
  | none => none
def zpI (α : zS) (r : Option Nat) (c k : Nat) (x : Int32) : Option zS := match r with
  | some a => if zkd α a = c + 1 then some (zwI α c k a x) else none
  | none => none
def zpJ (α : zS) (r : Option Nat) (c k : Nat) (x : Int64) : Option zS := match r with
  | some a => if zkd α a = c + 1 then some (zwJ α c k a x) else none
  | none => none
def zpA (α : zS) (r : Option Nat) (c k : Nat) (x : Option Nat) : Option zS := match r with
  | some a => if zkd α a = c + 1 then some (zwA α c k a x) else none
  | none => none
/-- a field of fewer bits takes what fits it alone -/
def zpN (α : zS) (r : Option Nat) (c k : Nat) (ty : FieldType) (x : Int32) : Option zS := if narrow ty (.int x) = .int x ∧ fits ty (.int x) = true then zpI α r c k x else none
/-! arrays -/
def zal (α : zS) (r : Option Nat) : Option Int32 := match r with
  | some a => if 1001 ≤ zkd α a ∧ zkd α a < 1024 then some (nI (zln α a)) else none
  | none => none
def ziald (α : zS) (r : Option Nat) (j : Int32) : Option Int32 := match r with
  | some a => if zkd α a = 1001 ∧ xin j (zln α a) = true then some (zaI α a j.toNatClampNeg) else none
  | none => none
def zbald (α : zS) (r : Option Nat) (j : Int32) : Option Int32 := match r with
  | some a => if (zkd α a = 1002 ∨ zkd α a = 1003) ∧ xin j (zln α a) = true then some (zaI α a j.toNatClampNeg) else none
  | none => none
def zcald (α : zS) (r : Option Nat) (j : Int32) : Option Int32 := match r with
  | some a => if zkd α a = 1004 ∧ xin j (zln α a) = true then some (zaI α a j.toNatClampNeg) else none
  | none => none
def zlald (α : zS) (r : Option Nat) (j : Int32) : Option Int64 := match r with
  | some a => if zkd α a = 1006 ∧ xin j (zln α a) = true then some (zaJ α a j.toNatClampNeg) else none
  | none => none
def zaald (α : zS) (r : Option Nat) (j : Int32) : Option (Option Nat) := match r with
  | some a => if (1007 ≤ zkd α a ∧ zkd α a < 1024) ∧ xin j (zln α a) = true then some (zaA α a j.toNatClampNeg) else none
  | none => none
def ziast (α : zS) (r : Option Nat) (j : Int32) (x : Int32) : Option zS := match r with
  | some a => if zkd α a = 1001 ∧ xin j (zln α a) = true then some (zsI α a (upd (zaI α a) j.toNatClampNeg x)) else none
  | none => none
def zbast (α : zS) (r : Option Nat) (j : Int32) (x : Int32) : Option zS := match r with
  | some a => if xin j (zln α a) = true then (if zkd α a = 1002 then some (zsI α a (upd (zaI α a) j.toNatClampNeg (vp_nar .boolean x))) else if zkd α a = 1003 then some (zsI α a (upd (zaI α a) j.toNatClampNeg (vp_nar .byte x))) else none) else none
  | none => none
def zcast (α : zS) (r : Option Nat) (j : Int32) (x : Int32) : Option zS := match r with
  | some a => if zkd α a = 1004 ∧ xin j (zln α a) = true then some (zsI α a (upd (zaI α a) j.toNatClampNeg (vp_nar .char x))) else none
  | none => none
def zlast (α : zS) (r : Option Nat) (j : Int32) (x : Int64) : Option zS := match r with
  | some a => if zkd α a = 1006 ∧ xin j (zln α a) = true then some (zsJ α a (vp_updL (zaJ α a) j.toNatClampNeg x)) else none
  | none => none
/-- what may lie in an array of references: kinds of arrays and of cells -/
def zav (G : xQ) (α : zS) (k : Nat) (v : Option Nat) : Bool := match v with
  | none => k != 1008
  | some w => zOkL0.contains (k, zk G α w)
def zaast (G : xQ) (α : zS) (r : Option Nat) (j : Int32) (v : Option Nat) : Option zS := match r with
  | some a => if (1007 ≤ zkd α a ∧ zkd α a < 1024) ∧ xin j (zln α a) = true ∧ zav G α (zkd α a) v = true then some (zsA α a (va_up (zaA α a) j.toNatClampNeg v)) else none
  | none => none
/-! new cells -/
def znO (α : zS) (c N : Nat) : zF (Option Nat) := some (some (zn α), zmk α (c + 1) 0 N)
/-- an object whose constructor is the JDK's: raw till then -/
def znX (α : zS) (c N : Nat) : zF (Option Nat) := some (some (zn α), zmk α (2001 + c) 0 N)
def znA (α : zS) (t : Nat) (n : Int32) : zF (Option Nat) := if n < 0 ∨ 536870912 < n.toNatClampNeg * 8 then none else some (some (zn α), zmk α (1001 + t) n.toNatClampNeg n.toNatClampNeg)
/-! classes -/
def zis (G : xQ) (α : zS) (r : Option Nat) (k : Nat) : Bool := match r with
  | some a => zk G α a == k
  | none => false
def zco (G : xQ) (α : zS) (r : Option Nat) (ok : List Nat) : Bool := match r with
  | some a => ok.contains (zk G α a)
  | none => true
/-- an array's kind -/
def zca (α : zS) (r : Option Nat) (k : Nat) : Bool := match r with
  | some a => zkd α a == k
  | none => true
/-! lists -/
/-- the places of a longer row -/
def zgrow (bk cap n : Nat) : Nat := if cap = 0 ∧ bk = 0 then (if n < 10 then 10 else n) else cap + (if n - cap < cap / 2 then cap / 2 else n - cap)
/-- a list gets the contents xs, of which so many are more than before -/
def zlset (α : zS) (a more : Nat) (xs : List (Option Nat)) (m : Int32) : zS := if xs.length ≤ zC α a then zsL α a 0 more (7 * more) (zB α a) (zC α a) xs m else zsL α a 1 more (7 * more) (zn α) (zgrow (zB α a) (zC α a) xs.length) xs m
def zraw (α : zS) (a k : Nat) (bk cap n c w : Nat) (xs : List (Option Nat)) (t : List Int32) : zS := ((zn α + n, zc α + c, zw α + w), va_up α.2 a ((k, 0, bk, cap), (α.2 a).2.1, (α.2 a).2.2.1, (xs, t, 0)))
def zLi0 (α : zS) (r : Option Nat) : zF Unit := match r with
  | some a => if zkd α a = 2003 then some ((), zraw α a 3 0 0 0 0 10 [] []) else none
  | none => none
def zLiI (α : zS) (r : Option Nat) (n : Int32) : zF Unit := match r with
  | some a => if zkd α a = 2003 ∧ ¬ n < 0 ∧ n < 1000000 then (if n = 0 then some ((), zraw α a 3 1 0 0 0 10 [] []) else some ((), zraw α a 3 (zn α) n.toNatClampNeg 1 1 n.toNatClampNeg [] [])) else none
  | none => none
def zLiC (α : zS) (r s : Option Nat) : zF Unit := match r, s with
  | some a, some b => if zkd α a = 2003 ∧ zkd α b = 3 then (if zL α b = [] then some ((), zraw α a 3 1 0 1 1 10 [] []) else some ((), zraw α a 3 (zn α) (zL α b).length 1 1 (3 * (zL α b).length) (zL α b) [])) else none
  | _, _ => none
def zLget (α : zS) (r : Option Nat) (i : Int32) : Option (Option Nat) := match r with
  | some a => if zkd α a = 3 ∧ ¬ i < 0 then (zL α a)[i.toNatClampNeg]? else none
  | none => none
def zLsize (α : zS) (r : Option Nat) : Option Int32 := match r with
  | some a => if zkd α a = 3 then some (nI (zL α a).length) else none
  | none => none
def zLempty (α : zS) (r : Option Nat) : Option Int32 := match r with
  | some a => if zkd α a = 3 then some (if zL α a = [] then 1 else 0) else none
  | none => none
def zLadd (α : zS) (r x : Option Nat) : zF Int32 := match r with
  | some a => if zkd α a = 3 ∧ (zL α a).length < 1000000 then some (1, zlset α a 1 (zL α a ++ [x]) (zm α a + 1)) else none
  | none => none
def zLins (α : zS) (r : Option Nat) (i : Int32) (x : Option Nat) : zF Unit := match r with
  | some a => if zkd α a = 3 ∧ (zL α a).length < 1000000 ∧ ¬ i < 0 ∧ i.toNatClampNeg ≤ (zL α a).length then some ((), zlset α a 1 ((zL α a).take i.toNatClampNeg ++ x :: (zL α a).drop i.toNatClampNeg) (zm α a + 1)) else none
  | none => none
def zLall (α : zS) (r s : Option Nat) : zF Int32 := match r, s with
  | some a, some b => if zkd α a = 3 ∧ zkd α b = 3 ∧ (zL α a).length + (zL α b).length < 1000000 then (if zL α b = [] then some (0, zsL α a 1 1 0 (zB α a) (zC α a) (zL α a) (zm α a + 1)) else some (1, zlset (zsL α a 1 1 (zL α b).length (zB α a) (zC α a) (zL α a) (zm α a)) a (zL α b).length (zL α a ++ zL α b) (zm α a + 1))) else none
  | _, _ => none
def zLset (α : zS) (r : Option Nat) (i : Int32) (x : Option Nat) : zF (Option Nat) := match r with
  | some a => if zkd α a = 3 ∧ ¬ i < 0 then (match (zL α a)[i.toNatClampNeg]? with
      | some y => some (y, zsL α a 0 0 0 (zB α a) (zC α a) ((zL α a).set i.toNatClampNeg x) (zm α a))
      | none => none) else none
  | none => none
def zLrem (α : zS) (r : Option Nat) (i : Int32) : zF (Option Nat) := match r with
  | some a => if zkd α a = 3 ∧ ¬ i < 0 then (match (zL α a)[i.toNatClampNeg]? with
      | some y => some (y, zsL α a 0 0 0 (zB α a) (zC α a) ((zL α a).eraseIdx i.toNatClampNeg) (zm α a + 1))
      | none => none) else none
  | none => none
def zLclear (α : zS) (r : Option Nat) : zF Unit := match r with
  | some a => if zkd α a = 3 then some ((), zsL α a 0 0 0 (zB α a) (zC α a) [] (zm α a + 1)) else none
  | none => none
/-- what equals says of two cells: texts by their signs, others by their place -/
def zeq (G : xQ) (α : zS) (o : Nat) (x : Option Nat) : Bool := match x with
  | none => false
  | some y => if zk G α o = 8 then (zk G α y == 8) && (zt G α o == zt G α y) else o == y
def zidx (G : xQ) (α : zS) (o : Option Nat) (xs : List (Option Nat)) : Option Nat := match o with
  | none => xs.findIdx? (fun x => x == none)
  | some o => xs.findIdx? (zeq G α o)
/-- objects whose equals is told -/
def zeqk (G : xQ) (α : zS) (o : Option Nat) : Bool := match o with
  | none => true
  | some o => zk G α o == 8 || ((zplain (zkd α o - 1) && decide (8 ≤ zkd α o - 1)) && decide (zkd α o ≠ 0))
def zLidx (G : xQ) (α : zS) (r o : Option Nat) : Option Int32 := match r with
  | some a => if zkd α a = 3 ∧ zeqk G α o = true then some (match zidx G α o (zL α a) with
      | some i => nI i
      | none => -1) else none
  | none => none
def zLhas (G : xQ) (α : zS) (r o : Option Nat) : Option Int32 := match r with
  | some a => if zkd α a = 3 ∧ zeqk G α o = true then some (match zidx G α o (zL α a) with
      | some _ => 1
      | none => 0) else none
  | none => none
def zLremO (G : xQ) (α : zS) (r o : Option Nat) : zF Int32 := match r with
  | some a => if zkd α a = 3 ∧ zeqk G α o = true then (match zidx G α o (zL α a) with
      | some i => some (1, zsL α a 0 0 0 (zB α a) (zC α a) ((zL α a).eraseIdx i) (zm α a + 1))
      | none => some (0, α)) else none
  | none => none
/-- an iterator: class 5, its fields cursor, lastRet, expectedModCount, this -/
def zLiter (α : zS) (r : Option Nat) : zF (Option Nat) := match r with
  | some a => if zkd α a = 3 then some (some (zn α), zwI (zwI (zwA (zmk α 6 0 4) 5 3 (zn α) (some a)) 5 1 (zn α) (-1)) 5 2 (zn α) (zm α a)) else none
  | none => none
def zItHas (α : zS) (r : Option Nat) : Option Int32 := match r with
  | some i => if zkd α i = 6 then (match zA α 5 3 i with
      | some a => if zkd α a = 3 then some (if zI α 5 0 i = nI (zL α a).length then 0 else 1) else none
      | none => none) else none
  | none => none
def zItNext (α : zS) (r : Option Nat) : zF (Option Nat) := match r with
  | some i => if zkd α i = 6 then (match zA α 5 3 i with
      | some a => if zkd α a = 3 ∧ zm α a = zI α 5 2 i ∧ ¬ zI α 5 0 i < 0 then (match (zL α a)[(zI α 5 0 i).toNatClampNeg]? with
        | some x => some (x, zwI (zwI α 5 0 i (zI α 5 0 i + 1)) 5 1 i (zI α 5 0 i))
        | none => none) else none
      | none => none) else none
  | none => none
/-! texts -/
def zTlen (G : xQ) (α : zS) (r : Option Nat) : Option Int32 := match r with
  | some a => (zt G α a).map (fun t => nI t.length)
  | none => none
def zTempty (G : xQ) (α : zS) (r : Option Nat) : Option Int32 := match r with
  | some a => (zt G α a).map (fun t => if t = [] then 1 else 0)
  | none => none
def zTat (G : xQ) (α : zS) (r : Option Nat) (i : Int32) : Option Int32 := match r with
  | some a => if i < 0 then none else (zt G α a).bind (fun t => t[i.toNatClampNeg]?)
  | none => none
def zTeq (G : xQ) (α : zS) (r s : Option Nat) : Option Int32 := match r with
  | some a => (zt G α a).bind fun t => match s with
    | none => some 0
    | some b => (zt G α b).map fun u => if t = u then 1 else 0
  | none => none
def zThash (G : xQ) (α : zS) (r : Option Nat) : Option Int32 := match r with
  | some a => (zt G α a).map zhash
  | none => none
def zTidx (G : xQ) (α : zS) (r : Option Nat) (c : Int32) : Option Int32 := match r with
  | some a => (zt G α a).map (fun t => match t.findIdx? (fun x => x == c) with
    | some i => nI i
    | none => -1)
  | none => none
def zTstart (G : xQ) (α : zS) (r s : Option Nat) : Option Int32 := match r, s with
  | some a, some b => (zt G α a).bind fun t => (zt G α b).map fun u => if u.isPrefixOf t then 1 else 0
  | _, _ => none
/-- a piece of a text: itself, the empty text, or a new one -/
def zTsub (G : xQ) (α : zS) (r : Option Nat) (i j : Int32) : zF (Option Nat) := match r with
  | some a => (zt G α a).bind fun t => if i < 0 ∨ j < i ∨ nI t.length < j then none else if i = 0 ∧ j = nI t.length then some (some a, α) else if i = j then some (some (zlt G 0), α) else some (some (zn α), zmT α ((t.drop i.toNatClampNeg).take (j.toNatClampNeg - i.toNatClampNeg)))
  | none => none
def zTsub1 (G : xQ) (α : zS) (r : Option Nat) (i : Int32) : zF (Option Nat) := match r with
  | some a => (zt G α a).bind fun t => zTsub G α r i (nI t.length)
  | none => none
/-! builders -/
def zbgrow (cap n : Nat) : Nat := if n ≤ cap then cap else cap + (if n - cap < cap + 2 then cap + 2 else n - cap)
def zbset (α : zS) (a more : Nat) (t : List Int32) : zS := if t.length ≤ zC α a then zsT α a 0 more (4 * more) (zB α a) (zC α a) t else zsT α a 1 more (4 * more) (zn α) (zbgrow (zC α a) t.length) t
def zSi0 (α : zS) (r : Option Nat) : zF Unit := match r with
  | some a => if zkd α a = 2007 then some ((), zraw α a 7 (zn α) 16 1 1 16 [] []) else none
  | none => none
def zSiI (α : zS) (r : Option Nat) (n : Int32) : zF Unit := match r with
  | some a => if zkd α a = 2007 ∧ ¬ n < 0 ∧ n < 1000000 then some ((), zraw α a 7 (zn α) n.toNatClampNeg 1 1 n.toNatClampNeg [] []) else none
  | none => none
def zSiT (G : xQ) (α : zS) (r s : Option Nat) : zF Unit := match r, s with
  | some a, some b => if zkd α a = 2007 then (zt G α b).bind fun t => if t.length < 1000000 then some ((), zraw α a 7 (zn α) (t.length + 16) 1 1 (3 * t.length + 16) [] t) else none else none
  | _, _ => none
def zSch (α : zS) (r : Option Nat) (c : Int32) : zF (Option Nat) := match r with
  | some a => if zkd α a = 7 ∧ 0 ≤ c ∧ c < 256 ∧ (zT α a).length < 1000000 then some (r, zbset α a 1 (zT α a ++ [c])) else none
  | none => none
def zStx (G : xQ) (α : zS) (r s : Option Nat) : zF (Option Nat) := match r, s with
  | some a, some b => if zkd α a = 7 then (zt G α b).bind fun t => if (zT α a).length + t.length < 1000000 then some (r, zbset α a t.length (zT α a ++ t)) else none else none
  | _, _ => none
def zSlen (α : zS) (r : Option Nat) : Option Int32 := match r with
  | some a => if zkd α a = 7 then some (nI (zT α a).length) else none
  | none => none
def zSat (α : zS) (r : Option Nat) (i : Int32) : Option Int32 := match r with
  | some a => if zkd α a = 7 ∧ ¬ i < 0 then (zT α a)[i.toNatClampNeg]? else none
  | none => none
/-- a builder is cut -/
def zScut (α : zS) (r : Option Nat) (n : Int32) : zF Unit := match r with
  | some a => if zkd α a = 7 ∧ ¬ n < 0 ∧ n.toNatClampNeg ≤ (zT α a).length then some ((), zsT α a 0 0 0 (zB α a) (zC α a) ((zT α a).take n.toNatClampNeg)) else none
  | none => none
def zSstr (α : zS) (r : Option Nat) : zF (Option Nat) := match r with
  | some a => if zkd α a = 7 then some (some (zn α), zmT α (zT α a)) else none
  | none => none
/-! numbers and truth values as objects -/
/-- the address of a small number's object -/
def zca0 (G : xQ) (x : Int32) : Nat := match G.2.2.2.1 "java/lang/Integer" 195 with
  | some (.ref v) => match xold (xg (xK G)) v with
    | some (.inl (_, _, .inr (.inr (.inr (.inr f))))) => match f (x + 128).toNatClampNeg with
      | some y => 1000000000 + y
      | none => 0
    | _ => 0
  | _ => 0
def zbox (G : xQ) (α : zS) (x : Int32) : zF (Option Nat) := if -128 ≤ x ∧ x ≤ 127 then some (some (zca0 G x), α) else some (some (zn α), zwI (zmk α 1 0 1) 0 0 (zn α) x)
def zunb (G : xQ) (α : zS) (r : Option Nat) : Option Int32 := match r with
  | some a => if zkd α a = 1 then some (zI α 0 0 a) else if zkd α a = 0 ∧ zok G a = 1 then (match xold (xg (xK G)) (a - 1000000000) with
      | some (.inr (_, [.int x])) => some x
      | _ => none) else none
  | none => none
def zboo (G : xQ) (x : Int32) : Option (Option Nat) := if x = 0 then some (some (zen G 42)) else if x = 1 then some (some (zen G 41)) else none
def zunz (G : xQ) (r : Option Nat) : Option Int32 := if r = some (zen G 41) then some 1 else if r = some (zen G 42) then some 0 else none
/-! exceptions -/
def zXi (α : zS) (r : Option Nat) : zF Unit := match r with
  | some a => if 2001 ≤ zkd α a ∧ zexc (zkd α a - 2001) = true then some ((), zraw α a (zkd α a - 2000) 0 0 0 0 0 [] []) else none
  | none => none
def zthr (α : zS) (q : Nat) (c : Nat) : Bool := zkd α q == c + 1 && zexc c
/-! System.arraycopy -/
def zcpy (G : xQ) (α : zS) (r0 : Option Nat) (sp : Int32) (r1 : Option Nat) (dp n : Int32) : Option zS := match r0, r1 with
  | some a0, some a => if sp < 0 ∨ dp < 0 ∨ n < 0 then none else
    if zkd α a0 = zkd α a ∧ 1001 ≤ zkd α a ∧ zkd α a < 1004 ∧ sp.toNatClampNeg + n.toNatClampNeg ≤ zln α a0 ∧ dp.toNatClampNeg + n.toNatClampNeg ≤ zln α a then some (zsI α a (va_cpy (zaI α a0) (zaI α a) sp.toNatClampNeg dp.toNatClampNeg n.toNatClampNeg)) else none
  | _, _ => none
/-! loops -/
def zloop {ρ β : Type} (body : ρ → zS → zF (ρ ⊕ β)) : Nat → ρ → zS → zF β
  | 0, _, _ => none
  | n + 1, a, α => match body a α with
    | some (.inl a', α') => zloop body n a' α'
    | some (.inr b, α') => some (b, α')
    | none => none
def zinr {ρ β : Type} (f : zF β) : zF (ρ ⊕ β) := f.map (fun r => (.inr r.1, r.2))
def zcase {ρ β : Type} (f : zF (ρ ⊕ Nat)) (g : ρ × zS → zF β) (h : Nat × zS → zF β) : zF β := match f with
  | some (.inl x, α) => g (x, α)
  | some (.inr q, α) => h (q, α)
  | none => none
/-- fields of old objects -/
def zoI (G : xQ) (own : String) (idx : Nat) (r : Option Nat) : Option Int32 := match r with
  | some a => if 1000000000 ≤ a then (match xfo (xK G) own idx (a - 1000000000) with
    | some (.int x) => some x
    | _ => none) else none
  | none => none
def zoA (G : xQ) (own : String) (idx : Nat) (r : Option Nat) : Option (Option Nat) := match r with
  | some a => if 1000000000 ≤ a then (match xfo (xK G) own idx (a - 1000000000) with
    | some (.ref y) => some (some (1000000000 + y))
    | _ => none) else none
  | none => none
def zord (G : xQ) (r : Option Nat) : Option Int32 := zoI G "java/lang/Enum" 7 r
/-- a copy of the row of all usages -/
def zval0 (G : xQ) (α : zS) (r : Option Nat) : zF (Option Nat) := if r = some (zen G 43) then some (some (zn α), zsA (zmk α 1012 12 12) (zn α) (fun j => if j < 12 then some (zen G (29 + j)) else none)) else none
