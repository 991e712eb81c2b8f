/-! THE PURE LAYER: the parser: between parses; a parse begins. -/
/-- words that were told wait to be parsed -/
def pIdl (c : pC) (D : pD) (al B : Nat) (α : zS) (s : zM) : Prop := (c.n ≤ 505) ∧ (∀ i, i < c.n → c.ks i ≤ 5) ∧ (∀ i, i < c.n → c.vs i ≤ 99999) ∧ (∀ i, i < c.n → c.ks i = 1 → c.vs i < 900) ∧ (c.p ≤ B) ∧ (c.ka ≤ B) ∧ (c.va ≤ B) ∧ (D.fa ≤ B) ∧ (D.fb ≤ B) ∧ (D.lu ≤ B) ∧ (D.lr ≤ B) ∧ (al ≤ B) ∧ (B < zn α) ∧ (pxW c α) ∧ (ls s 1 = nI c.n) ∧ (∀ i, i < c.n → la s 2 i = nI (c.ks i)) ∧ (∀ i, i < c.n → la s 3 i = nI (c.vs i)) ∧ (zA α 40 9 c.p = some D.fa) ∧ (zA α 40 10 c.p = some D.fb) ∧ (zA α 40 12 c.p = some D.lu) ∧ (zA α 40 13 c.p = some D.lr) ∧ (zA α 40 14 c.p = some al) ∧ (zkd α D.fa = 1001) ∧ (zkd α D.fb = 1001) ∧ (zln α D.fa = 20) ∧ (zln α D.fb = 20) ∧ (D.fa ≠ D.fb ∧ D.fa ≠ c.ka ∧ D.fa ≠ c.va ∧ D.fb ≠ c.ka ∧ D.fb ≠ c.va) ∧ (zkd α D.lu = 3) ∧ (zkd α D.lr = 3) ∧ (zkd α al = 3) ∧ (D.lu ≠ D.lr ∧ D.lu ≠ al ∧ D.lr ≠ al) ∧ (c.ka ≠ c.va)
theorem pIdl.n {c : pC} {D : pD} {al B : Nat} {α : zS} {s : zM} (h : pIdl c D al B α s) : c.n ≤ 505 := by
  unfold pIdl at h
  exact h.1
theorem pIdl.ks {c : pC} {D : pD} {al B : Nat} {α : zS} {s : zM} (h : pIdl c D al B α s) : ∀ i, i < c.n → c.ks i ≤ 5 := by
  unfold pIdl at h
  exact h.2.1
theorem pIdl.vs {c : pC} {D : pD} {al B : Nat} {α : zS} {s : zM} (h : pIdl c D al B α s) : ∀ i, i < c.n → c.vs i ≤ 99999 := by
  unfold pIdl at h
  exact h.2.2.1
theorem pIdl.nm {c : pC} {D : pD} {al B : Nat} {α : zS} {s : zM} (h : pIdl c D al B α s) : ∀ i, i < c.n → c.ks i = 1 → c.vs i < 900 := by
  unfold pIdl at h
  exact h.2.2.2.1
theorem pIdl.p {c : pC} {D : pD} {al B : Nat} {α : zS} {s : zM} (h : pIdl c D al B α s) : c.p ≤ B := by
  unfold pIdl at h
  exact h.2.2.2.2.1
theorem pIdl.ka {c : pC} {D : pD} {al B : Nat} {α : zS} {s : zM} (h : pIdl c D al B α s) : c.ka ≤ B := by
  unfold pIdl at h
  exact h.2.2.2.2.2.1
theorem pIdl.va {c : pC} {D : pD} {al B : Nat} {α : zS} {s : zM} (h : pIdl c D al B α s) : c.va ≤ B := by
  unfold pIdl at h
  exact h.2.2.2.2.2.2.1
theorem pIdl.aB {c : pC} {D : pD} {al B : Nat} {α : zS} {s : zM} (h : pIdl c D al B α s) : D.fa ≤ B := by
  unfold pIdl at h
  exact h.2.2.2.2.2.2.2.1
theorem pIdl.bB {c : pC} {D : pD} {al B : Nat} {α : zS} {s : zM} (h : pIdl c D al B α s) : D.fb ≤ B := by
  unfold pIdl at h
  exact h.2.2.2.2.2.2.2.2.1
theorem pIdl.uB {c : pC} {D : pD} {al B : Nat} {α : zS} {s : zM} (h : pIdl c D al B α s) : D.lu ≤ B := by
  unfold pIdl at h
  exact h.2.2.2.2.2.2.2.2.2.1
theorem pIdl.rB {c : pC} {D : pD} {al B : Nat} {α : zS} {s : zM} (h : pIdl c D al B α s) : D.lr ≤ B := by
  unfold pIdl at h
  exact h.2.2.2.2.2.2.2.2.2.2.1
theorem pIdl.lB {c : pC} {D : pD} {al B : Nat} {α : zS} {s : zM} (h : pIdl c D al B α s) : al ≤ B := by
  unfold pIdl at h
  exact h.2.2.2.2.2.2.2.2.2.2.2.1
theorem pIdl.B1 {c : pC} {D : pD} {al B : Nat} {α : zS} {s : zM} (h : pIdl c D al B α s) : B < zn α := by
  unfold pIdl at h
  exact h.2.2.2.2.2.2.2.2.2.2.2.2.1
theorem pIdl.x {c : pC} {D : pD} {al B : Nat} {α : zS} {s : zM} (h : pIdl c D al B α s) : pxW c α := by
  unfold pIdl at h
  exact h.2.2.2.2.2.2.2.2.2.2.2.2.2.1
theorem pIdl.m1 {c : pC} {D : pD} {al B : Nat} {α : zS} {s : zM} (h : pIdl c D al B α s) : ls s 1 = nI c.n := by
  unfold pIdl at h
  exact h.2.2.2.2.2.2.2.2.2.2.2.2.2.2.1
theorem pIdl.mks {c : pC} {D : pD} {al B : Nat} {α : zS} {s : zM} (h : pIdl c D al B α s) : ∀ i, i < c.n → la s 2 i = nI (c.ks i) := by
  unfold pIdl at h
  exact h.2.2.2.2.2.2.2.2.2.2.2.2.2.2.2.1
theorem pIdl.mvs {c : pC} {D : pD} {al B : Nat} {α : zS} {s : zM} (h : pIdl c D al B α s) : ∀ i, i < c.n → la s 3 i = nI (c.vs i) := by
  unfold pIdl at h
  exact h.2.2.2.2.2.2.2.2.2.2.2.2.2.2.2.2.1
theorem pIdl.fa {c : pC} {D : pD} {al B : Nat} {α : zS} {s : zM} (h : pIdl c D al B α s) : zA α 40 9 c.p = some D.fa := by
  unfold pIdl at h
  exact h.2.2.2.2.2.2.2.2.2.2.2.2.2.2.2.2.2.1
theorem pIdl.fb {c : pC} {D : pD} {al B : Nat} {α : zS} {s : zM} (h : pIdl c D al B α s) : zA α 40 10 c.p = some D.fb := by
  unfold pIdl at h
  exact h.2.2.2.2.2.2.2.2.2.2.2.2.2.2.2.2.2.2.1
theorem pIdl.fu {c : pC} {D : pD} {al B : Nat} {α : zS} {s : zM} (h : pIdl c D al B α s) : zA α 40 12 c.p = some D.lu := by
  unfold pIdl at h
  exact h.2.2.2.2.2.2.2.2.2.2.2.2.2.2.2.2.2.2.2.1
theorem pIdl.fr {c : pC} {D : pD} {al B : Nat} {α : zS} {s : zM} (h : pIdl c D al B α s) : zA α 40 13 c.p = some D.lr := by
  unfold pIdl at h
  exact h.2.2.2.2.2.2.2.2.2.2.2.2.2.2.2.2.2.2.2.2.1
theorem pIdl.fl {c : pC} {D : pD} {al B : Nat} {α : zS} {s : zM} (h : pIdl c D al B α s) : zA α 40 14 c.p = some al := by
  unfold pIdl at h
  exact h.2.2.2.2.2.2.2.2.2.2.2.2.2.2.2.2.2.2.2.2.2.1
theorem pIdl.ak {c : pC} {D : pD} {al B : Nat} {α : zS} {s : zM} (h : pIdl c D al B α s) : zkd α D.fa = 1001 := by
  unfold pIdl at h
  exact h.2.2.2.2.2.2.2.2.2.2.2.2.2.2.2.2.2.2.2.2.2.2.1
theorem pIdl.bk {c : pC} {D : pD} {al B : Nat} {α : zS} {s : zM} (h : pIdl c D al B α s) : zkd α D.fb = 1001 := by
  unfold pIdl at h
  exact h.2.2.2.2.2.2.2.2.2.2.2.2.2.2.2.2.2.2.2.2.2.2.2.1
theorem pIdl.an {c : pC} {D : pD} {al B : Nat} {α : zS} {s : zM} (h : pIdl c D al B α s) : zln α D.fa = 20 := by
  unfold pIdl at h
  exact h.2.2.2.2.2.2.2.2.2.2.2.2.2.2.2.2.2.2.2.2.2.2.2.2.1
theorem pIdl.bn {c : pC} {D : pD} {al B : Nat} {α : zS} {s : zM} (h : pIdl c D al B α s) : zln α D.fb = 20 := by
  unfold pIdl at h
  exact h.2.2.2.2.2.2.2.2.2.2.2.2.2.2.2.2.2.2.2.2.2.2.2.2.2.1
theorem pIdl.ne {c : pC} {D : pD} {al B : Nat} {α : zS} {s : zM} (h : pIdl c D al B α s) : D.fa ≠ D.fb ∧ D.fa ≠ c.ka ∧ D.fa ≠ c.va ∧ D.fb ≠ c.ka ∧ D.fb ≠ c.va := by
  unfold pIdl at h
  exact h.2.2.2.2.2.2.2.2.2.2.2.2.2.2.2.2.2.2.2.2.2.2.2.2.2.2.1
theorem pIdl.uk {c : pC} {D : pD} {al B : Nat} {α : zS} {s : zM} (h : pIdl c D al B α s) : zkd α D.lu = 3 := by
  unfold pIdl at h
  exact h.2.2.2.2.2.2.2.2.2.2.2.2.2.2.2.2.2.2.2.2.2.2.2.2.2.2.2.1
theorem pIdl.rk {c : pC} {D : pD} {al B : Nat} {α : zS} {s : zM} (h : pIdl c D al B α s) : zkd α D.lr = 3 := by
  unfold pIdl at h
  exact h.2.2.2.2.2.2.2.2.2.2.2.2.2.2.2.2.2.2.2.2.2.2.2.2.2.2.2.2.1
theorem pIdl.lk {c : pC} {D : pD} {al B : Nat} {α : zS} {s : zM} (h : pIdl c D al B α s) : zkd α al = 3 := by
  unfold pIdl at h
  exact h.2.2.2.2.2.2.2.2.2.2.2.2.2.2.2.2.2.2.2.2.2.2.2.2.2.2.2.2.2.1
theorem pIdl.nl {c : pC} {D : pD} {al B : Nat} {α : zS} {s : zM} (h : pIdl c D al B α s) : D.lu ≠ D.lr ∧ D.lu ≠ al ∧ D.lr ≠ al := by
  unfold pIdl at h
  exact h.2.2.2.2.2.2.2.2.2.2.2.2.2.2.2.2.2.2.2.2.2.2.2.2.2.2.2.2.2.2.1
theorem pIdl.kv {c : pC} {D : pD} {al B : Nat} {α : zS} {s : zM} (h : pIdl c D al B α s) : c.ka ≠ c.va := by
  unfold pIdl at h
  exact h.2.2.2.2.2.2.2.2.2.2.2.2.2.2.2.2.2.2.2.2.2.2.2.2.2.2.2.2.2.2.2
theorem pIdl.mk {c : pC} {D : pD} {al B : Nat} {α : zS} {s : zM} (x0 : c.n ≤ 505) (x1 : ∀ i, i < c.n → c.ks i ≤ 5) (x2 : ∀ i, i < c.n → c.vs i ≤ 99999) (x3 : ∀ i, i < c.n → c.ks i = 1 → c.vs i < 900) (x4 : c.p ≤ B) (x5 : c.ka ≤ B) (x6 : c.va ≤ B) (x7 : D.fa ≤ B) (x8 : D.fb ≤ B) (x9 : D.lu ≤ B) (x10 : D.lr ≤ B) (x11 : al ≤ B) (x12 : B < zn α) (x13 : pxW c α) (x14 : ls s 1 = nI c.n) (x15 : ∀ i, i < c.n → la s 2 i = nI (c.ks i)) (x16 : ∀ i, i < c.n → la s 3 i = nI (c.vs i)) (x17 : zA α 40 9 c.p = some D.fa) (x18 : zA α 40 10 c.p = some D.fb) (x19 : zA α 40 12 c.p = some D.lu) (x20 : zA α 40 13 c.p = some D.lr) (x21 : zA α 40 14 c.p = some al) (x22 : zkd α D.fa = 1001) (x23 : zkd α D.fb = 1001) (x24 : zln α D.fa = 20) (x25 : zln α D.fb = 20) (x26 : D.fa ≠ D.fb ∧ D.fa ≠ c.ka ∧ D.fa ≠ c.va ∧ D.fb ≠ c.ka ∧ D.fb ≠ c.va) (x27 : zkd α D.lu = 3) (x28 : zkd α D.lr = 3) (x29 : zkd α al = 3) (x30 : D.lu ≠ D.lr ∧ D.lu ≠ al ∧ D.lr ≠ al) (x31 : c.ka ≠ c.va) : pIdl c D al B α s := by
  unfold pIdl
  exact ⟨x0, x1, x2, x3, x4, x5, x6, x7, x8, x9, x10, x11, x12, x13, x14, x15, x16, x17, x18, x19, x20, x21, x22, x23, x24, x25, x26, x27, x28, x29, x30, x31⟩
/-- X's list is emptied -/
def xCl (α : zS) (a : Nat) : zS := zsL α a 0 0 0 (zB α a) (zC α a) [] (zm α a + 1)
def pD.zero (D : pD) (α : zS) : pD := (D.fa, D.fb, D.lu, D.lr, [], 0, fun _ => 0, fun _ => 0, fun _ => 0, fun _ => 0, fun _ => 0, 0, fun _ => 0, fun _ => 0, fun _ => 0, fun _ => 0, fun _ => 0, 0, 0, 0, 0, 0, 0, [], zc α, zw α, α)
/-- X's store and M's rows where a parse begins -/
def xS0 (c : pC) (D : pD) (al : Nat) (α : zS) : zS := zwI (zwI (zwI (zwA (xCl (xCl (xCl α D.lu) D.lr) al) 40 11 c.p none) 40 8 c.p (nI 0)) 40 3 c.p (nI 0)) 40 7 c.p (nI 0)
def mS0 (c : pC) (s : zM) : zM := mMk (us (us (us (us (us (us (us (us (us s 4 (nI c.n)) 1 (nI 0)) 41 (nI 0)) 5 (nI 0)) 8 (nI 0)) 20 (nI 0)) 26 (nI 0)) 19 (nI 0)) 21 (nI 0)) 0 (nI 0) (nI 0) (nI 0)
section PAZZZE
variable {L L2 : Nat → Prop} {c : pC} {D D' : pD} {G : xQ} {α β γ α0 : zS} {s s' s0 s1 : zM} {B a a1 b d e f l m n N N' F F' p q t to u x y k i j w wh lv S r al W : Nat} {g g' g2 : pG} {v v' x1 x3 : Int32} {rt vis cs stk l1 l2 A1 B1 : List Nat} {fn : Nat → Nat} {r0 : Option Nat}
theorem xCl_e (h : zkd α a = 3) : zLclear α (some a) = some ((), xCl α a) := by
  unfold zLclear
  show (if zkd α a = 3 then _ else none) = _
  rw [if_pos h]
  rfl
theorem xCl_fr (h : x ≠ a) : (xCl α a).2 x = α.2 x := zsL_ne h
theorem xCl_kd : zkd (xCl α a) x = zkd α x := zkd_zsL ..
theorem xCl_ls : zL (xCl α a) a = [] := by unfold xCl; rw [zL_zsL, if_pos rfl]
theorem xS0_fr (h1 : x ≠ c.p) (h2 : x ≠ D.lu) (h3 : x ≠ D.lr) (h4 : x ≠ al) : (xS0 c D al α).2 x = α.2 x := by
  unfold xS0
  rw [zwI_ne h1, zwI_ne h1, zwI_ne h1, zwA_ne h1, xCl_fr h4, xCl_fr h3, xCl_fr h2]
theorem pIdl.start (h : pIdl c D al B α s) : hX4_parse G (some c.p) α = hX4_parse_41 G (some c.p) (xS0 c D al α) ∧ gX26_parse s = gX26_parse_56 (nI 0) (mS0 c s) ∧ pV c (D.zero (xS0 c D al α)) (fun _ => False) B 0 1 0 pG0 (xS0 c D al α) (mS0 c s) ∧ zL (xS0 c D al α) al = [] := by
  have x := h.x
  have kp := x.kp
  obtain ⟨n1, n2, n3⟩ := h.nl
  have pu : c.p ≠ D.lu := fun z => by have := h.uk; rw [← z, kp] at this; omega
  have pr : c.p ≠ D.lr := fun z => by have := h.rk; rw [← z, kp] at this; omega
  have pl : c.p ≠ al := fun z => by have := h.lk; rw [← z, kp] at this; omega
  have k1 : zkd (xCl α D.lu) c.p = 41 := by rw [xCl_kd]; exact kp
  have k2 : zkd (xCl (xCl α D.lu) D.lr) c.p = 41 := by rw [xCl_kd]; exact k1
  have k3 : zkd (xCl (xCl (xCl α D.lu) D.lr) al) c.p = 41 := by rw [xCl_kd]; exact k2
  have e1 : (xCl α D.lu).2 c.p = α.2 c.p := xCl_fr pu
  have e2 : (xCl (xCl α D.lu) D.lr).2 c.p = α.2 c.p := by rw [xCl_fr pr, e1]
  have e3 : (xCl (xCl (xCl α D.lu) D.lr) al).2 c.p = α.2 c.p := by rw [xCl_fr pl, e2]
  have kd : ∀ q, zkd (xS0 c D al α) q = zkd α q := fun q => by unfold xS0; rw [zkd_zwI, zkd_zwI, zkd_zwI, zkd_zwA, xCl_kd, xCl_kd, xCl_kd]
  have I : ∀ k, k ≠ 3 → k ≠ 7 → k ≠ 8 → zI (xS0 c D al α) 40 k c.p = zI α 40 k c.p := fun k h3 h7 h8 => by
    unfold xS0
    rw [zI_zwI, if_neg (fun z => h7 z.2.1), zI_zwI, if_neg (fun z => h3 z.2.1), zI_zwI, if_neg (fun z => h8 z.2.1), zI_zwA, zI_eq e3]
  have A : ∀ k, k ≠ 11 → zA (xS0 c D al α) 40 k c.p = zA α 40 k c.p := fun k h11 => by
    unfold xS0
    rw [zA_zwI, zA_zwI, zA_zwI, zA_zwA, if_neg (fun z => h11 z.2.1), zA_eq e3]
  have l3 : zL (xS0 c D al α) al = [] := by unfold xS0; rw [zL_zwI, zL_zwI, zL_zwI, zL_zwA]; exact xCl_ls
  have l2 : zL (xS0 c D al α) D.lr = [] := by
    unfold xS0
    rw [zL_zwI, zL_zwI, zL_zwI, zL_zwA, zL_eq (xCl_fr n3)]; exact xCl_ls
  have l1 : zL (xS0 c D al α) D.lu = [] := by
    unfold xS0
    rw [zL_zwI, zL_zwI, zL_zwI, zL_zwA, zL_eq (xCl_fr n2), zL_eq (xCl_fr n1)]; exact xCl_ls
  have fk : (xS0 c D al α).2 c.ka = α.2 c.ka := xS0_fr (fun z => by have := x.kk; rw [z, kp] at this; omega) (fun z => by have := x.kk; rw [z, h.uk] at this; omega) (fun z => by have := x.kk; rw [z, h.rk] at this; omega) (fun z => by have := x.kk; rw [z, h.lk] at this; omega)
  have fv : (xS0 c D al α).2 c.va = α.2 c.va := xS0_fr (fun z => by have := x.kv; rw [z, kp] at this; omega) (fun z => by have := x.kv; rw [z, h.uk] at this; omega) (fun z => by have := x.kv; rw [z, h.rk] at this; omega) (fun z => by have := x.kv; rw [z, h.lk] at this; omega)
  have ffa : (xS0 c D al α).2 D.fa = α.2 D.fa := xS0_fr (fun z => by have := h.ak; rw [z, kp] at this; omega) (fun z => by have := h.ak; rw [z, h.uk] at this; omega) (fun z => by have := h.ak; rw [z, h.rk] at this; omega) (fun z => by have := h.ak; rw [z, h.lk] at this; omega)
  have ffb : (xS0 c D al α).2 D.fb = α.2 D.fb := xS0_fr (fun z => by have := h.bk; rw [z, kp] at this; omega) (fun z => by have := h.bk; rw [z, h.uk] at this; omega) (fun z => by have := h.bk; rw [z, h.rk] at this; omega) (fun z => by have := h.bk; rw [z, h.lk] at this; omega)
  have B1 := h.B1
  have zz : zn (xS0 c D al α) = zn α := rfl
  refine ⟨?_, ?_, ?_, l3⟩
  · unfold hX4_parse
    rw [kfA kp, gl_bs, h.fu, xCl_e h.uk, gl_bs]
    show Option.bind (zfA (xCl α D.lu) (some c.p) 40 13) _ = _
    rw [kfA k1, gl_bs, zA_eq e1, h.fr, xCl_e (by rw [xCl_kd]; exact h.rk), gl_bs]
    show Option.bind (zfA (xCl (xCl α D.lu) D.lr) (some c.p) 40 14) _ = _
    rw [kfA k2, gl_bs, zA_eq e2, h.fl, xCl_e (by rw [xCl_kd, xCl_kd]; exact h.lk), gl_bs]
    show Option.bind (zpA (xCl (xCl (xCl α D.lu) D.lr) al) (some c.p) 40 11 none) _ = _
    rw [kpA k3, gl_bs, kpI (by rw [zkd_zwA]; exact k3), gl_bs, kpI (by rw [zkd_zwI, zkd_zwA]; exact k3), gl_bs, kpI (by rw [zkd_zwI, zkd_zwI, zkd_zwA]; exact k3), gl_bs]
    rfl
  · unfold gX26_parse
    rw [gl_x, h.m1, gl_x, gl_x, gl_x, gl_x, gl_x, gl_x, gl_x, gl_x, gl_x]
    show Option.bind (gX26_make (nI 0) (nI 0) (nI 0) (us (us (us (us (us (us (us (us (us s 4 (nI c.n)) 1 (nI 0)) 41 (nI 0)) 5 (nI 0)) 8 (nI 0)) 20 (nI 0)) 26 (nI 0)) 19 (nI 0)) 21 (nI 0))) _ = _
    rw [M_make (N := 0) rfl (by decide), gl_bs]
    rfl
  · have la0 : ∀ k, ¬ (9 ≤ k ∧ k ≤ 16) → la (mS0 c s) k = la s k := fun k hk => by unfold mS0; rw [mMk_la' hk]; rfl
    have V0 : pV0 c (D.zero (xS0 c D al α)) B 0 1 0 (xS0 c D al α) (mS0 c s) := by
      refine pV0.mk h.n h.ks h.vs h.nm h.p h.ka h.va (by rw [zz]; exact B1) (pxW.mk ?_ ?_ ?_ ?_ ?_ ?_ ?_ ?_ (fun i hi => ?_) (fun i hi => ?_)) (mWd.mk rfl (fun i hi => ?_) (fun i hi => ?_)) ?_ rfl (Nat.zero_le _) rfl (Nat.le_refl _) (Nat.le_refl _) ?_ rfl (Nat.zero_le _) ?_ ?_ ?_ ?_ ?_ ?_ h.aB h.bB h.ne (fun i hi => absurd hi (Nat.not_lt_zero _)) (fun i hi => absurd hi (Nat.not_lt_zero _)) (Nat.le_refl _) (Nat.le_refl _) (fun _ _ _ _ _ _ _ => rfl) rfl rfl rfl
      · rw [kd]; exact kp
      · rw [A 0 (by decide)]; exact x.fk
      · rw [A 1 (by decide)]; exact x.fv
      · rw [I 2 (by decide) (by decide) (by decide)]; exact x.fn
      · rw [kd]; exact x.kk
      · rw [kd]; exact x.kv
      · rw [zln_eq fk]; exact x.lk
      · rw [zln_eq fv]; exact x.lv
      · rw [zaI_eq fk]; exact x.rk i hi
      · rw [zaI_eq fv]; exact x.rv i hi
      · rw [la0 2 (by decide)]; exact h.mks i hi
      · rw [la0 3 (by decide)]; exact h.mvs i hi
      · unfold xS0; rw [zI_zwI, if_neg (fun z => absurd z.2.1 (by decide)), zI_zwI, if_pos ⟨rfl, rfl, rfl⟩]
      · unfold xS0; rw [zI_zwI, if_pos ⟨rfl, rfl, rfl⟩]
      · rw [A 9 (by decide)]; exact h.fa
      · rw [A 10 (by decide)]; exact h.fb
      · show zkd _ D.fa = _
        rw [kd]; exact h.ak
      · show zkd _ D.fb = _
        rw [kd]; exact h.bk
      · show zln _ D.fa = _
        rw [zln_eq ffa]; exact h.an
      · show zln _ D.fb = _
        rw [zln_eq ffb]; exact h.bn
    refine pV.mk V0 (gW.mk (fun _ z => z.elim) (fun _ z => z.elim) (fun _ _ z => z.elim)) ?_ ?_ rfl (Nat.zero_le _) rfl (Nat.le_refl _) ?_ ?_ ?_ ?_ h.uB h.rB n1 l1 l2 ?_ ?_ trivial (fun u hu => absurd hu (by show u ∉ []; simp)) List.nodup_nil (fun k hk => absurd hk (Nat.not_lt_zero _)) (fun j k hj => absurd hj (Nat.not_lt_zero _)) (fun i hi => absurd hi (Nat.not_lt_zero _)) (fun i j hi => absurd hi (Nat.not_lt_zero _)) (fun j hj => absurd hj (Nat.not_lt_zero _)) (fun z => absurd rfl z)
    · show zA (xS0 c D al α) 40 11 c.p = none
      unfold xS0
      rw [zA_zwI, zA_zwI, zA_zwI, zA_zwA, if_pos ⟨rfl, rfl, rfl⟩]
    · show zI (xS0 c D al α) 40 8 c.p = nI 0
      unfold xS0
      rw [zI_zwI, if_neg (fun z => absurd z.2.1 (by decide)), zI_zwI, if_neg (fun z => absurd z.2.1 (by decide)), zI_zwI, if_pos ⟨rfl, rfl, rfl⟩]
    · rw [A 12 (by decide)]; exact h.fu
    · rw [A 13 (by decide)]; exact h.fr
    · show zkd _ D.lu = 3
      rw [kd]; exact h.uk
    · show zkd _ D.lr = 3
      rw [kd]; exact h.rk
    · show la (mS0 c s) 13 0 = nI 0
      unfold mS0
      rw [mMk_la (by decide) (by decide), if_pos rfl]; rfl
    · show la (mS0 c s) 14 0 = nI 0
      unfold mS0
      rw [mMk_la (by decide) (by decide), if_pos rfl]; rfl
end PAZZZE
