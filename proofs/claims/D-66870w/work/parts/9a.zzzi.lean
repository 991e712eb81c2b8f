/-! THE PURE LAYER: the parser: behind a parse; words are told. -/
/-- a word more -/
def pC.snoc (c : pC) (k v : Nat) : pC := (c.p, c.ka, c.va, c.n + 1, fun i => if i = c.n then k else c.ks i, fun i => if i = c.n then v else c.vs i, c.a0, c.s0, c.N0, c.at0, c.lv)
/-- faults that wait to be read -/
def pFa (p fa fb F : Nat) (α : zS) (s : zM) : Prop := (zkd α p = 41) ∧ (zI α 40 7 p = nI F) ∧ (ls s 5 = nI F) ∧ (0 < F) ∧ (F ≤ 20) ∧ (zA α 40 9 p = some fa) ∧ (zA α 40 10 p = some fb) ∧ (zkd α fa = 1001) ∧ (zkd α fb = 1001) ∧ (zln α fa = 20) ∧ (zln α fb = 20) ∧ (∀ i, i < F → zaI α fa i = la s 6 i) ∧ (∀ i, i < F → zaI α fb i = la s 7 i)
theorem pFa.kp {p fa fb F : Nat} {α : zS} {s : zM} (h : pFa p fa fb F α s) : zkd α p = 41 := by
  unfold pFa at h
  exact h.1
theorem pFa.f7 {p fa fb F : Nat} {α : zS} {s : zM} (h : pFa p fa fb F α s) : zI α 40 7 p = nI F := by
  unfold pFa at h
  exact h.2.1
theorem pFa.m5 {p fa fb F : Nat} {α : zS} {s : zM} (h : pFa p fa fb F α s) : ls s 5 = nI F := by
  unfold pFa at h
  exact h.2.2.1
theorem pFa.f1 {p fa fb F : Nat} {α : zS} {s : zM} (h : pFa p fa fb F α s) : 0 < F := by
  unfold pFa at h
  exact h.2.2.2.1
theorem pFa.f2 {p fa fb F : Nat} {α : zS} {s : zM} (h : pFa p fa fb F α s) : F ≤ 20 := by
  unfold pFa at h
  exact h.2.2.2.2.1
theorem pFa.fa {p fa fb F : Nat} {α : zS} {s : zM} (h : pFa p fa fb F α s) : zA α 40 9 p = some fa := by
  unfold pFa at h
  exact h.2.2.2.2.2.1
theorem pFa.fb {p fa fb F : Nat} {α : zS} {s : zM} (h : pFa p fa fb F α s) : zA α 40 10 p = some fb := by
  unfold pFa at h
  exact h.2.2.2.2.2.2.1
theorem pFa.ak {p fa fb F : Nat} {α : zS} {s : zM} (h : pFa p fa fb F α s) : zkd α fa = 1001 := by
  unfold pFa at h
  exact h.2.2.2.2.2.2.2.1
theorem pFa.bk {p fa fb F : Nat} {α : zS} {s : zM} (h : pFa p fa fb F α s) : zkd α fb = 1001 := by
  unfold pFa at h
  exact h.2.2.2.2.2.2.2.2.1
theorem pFa.an {p fa fb F : Nat} {α : zS} {s : zM} (h : pFa p fa fb F α s) : zln α fa = 20 := by
  unfold pFa at h
  exact h.2.2.2.2.2.2.2.2.2.1
theorem pFa.bn {p fa fb F : Nat} {α : zS} {s : zM} (h : pFa p fa fb F α s) : zln α fb = 20 := by
  unfold pFa at h
  exact h.2.2.2.2.2.2.2.2.2.2.1
theorem pFa.ra {p fa fb F : Nat} {α : zS} {s : zM} (h : pFa p fa fb F α s) : ∀ i, i < F → zaI α fa i = la s 6 i := by
  unfold pFa at h
  exact h.2.2.2.2.2.2.2.2.2.2.2.1
theorem pFa.rb {p fa fb F : Nat} {α : zS} {s : zM} (h : pFa p fa fb F α s) : ∀ i, i < F → zaI α fb i = la s 7 i := by
  unfold pFa at h
  exact h.2.2.2.2.2.2.2.2.2.2.2.2
theorem pFa.mk {p fa fb F : Nat} {α : zS} {s : zM} (x0 : zkd α p = 41) (x1 : zI α 40 7 p = nI F) (x2 : ls s 5 = nI F) (x3 : 0 < F) (x4 : F ≤ 20) (x5 : zA α 40 9 p = some fa) (x6 : zA α 40 10 p = some fb) (x7 : zkd α fa = 1001) (x8 : zkd α fb = 1001) (x9 : zln α fa = 20) (x10 : zln α fb = 20) (x11 : ∀ i, i < F → zaI α fa i = la s 6 i) (x12 : ∀ i, i < F → zaI α fb i = la s 7 i) : pFa p fa fb F α s := by
  unfold pFa
  exact ⟨x0, x1, x2, x3, x4, x5, x6, x7, x8, x9, x10, x11, x12⟩
section PAZZZI
variable {L L2 : Nat → Prop} {c : pC} {D D' : pD} {G : xQ} {α β β1 γ α0 : zS} {s s' s0 s1 : zM} {B a a1 b d e f l lu m n N N' F F' p q t to u x y k i j w wh lv S r al W : Nat} {g g' g2 : pG} {v' x1 x3 : Int32} {v : Nat} {rt vis cs stk l1 l2 A1 B1 ord : List Nat} {fn : Nat → Nat} {r0 : Option Nat}
theorem pIdl.behind (h : pIdl c D al B α s) (V : pV c D' L B a N F g β1 s1) (K : pDk (D.zero (xS0 c D al α)) D') (hn : zn β1 ≤ zn β) (fr : ∀ x, x ≤ B → x ≠ al → x ≠ D.lu → x ≠ c.p → zkd β1 x ≠ 45 → β.2 x = β1.2 x) (ka : zkd β al = 3) (ku : zkd β D.lu = 3) (kp : zkd β c.p = 41) (A : ∀ k, zA β 40 k c.p = zA β1 40 k c.p) (I2 : zI β 40 2 c.p = nI 0) (m1 : ls s' 1 = nI 0) : pIdl c.nil D al B β s' ∧ (∀ x, x ≤ B → x ≠ c.p → x ≠ D.fa → x ≠ D.fb → x ≠ D.lu → x ≠ D.lr → x ≠ al → zkd α x ≠ 45 → β.2 x = α.2 x) := by
  have v0 := V.o
  have x := v0.x
  have hx := h.x
  have ea : D'.fa = D.fa := K.2.2.2.1
  have eb : D'.fb = D.fb := K.2.2.2.2.1
  have eu : D'.lu = D.lu := K.2.2.2.2.2.1
  have er : D'.lr = D.lr := K.2.2.2.2.2.2
  have ea0 : D'.a0 = xS0 c D al α := K.2.2.1
  obtain ⟨n1, n2, n3⟩ := h.nl
  have alp : al ≠ c.p := fun z => by have := h.lk; rw [z, hx.kp] at this; omega
  have pu : D.lu ≠ c.p := fun z => by have := h.uk; rw [z, hx.kp] at this; omega
  have pr : D.lr ≠ c.p := fun z => by have := h.rk; rw [z, hx.kp] at this; omega
  have B1 := v0.B1
  have s1p : ∀ q, zkd α q = 1001 → zkd β1 q = 1001 → q ≤ B → β.2 q = β1.2 q := fun q k1 k2 hq => fr q hq (fun z => by have := h.lk; rw [← z, k1] at this; omega) (fun z => by have := h.uk; rw [← z, k1] at this; omega) (fun z => by have := hx.kp; rw [← z, k1] at this; omega) (by rw [k2]; decide)
  have fk := s1p c.ka hx.kk x.kk h.ka
  have fv := s1p c.va hx.kv x.kv h.va
  have ak := v0.ak
  have bk := v0.bk
  have an := v0.an
  have bn := v0.bn
  have pfa := v0.fa
  have pfb := v0.fb
  rw [ea] at ak an pfa
  rw [eb] at bk bn pfb
  have ffa := s1p D.fa h.ak ak h.aB
  have ffb := s1p D.fb h.bk bk h.bB
  have rk := V.rk
  have rl := V.lr
  have ul := V.lu
  rw [er] at rk rl
  rw [eu] at ul
  have flr := fr D.lr h.rB n3 (fun z => n1 z.symm) pr (by rw [rk]; decide)
  have pal : zA β1 40 14 c.p = some al := by
    rw [v0.fe, ea0]
    unfold xS0
    rw [zA_zwI, zA_zwI, zA_zwI, zA_zwA, if_neg (fun z => absurd z.2.1 (by decide)), zA_eq (xCl_fr (fun z => alp z.symm)), zA_eq (xCl_fr (fun z => pr z.symm)), zA_eq (xCl_fr (fun z => pu z.symm))]
    exact h.fl
  refine ⟨pIdl.mk (Nat.zero_le _) (fun i hi => absurd hi (Nat.not_lt_zero _)) (fun i hi => absurd hi (Nat.not_lt_zero _)) (fun i hi => absurd hi (Nat.not_lt_zero _)) h.p h.ka h.va h.aB h.bB h.uB h.rB h.lB (by omega) (pxW.mk kp ((A 0).trans x.fk) ((A 1).trans x.fv) I2 ?_ ?_ ?_ ?_ (fun i hi => absurd hi (Nat.not_lt_zero _)) (fun i hi => absurd hi (Nat.not_lt_zero _))) m1 (fun i hi => absurd hi (Nat.not_lt_zero _)) (fun i hi => absurd hi (Nat.not_lt_zero _)) ((A 9).trans pfa) ((A 10).trans pfb) ((A 12).trans ul) ((A 13).trans rl) ((A 14).trans pal) ?_ ?_ ?_ ?_ h.ne ku ?_ ka h.nl h.kv, fun q q1 q2 q3 q4 q5 q6 q7 q8 => ?_⟩
  · exact (zkd_eq fk).trans x.kk
  · exact (zkd_eq fv).trans x.kv
  · exact (zln_eq fk).trans x.lk
  · exact (zln_eq fv).trans x.lv
  · rw [zkd_eq ffa]; exact ak
  · rw [zkd_eq ffb]; exact bk
  · rw [zln_eq ffa]; exact an
  · rw [zln_eq ffb]; exact bn
  · rw [zkd_eq flr]; exact rk
  · have e1 : β1.2 q = α.2 q := (v0.fr q q1 q2 (by rw [ea]; exact q3) (by rw [eb]; exact q4) (by rw [eu]; exact q5) (by rw [er]; exact q6)).trans (by rw [ea0]; exact xS0_fr q2 q5 q6 q7)
    rw [fr q q1 q7 q5 q2 (by rw [zkd_eq e1]; exact q8)]
    exact e1
theorem pGood.idl (h : pIdl c D al B α s) (hg : pGood G c D al B α s D' L g N β1 β s1 s') : pIdl c.nil D al B β s' ∧ (∀ x, x ≤ B → x ≠ c.p → x ≠ D.fa → x ≠ D.fb → x ≠ D.lu → x ≠ D.lr → x ≠ al → zkd α x ≠ 45 → β.2 x = α.2 x) ∧ zc β ≤ zc α + 70 * c.n + 80 ∧ zw β ≤ zw α + 420 * c.n + 500 := by
  obtain ⟨_, _, m0, ⟨a, V⟩, K, ⟨W, X⟩, M, O⟩ := hg
  have v0 := V.o
  have B1 := v0.B1
  have lB := h.lB
  have hp := h.p
  have zz : zn (zwI β1 40 2 c.p (nI 0)) = zn β1 := rfl
  have zz1 : zc (zwI β1 40 2 c.p (nI 0)) = zc β1 := rfl
  have zz2 : zw (zwI β1 40 2 c.p (nI 0)) = zw β1 := rfl
  have eu : D'.lu = D.lu := K.2.2.2.2.2.1
  have alp : al ≠ c.p := fun z => by have := h.lk; rw [z, h.x.kp] at this; omega
  have nz := X.nz
  obtain ⟨n1, n2, n3⟩ := h.nl
  obtain ⟨I1, I2⟩ := h.behind (β := β) (s' := s') V K (by omega) (fun x hx h1 h2 h3 h4 => by
      rw [X.fr x (by omega) h1 (by rw [zkd_zwI]; exact h4)]
      exact zwI_ne h3) X.ka (by
      rw [X.kd _ (by have := h.uB; omega), zkd_zwI, ← eu]; exact V.uk) (by rw [X.kd _ (by omega), zkd_zwI]; exact v0.x.kp) (fun k => by rw [X.A _ _ _ (by omega) (fun z => alp z.symm), zA_zwI]) (by rw [X.I _ _ _ (by omega) (fun z => alp z.symm) (fun z => absurd z.1 (by decide)), zI_zwI, if_pos ⟨rfl, rfl, rfl⟩]) (by rw [M.I 1 (by decide) (by decide)]; exact v0.t1)
  have zb := v0.zb
  have wb := v0.wb
  have al1 := v0.al
  have N0 := v0.N0
  have zb2 := X.zb
  have wb2 := X.wb
  have ol := O.len V.g v0.N1
  have ez : D'.z0 = zc α := K.1
  have ew : D'.w0 = zw α := K.2.1
  have sl : ([] : List Nat).length = 0 := rfl
  exact ⟨I1, I2, by omega, by omega⟩
theorem pIdl.up (h : pIdl c D al B α s) (h1 : B ≤ W) (h2 : W < zn α) : pIdl c D al W α s := pIdl.mk h.n h.ks h.vs h.nm (Nat.le_trans h.p h1) (Nat.le_trans h.ka h1) (Nat.le_trans h.va h1) (Nat.le_trans h.aB h1) (Nat.le_trans h.bB h1) (Nat.le_trans h.uB h1) (Nat.le_trans h.rB h1) (Nat.le_trans h.lB h1) h2 h.x h.m1 h.mks h.mvs h.fa h.fb h.fu h.fr h.fl h.ak h.bk h.an h.bn h.ne h.uk h.rk h.lk h.nl h.kv
theorem pBad.idl (h : pIdl c D al B α s) (hg : pBad G c D al B α s D' L g N F β1 β s1) : pIdl c.nil D al B β (us (us s1 0 (nI 1)) 20 (nI 0)) ∧ (∀ x, x ≤ B → x ≠ c.p → x ≠ D.fa → x ≠ D.fb → x ≠ D.lu → x ≠ D.lr → x ≠ al → zkd α x ≠ 45 → β.2 x = α.2 x) ∧ zc β ≤ zc α + 40 * c.n + 5050 ∧ zw β ≤ zw α + 200 * c.n + 23000 ∧ pFa c.p D.fa D.fb F β (us (us s1 0 (nI 1)) 20 (nI 0)) := by
  obtain ⟨X1, M1, F0, ⟨a, V⟩, K, hn, fr, ku, ul, kp, I, I2, A, zcb, zwb⟩ := hg
  have v0 := V.o
  have B1 := v0.B1
  have lB := h.lB
  have hp := h.p
  have F20 := v0.f20
  have ea : D'.fa = D.fa := K.2.2.2.1
  have eb : D'.fb = D.fb := K.2.2.2.2.1
  have er : D'.lr = D.lr := K.2.2.2.2.2.2
  have eu : D'.lu = D.lu := K.2.2.2.2.2.1
  have ea0 : D'.a0 = xS0 c D al α := K.2.2.1
  have pu : D.lu ≠ c.p := fun z => by have := h.uk; rw [z, h.x.kp] at this; omega
  have alp : al ≠ c.p := fun z => by have := h.lk; rw [z, h.x.kp] at this; omega
  obtain ⟨n1, n2, n3⟩ := h.nl
  have kal : zkd β al = 3 := by
    rw [zkd_eq (fr al (by omega) alp n2.symm), zkd_eq (v0.fr al lB alp (fun z => by have := h.ak; rw [← ea, ← z, h.lk] at this; omega) (fun z => by have := h.bk; rw [← eb, ← z, h.lk] at this; omega) (by rw [eu]; exact n2.symm) (by rw [er]; exact n3.symm)), ea0]
    unfold xS0
    rw [zkd_zwI, zkd_zwI, zkd_zwI, zkd_zwA, xCl_kd, xCl_kd, xCl_kd]
    exact h.lk
  obtain ⟨J1, J2⟩ := h.behind (β := β) (s' := us (us s1 0 (nI 1)) 20 (nI 0)) V K hn (fun x hx h1 h2 h3 h4 => fr x (by omega) h3 h2) kal ku kp A I2 v0.t1
  have zb := v0.zb
  have wb := v0.wb
  have al1 := v0.al
  have ez : D'.z0 = zc α := K.1
  have ew : D'.w0 = zw α := K.2.1
  have ak := v0.ak
  have bk := v0.bk
  have ra := v0.ra
  have rb := v0.rb
  rw [ea] at ak ra
  rw [eb] at bk rb
  have aB := h.aB
  have bB := h.bB
  have ffa := fr D.fa (by omega) (fun z => by have := h.ak; rw [z, h.x.kp] at this; omega) (fun z => by have := h.ak; rw [z, h.uk] at this; omega)
  have ffb := fr D.fb (by omega) (fun z => by have := h.bk; rw [z, h.x.kp] at this; omega) (fun z => by have := h.bk; rw [z, h.uk] at this; omega)
  refine ⟨J1, J2, by omega, by omega, pFa.mk kp ((I 7 (by decide)).trans v0.fx) v0.fm F0 F20 J1.fa J1.fb J1.ak J1.bk J1.an J1.bn (fun i hi => ?_) (fun i hi => ?_)⟩
  · rw [zaI_eq ffa]; exact ra i hi
  · rw [zaI_eq ffb]; exact rb i hi
theorem Fa_faults (h : pFa p a b F α s) : hX4_faults G (some p) α = some (nI F, α) ∧ gX26_faults s = some (nI F, us s 0 (nI 0)) := by
  constructor
  · unfold hX4_faults
    rw [kfI h.kp, gl_bs, h.f7]
  · unfold gX26_faults
    rw [gl_x, gl_x, show ls (us s 0 (0 : Int32)) 5 = ls s 5 from rfl, h.m5]
    rfl
theorem Fa_fault (h : pFa p a b F α s) (hi : i < F) (hk : k < 2) : ∃ v, hX4_fault G (some p) (nI i) (nI k) α = some (v, α) ∧ gX26_fault (nI i) (nI k) s = some (v, us s 0 (nI 0)) := by
  have f2 := h.f2
  have k2 : k = 0 ∨ k = 1 := by omega
  have e5 : ls (us s 0 (0 : Int32)) 5 = nI F := h.m5
  rcases k2 with z | z
  · subst z
    refine ⟨la s 6 i, ?_, ?_⟩
    · unfold hX4_fault
      rw [if_neg (by rw [nl0, pI_lt (by omega) (by decide)]; omega), kfI h.kp, gl_bs, h.f7, if_pos (by rw [pI_lt (by omega) (by omega)]; exact hi), if_neg (by decide), kfA h.kp, gl_bs, h.fa, kald h.ak (by rw [h.an]; omega) (by rw [h.an]; decide), gl_bs, h.ra i hi]
      rfl
    · unfold gX26_fault
      rw [gl_x, if_neg (by rw [nl0, pI_lt (by omega) (by decide)]; omega), gl_x, e5, if_pos (by rw [pI_lt (by omega) (by omega)]; exact hi), if_neg (by decide), pgld (by omega) (by decide), gl_bs]
      rfl
  · subst z
    refine ⟨la s 7 i, ?_, ?_⟩
    · unfold hX4_fault
      rw [if_neg (by rw [nl0, pI_lt (by omega) (by decide)]; omega), kfI h.kp, gl_bs, h.f7, if_pos (by rw [pI_lt (by omega) (by omega)]; exact hi), if_pos (by decide), if_neg (by decide), kfA h.kp, gl_bs, h.fb, kald h.bk (by rw [h.bn]; omega) (by rw [h.bn]; decide), gl_bs, h.rb i hi]
      rfl
    · unfold gX26_fault
      rw [gl_x, if_neg (by rw [nl0, pI_lt (by omega) (by decide)]; omega), gl_x, e5, if_pos (by rw [pI_lt (by omega) (by omega)]; exact hi), if_pos (by decide), if_neg (by decide), pgld (by omega) (by decide), gl_bs]
      rfl
theorem pFa.st (h : pFa p a b F α s) (h1 : ls s' 5 = ls s 5) (h2 : la s' 6 = la s 6) (h3 : la s' 7 = la s 7) : pFa p a b F α s' := pFa.mk h.kp h.f7 (h1.trans h.m5) h.f1 h.f2 h.fa h.fb h.ak h.bk h.an h.bn (fun i hi => by rw [h2]; exact h.ra i hi) (fun i hi => by rw [h3]; exact h.rb i hi)
/-- how great a word's value may be -/
def pLm (k : Nat) : Nat := if k = 0 then 78 else if k = 2 then 99999 else if k = 5 then 8 else 99
def xSn (c : pC) (α : zS) (k v : Nat) : zS := zwI (zsI (zsI α c.ka (upd (zaI α c.ka) c.n (nI k))) c.va (upd (zaI α c.va) c.n (nI v))) 40 2 c.p (nI (c.n + 1))
def mSn (c : pC) (s : zM) (k v : Nat) : zM := us (ua (ua (us s 0 (nI 0)) 2 (upd (la s 2) c.n (nI k))) 3 (upd (la s 3) c.n (nI v))) 1 (nI (c.n + 1))
theorem X_word72 (h : pIdl c D al B α s) : hX4_word_72 G (some c.p) (nI k) (nI v) α = some (nI (c.n + 1), xSn c α k v) := by
  have x := h.x
  have n5 := h.n
  have pk : c.p ≠ c.ka := fun z => by have := x.kk; rw [← z, x.kp] at this; omega
  have kv := h.kv
  have k2 : zkd (zsI α c.ka (upd (zaI α c.ka) c.n (nI k))) c.p = 41 := by rw [zkd_zsI]; exact x.kp
  have k3 : zkd (zsI (zsI α c.ka (upd (zaI α c.ka) c.n (nI k))) c.va (upd (zaI α c.va) c.n (nI v))) c.p = 41 := by rw [zkd_zsI]; exact k2
  have b2 : zaI (zsI α c.ka (upd (zaI α c.ka) c.n (nI k))) c.va = zaI α c.va := by rw [zaI_zsIf, if_neg (fun z => kv z.symm)]
  unfold hX4_word_72
  rw [kfI x.kp, gl_bs, x.fn, if_pos (show ¬ nI c.n = 1500 from by rw [show (1500 : Int32) = nI 1500 from rfl, pI_inj (by omega) (by decide)]; omega), kfA x.kp, gl_bs, x.fk, gl_bs, pkia x.kk (by rw [x.lk]; omega) (by rw [x.lk]; decide), gl_bs, kfA k2, gl_bs, zA_zsI, x.fv, kfI k2, gl_bs, zI_zsI, x.fn, pkia (by rw [zkd_zsI]; exact x.kv) (by rw [zln_zsI, x.lv]; omega) (by rw [zln_zsI, x.lv]; decide), gl_bs, b2, kfI k3, gl_bs, zI_zsI, zI_zsI, x.fn, kpI k3, gl_bs, show nI c.n + 1 = nI (c.n + 1) from pI_succ c.n]
  have k4 : zkd (xSn c α k v) c.p = 41 := by
    unfold xSn
    rw [zkd_zwI]; exact k3
  show Option.bind (zfI (xSn c α k v) (some c.p) 40 2) _ = _
  rw [kfI k4, gl_bs]
  unfold xSn
  rw [zI_zwI, if_pos ⟨rfl, rfl, rfl⟩]
theorem M_word66 (h : pIdl c D al B α s) : gX26_word_66 (nI k) (nI v) (us s 0 (nI 0)) = some (nI (c.n + 1), mSn c s k v) := by
  have n5 := h.n
  unfold gX26_word_66
  rw [gl_x, gl_x, show ls (us s 0 (nI 0)) 1 = nI c.n from h.m1, if_pos (show ¬ nI c.n = 1500 from by rw [show (1500 : Int32) = nI 1500 from rfl, pI_inj (by omega) (by decide)]; omega), pgst (by omega) (by decide), gl_bs, gl_x]
  show Option.bind (gst (ua (us s 0 (nI 0)) 2 (upd (la s 2) c.n (nI k))) 3 1500 (ls s 1) (nI v)) _ = _
  rw [h.m1, pgst (by omega) (by decide), gl_bs, gl_x, gl_x, gl_x]
  show some (ls s 1 + 1, us (ua (ua (us s 0 (nI 0)) 2 (upd (la s 2) c.n (nI k))) 3 (upd (la s 3) c.n (nI v))) 1 (ls s 1 + 1)) = _
  rw [h.m1, show nI c.n + 1 = nI (c.n + 1) from pI_succ c.n]
  rfl
theorem pIdl.snoc (h : pIdl c D al B α s) (hn : c.n < 505) (hk : k ≤ 5) (hv : v ≤ 99999) (hm : k = 1 → v < 900) : pIdl (c.snoc k v) D al B (xSn c α k v) (mSn c s k v) := by
  have x := h.x
  have pk : c.p ≠ c.ka := fun z => by have := x.kk; rw [← z, x.kp] at this; omega
  have pv : c.p ≠ c.va := fun z => by have := x.kv; rw [← z, x.kp] at this; omega
  have kv := h.kv
  obtain ⟨n1, n2, n3, n4, n5⟩ := h.ne
  have K : ∀ q, zkd (xSn c α k v) q = zkd α q := fun q => by
    unfold xSn
    rw [zkd_zwI, zkd_zsI, zkd_zsI]
  have Ln : ∀ q, zln (xSn c α k v) q = zln α q := fun q => by
    unfold xSn
    rw [zln_zwI, zln_zsI, zln_zsI]
  have A : ∀ j, zA (xSn c α k v) 40 j c.p = zA α 40 j c.p := fun j => by
    unfold xSn
    rw [zA_zwI, zA_zsI, zA_zsI]
  have ra : zaI (xSn c α k v) c.ka = upd (zaI α c.ka) c.n (nI k) := by
    unfold xSn
    funext i
    rw [zaI_zwI, zaI_zsI, if_neg kv, zaI_zsI, if_pos rfl]
  have rb : zaI (xSn c α k v) c.va = upd (zaI α c.va) c.n (nI v) := by
    unfold xSn
    funext i
    rw [zaI_zwI, zaI_zsI, if_pos rfl]
  have up : ∀ {f : Nat → Int32} {i : Nat} {e : Int32}, upd f c.n e i = if i = c.n then e else f i := fun {f i e} => rfl
  have cn : ∀ {P : Prop} {i : Nat}, i < c.n + 1 → (i = c.n → P) → (i < c.n → P) → P := fun {P i} h1 h2 h3 => (Nat.lt_or_ge i c.n).elim h3 fun z => h2 (by omega)
  refine pIdl.mk (show c.n + 1 ≤ 505 by omega) (fun i hi => ?_) (fun i hi => ?_) (fun i hi => ?_) h.p h.ka h.va h.aB h.bB h.uB h.rB h.lB h.B1 (pxW.mk ((K _).trans x.kp) ((A 0).trans x.fk) ((A 1).trans x.fv) ?_ ((K _).trans x.kk) ((K _).trans x.kv) ((Ln _).trans x.lk) ((Ln _).trans x.lv) (fun i hi => ?_) (fun i hi => ?_)) rfl (fun i hi => ?_) (fun i hi => ?_) ((A 9).trans h.fa) ((A 10).trans h.fb) ((A 12).trans h.fu) ((A 13).trans h.fr) ((A 14).trans h.fl) ((K _).trans h.ak) ((K _).trans h.bk) ((Ln _).trans h.an) ((Ln _).trans h.bn) h.ne ((K _).trans h.uk) ((K _).trans h.rk) ((K _).trans h.lk) h.nl h.kv
  · show (if i = c.n then k else c.ks i) ≤ 5
    by_cases z : i = c.n
    · rw [if_pos z]; exact hk
    · rw [if_neg z]; exact h.ks i (by have : i < c.n + 1 := hi; omega)
  · show (if i = c.n then v else c.vs i) ≤ 99999
    by_cases z : i = c.n
    · rw [if_pos z]; exact hv
    · rw [if_neg z]; exact h.vs i (by have : i < c.n + 1 := hi; omega)
  · show (if i = c.n then k else c.ks i) = 1 → (if i = c.n then v else c.vs i) < 900
    by_cases z : i = c.n
    · rw [if_pos z, if_pos z]; exact hm
    · rw [if_neg z, if_neg z]; exact h.nm i (by have : i < c.n + 1 := hi; omega)
  · show zI (xSn c α k v) 40 2 c.p = nI (c.n + 1)
    unfold xSn
    rw [zI_zwI, if_pos ⟨rfl, rfl, rfl⟩]
  · show zaI (xSn c α k v) c.ka i = nI (if i = c.n then k else c.ks i)
    rw [ra, up]
    by_cases z : i = c.n
    · rw [if_pos z, if_pos z]
    · rw [if_neg z, if_neg z]; exact x.rk i (by have : i < c.n + 1 := hi; omega)
  · show zaI (xSn c α k v) c.va i = nI (if i = c.n then v else c.vs i)
    rw [rb, up]
    by_cases z : i = c.n
    · rw [if_pos z, if_pos z]
    · rw [if_neg z, if_neg z]; exact x.rv i (by have : i < c.n + 1 := hi; omega)
  · show upd (la s 2) c.n (nI k) i = nI (if i = c.n then k else c.ks i)
    rw [up]
    by_cases z : i = c.n
    · rw [if_pos z, if_pos z]
    · rw [if_neg z, if_neg z]; exact h.mks i (by have : i < c.n + 1 := hi; omega)
  · show upd (la s 3) c.n (nI v) i = nI (if i = c.n then v else c.vs i)
    rw [up]
    by_cases z : i = c.n
    · rw [if_pos z, if_pos z]
    · rw [if_neg z, if_neg z]; exact h.mvs i (by have : i < c.n + 1 := hi; omega)
/-- a word is told: both sides take it, or neither -/
theorem Ps_word (h : pIdl c D al B α s) (hn : c.n < 505) (hk : k ≤ 100) (hv : v < 1000000) (h4 : k = 4 → v ≤ 99999) : if k ≤ 5 ∧ (k = 4 ∨ v ≤ pLm k) then hX4_word G (some c.p) (nI k) (nI v) α = some (nI (c.n + 1), xSn c α k v) ∧ gX26_word (nI k) (nI v) s = some (nI (c.n + 1), mSn c s k v) ∧ pIdl (c.snoc k v) D al B (xSn c α k v) (mSn c s k v) else hX4_word G (some c.p) (nI k) (nI v) α = some (-4, α) ∧ gX26_word (nI k) (nI v) s = some (-4, us s 0 (nI 0)) := by
  have i5 : gX26_in (nI k) 0 5 (us s 0 (nI 0)) = some (nI (b2n (decide (0 ≤ k ∧ k ≤ 5))), us s 0 (nI 0)) := M_in (by omega) (by decide) (by decide)
  have iv : ∀ m, m < 1000000 → gX26_in (nI v) 0 (nI m) (us s 0 (nI 0)) = some (nI (b2n (decide (0 ≤ v ∧ v ≤ m))), us s 0 (nI 0)) := fun m hm => M_in (by omega) (by decide) (by omega)
  have e : ∀ j, j < 1000 → (nI k = nI j) = (k = j) := fun j hj => propext (pI_inj (by omega) (by omega))
  have M48 : ∀ m, m < 1000000 → gX26_word_48 (nI k) (nI v) (nI m) (us s 0 (nI 0)) = if k = 4 ∨ v ≤ m then some (nI (c.n + 1), mSn c s k v) else some (-4, us s 0 (nI 0)) := fun m hm => by
    unfold gX26_word_48
    by_cases z : k = 4
    · rw [if_pos (show nI k = 4 from by rw [z]; rfl), if_pos (.inl z)]
      exact M_word66 h
    · rw [if_neg (show ¬ nI k = 4 from by rw [show (4 : Int32) = nI 4 from rfl, e 4 (by decide)]; exact z), iv m hm, gl_bs]
      by_cases y : v ≤ m
      · rw [if_pos (show k = 4 ∨ v ≤ m from .inr y)]
        show (if ¬ nI (b2n (decide (0 ≤ v ∧ v ≤ m))) = 0 then _ else _) = _
        rw [decide_eq_true ⟨Nat.zero_le _, y⟩, if_pos (by decide)]
        exact M_word66 h
      · rw [if_neg (show ¬ (k = 4 ∨ v ≤ m) from fun w => w.elim z y)]
        show (if ¬ nI (b2n (decide (0 ≤ v ∧ v ≤ m))) = 0 then _ else _) = _
        rw [decide_eq_false (fun w => y w.2), if_neg (by decide)]
  have X45 : ∀ m, m < 1000000 → k ≤ 5 → hX4_word_45 G (some c.p) (nI k) (nI v) (nI m) α = if k = 4 ∨ v ≤ m then some (nI (c.n + 1), xSn c α k v) else some (-4, α) := fun m hm hk5 => by
    unfold hX4_word_45
    rw [if_neg (by rw [nl0, pI_lt (by omega) (by decide)]; omega), if_neg (by rw [show (5 : Int32) = nI 5 from rfl, pI_lt (by decide) (by omega)]; omega)]
    by_cases z : k = 4
    · rw [if_pos (show nI k = 4 from by rw [z]; rfl), if_pos (.inl z)]
      exact X_word72 h
    · rw [if_neg (show ¬ nI k = 4 from by rw [show (4 : Int32) = nI 4 from rfl, e 4 (by decide)]; exact z), if_neg (by rw [nl0, pI_lt (by omega) (by decide)]; omega)]
      by_cases y : v ≤ m
      · rw [if_pos (show k = 4 ∨ v ≤ m from .inr y), if_pos (by rw [pI_le (by omega) (by omega)]; exact y)]
        exact X_word72 h
      · rw [if_neg (show ¬ (k = 4 ∨ v ≤ m) from fun w => w.elim z y), if_neg (by rw [pI_le (by omega) (by omega)]; exact y)]
        rfl
  have pl2 : pLm k ≤ 99999 := by
    unfold pLm
    by_cases z0 : k = 0
    · rw [if_pos z0]; omega
    · rw [if_neg z0]
      by_cases z2 : k = 2
      · rw [if_pos z2]; omega
      · rw [if_neg z2]
        by_cases z5 : k = 5
        · rw [if_pos z5]; omega
        · rw [if_neg z5]; omega
  have pl : pLm k < 1000000 := by omega
  have X6 : ∀ m, ¬ k ≤ 5 → hX4_word_45 G (some c.p) (nI k) (nI v) m α = some (-4, α) := fun m hk5 => by
    unfold hX4_word_45
    rw [if_neg (by rw [nl0, pI_lt (by omega) (by decide)]; omega), if_pos (by rw [show (5 : Int32) = nI 5 from rfl, pI_lt (by decide) (by omega)]; omega)]
    rfl
  have MW : k ≤ 5 → gX26_word (nI k) (nI v) s = gX26_word_48 (nI k) (nI v) (nI (pLm k)) (us s 0 (nI 0)) := fun hk5 => by
    unfold gX26_word pLm
    rw [gl_x]
    show Option.bind (gX26_in (nI k) 0 5 (us s 0 (nI 0))) _ = _
    rw [i5, gl_bs]
    show (if ¬ nI (b2n (decide (0 ≤ k ∧ k ≤ 5))) = 0 then _ else _) = _
    rw [decide_eq_true ⟨Nat.zero_le _, hk5⟩, if_pos (by decide)]
    by_cases z0 : k = 0
    · rw [if_neg (show ¬ ¬ nI k = 0 from fun y => y (by rw [z0]; rfl)), if_pos z0]
      rfl
    · rw [if_pos (show ¬ nI k = 0 from by rw [nl0, e 0 (by decide)]; exact z0), if_neg z0]
      by_cases z2 : k = 2
      · rw [if_neg (show ¬ ¬ nI k = 2 from fun y => y (by rw [z2]; rfl)), if_pos z2]
        rfl
      · rw [if_pos (show ¬ nI k = 2 from by rw [show (2 : Int32) = nI 2 from rfl, e 2 (by decide)]; exact z2), if_neg z2]
        by_cases z5 : k = 5
        · rw [if_neg (show ¬ ¬ nI k = 5 from fun y => y (by rw [z5]; rfl)), if_pos z5]
          rfl
        · rw [if_pos (show ¬ nI k = 5 from by rw [show (5 : Int32) = nI 5 from rfl, e 5 (by decide)]; exact z5), if_neg z5]
          rfl
  have XW : k ≤ 5 → k ≠ 4 → hX4_word G (some c.p) (nI k) (nI v) α = hX4_word_45 G (some c.p) (nI k) (nI v) (nI (pLm k)) α := fun hk5 hk4 => by
    unfold hX4_word pLm
    by_cases z0 : k = 0
    · rw [if_neg (show ¬ ¬ nI k = 0 from fun y => y (by rw [z0]; rfl)), if_pos z0]
      rfl
    · rw [if_pos (show ¬ nI k = 0 from by rw [nl0, e 0 (by decide)]; exact z0), if_neg z0]
      by_cases z1 : k = 1
      · subst z1
        rfl
      · rw [if_neg (show ¬ nI k = 1 from by rw [show (1 : Int32) = nI 1 from rfl, e 1 (by decide)]; exact z1)]
        by_cases z3 : k = 3
        · subst z3
          rfl
        · rw [if_pos (show ¬ nI k = 3 from by rw [show (3 : Int32) = nI 3 from rfl, e 3 (by decide)]; exact z3)]
          by_cases z2 : k = 2
          · rw [if_neg (show ¬ ¬ nI k = 2 from fun y => y (by rw [z2]; rfl)), if_pos z2]
            rfl
          · have z5 : k = 5 := by omega
            subst z5
            rfl
  have X4 : hX4_word G (some c.p) (nI 4) (nI v) α = hX4_word_45 G (some c.p) (nI 4) (nI v) (nI 0) α := rfl
  by_cases k5 : k ≤ 5
  · by_cases y : k = 4 ∨ v ≤ pLm k
    · rw [if_pos ⟨k5, y⟩]
      refine ⟨?_, ?_, h.snoc hn k5 ?_ (fun z => ?_)⟩
      · by_cases z : k = 4
        · subst z
          rw [X4, X45 0 (by decide) k5, if_pos (.inl rfl)]
        · rw [XW k5 z, X45 _ pl k5, if_pos y]
      · rw [MW k5, M48 _ pl, if_pos y]
      · rcases y with y | y
        · exact h4 y
        · omega
      · rcases y with y | y
        · omega
        · subst z
          exact Nat.lt_of_le_of_lt y (by decide)
    · rw [if_neg (fun w => y w.2)]
      have z : k ≠ 4 := fun z => y (.inl z)
      rw [XW k5 z, X45 _ pl k5, if_neg y, MW k5, M48 _ pl, if_neg y]
      exact ⟨rfl, rfl⟩
  · rw [if_neg (fun w => k5 w.1)]
    constructor
    · unfold hX4_word
      rw [if_pos (by rw [nl0, e 0 (by decide)]; omega), if_neg (by rw [show (1 : Int32) = nI 1 from rfl, e 1 (by decide)]; omega), if_pos (by rw [show (3 : Int32) = nI 3 from rfl, e 3 (by decide)]; omega), if_pos (by rw [show (2 : Int32) = nI 2 from rfl, e 2 (by decide)]; omega), if_pos (by rw [show (5 : Int32) = nI 5 from rfl, e 5 (by decide)]; omega)]
      exact X6 _ k5
    · unfold gX26_word
      rw [gl_x]
      show Option.bind (gX26_in (nI k) 0 5 (us s 0 (nI 0))) _ = _
      rw [i5, gl_bs]
      show (if ¬ nI (b2n (decide (0 ≤ k ∧ k ≤ 5))) = 0 then _ else _) = _
      rw [decide_eq_false (fun w => k5 w.2), if_neg (by decide)]
/-- the words are forgotten -/
theorem Ps_drop (h : pIdl c D al B α s) : hX4_drop G (some c.p) α = some ((), zwI α 40 2 c.p (nI 0)) ∧ gX26_forget s = some ((), us s 1 (nI 0)) ∧ pIdl c.nil D al B (zwI α 40 2 c.p (nI 0)) (us s 1 (nI 0)) := by
  have x := h.x
  refine ⟨?_, rfl, h.nx (Nat.le_refl _) (fun q _ => zkd_zwI ..) (fun k _ => zA_zwI ..) (by rw [zI_zwI, if_pos ⟨rfl, rfl, rfl⟩]) (fun q _ => zln_zwI ..) rfl⟩
  unfold hX4_drop
  rw [nl0, kpI x.kp, gl_bs]
end PAZZZI
