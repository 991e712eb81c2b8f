/-! THE PURE LAYER: the parser: both sides wait for words. -/
/-- X's parser p and its rows behind q -/
def pC0 (p q : Nat) (α : zS) (s : zM) : pC := (p, q, q + 1, 0, fun _ => 0, fun _ => 0, α, s, 0, 0, 0)
def pD0 (q : Nat) (α : zS) : pD := (q + 2, q + 3, q + 4, q + 6, [], 0, fun _ => 0, fun _ => 0, fun _ => 0, fun _ => 0, fun _ => 0, 0, fun _ => 0, fun _ => 0, fun _ => 0, fun _ => 0, fun _ => 0, 0, 0, 0, 0, 0, 0, [], 0, 0, α)
section PAZZZZV
variable {G : xQ} {α β γ σ : zS} {m p q : Nat} {s : zM}
set_option maxHeartbeats 4000000 in
theorem X4_init (hk : zkd α p = 41) (hp : p < zn α) (hz : ∀ k, zI α 40 k p = 0) (m1 : ls s 1 = 0) (hq : q = zn α) : ∃ β, hX4_init G (some p) α = some ((), β) ∧ pIdl (pC0 p q α s) (pD0 q α) (q + 8) (q + 8) β s ∧ zn β = q + 9 ∧ (∀ r, r < q → r ≠ p → β.2 r = α.2 r) ∧ zA β 40 11 p = zA α 40 11 p ∧ (∀ k, zI β 40 k p = 0) ∧ zc β = zc α + 9 ∧ zw β = zw α + 3063 := by
  obtain ⟨σ0, a1, a2, a3, a4, a5, a6, a7, a8, a9⟩ := zIni_ok (c := 40) (m := p) xPI (σ := α) (by decide) hk hp (by decide)
  have h0 : zA σ0 40 0 p = some q ∧ zkd σ0 q = 1001 ∧ zln σ0 q = 1500 := by have := a7 0 (by decide); rw [← hq, Nat.add_zero] at this; exact ⟨this.1, this.2.1, this.2.2.1⟩
  have h1 : zA σ0 40 1 p = some (q + 1) ∧ zkd σ0 (q + 1) = 1001 ∧ zln σ0 (q + 1) = 1500 := by have := a7 1 (by decide); rw [← hq] at this; exact ⟨this.1, this.2.1, this.2.2.1⟩
  have h2 : zA σ0 40 9 p = some (q + 2) ∧ zkd σ0 (q + 2) = 1001 ∧ zln σ0 (q + 2) = 20 := by have := a7 2 (by decide); rw [← hq] at this; exact ⟨this.1, this.2.1, this.2.2.1⟩
  have h3 : zA σ0 40 10 p = some (q + 3) ∧ zkd σ0 (q + 3) = 1001 ∧ zln σ0 (q + 3) = 20 := by have := a7 3 (by decide); rw [← hq] at this; exact ⟨this.1, this.2.1, this.2.2.1⟩
  have n0 : zn σ0 = q + 4 := by rw [a2, ← hq]; rfl
  have c0 : zc σ0 = zc α + 4 := a8
  have w0 : zw σ0 = zw α + 3040 := a9
  obtain ⟨σ1, b1, b2, b3, b4, b5, b6, b7⟩ := kliI (α := σ0)
  rw [n0] at b1 b2 b3 b4 b5
  have e1 : σ1.2 p = σ0.2 p := b4 p (by omega)
  have kp1 : zkd σ1 p = 41 := by rw [zkd_eq e1]; exact a4
  obtain ⟨σ2, g2⟩ : ∃ σ, σ = zwA σ1 40 12 p (some (q + 4)) := ⟨_, rfl⟩
  have o2 : ∀ r, r ≠ p → σ2.2 r = σ1.2 r := fun r hr => by rw [g2]; exact zwA_ne hr
  have n2 : zn σ2 = q + 6 := by rw [g2]; exact b5
  have kp2 : zkd σ2 p = 41 := by rw [g2, zkd_zwA]; exact kp1
  obtain ⟨σ3, c1, c2, c3, c4, c5, c6, c7⟩ := kliI (α := σ2)
  rw [n2] at c1 c2 c3 c4 c5
  have e3 : σ3.2 p = σ2.2 p := c4 p (by omega)
  have kp3 : zkd σ3 p = 41 := by rw [zkd_eq e3]; exact kp2
  obtain ⟨σ4, g4⟩ : ∃ σ, σ = zwA σ3 40 13 p (some (q + 6)) := ⟨_, rfl⟩
  have o4 : ∀ r, r ≠ p → σ4.2 r = σ3.2 r := fun r hr => by rw [g4]; exact zwA_ne hr
  have n4 : zn σ4 = q + 8 := by rw [g4]; exact c5
  have kp4 : zkd σ4 p = 41 := by rw [g4, zkd_zwA]; exact kp3
  obtain ⟨σ5, d1, d2, d3, d4, d5, d6, d7⟩ := kli0 (α := σ4)
  rw [n4] at d1 d2 d3 d4 d5
  have e5 : σ5.2 p = σ4.2 p := d4 p (by omega)
  have kp5 : zkd σ5 p = 41 := by rw [zkd_eq e5]; exact kp4
  obtain ⟨σ6, g6⟩ : ∃ σ, σ = zwA σ5 40 14 p (some (q + 8)) := ⟨_, rfl⟩
  have o6 : ∀ r, r ≠ p → σ6.2 r = σ5.2 r := fun r hr => by rw [g6]; exact zwA_ne hr
  have fin : hX4_init G (some p) α = some ((), σ6) := by
    have F : hX4_init G (some p) α = zInF 40 p xPI (fun σ8 => (znX σ8 2 3).bind fun p9 => (zLiI p9.2 p9.1 (2 : Int32)).bind fun p10 => (zpA p10.2 (some p) 40 12 p9.1).bind fun σ11 => (znX σ11 2 3).bind fun p12 => (zLiI p12.2 p12.1 (2 : Int32)).bind fun p13 => (zpA p13.2 (some p) 40 13 p12.1).bind fun σ14 => (znX σ14 2 3).bind fun p15 => (zLi0 p15.2 p15.1).bind fun p16 => (zpA p16.2 (some p) 40 14 p15.1).bind fun σ17 => some ((), σ17)) α := rfl
    rw [F, zInF_eq a1]
    show Option.bind (zLiI (zmk σ0 2003 0 3) (some (zn σ0)) 2) _ = _
    rw [n0, b1, gl_bs]
    show Option.bind (zpA σ1 (some p) 40 12 (some (q + 4))) _ = _
    rw [kpA kp1, gl_bs, ← g2]
    show Option.bind (zLiI (zmk σ2 2003 0 3) (some (zn σ2)) 2) _ = _
    rw [n2, c1, gl_bs]
    show Option.bind (zpA σ3 (some p) 40 13 (some (q + 6))) _ = _
    rw [kpA kp3, gl_bs, ← g4]
    show Option.bind (zLi0 (zmk σ4 2003 0 3) (some (zn σ4))) _ = _
    rw [n4, d1, gl_bs]
    show Option.bind (zpA σ5 (some p) 40 14 (some (q + 8))) _ = _
    rw [kpA kp5, gl_bs, ← g6]
  have E : ∀ r, r ≠ p → r < q + 4 → σ6.2 r = σ0.2 r := fun r hr h => (o6 r hr).trans ((d4 r (by omega)).trans ((o4 r hr).trans ((c4 r (by omega)).trans ((o2 r hr).trans (b4 r (by omega))))))
  have A : ∀ k, k ≠ 12 → k ≠ 13 → k ≠ 14 → zA σ6 40 k p = zA σ0 40 k p := fun k k1 k2 k3 => by
    rw [g6, zA_zwA, if_neg (fun z => k3 z.2.1), zA_eq e5, g4, zA_zwA, if_neg (fun z => k2 z.2.1), zA_eq e3, g2, zA_zwA, if_neg (fun z => k1 z.2.1), zA_eq e1]
  have A12 : zA σ6 40 12 p = some (q + 4) := by
    rw [g6, zA_zwA, if_neg (fun z => absurd z.2.1 (by decide)), zA_eq e5, g4, zA_zwA, if_neg (fun z => absurd z.2.1 (by decide)), zA_eq e3, g2, zA_zwA, if_pos ⟨rfl, rfl, rfl⟩]
  have A13 : zA σ6 40 13 p = some (q + 6) := by
    rw [g6, zA_zwA, if_neg (fun z => absurd z.2.1 (by decide)), zA_eq e5, g4, zA_zwA, if_pos ⟨rfl, rfl, rfl⟩]
  have A14 : zA σ6 40 14 p = some (q + 8) := by
    rw [g6, zA_zwA, if_pos ⟨rfl, rfl, rfl⟩]
  have I : ∀ k, zI σ6 40 k p = 0 := fun k => by
    rw [g6, zI_zwA, zI_eq e5, g4, zI_zwA, zI_eq e3, g2, zI_zwA, zI_eq e1, (a5 k).1]; exact hz k
  have kp6 : zkd σ6 p = 41 := by rw [g6, zkd_zwA]; exact kp5
  have pq : p ≠ q ∧ p ≠ q + 1 ∧ p ≠ q + 2 ∧ p ≠ q + 3 ∧ p ≠ q + 4 ∧ p ≠ q + 6 ∧ p ≠ q + 8 := by omega
  have kq : ∀ r, r ≠ p → r < q + 4 → zkd σ6 r = zkd σ0 r ∧ zln σ6 r = zln σ0 r := fun r h1 h2 => ⟨zkd_eq (E r h1 h2), zln_eq (E r h1 h2)⟩
  have ku : zkd σ6 (q + 4) = 3 := by
    rw [zkd_eq ((o6 _ (by omega)).trans ((d4 _ (by omega)).trans ((o4 _ (by omega)).trans ((c4 _ (by omega)).trans (o2 _ (by omega))))))]; exact b2
  have kr : zkd σ6 (q + 6) = 3 := by
    rw [zkd_eq ((o6 _ (by omega)).trans ((d4 _ (by omega)).trans (o4 _ (by omega))))]; exact c2
  have kl : zkd σ6 (q + 8) = 3 := by rw [zkd_eq (o6 _ (by omega))]; exact d2
  have n6 : zn σ6 = q + 9 := by rw [g6]; exact d5
  have no : ∀ {P : Prop} {i : Nat}, i < 0 → P := fun h => absurd h (Nat.not_lt_zero _)
  refine ⟨σ6, fin, pIdl.mk (Nat.zero_le _) (fun i hi => no hi) (fun i hi => no hi) (fun i hi => no hi) (show p ≤ q + 8 by omega) (show q ≤ q + 8 by omega) (show q + 1 ≤ q + 8 by omega) (show q + 2 ≤ q + 8 by omega) (show q + 3 ≤ q + 8 by omega) (show q + 4 ≤ q + 8 by omega) (show q + 6 ≤ q + 8 by omega) (Nat.le_refl _) (by omega) (pxW.mk kp6 ((A 0 (by decide) (by decide) (by decide)).trans h0.1) ((A 1 (by decide) (by decide) (by decide)).trans h1.1) (I 2) ((kq q (by omega) (by omega)).1.trans h0.2.1) ((kq (q + 1) (by omega) (by omega)).1.trans h1.2.1) ((kq q (by omega) (by omega)).2.trans h0.2.2) ((kq (q + 1) (by omega) (by omega)).2.trans h1.2.2) (fun i hi => no hi) (fun i hi => no hi)) m1 (fun i hi => no hi) (fun i hi => no hi) ((A 9 (by decide) (by decide) (by decide)).trans h2.1) ((A 10 (by decide) (by decide) (by decide)).trans h3.1) A12 A13 A14 ((kq (q + 2) (by omega) (by omega)).1.trans h2.2.1) ((kq (q + 3) (by omega) (by omega)).1.trans h3.2.1) ((kq (q + 2) (by omega) (by omega)).2.trans h2.2.2) ((kq (q + 3) (by omega) (by omega)).2.trans h3.2.2) ⟨show q + 2 ≠ q + 3 by omega, show q + 2 ≠ q by omega, show q + 2 ≠ q + 1 by omega, show q + 3 ≠ q by omega, show q + 3 ≠ q + 1 by omega⟩ ku kr kl ⟨show q + 4 ≠ q + 6 by omega, show q + 4 ≠ q + 8 by omega, show q + 6 ≠ q + 8 by omega⟩ (show q ≠ q + 1 by omega), n6, fun r hr hrp => (E r hrp (by omega)).trans (a3 r (by omega) hrp), ?_, I, ?_, ?_⟩
  · rw [A 11 (by decide) (by decide) (by decide)]
    exact a6 11 (by decide)
  · have e6 : zc σ6 = zc σ5 := by rw [g6]; rfl
    have e4 : zc σ4 = zc σ3 := by rw [g4]; rfl
    have e2 : zc σ2 = zc σ1 := by rw [g2]; rfl
    omega
  · have e6 : zw σ6 = zw σ5 := by rw [g6]; rfl
    have e4 : zw σ4 = zw σ3 := by rw [g4]; rfl
    have e2 : zw σ2 = zw σ1 := by rw [g2]; rfl
    omega
end PAZZZZV
