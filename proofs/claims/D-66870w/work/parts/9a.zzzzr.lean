/-! THE PURE LAYER: the parser: X's side alone: every clause. -/
section PAZZZZR
variable {ρ σ τ : Type} {c : pC} {G : xQ} {α β γ γ' δ ε α0 : zS} {a a' a1 b k w q r t u n x x' T T' E f i j o lu lr lo hi y X wn : Nat} {v v' v0 kv nm pr x4 x5 : Int32} {e e' e1 : Int32 × Int32} {L L' op l : List Nat} {M M' N S S' U U' : Nat → Prop} {m K K' K1 : List (Int32 × Int32)} {P : Int32 × Int32 → Prop} {p z tO : Option Nat}
theorem w_c30 (s : xBg c M U z lu lr u l x a α) (h7 : zI α 40 7 c.p = nI 0) (hn : ∀ i, i < c.n → c.ks i = 1 → c.vs i < 999) {x0 : Int32} : wx (hX4_clause_30 G (some c.p) x0 (some c.p) α) (fun _ β => zI β 40 7 c.p = nI 0 → xTC c lu lr β) := by
  have h := s.hh
  have a5 := h.a5
  have fin : ∀ {m : zF (Unit ⊕ Nat)}, wx m (fun _ β => xWN c U lu lr u l β) → wx m (fun _ β => zI β 40 7 c.p = nI 0 → xTC c lu lr β) := fun hm => wx_im hm fun _ β W _ => W.out s.h1 s.h2 s.h3
  unfold hX4_clause_30
  refine wx_zc (w_must h fun _ => ?_)
  show wx (Option.bind (zfI α (some c.p) 40 3) _) _
  rw [kfI h.kp, gl_bs, h.ax]
  refine wx_z ?_
  rw [show (2 : Int32) = nI 2 from rfl, X_isK h.o h.x (by omega) (by decide), gl_bs]
  refine wx_if (fun _ => ?_) (fun _ => ?_)
  · show wx (Option.bind (zfI α (some c.p) 40 3) _) _
    rw [kfI h.kp, gl_bs, h.ax]
    refine wx_z ?_
    rw [nl1, X_isK h.o h.x (by omega) (by decide), gl_bs]
    refine wx_if (fun _ => ?_) (fun _ => ?_)
    · refine wx_z ?_
      show wx (Option.bind (hX4_isStatement G (some c.p) α) _) _
      rw [X_isB h.o h.x h.ax (by omega), gl_bs]
      refine wx_if (fun _ => ?_) (fun _ => ?_)
      · show wx (Option.bind (zfI α (some c.p) 40 3) _) _
        rw [kfI h.kp, gl_bs, h.ax]
        refine wx_z ?_
        rw [nl0, X_isK h.o h.x (by omega) (by decide), gl_bs]
        refine wx_if (fun _ => ?_) (fun _ => ?_)
        · unfold hX4_clause_111
          refine wx_zc (wx_im (w_header s h7) fun _ β y => ?_)
          unfold hX4_clause_114
          exact wx_l y
        · show wx (Option.bind (zfA α (some c.p) 40 1) _) _
          refine wx_ob fun r11 _ => wx_ob fun x12 _ => wx_ob fun x13 _ => ?_
          unfold hX4_clause_111
          refine wx_zc (wx_im (w_header s h7) fun _ β y => ?_)
          unfold hX4_clause_114
          exact wx_l y
      · refine wx_zc (wx_im (fin (w_sentence s)) fun _ β y => ?_)
        unfold hX4_clause_114
        exact wx_l y
    · refine wx_zc (wx_im (fin (w_named s)) fun _ β y => ?_)
      unfold hX4_clause_114
      exact wx_l y
  · refine wx_zc (wx_im (fin (w_item s hn)) fun _ β y => ?_)
    unfold hX4_clause_114
    exact wx_l y
/-- every clause -/
theorem w_clause (h : xp c a α) (ha : a < c.n) (hO : xTo c U lu lr op α) (h1 : zA c.a0 40 11 c.p = op.head?) (h2 : zA c.a0 40 12 c.p = some lu) (h3 : zA c.a0 40 13 c.p = some lr) (h7 : zI α 40 7 c.p = nI 0) (hn : ∀ i, i < c.n → c.ks i = 1 → c.vs i < 999) : wx (hX4_clause G (some c.p) α) (fun _ β => zI β 40 7 c.p = nI 0 → xTC c lu lr β) := by
  have a5 := h.a5
  unfold hX4_clause
  rw [kfI h.kp, gl_bs, h.ax]
  refine wx_z ?_
  rw [nl0, X_isW h.o h.x (by omega) (by decide), gl_bs]
  refine wx_if (fun _ => ?_) (fun _ => wx_zc (wx_im (w_begin h ha hO h1 h2 h3) fun _ β y => wx_l fun _ => y))
  show wx (Option.bind (zfA α (some c.p) 40 11) _) _
  rw [kfA h.kp, gl_bs, (h.cu 11 (by decide) (by decide)).trans h1]
  rcases op with _ | ⟨u, l⟩
  · refine wx_if (fun _ => ?_) (fun y => absurd rfl y)
    unfold hX4_clause_30
    exact wx_zc (w_must h fun y => absurd rfl y)
  · refine wx_if (fun y => absurd y (by simp)) (fun _ => ?_)
    obtain ⟨M, z, x, B⟩ := hO
    exact w_c30 (xBg.mk B h ha h1 h2 h3) h7 hn
end PAZZZZR
