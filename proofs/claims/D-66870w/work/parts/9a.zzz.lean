/-! THE PURE LAYER: the parser: the end of a parse. -/
section PAZZZ
variable {L L2 : Nat → Prop} {c : pC} {D D' : pD} {G : xQ} {α β : zS} {s s' s1 : zM} {B at' a a1 b d e f l N N' F F' p q t to u x y k i j w wh lv m S r : Nat} {g g' g2 : pG} {v v' x1 : Int32}
theorem X_note20 (kp : zkd α p = 41) (h : zI α 40 7 p = nI 20) : hX4_note G (some p) v v' α = some ((), α) := by
  unfold hX4_note
  rw [kfI kp, gl_bs, h, if_neg (by decide)]
/-- whether the last unit may end here -/
def pEn (D : pD) : Prop := D.dp = 0 ∨ (D.dp = 1 ∧ 1 ≤ D.st 0 ∧ D.st 0 ≠ 9 ∧ D.hd 0 = 0)
theorem parE (h : pV c D L B a N F g α s) : ∃ β s' F', hX4_parse_138 G (some c.p) α = hX4_parse_192 G (some c.p) β ∧ gX26_parse_153 x1 s = gX26_parse_225 x1 s' ∧ pV c D L B a N F' g β s' ∧ F ≤ F' ∧ (F' = 0 → pEn D ∧ β = α) := by
  have h0 := h.o
  have kp := h0.x.kp
  have f20 := h0.f20
  have n5 := h0.n
  have d10 := h.d10
  have e20 : ∀ F, F ≤ 20 → ((20 : Int32) ≤ nI F ↔ 20 ≤ F) := fun F hF => by rw [show (20 : Int32) = nI 20 from rfl, pI_le (by decide) (by omega)]
  have Good : pEn D → hX4_parse_138 G (some c.p) α = hX4_parse_173 G (some c.p) α ∧ (gX26_parse_153 x1 s = gX26_parse_195 x1 1 s ∨ D.dp = 0 ∧ gX26_parse_153 x1 s = gX26_parse_195 x1 0 s) := fun z => by
    rcases z with z | ⟨z1, z2, z3, z4⟩
    · have cu := h.cu
      rw [if_pos z] at cu
      refine ⟨?_, .inr ⟨z, ?_⟩⟩
      · unfold hX4_parse_138
        rw [kfA kp, gl_bs, cu, if_pos rfl]
      · unfold gX26_parse_153
        rw [gl_x, h.dm, z, if_pos (by decide)]
        rfl
    · have o := h.op 0 (by omega)
      have U := h.u _ o.u
      have cu := h.cu
      have s12 := o.s12
      rw [z1, if_neg (by decide)] at cu
      have ku := U.kn
      refine ⟨?_, .inl ?_⟩
      · unfold hX4_parse_138
        rw [kfA kp, gl_bs, cu, if_neg (by simp), kfI kp, gl_bs, h.dx, z1, if_neg (show ¬ ¬ nI 1 = 1 from fun z => z rfl), gl_bs, if_pos (of_eq_true (kis ku (by decide)))]
        have Cn : hX42_canEnd G (some (D.ou (D.os 0))) α = some (1, α) := by
          unfold hX42_canEnd hX42_canEnd_20 hX42_canEnd_21
          rw [kfI ku, gl_bs, o.xs, if_neg (by rw [nl0, pI_le (by omega) (by decide)]; omega), gl_bs, if_neg (by rw [nl9, pI_inj (by omega) (by decide)]; exact z3)]
          rfl
        show Option.bind (hX42_canEnd G (some (D.ou (D.os 0))) α) _ = _
        rw [Cn, gl_bs, if_neg (show ¬ (1 : Int32) = 0 from by decide)]
        show Option.bind (zfA α (some c.p) 40 11) _ = _
        rw [kfA kp, gl_bs, cu, kfI ku, gl_bs, o.xh, z4, if_neg (show ¬ ¬ nI 0 = 0 from fun z => z rfl)]
      · unfold gX26_parse_153
        rw [gl_x, h.dm, z1, if_neg (show ¬ ¬ nI 1 = 1 from fun z => z rfl), nl0, pgld (by decide) (by decide), gl_bs, o.ms, if_neg (by rw [pI_inj (by omega) (by decide)]; omega), gl_bs, if_neg (by rw [nl9, pI_inj (by omega) (by decide)]; exact z3), pgld (by decide) (by decide), gl_bs, o.mh, z4, if_neg (show ¬ ¬ nI 0 = nI 0 from fun z => z rfl)]
  have Bad : ¬ pEn D → hX4_parse_138 G (some c.p) α = hX4_parse_177 G (some c.p) α ∧ gX26_parse_153 x1 s = gX26_parse_195 x1 0 s := fun z => by
    have d0 : D.dp ≠ 0 := fun y => z (.inl y)
    have cu := h.cu
    rw [if_neg d0] at cu
    by_cases d1 : D.dp = 1
    · have o := h.op 0 (by omega)
      have U := h.u _ o.u
      have s12 := o.s12
      have h1 := o.h1
      have ku := U.kn
      rw [d1] at cu
      have cu' : zA α 40 11 c.p = some (D.ou (D.os 0)) := cu
      constructor
      · unfold hX4_parse_138
        rw [kfA kp, gl_bs, cu', if_neg (by simp), kfI kp, gl_bs, h.dx, d1, if_neg (show ¬ ¬ nI 1 = 1 from fun z => z rfl), gl_bs, if_pos (of_eq_true (kis ku (by decide)))]
        have Cn : hX42_canEnd G (some (D.ou (D.os 0))) α = some (nI (b2n (decide (1 ≤ D.st 0 ∧ D.st 0 ≠ 9))), α) := by
          unfold hX42_canEnd hX42_canEnd_20 hX42_canEnd_21
          rw [kfI ku, gl_bs, o.xs]
          by_cases y : D.st 0 = 0
          · rw [y, if_pos (by decide), decide_eq_false (by omega)]; rfl
          · rw [if_neg (by rw [nl0, pI_le (by omega) (by decide)]; omega), gl_bs]
            by_cases y9 : D.st 0 = 9
            · rw [y9, if_pos (by decide)]; rfl
            · rw [if_neg (by rw [nl9, pI_inj (by omega) (by decide)]; exact y9), decide_eq_true (by omega)]; rfl
        show Option.bind (hX42_canEnd G (some (D.ou (D.os 0))) α) _ = _
        rw [Cn, gl_bs]
        by_cases y : 1 ≤ D.st 0 ∧ D.st 0 ≠ 9
        · rw [decide_eq_true y, if_neg (show ¬ nI (b2n true) = 0 from bT)]
          show Option.bind (zfA α (some c.p) 40 11) _ = _
          rw [kfA kp, gl_bs, cu', kfI ku, gl_bs, o.xh, if_pos]
          intro y2
          rw [nl0, pI_inj (by omega) (by decide)] at y2
          exact z (.inr ⟨d1, y.1, y.2, y2⟩)
        · rw [decide_eq_false y, if_pos (show nI (b2n false) = 0 from rfl)]
      · unfold gX26_parse_153
        rw [gl_x, h.dm, d1, if_neg (show ¬ ¬ nI 1 = 1 from fun z => z rfl), nl0, pgld (by decide) (by decide), gl_bs, o.ms]
        by_cases y : D.st 0 = 0
        · rw [y, if_pos rfl]; rfl
        · rw [if_neg (by rw [pI_inj (by omega) (by decide)]; exact y), gl_bs]
          by_cases y9 : D.st 0 = 9
          · rw [y9, if_pos (by decide)]; rfl
          · rw [if_neg (by rw [nl9, pI_inj (by omega) (by decide)]; exact y9), pgld (by decide) (by decide), gl_bs, o.mh, if_pos]
            · rfl
            · rw [pI_inj (by omega) (by decide)]
              exact fun y2 => z (.inr ⟨d1, by omega, y9, y2⟩)
    · constructor
      · unfold hX4_parse_138
        rw [kfA kp, gl_bs, cu, if_neg (by simp), kfI kp, gl_bs, h.dx, if_pos (by rw [nl1, pI_inj (by omega) (by decide)]; exact d1)]
      · unfold gX26_parse_153
        rw [gl_x, h.dm, if_pos (by rw [nl1, pI_inj (by omega) (by decide)]; exact d1)]
        rfl
  by_cases z : pEn D
  · obtain ⟨g1, g2⟩ := Good z
    refine ⟨α, s, F, ?_, ?_, h, Nat.le_refl _, fun _ => ⟨z, rfl⟩⟩
    · rw [g1]
      unfold hX4_parse_173 hX4_parse_178
      rw [if_pos (by decide)]
    · rcases g2 with g2 | ⟨g3, g2⟩
      · rw [g2]
        unfold gX26_parse_195
        rw [gl_x, h0.fm]
        by_cases y : 20 ≤ F
        · rw [if_pos ((e20 F f20).mpr y)]
        · rw [if_neg (fun x => y ((e20 F f20).mp x)), gl_x, h.dm]
          by_cases y2 : D.dp = 0
          · rw [y2, if_pos (by decide)]
          · rw [if_neg (by rw [nl0, pI_le (by omega) (by decide)]; omega), if_pos (by decide)]
      · rw [g2]
        unfold gX26_parse_195
        rw [gl_x, h0.fm]
        by_cases y : 20 ≤ F
        · rw [if_pos ((e20 F f20).mpr y)]
        · rw [if_neg (fun x => y ((e20 F f20).mp x)), gl_x, h.dm, g3, if_pos (by decide)]
  · obtain ⟨b1, b2⟩ := Bad z
    have d0 : D.dp ≠ 0 := fun y => z (.inl y)
    by_cases y : 20 ≤ F
    · have y20 : F = 20 := by omega
      refine ⟨α, s, F, ?_, ?_, h, Nat.le_refl _, fun e => by omega⟩
      · rw [b1]
        unfold hX4_parse_177 hX4_parse_178
        rw [if_neg (by decide), kfI kp, gl_bs, if_pos (of_eq_true (kis kp (by decide))), X_note20 kp (by rw [h0.fx, y20]), gl_bs]
      · rw [b2]
        unfold gX26_parse_195
        rw [gl_x, h0.fm, if_pos ((e20 F f20).mpr y)]
    · obtain ⟨w1, w2, V⟩ := pV_note (G := G) (wh := 1) (w := c.n) h (by omega)
      refine ⟨_, _, F + 1, ?_, ?_, V, by omega, fun e => by omega⟩
      · rw [b1]
        unfold hX4_parse_177 hX4_parse_178
        rw [if_neg (by decide), kfI kp, gl_bs, h0.x.fn, if_pos (of_eq_true (kis kp (by decide)))]
        show Option.bind (hX4_note G (some c.p) (nI 1) (nI c.n) α) _ = _
        rw [w1, gl_bs]
      · rw [b2]
        unfold gX26_parse_195
        rw [gl_x, h0.fm, if_neg (fun x => y ((e20 F f20).mp x)), gl_x, h.dm, if_neg (by rw [nl0, pI_le (by omega) (by decide)]; omega), if_neg (by decide), gl_x, h0.m.fn]
        show Option.bind (gX26_note (nI 1) (nI c.n) s) _ = _
        rw [w2, gl_bs]
end PAZZZ
