/-! THE PURE LAYER: the parser: a statement's verb, on both sides. -/
def xVb (G : xQ) (FX4_add : (Option Nat) → (Option Nat) → zS → zF (Unit ⊕ Nat)) (FX4_branch : (Option Nat) → (Option Nat) → zS → zF (Unit ⊕ Nat)) (FX4_evaluate : (Option Nat) → (Option Nat) → zS → zF (Unit ⊕ Nat)) (FX4_list : (Option Nat) → (Option Nat) → zS → zF (Unit ⊕ Nat)) (FX4_perform : (Option Nat) → (Option Nat) → zS → zF (Unit ⊕ Nat)) (FX4_statement : (Option Nat) → (Option Nat) → zS → zF (Unit ⊕ Nat)) (r_0 : Option Nat) (x_2 : Int32) (r_3 : Option Nat) (σ : zS) : zF (Unit ⊕ Nat) :=
  if x_2 < 29 ∨ 47 < x_2 then
    hX4_statement_446 G FX4_add FX4_branch FX4_evaluate FX4_list FX4_perform FX4_statement  σ
  else if x_2 = 29 then
    if zis G σ r_0 41 = true then
      zcase (hX4_operands G r_0 r_3 σ) (fun p20 =>
        hX4_statement_446 G FX4_add FX4_branch FX4_evaluate FX4_list FX4_perform FX4_statement  p20.2) (fun p21 =>
        if zthr p21.2 p21.1 3 = true then
          some (.inr p21.1, p21.2)
        else none)
    else none
  else if x_2 = 30 then
    hX4_statement_446 G FX4_add FX4_branch FX4_evaluate FX4_list FX4_perform FX4_statement  σ
  else if x_2 = 31 then
    hX4_statement_446 G FX4_add FX4_branch FX4_evaluate FX4_list FX4_perform FX4_statement  σ
  else if x_2 = 32 then
    hX4_statement_446 G FX4_add FX4_branch FX4_evaluate FX4_list FX4_perform FX4_statement  σ
  else if x_2 = 33 then
    hX4_statement_446 G FX4_add FX4_branch FX4_evaluate FX4_list FX4_perform FX4_statement  σ
  else if x_2 = 34 then
    hX4_statement_446 G FX4_add FX4_branch FX4_evaluate FX4_list FX4_perform FX4_statement  σ
  else if x_2 = 35 then
    hX4_statement_446 G FX4_add FX4_branch FX4_evaluate FX4_list FX4_perform FX4_statement  σ
  else if x_2 = 36 then
    if zis G σ r_0 41 = true then
      zcase (hX4_operand G r_0 1 σ) (fun p22 =>
        if zis G p22.2 r_3 45 = true then
          (hX43_add G r_3 p22.1 p22.2).bind fun p23 =>
          if zis G p23.2 r_0 41 = true then
            zcase (hX4_need G r_0 48 p23.2) (fun p24 =>
              if zis G p24.2 r_0 41 = true then
                zcase (hX4_targets G r_0 r_3 p24.2) (fun p25 =>
                  hX4_statement_446 G FX4_add FX4_branch FX4_evaluate FX4_list FX4_perform FX4_statement  p25.2) (fun p26 =>
                  if zthr p26.2 p26.1 3 = true then
                    some (.inr p26.1, p26.2)
                  else none)
              else none) (fun p27 =>
              if zthr p27.2 p27.1 3 = true then
                some (.inr p27.1, p27.2)
              else none)
          else none
        else none) (fun p28 =>
        if zthr p28.2 p28.1 3 = true then
          some (.inr p28.1, p28.2)
        else none)
    else none
  else if x_2 = 37 then
    if zis G σ r_0 41 = true then
      zcase (FX4_add r_0 r_3 σ) (fun p29 =>
        hX4_statement_446 G FX4_add FX4_branch FX4_evaluate FX4_list FX4_perform FX4_statement  p29.2) (fun p30 =>
        if zthr p30.2 p30.1 3 = true then
          some (.inr p30.1, p30.2)
        else none)
    else none
  else if x_2 = 38 then
    if zis G σ r_0 41 = true then
      zcase (hX4_condition G r_0 σ) (fun p31 =>
        if zis G p31.2 r_3 45 = true then
          (hX43_add G r_3 p31.1 p31.2).bind fun p32 =>
          if zis G p32.2 r_0 41 = true then
            (hX4_meets G r_0 52 p32.2).bind fun p33 =>
            if zis G p33.2 r_0 41 = true then
              zcase (FX4_branch r_0 r_3 p33.2) (fun p34 =>
                if zis G p34.2 r_0 41 = true then
                  (hX4_meets G r_0 53 p34.2).bind fun p35 =>
                  if p35.1 = 0 then
                    hX4_statement_223 G FX4_add FX4_branch FX4_evaluate FX4_list FX4_perform FX4_statement r_0 r_3 p35.2
                  else
                    if zis G p35.2 r_0 41 = true then
                      zcase (FX4_branch r_0 r_3 p35.2) (fun p36 =>
                        hX4_statement_223 G FX4_add FX4_branch FX4_evaluate FX4_list FX4_perform FX4_statement r_0 r_3 p36.2) (fun p37 =>
                        if zthr p37.2 p37.1 3 = true then
                          some (.inr p37.1, p37.2)
                        else none)
                    else none
                else none) (fun p38 =>
                if zthr p38.2 p38.1 3 = true then
                  some (.inr p38.1, p38.2)
                else none)
            else none
          else none
        else none) (fun p39 =>
        if zthr p39.2 p39.1 3 = true then
          some (.inr p39.1, p39.2)
        else none)
    else none
  else if x_2 = 39 then
    if zis G σ r_0 41 = true then
      zcase (FX4_perform r_0 r_3 σ) (fun p40 =>
        hX4_statement_446 G FX4_add FX4_branch FX4_evaluate FX4_list FX4_perform FX4_statement  p40.2) (fun p41 =>
        if zthr p41.2 p41.1 3 = true then
          some (.inr p41.1, p41.2)
        else none)
    else none
  else if x_2 = 40 then
    if zis G σ r_0 41 = true then
      zcase (FX4_evaluate r_0 r_3 σ) (fun p42 =>
        hX4_statement_446 G FX4_add FX4_branch FX4_evaluate FX4_list FX4_perform FX4_statement  p42.2) (fun p43 =>
        if zthr p43.2 p43.1 3 = true then
          some (.inr p43.1, p43.2)
        else none)
    else none
  else if x_2 = 41 then
    if zis G σ r_0 41 = true then
      zcase (hX4_take G r_0 1 σ) (fun p44 =>
        (zpI p44.2 r_3 44 1 p44.1).bind fun σ45 =>
        if zis G σ45 r_0 41 = true then
          (hX4_meets G r_0 61 σ45).bind fun p46 =>
          if p46.1 = 0 then
            hX4_statement_278 G FX4_add FX4_branch FX4_evaluate FX4_list FX4_perform FX4_statement r_0 r_3 p46.2
          else
            if zis G p46.2 r_0 41 = true then
              zcase (hX4_need G r_0 33 p46.2) (fun p47 =>
                if zis G p47.2 r_0 41 = true then
                  zcase (FX4_list r_0 r_3 p47.2) (fun p48 =>
                    hX4_statement_278 G FX4_add FX4_branch FX4_evaluate FX4_list FX4_perform FX4_statement r_0 r_3 p48.2) (fun p49 =>
                    if zthr p49.2 p49.1 3 = true then
                      some (.inr p49.1, p49.2)
                    else none)
                else none) (fun p50 =>
                if zthr p50.2 p50.1 3 = true then
                  some (.inr p50.1, p50.2)
                else none)
            else none
        else none) (fun p51 =>
        if zthr p51.2 p51.1 3 = true then
          some (.inr p51.1, p51.2)
        else none)
    else none
  else if x_2 = 42 then
    (zfI σ r_0 40 3).bind fun x52 =>
    if zis G σ r_0 41 = true then
      (hX4_isKind G r_0 x52 2 σ).bind fun p53 =>
      if ¬ p53.1 = 0 then
        hX4_statement_306 G FX4_add FX4_branch FX4_evaluate FX4_list FX4_perform FX4_statement r_0 r_3 0 r_0 p53.2
      else
        hX4_statement_306 G FX4_add FX4_branch FX4_evaluate FX4_list FX4_perform FX4_statement r_0 r_3 1 r_0 p53.2
    else none
  else if x_2 = 43 then
    if zis G σ r_0 41 = true then
      (hX4_meets G r_0 48 σ).bind fun p54 =>
      if zis G p54.2 r_0 41 = true then
        zcase (hX4_take G r_0 1 p54.2) (fun p55 =>
          (zpI p55.2 r_3 44 1 p55.1).bind fun σ56 =>
          hX4_statement_446 G FX4_add FX4_branch FX4_evaluate FX4_list FX4_perform FX4_statement  σ56) (fun p57 =>
          if zthr p57.2 p57.1 3 = true then
            some (.inr p57.1, p57.2)
          else none)
      else none
    else none
  else if x_2 = 44 then
    if zis G σ r_0 41 = true then
      zcase (hX4_need G r_0 63 σ) (fun p58 =>
        hX4_statement_446 G FX4_add FX4_branch FX4_evaluate FX4_list FX4_perform FX4_statement  p58.2) (fun p59 =>
        if zthr p59.2 p59.1 3 = true then
          some (.inr p59.1, p59.2)
        else none)
    else none
  else if x_2 = 45 then
    hX4_statement_446 G FX4_add FX4_branch FX4_evaluate FX4_list FX4_perform FX4_statement  σ
  else if x_2 = 46 then
    hX4_statement_446 G FX4_add FX4_branch FX4_evaluate FX4_list FX4_perform FX4_statement  σ
  else if x_2 = 47 then
    if zis G σ r_0 41 = true then
      zcase (hX4_take G r_0 1 σ) (fun p60 =>
        (zpI p60.2 r_3 44 1 p60.1).bind fun σ61 =>
        (zfI σ61 r_0 40 3).bind fun x62 =>
        if zis G σ61 r_0 41 = true then
          (hX4_isSign G r_0 x62 2 σ61).bind fun p63 =>
          if zis G p63.2 r_0 41 = true then
            zcase (hX4_must G r_0 p63.1 p63.2) (fun p64 =>
              (zfI p64.2 r_0 40 3).bind fun x65 =>
              (zpI p64.2 r_0 40 3 (x65 + (1 : Int32))).bind fun σ66 =>
              if zis G σ66 r_0 41 = true then
                zcase (hX4_sum G xRec r_0 σ66) (fun p67 =>
                  if zis G p67.2 r_3 45 = true then
                    (hX43_add G r_3 p67.1 p67.2).bind fun p68 =>
                    if zis G p68.2 r_0 41 = true then
                      (hX4_scopeEnd G r_0 r_3 78 p68.2).bind fun p69 =>
                      hX4_statement_446 G FX4_add FX4_branch FX4_evaluate FX4_list FX4_perform FX4_statement  p69.2
                    else none
                  else none) (fun p70 =>
                  if zthr p70.2 p70.1 3 = true then
                    some (.inr p70.1, p70.2)
                  else none)
              else none) (fun p71 =>
              if zthr p71.2 p71.1 3 = true then
                some (.inr p71.1, p71.2)
              else none)
          else none
        else none) (fun p72 =>
        if zthr p72.2 p72.1 3 = true then
          some (.inr p72.1, p72.2)
        else none)
    else none
  else none
def mVb (x_3 : Int32) (t : Int32) (s : zM) : gF Unit :=
  if x_3 < 29 ∨ 47 < x_3 then
    gX26_statement_521 s
  else
    if x_3 = 29 then
      (gX26_operandOf t s).bind fun p10 =>
      gX26_statement_444 t p10.2
    else
      if x_3 = 30 then
        gX26_statement_521 s
      else
        if x_3 = 31 then
          gX26_statement_521 s
        else
          if x_3 = 32 then
            gX26_statement_521 s
          else
            if x_3 = 33 then
              gX26_statement_521 s
            else
              if x_3 = 34 then
                gX26_statement_521 s
              else
                if x_3 = 35 then
                  gX26_statement_521 s
                else
                  if x_3 = 36 then
                    (gX26_operandOf t s).bind fun p11 =>
                    (gX26_must 48 p11.2).bind fun p12 =>
                    if p12.1 = 0 then
                      gX26_statement_521 p12.2
                    else
                      (gX26_names t 41 p12.2).bind fun p13 =>
                      gX26_statement_521 p13.2
                  else
                    if x_3 = 37 then
                      (gX26_add t s).bind fun p14 =>
                      gX26_statement_521 p14.2
                    else
                      if x_3 = 38 then
                        (gX26_conditionOf t s).bind fun p15 =>
                        xlet (ls p15.2 43) fun x16 =>
                        if ¬ x16 = 0 then
                          gX26_statement_335 x_3 t p15.2
                        else
                          xlet (ls p15.2 41) fun x17 =>
                          (gX26_isWord x17 52 p15.2).bind fun p18 =>
                          if p18.1 = 0 then
                            gX26_statement_335 x_3 t p18.2
                          else
                            xlet (ls p18.2 41) fun x19 =>
                            xlet (us p18.2 41 (x19 + (1 : Int32))) fun s20 =>
                            gX26_statement_335 x_3 t s20
                      else
                        if x_3 = 39 then
                          (gX26_perform t s).bind fun p21 =>
                          gX26_statement_521 p21.2
                        else
                          if x_3 = 40 then
                            (gX26_operandOf t s).bind fun p22 =>
                            xlet (ls p22.2 43) fun x23 =>
                            if ¬ x23 = 0 then
                              gX26_statement_390 x_3 t p22.2
                            else
                              xlet (ls p22.2 41) fun x24 =>
                              (gX26_isWord x24 59 p22.2).bind fun p25 =>
                              if ¬ p25.1 = 0 then
                                gX26_statement_390 x_3 t p25.2
                              else
                                xlet (ls p25.2 41) fun x26 =>
                                (gX26_fail 1 x26 p25.2).bind fun p27 =>
                                gX26_statement_390 x_3 t p27.2
                          else
                            if x_3 = 41 then
                              (gX26_mustBe 1 s).bind fun p28 =>
                              if p28.1 = 0 then
                                gX26_statement_419 x_3 t p28.2
                              else
                                (gX26_passed p28.2).bind fun p30 =>
                                (gst p30.2 10 8000 t p30.1).bind fun s31 =>
                                gX26_statement_419 x_3 t s31
                            else
                              if x_3 = 42 then
                                (gX26_call t s).bind fun p32 =>
                                gX26_statement_521 p32.2
                              else
                                if x_3 = 43 then
                                  (gX26_meets 48 s).bind fun p33 =>
                                  (gX26_mustBe 1 p33.2).bind fun p34 =>
                                  if p34.1 = 0 then
                                    gX26_statement_521 p34.2
                                  else
                                    (gX26_passed p34.2).bind fun p36 =>
                                    (gst p36.2 10 8000 t p36.1).bind fun s37 =>
                                    gX26_statement_521 s37
                                else
                                  if x_3 = 44 then
                                    (gX26_must 63 s).bind fun p38 =>
                                    gX26_statement_521 p38.2
                                  else
                                    if x_3 = 45 then
                                      gX26_statement_521 s
                                    else
                                      if x_3 = 46 then
                                        gX26_statement_521 s
                                      else
                                        if x_3 = 47 then
                                          (gX26_compute t s).bind fun p39 =>
                                          gX26_statement_521 p39.2
                                        else
                                          none
/-- X's methods of statements with f levels left -/
def xVf (c : pC) (G : xQ) (f : Nat) (v : Nat) (q : Nat) (α : zS) : zF (Unit ⊕ Nat) := xVb G (rrX4_add G f).1 (rrX4_add G f).2.1 (rrX4_add G f).2.2.1 (rrX4_add G f).2.2.2.1 (rrX4_add G f).2.2.2.2.1 (rrX4_add G f).2.2.2.2.2 (some c.p) (nI v) (some q) α
/-- the rank of statements that are d deep -/
def rS (d : Nat) : Nat := 1800 - 10 * d
/-- a verb's kind of node -/
def vK (v : Nat) : Nat := if v = 29 then 33 else if v ≤ 42 then v - 10 else v - 9
section PAYA
variable {c : pC} {G : xQ} {α β γ αs : zS} {s s' s2 ss : zM} {a a1 a' d b b' N N' N2 Ns as bs k t t2 u w wh q r F F1 F' Fs f y to n jn o K : Nat} {g g' g2 gs : pG} {v v' kv : Int32} {l ts : List Nat}
theorem M_stK {x : Nat} (hx : x = 29 ∨ 36 ≤ x ∧ x ≤ 47) (h3 : gld s 3 1500 (ls s 41) = some (nI x)) : gX26_statement v s = gX26_statement_160 v (ls s 41) (nI x) (nI (vK x)) (us s 41 (ls s 41 + 1)) := by
  unfold gX26_statement
  rw [gl_x, gl_x, h3, gl_bs, gl_x, gl_x]
  have : x = 29 ∨ x = 36 ∨ x = 37 ∨ x = 38 ∨ x = 39 ∨ x = 40 ∨ x = 41 ∨ x = 42 ∨ x = 43 ∨ x = 44 ∨ x = 45 ∨ x = 46 ∨ x = 47 := by omega
  rcases this with rfl | rfl | rfl | rfl | rfl | rfl | rfl | rfl | rfl | rfl | rfl | rfl | rfl
  · rw [if_pos (by decide), if_pos (by decide), if_pos (by decide), if_pos (by decide), if_pos (by decide), if_pos (by decide), if_pos (by decide), if_neg (by decide)]
    rfl
  · rw [if_neg (by decide)]
    rfl
  · rw [if_pos (by decide), if_neg (by decide)]
    rfl
  · rw [if_pos (by decide), if_pos (by decide), if_neg (by decide)]
    rfl
  · rw [if_pos (by decide), if_pos (by decide), if_pos (by decide), if_neg (by decide)]
    rfl
  · rw [if_pos (by decide), if_pos (by decide), if_pos (by decide), if_pos (by decide), if_neg (by decide)]
    rfl
  · rw [if_pos (by decide), if_pos (by decide), if_pos (by decide), if_pos (by decide), if_pos (by decide), if_neg (by decide)]
    rfl
  · rw [if_pos (by decide), if_pos (by decide), if_pos (by decide), if_pos (by decide), if_pos (by decide), if_pos (by decide), if_neg (by decide)]
    rfl
  · rw [if_pos (by decide), if_pos (by decide), if_pos (by decide), if_pos (by decide), if_pos (by decide), if_pos (by decide), if_pos (by decide), if_pos (by decide), if_neg (by decide)]
    rfl
  · rw [if_pos (by decide), if_pos (by decide), if_pos (by decide), if_pos (by decide), if_pos (by decide), if_pos (by decide), if_pos (by decide), if_pos (by decide), if_pos (by decide), if_neg (by decide)]
    rfl
  · rw [if_pos (by decide), if_pos (by decide), if_pos (by decide), if_pos (by decide), if_pos (by decide), if_pos (by decide), if_pos (by decide), if_pos (by decide), if_pos (by decide), if_pos (by decide), if_neg (by decide)]
    rfl
  · rw [if_pos (by decide), if_pos (by decide), if_pos (by decide), if_pos (by decide), if_pos (by decide), if_pos (by decide), if_pos (by decide), if_pos (by decide), if_pos (by decide), if_pos (by decide), if_pos (by decide), if_neg (by decide)]
    rfl
  · rw [if_pos (by decide), if_pos (by decide), if_pos (by decide), if_pos (by decide), if_pos (by decide), if_pos (by decide), if_pos (by decide), if_pos (by decide), if_pos (by decide), if_pos (by decide), if_pos (by decide), if_pos (by decide)]
    rfl
/-- M's verb: a node, below its list -/
theorem M_160 {x kd : Nat} : gX26_statement_160 v v' (nI x) (nI kd) s = (gX26_make (nI kd) 0 v' s).bind fun p8 => (gX26_attach v p8.1 p8.2).bind fun p9 => mVb (nI x) p8.1 p9.2 := rfl
theorem X_43 {FA FB FE FL FP FS : (Option Nat) → (Option Nat) → zS → zF (Unit ⊕ Nat)} {r0 r1 r2 r3 : Option Nat} {x2 x0 : Int32} : hX4_statement_43 G FA FB FE FL FP FS r0 x2 x0 r1 r2 r3 α = (zfI α r0 40 3).bind fun x15 => if zis G α r1 45 = true then (hX43_init G r1 x0 0 x15 α).bind fun p16 => if zis G p16.2 r3 45 = true then (hX43_add G r3 r2 p16.2).bind fun p17 => (zfI p17.2 r0 40 3).bind fun x18 => (zpI p17.2 r0 40 3 (x18 + (1 : Int32))).bind fun σ19 => xVb G FA FB FE FL FP FS r0 x2 p17.1 σ19 else none else none := rfl
theorem X_stK {FA FB FE FL FP FS : (Option Nat) → (Option Nat) → zS → zF (Unit ⊕ Nat)} {r : Option Nat} (h : pR c a d b N y g α s) (hB : wB c a = true) : hX4_statement_r G FA FB FE FL FP FS (some c.p) r α = hX4_statement_43 G FA FB FE FL FP FS (some c.p) (nI (c.vs a)) (nI (vK (c.vs a))) (some (zn α)) (some (zn α)) r (zmk α 45 0 9) := by
  obtain ⟨b1, b2, b3⟩ := wB_i hB
  obtain ⟨v1, v2⟩ := X_wv h b1
  have kp := h.kp
  have ax := h.ax
  unfold hX4_statement_r
  rw [v1, gl_bs, kfI kp, ax, gl_bs, v2, gl_bs, znO_e, gl_bs]
  unfold vK
  by_cases e : c.vs a = 29
  · rw [if_neg (fun z => z (by rw [e]; rfl)), if_pos e]
    rfl
  · rw [if_pos (by rw [show (29 : Int32) = nI 29 from rfl, pI_inj (by omega) (by decide)]; exact e), if_neg e]
    by_cases e2 : c.vs a ≤ 42
    · rw [if_pos (by rw [show (42 : Int32) = nI 42 from rfl, pI_le (by omega) (by decide)]; exact e2), if_pos e2, show (10 : Int32) = nI 10 from rfl, pI_sub (by omega)]
    · rw [if_neg (by rw [show (42 : Int32) = nI 42 from rfl, pI_le (by omega) (by decide)]; exact e2), if_neg e2, show (9 : Int32) = nI 9 from rfl, pI_sub (by omega)]
theorem vK_ne (hB : wB c a = true) : nI (vK (c.vs a)) ≠ nI 53 := by
  obtain ⟨b1, b2, b3⟩ := wB_i hB
  have key : vK (c.vs a) < 50 := by
    unfold vK
    split
    · omega
    · split
      · omega
      · omega
  rw [ne_eq, pI_inj (by omega) (by decide)]
  omega
/-- both sides read a verb: the node N below node to -/
theorem pR.verb (h : pR c a d b N 0 g α s) (hb : pB c b a 14) (hB : wB c a = true) (h1 : c.N0 ≤ to) (h2 : to < N) (hr : rS d < g.r to) : ∃ α' s' g', hX4_statement_r G (rrX4_add G f).1 (rrX4_add G f).2.1 (rrX4_add G f).2.2.1 (rrX4_add G f).2.2.2.1 (rrX4_add G f).2.2.2.2.1 (rrX4_add G f).2.2.2.2.2 (some c.p) (some (g.oa to)) α = xVf c G f (c.vs a) (g'.oa N) α' ∧ gX26_statement (nI to) s = mVb (nI (c.vs a)) (nI N) s' ∧ pR c (a + 1) d (b + 3) (N + 1) 0 g' α' s' ∧ pX N g s (N + 1) g' s' ∧ g'.r N = rS d ∧ la s' 9 N = nI (vK (c.vs a)) ∧ g'.ch N = [] := by
  obtain ⟨b1, b2, b3⟩ := wB_i hB
  have a5 := h.a5
  have N0 := h.N0
  have N1 := h.k.N1
  have hN := h.N8 hb
  have vb := h.k.vs a b1
  have rv := h.mw.rv a b1
  obtain ⟨h3, hq⟩ := h.cell
  obtain ⟨β, x1, h4⟩ := h3.new (G := G) (kv := nI (vK (c.vs a))) (v := nI 0) (v' := nI a) (r := rS d) hq (vK_ne hB)
  obtain ⟨i1, i2⟩ := init_fr hq x1
  have lo := h.g.nd to h1 h2
  have hi := lo.hi
  have lo' := lo.lo
  have hp := h.k.p
  have hn := h.x.n
  have zm : zn (zmk α 45 0 9) = zn α + 1 := rfl
  have eN : (g.push N (zn α) (rS d)).oa N = zn α := by rw [push_oa, if_pos rfl]
  have eto : (g.push N (zn α) (rS d)).oa to = g.oa to := by rw [push_oa, if_neg (by omega)]
  have rN : (g.push N (zn α) (rS d)).r N = rS d := by rw [push_r, if_pos rfl]
  have rto : (g.push N (zn α) (rS d)).r to = g.r to := by rw [push_r, if_neg (by omega)]
  obtain ⟨γ, y1, y2, h5⟩ := h4.add (G := G) (to := to) (t := N) (by omega) h1 (by omega) N0 (by omega) (by rw [rN, rto]; exact hr) mMk_16 (by omega)
  rw [eto, eN] at y1
  have h6 := h5.adv b1
  have Mto : (g.push N (zn α) (rS d)).ch to = g.ch to := by rw [push_ch, if_neg (by omega)]
  rw [Mto] at y2 h5 h6
  -- M advances first
  have em : mAtS (mMk (maS s a) N (nI (vK (c.vs a))) (nI 0) (nI a)) to (g.ch to) N = maS (mAtS (mMk s N (nI (vK (c.vs a))) (nI 0) (nI a)) to (g.ch to) N) a := by rw [mMk_ma, mAtS_ma]
  have am := h.am
  have ad := h.adv b1
  have mk := M_make (s := maS s a) (N := N) (kv := nI (vK (c.vs a))) (v := nI 0) (v' := nI a) h.Nm (by omega)
  have o := h4.g.nd to h1 (by omega)
  have at1 : gX26_attach (nI to) (nI N) (mMk (maS s a) N (nI (vK (c.vs a))) (nI 0) (nI a)) = some ((), mAtS (mMk (maS s a) N (nI (vK (c.vs a))) (nI 0) (nI a)) to (g.ch to) N) := by
    have hm := (h.g.nd to h1 h2).mem
    have e9 : ∀ j, la (mMk (maS s a) N (nI (vK (c.vs a))) (nI 0) (nI a)) j = la (mMk s N (nI (vK (c.vs a))) (nI 0) (nI a)) j := fun j => by rw [mMk_ma]; rfl
    refine M_att ?_ ?_ ?_ (by omega) (by omega)
    · by_cases e : g.ch to = []
      · exact .inl e
      · have z1 := hm _ (last_mem e)
        have z2 : (g.ch to).headD 0 ∈ g.ch to := by
          generalize g.ch to = l at e
          cases l with
          | nil => exact absurd rfl e
          | cons x l => exact List.mem_cons_self
        have z3 := hm _ z2
        exact .inr ⟨e, by omega, by omega, by omega⟩
    · rw [e9, ← Mto]; exact o.hd
    · rw [e9, ← Mto]; exact o.lt
  refine ⟨xaS c γ a, maS (mAtS (mMk s N (nI (vK (c.vs a))) (nI 0) (nI a)) to (g.ch to) N) a, _, ?_, ?_, h6, ?_, ?_, ?_, ?_⟩
  · have kp3 := h3.kp
    have ax3 := h3.ax
    have kdq : zkd (zmk α 45 0 9) (zn α) = 45 := hq.kd
    have kto : zkd β (g.oa to) = 45 := by rw [zkd_eq (i1 _ (by omega) (by omega)), zkd_eq (zmk_ne (by omega))]; exact lo.kn
    have kp5 := h5.kp
    have ax5 := h5.ax
    rw [X_stK h hB, X_43, kfI kp3, ax3, gl_bs, if_pos (of_eq_true (kis kdq (by decide))), nl0]
    show ((hX43_init G (some (zn α)) (nI (vK (c.vs a))) (nI 0) (nI a) (zmk α 45 0 9)).bind _) = _
    rw [x1, gl_bs]
    show (if zis G β (some (g.oa to)) 45 = true then _ else _) = _
    rw [if_pos (of_eq_true (kis kto (by decide)))]
    show ((hX43_add G (some (g.oa to)) (some (zn α)) β).bind _) = _
    rw [y1, gl_bs]
    show ((zfI γ (some c.p) 40 3).bind _) = _
    rw [kfI kp5, ax5, gl_bs]
    show ((zpI γ (some c.p) 40 3 (nI a + 1)).bind _) = _
    rw [kpI kp5, gl_bs, pI_1, add_oa, eN]
    rfl
  · have h3' : gld s 3 1500 (ls s 41) = some (nI (c.vs a)) := by rw [am, pgld (by omega) (by decide), rv]
    rw [M_stK b3 h3', am, M_160, pI_1]
    show ((gX26_make (nI (vK (c.vs a))) (nI 0) (nI a) (maS s a)).bind _) = _
    rw [mk, gl_bs]
    show ((gX26_attach (nI to) (nI N) (mMk (maS s a) N (nI (vK (c.vs a))) (nI 0) (nI a))).bind _) = _
    rw [at1, gl_bs, em]
  · exact (pX.new.add (Nat.le_refl N)).m (fun _ _ => rfl) (fun _ _ => rfl) maS_pl
  · rw [add_r, rN]
  · show la (mAtS _ to (g.ch to) N) 9 N = _
    rw [mAtS_la (by decide), mMk_la (by decide) (by decide), if_pos rfl, if_pos rfl]
  · rw [add_ch, if_neg (by omega), push_ch, if_pos rfl]
end PAYA
