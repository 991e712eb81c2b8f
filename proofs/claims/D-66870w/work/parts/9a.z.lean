/-! THE PURE LAYER: the parser: what each verb does, on both sides. -/
section PAZ
variable {c : pC} {G : xQ} {α : zS} {s : zM} {t q f : Nat}
theorem xV_29 : xVf c G f 29 q α =
  if zis G α (some c.p) 41 = true then
    zcase (hX4_operands G (some c.p) (some q) α) (fun p20 =>
      hX4_statement_446 G (rrX4_add G f).1 (rrX4_add G f).2.1 (rrX4_add G f).2.2.1 (rrX4_add G f).2.2.2.1 (rrX4_add G f).2.2.2.2.1 (rrX4_add G f).2.2.2.2.2  p20.2) (fun p21 =>
      if zthr p21.2 p21.1 3 = true then
        some (.inr p21.1, p21.2)
      else none)
  else none := by
  unfold xVf xVb
  rw [if_neg (by decide), if_pos (by decide)]
theorem mV_29 : mVb (nI 29) (nI t) s =
  (gX26_operandOf (nI t) s).bind fun p10 =>
  gX26_statement_444 (nI t) p10.2 := by
  unfold mVb
  rw [if_neg (by decide), if_pos (by decide)]
theorem xV_36 : xVf c G f 36 q α =
  if zis G α (some c.p) 41 = true then
    zcase (hX4_operand G (some c.p) 1 α) (fun p22 =>
      if zis G p22.2 (some q) 45 = true then
        (hX43_add G (some q) p22.1 p22.2).bind fun p23 =>
        if zis G p23.2 (some c.p) 41 = true then
          zcase (hX4_need G (some c.p) 48 p23.2) (fun p24 =>
            if zis G p24.2 (some c.p) 41 = true then
              zcase (hX4_targets G (some c.p) (some q) p24.2) (fun p25 =>
                hX4_statement_446 G (rrX4_add G f).1 (rrX4_add G f).2.1 (rrX4_add G f).2.2.1 (rrX4_add G f).2.2.2.1 (rrX4_add G f).2.2.2.2.1 (rrX4_add G f).2.2.2.2.2  p25.2) (fun p26 =>
                if zthr p26.2 p26.1 3 = true then
                  some (.inr p26.1, p26.2)
                else none)
            else none) (fun p27 =>
            if zthr p27.2 p27.1 3 = true then
              some (.inr p27.1, p27.2)
            else none)
        else none
      else none) (fun p28 =>
      if zthr p28.2 p28.1 3 = true then
        some (.inr p28.1, p28.2)
      else none)
  else none := by
  unfold xVf xVb
  rw [if_neg (by decide), if_neg (by decide), if_neg (by decide), if_neg (by decide), if_neg (by decide), if_neg (by decide), if_neg (by decide), if_neg (by decide), if_pos (by decide)]
theorem mV_36 : mVb (nI 36) (nI t) s =
  (gX26_operandOf (nI t) s).bind fun p11 =>
  (gX26_must 48 p11.2).bind fun p12 =>
  if p12.1 = 0 then
    gX26_statement_521 p12.2
  else
    (gX26_names (nI t) 41 p12.2).bind fun p13 =>
    gX26_statement_521 p13.2 := by
  unfold mVb
  rw [if_neg (by decide), if_neg (by decide), if_neg (by decide), if_neg (by decide), if_neg (by decide), if_neg (by decide), if_neg (by decide), if_neg (by decide), if_pos (by decide)]
theorem xV_37 : xVf c G f 37 q α =
  if zis G α (some c.p) 41 = true then
    zcase ((rrX4_add G f).1 (some c.p) (some q) α) (fun p29 =>
      hX4_statement_446 G (rrX4_add G f).1 (rrX4_add G f).2.1 (rrX4_add G f).2.2.1 (rrX4_add G f).2.2.2.1 (rrX4_add G f).2.2.2.2.1 (rrX4_add G f).2.2.2.2.2  p29.2) (fun p30 =>
      if zthr p30.2 p30.1 3 = true then
        some (.inr p30.1, p30.2)
      else none)
  else none := by
  unfold xVf xVb
  rw [if_neg (by decide), if_neg (by decide), if_neg (by decide), if_neg (by decide), if_neg (by decide), if_neg (by decide), if_neg (by decide), if_neg (by decide), if_neg (by decide), if_pos (by decide)]
theorem mV_37 : mVb (nI 37) (nI t) s =
  (gX26_add (nI t) s).bind fun p14 =>
  gX26_statement_521 p14.2 := by
  unfold mVb
  rw [if_neg (by decide), if_neg (by decide), if_neg (by decide), if_neg (by decide), if_neg (by decide), if_neg (by decide), if_neg (by decide), if_neg (by decide), if_neg (by decide), if_pos (by decide)]
theorem xV_38 : xVf c G f 38 q α =
  if zis G α (some c.p) 41 = true then
    zcase (hX4_condition G (some c.p) α) (fun p31 =>
      if zis G p31.2 (some q) 45 = true then
        (hX43_add G (some q) p31.1 p31.2).bind fun p32 =>
        if zis G p32.2 (some c.p) 41 = true then
          (hX4_meets G (some c.p) 52 p32.2).bind fun p33 =>
          if zis G p33.2 (some c.p) 41 = true then
            zcase ((rrX4_add G f).2.1 (some c.p) (some q) p33.2) (fun p34 =>
              if zis G p34.2 (some c.p) 41 = true then
                (hX4_meets G (some c.p) 53 p34.2).bind fun p35 =>
                if p35.1 = 0 then
                  hX4_statement_223 G (rrX4_add G f).1 (rrX4_add G f).2.1 (rrX4_add G f).2.2.1 (rrX4_add G f).2.2.2.1 (rrX4_add G f).2.2.2.2.1 (rrX4_add G f).2.2.2.2.2 (some c.p) (some q) p35.2
                else
                  if zis G p35.2 (some c.p) 41 = true then
                    zcase ((rrX4_add G f).2.1 (some c.p) (some q) p35.2) (fun p36 =>
                      hX4_statement_223 G (rrX4_add G f).1 (rrX4_add G f).2.1 (rrX4_add G f).2.2.1 (rrX4_add G f).2.2.2.1 (rrX4_add G f).2.2.2.2.1 (rrX4_add G f).2.2.2.2.2 (some c.p) (some q) p36.2) (fun p37 =>
                      if zthr p37.2 p37.1 3 = true then
                        some (.inr p37.1, p37.2)
                      else none)
                  else none
              else none) (fun p38 =>
              if zthr p38.2 p38.1 3 = true then
                some (.inr p38.1, p38.2)
              else none)
          else none
        else none
      else none) (fun p39 =>
      if zthr p39.2 p39.1 3 = true then
        some (.inr p39.1, p39.2)
      else none)
  else none := by
  unfold xVf xVb
  rw [if_neg (by decide), if_neg (by decide), if_neg (by decide), if_neg (by decide), if_neg (by decide), if_neg (by decide), if_neg (by decide), if_neg (by decide), if_neg (by decide), if_neg (by decide), if_pos (by decide)]
theorem mV_38 : mVb (nI 38) (nI t) s =
  (gX26_conditionOf (nI t) s).bind fun p15 =>
  xlet (ls p15.2 43) fun x16 =>
  if ¬ x16 = 0 then
    gX26_statement_335 (nI 38) (nI t) p15.2
  else
    xlet (ls p15.2 41) fun x17 =>
    (gX26_isWord x17 52 p15.2).bind fun p18 =>
    if p18.1 = 0 then
      gX26_statement_335 (nI 38) (nI t) p18.2
    else
      xlet (ls p18.2 41) fun x19 =>
      xlet (us p18.2 41 (x19 + (1 : Int32))) fun s20 =>
      gX26_statement_335 (nI 38) (nI t) s20 := by
  unfold mVb
  rw [if_neg (by decide), if_neg (by decide), if_neg (by decide), if_neg (by decide), if_neg (by decide), if_neg (by decide), if_neg (by decide), if_neg (by decide), if_neg (by decide), if_neg (by decide), if_pos (by decide)]
theorem xV_39 : xVf c G f 39 q α =
  if zis G α (some c.p) 41 = true then
    zcase ((rrX4_add G f).2.2.2.2.1 (some c.p) (some q) α) (fun p40 =>
      hX4_statement_446 G (rrX4_add G f).1 (rrX4_add G f).2.1 (rrX4_add G f).2.2.1 (rrX4_add G f).2.2.2.1 (rrX4_add G f).2.2.2.2.1 (rrX4_add G f).2.2.2.2.2  p40.2) (fun p41 =>
      if zthr p41.2 p41.1 3 = true then
        some (.inr p41.1, p41.2)
      else none)
  else none := by
  unfold xVf xVb
  rw [if_neg (by decide), if_neg (by decide), if_neg (by decide), if_neg (by decide), if_neg (by decide), if_neg (by decide), if_neg (by decide), if_neg (by decide), if_neg (by decide), if_neg (by decide), if_neg (by decide), if_pos (by decide)]
theorem mV_39 : mVb (nI 39) (nI t) s =
  (gX26_perform (nI t) s).bind fun p21 =>
  gX26_statement_521 p21.2 := by
  unfold mVb
  rw [if_neg (by decide), if_neg (by decide), if_neg (by decide), if_neg (by decide), if_neg (by decide), if_neg (by decide), if_neg (by decide), if_neg (by decide), if_neg (by decide), if_neg (by decide), if_neg (by decide), if_pos (by decide)]
theorem xV_40 : xVf c G f 40 q α =
  if zis G α (some c.p) 41 = true then
    zcase ((rrX4_add G f).2.2.1 (some c.p) (some q) α) (fun p42 =>
      hX4_statement_446 G (rrX4_add G f).1 (rrX4_add G f).2.1 (rrX4_add G f).2.2.1 (rrX4_add G f).2.2.2.1 (rrX4_add G f).2.2.2.2.1 (rrX4_add G f).2.2.2.2.2  p42.2) (fun p43 =>
      if zthr p43.2 p43.1 3 = true then
        some (.inr p43.1, p43.2)
      else none)
  else none := by
  unfold xVf xVb
  rw [if_neg (by decide), if_neg (by decide), if_neg (by decide), if_neg (by decide), if_neg (by decide), if_neg (by decide), if_neg (by decide), if_neg (by decide), if_neg (by decide), if_neg (by decide), if_neg (by decide), if_neg (by decide), if_pos (by decide)]
theorem mV_40 : mVb (nI 40) (nI t) s =
  (gX26_operandOf (nI t) s).bind fun p22 =>
  xlet (ls p22.2 43) fun x23 =>
  if ¬ x23 = 0 then
    gX26_statement_390 (nI 40) (nI t) p22.2
  else
    xlet (ls p22.2 41) fun x24 =>
    (gX26_isWord x24 59 p22.2).bind fun p25 =>
    if ¬ p25.1 = 0 then
      gX26_statement_390 (nI 40) (nI t) p25.2
    else
      xlet (ls p25.2 41) fun x26 =>
      (gX26_fail 1 x26 p25.2).bind fun p27 =>
      gX26_statement_390 (nI 40) (nI t) p27.2 := by
  unfold mVb
  rw [if_neg (by decide), if_neg (by decide), if_neg (by decide), if_neg (by decide), if_neg (by decide), if_neg (by decide), if_neg (by decide), if_neg (by decide), if_neg (by decide), if_neg (by decide), if_neg (by decide), if_neg (by decide), if_pos (by decide)]
theorem xV_41 : xVf c G f 41 q α =
  if zis G α (some c.p) 41 = true then
    zcase (hX4_take G (some c.p) 1 α) (fun p44 =>
      (zpI p44.2 (some q) 44 1 p44.1).bind fun σ45 =>
      if zis G σ45 (some c.p) 41 = true then
        (hX4_meets G (some c.p) 61 σ45).bind fun p46 =>
        if p46.1 = 0 then
          hX4_statement_278 G (rrX4_add G f).1 (rrX4_add G f).2.1 (rrX4_add G f).2.2.1 (rrX4_add G f).2.2.2.1 (rrX4_add G f).2.2.2.2.1 (rrX4_add G f).2.2.2.2.2 (some c.p) (some q) p46.2
        else
          if zis G p46.2 (some c.p) 41 = true then
            zcase (hX4_need G (some c.p) 33 p46.2) (fun p47 =>
              if zis G p47.2 (some c.p) 41 = true then
                zcase ((rrX4_add G f).2.2.2.1 (some c.p) (some q) p47.2) (fun p48 =>
                  hX4_statement_278 G (rrX4_add G f).1 (rrX4_add G f).2.1 (rrX4_add G f).2.2.1 (rrX4_add G f).2.2.2.1 (rrX4_add G f).2.2.2.2.1 (rrX4_add G f).2.2.2.2.2 (some c.p) (some q) p48.2) (fun p49 =>
                  if zthr p49.2 p49.1 3 = true then
                    some (.inr p49.1, p49.2)
                  else none)
              else none) (fun p50 =>
              if zthr p50.2 p50.1 3 = true then
                some (.inr p50.1, p50.2)
              else none)
          else none
      else none) (fun p51 =>
      if zthr p51.2 p51.1 3 = true then
        some (.inr p51.1, p51.2)
      else none)
  else none := by
  unfold xVf xVb
  rw [if_neg (by decide), if_neg (by decide), if_neg (by decide), if_neg (by decide), if_neg (by decide), if_neg (by decide), if_neg (by decide), if_neg (by decide), if_neg (by decide), if_neg (by decide), if_neg (by decide), if_neg (by decide), if_neg (by decide), if_pos (by decide)]
theorem mV_41 : mVb (nI 41) (nI t) s =
  (gX26_mustBe 1 s).bind fun p28 =>
  if p28.1 = 0 then
    gX26_statement_419 (nI 41) (nI t) p28.2
  else
    (gX26_passed p28.2).bind fun p30 =>
    (gst p30.2 10 8000 (nI t) p30.1).bind fun s31 =>
    gX26_statement_419 (nI 41) (nI t) s31 := by
  unfold mVb
  rw [if_neg (by decide), if_neg (by decide), if_neg (by decide), if_neg (by decide), if_neg (by decide), if_neg (by decide), if_neg (by decide), if_neg (by decide), if_neg (by decide), if_neg (by decide), if_neg (by decide), if_neg (by decide), if_neg (by decide), if_pos (by decide)]
theorem xV_42 : xVf c G f 42 q α =
  (zfI α (some c.p) 40 3).bind fun x52 =>
  if zis G α (some c.p) 41 = true then
    (hX4_isKind G (some c.p) x52 2 α).bind fun p53 =>
    if ¬ p53.1 = 0 then
      hX4_statement_306 G (rrX4_add G f).1 (rrX4_add G f).2.1 (rrX4_add G f).2.2.1 (rrX4_add G f).2.2.2.1 (rrX4_add G f).2.2.2.2.1 (rrX4_add G f).2.2.2.2.2 (some c.p) (some q) 0 (some c.p) p53.2
    else
      hX4_statement_306 G (rrX4_add G f).1 (rrX4_add G f).2.1 (rrX4_add G f).2.2.1 (rrX4_add G f).2.2.2.1 (rrX4_add G f).2.2.2.2.1 (rrX4_add G f).2.2.2.2.2 (some c.p) (some q) 1 (some c.p) p53.2
  else none := by
  unfold xVf xVb
  rw [if_neg (by decide), if_neg (by decide), if_neg (by decide), if_neg (by decide), if_neg (by decide), if_neg (by decide), if_neg (by decide), if_neg (by decide), if_neg (by decide), if_neg (by decide), if_neg (by decide), if_neg (by decide), if_neg (by decide), if_neg (by decide), if_pos (by decide)]
theorem mV_42 : mVb (nI 42) (nI t) s =
  (gX26_call (nI t) s).bind fun p32 =>
  gX26_statement_521 p32.2 := by
  unfold mVb
  rw [if_neg (by decide), if_neg (by decide), if_neg (by decide), if_neg (by decide), if_neg (by decide), if_neg (by decide), if_neg (by decide), if_neg (by decide), if_neg (by decide), if_neg (by decide), if_neg (by decide), if_neg (by decide), if_neg (by decide), if_neg (by decide), if_pos (by decide)]
theorem xV_43 : xVf c G f 43 q α =
  if zis G α (some c.p) 41 = true then
    (hX4_meets G (some c.p) 48 α).bind fun p54 =>
    if zis G p54.2 (some c.p) 41 = true then
      zcase (hX4_take G (some c.p) 1 p54.2) (fun p55 =>
        (zpI p55.2 (some q) 44 1 p55.1).bind fun σ56 =>
        hX4_statement_446 G (rrX4_add G f).1 (rrX4_add G f).2.1 (rrX4_add G f).2.2.1 (rrX4_add G f).2.2.2.1 (rrX4_add G f).2.2.2.2.1 (rrX4_add G f).2.2.2.2.2  σ56) (fun p57 =>
        if zthr p57.2 p57.1 3 = true then
          some (.inr p57.1, p57.2)
        else none)
    else none
  else none := by
  unfold xVf xVb
  rw [if_neg (by decide), if_neg (by decide), if_neg (by decide), if_neg (by decide), if_neg (by decide), if_neg (by decide), if_neg (by decide), if_neg (by decide), if_neg (by decide), if_neg (by decide), if_neg (by decide), if_neg (by decide), if_neg (by decide), if_neg (by decide), if_neg (by decide), if_pos (by decide)]
theorem mV_43 : mVb (nI 43) (nI t) s =
  (gX26_meets 48 s).bind fun p33 =>
  (gX26_mustBe 1 p33.2).bind fun p34 =>
  if p34.1 = 0 then
    gX26_statement_521 p34.2
  else
    (gX26_passed p34.2).bind fun p36 =>
    (gst p36.2 10 8000 (nI t) p36.1).bind fun s37 =>
    gX26_statement_521 s37 := by
  unfold mVb
  rw [if_neg (by decide), if_neg (by decide), if_neg (by decide), if_neg (by decide), if_neg (by decide), if_neg (by decide), if_neg (by decide), if_neg (by decide), if_neg (by decide), if_neg (by decide), if_neg (by decide), if_neg (by decide), if_neg (by decide), if_neg (by decide), if_neg (by decide), if_pos (by decide)]
theorem xV_44 : xVf c G f 44 q α =
  if zis G α (some c.p) 41 = true then
    zcase (hX4_need G (some c.p) 63 α) (fun p58 =>
      hX4_statement_446 G (rrX4_add G f).1 (rrX4_add G f).2.1 (rrX4_add G f).2.2.1 (rrX4_add G f).2.2.2.1 (rrX4_add G f).2.2.2.2.1 (rrX4_add G f).2.2.2.2.2  p58.2) (fun p59 =>
      if zthr p59.2 p59.1 3 = true then
        some (.inr p59.1, p59.2)
      else none)
  else none := by
  unfold xVf xVb
  rw [if_neg (by decide), if_neg (by decide), if_neg (by decide), if_neg (by decide), if_neg (by decide), if_neg (by decide), if_neg (by decide), if_neg (by decide), if_neg (by decide), if_neg (by decide), if_neg (by decide), if_neg (by decide), if_neg (by decide), if_neg (by decide), if_neg (by decide), if_neg (by decide), if_pos (by decide)]
theorem mV_44 : mVb (nI 44) (nI t) s =
  (gX26_must 63 s).bind fun p38 =>
  gX26_statement_521 p38.2 := by
  unfold mVb
  rw [if_neg (by decide), if_neg (by decide), if_neg (by decide), if_neg (by decide), if_neg (by decide), if_neg (by decide), if_neg (by decide), if_neg (by decide), if_neg (by decide), if_neg (by decide), if_neg (by decide), if_neg (by decide), if_neg (by decide), if_neg (by decide), if_neg (by decide), if_neg (by decide), if_pos (by decide)]
theorem xV_45 : xVf c G f 45 q α =
  hX4_statement_446 G (rrX4_add G f).1 (rrX4_add G f).2.1 (rrX4_add G f).2.2.1 (rrX4_add G f).2.2.2.1 (rrX4_add G f).2.2.2.2.1 (rrX4_add G f).2.2.2.2.2  α := by
  unfold xVf xVb
  rw [if_neg (by decide), if_neg (by decide), if_neg (by decide), if_neg (by decide), if_neg (by decide), if_neg (by decide), if_neg (by decide), if_neg (by decide), if_neg (by decide), if_neg (by decide), if_neg (by decide), if_neg (by decide), if_neg (by decide), if_neg (by decide), if_neg (by decide), if_neg (by decide), if_neg (by decide), if_pos (by decide)]
theorem mV_45 : mVb (nI 45) (nI t) s =
  gX26_statement_521 s := by
  unfold mVb
  rw [if_neg (by decide), if_neg (by decide), if_neg (by decide), if_neg (by decide), if_neg (by decide), if_neg (by decide), if_neg (by decide), if_neg (by decide), if_neg (by decide), if_neg (by decide), if_neg (by decide), if_neg (by decide), if_neg (by decide), if_neg (by decide), if_neg (by decide), if_neg (by decide), if_neg (by decide), if_pos (by decide)]
theorem xV_46 : xVf c G f 46 q α =
  hX4_statement_446 G (rrX4_add G f).1 (rrX4_add G f).2.1 (rrX4_add G f).2.2.1 (rrX4_add G f).2.2.2.1 (rrX4_add G f).2.2.2.2.1 (rrX4_add G f).2.2.2.2.2  α := by
  unfold xVf xVb
  rw [if_neg (by decide), if_neg (by decide), if_neg (by decide), if_neg (by decide), if_neg (by decide), if_neg (by decide), if_neg (by decide), if_neg (by decide), if_neg (by decide), if_neg (by decide), if_neg (by decide), if_neg (by decide), if_neg (by decide), if_neg (by decide), if_neg (by decide), if_neg (by decide), if_neg (by decide), if_neg (by decide), if_pos (by decide)]
theorem mV_46 : mVb (nI 46) (nI t) s =
  gX26_statement_521 s := by
  unfold mVb
  rw [if_neg (by decide), if_neg (by decide), if_neg (by decide), if_neg (by decide), if_neg (by decide), if_neg (by decide), if_neg (by decide), if_neg (by decide), if_neg (by decide), if_neg (by decide), if_neg (by decide), if_neg (by decide), if_neg (by decide), if_neg (by decide), if_neg (by decide), if_neg (by decide), if_neg (by decide), if_neg (by decide), if_pos (by decide)]
theorem xV_47 : xVf c G f 47 q α =
  if zis G α (some c.p) 41 = true then
    zcase (hX4_take G (some c.p) 1 α) (fun p60 =>
      (zpI p60.2 (some q) 44 1 p60.1).bind fun σ61 =>
      (zfI σ61 (some c.p) 40 3).bind fun x62 =>
      if zis G σ61 (some c.p) 41 = true then
        (hX4_isSign G (some c.p) x62 2 σ61).bind fun p63 =>
        if zis G p63.2 (some c.p) 41 = true then
          zcase (hX4_must G (some c.p) p63.1 p63.2) (fun p64 =>
            (zfI p64.2 (some c.p) 40 3).bind fun x65 =>
            (zpI p64.2 (some c.p) 40 3 (x65 + (1 : Int32))).bind fun σ66 =>
            if zis G σ66 (some c.p) 41 = true then
              zcase (hX4_sum G xRec (some c.p) σ66) (fun p67 =>
                if zis G p67.2 (some q) 45 = true then
                  (hX43_add G (some q) p67.1 p67.2).bind fun p68 =>
                  if zis G p68.2 (some c.p) 41 = true then
                    (hX4_scopeEnd G (some c.p) (some q) 78 p68.2).bind fun p69 =>
                    hX4_statement_446 G (rrX4_add G f).1 (rrX4_add G f).2.1 (rrX4_add G f).2.2.1 (rrX4_add G f).2.2.2.1 (rrX4_add G f).2.2.2.2.1 (rrX4_add G f).2.2.2.2.2  p69.2
                  else none
                else none) (fun p70 =>
                if zthr p70.2 p70.1 3 = true then
                  some (.inr p70.1, p70.2)
                else none)
            else none) (fun p71 =>
            if zthr p71.2 p71.1 3 = true then
              some (.inr p71.1, p71.2)
            else none)
        else none
      else none) (fun p72 =>
      if zthr p72.2 p72.1 3 = true then
        some (.inr p72.1, p72.2)
      else none)
  else none := by
  unfold xVf xVb
  rw [if_neg (by decide), if_neg (by decide), if_neg (by decide), if_neg (by decide), if_neg (by decide), if_neg (by decide), if_neg (by decide), if_neg (by decide), if_neg (by decide), if_neg (by decide), if_neg (by decide), if_neg (by decide), if_neg (by decide), if_neg (by decide), if_neg (by decide), if_neg (by decide), if_neg (by decide), if_neg (by decide), if_neg (by decide), if_pos (by decide)]
theorem mV_47 : mVb (nI 47) (nI t) s =
  (gX26_compute (nI t) s).bind fun p39 =>
  gX26_statement_521 p39.2 := by
  unfold mVb
  rw [if_neg (by decide), if_neg (by decide), if_neg (by decide), if_neg (by decide), if_neg (by decide), if_neg (by decide), if_neg (by decide), if_neg (by decide), if_neg (by decide), if_neg (by decide), if_neg (by decide), if_neg (by decide), if_neg (by decide), if_neg (by decide), if_neg (by decide), if_neg (by decide), if_neg (by decide), if_neg (by decide), if_neg (by decide), if_pos (by decide)]
end PAZ
