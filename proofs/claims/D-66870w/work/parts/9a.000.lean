/-! clear forms -/
set_option maxRecDepth 100000
/-! MainframeHouseModel$Parser.<init>()V -/
def hX26_init (G : xQ) (o0 : Option Nat) (σ : zS) : zF Unit :=
  if o0 = none then none else
  (znA σ 0 (1500 : Int32)).bind fun p1 =>
  (zpA p1.2 o0 25 2 p1.1).bind fun σ2 =>
  (znA σ2 0 (1500 : Int32)).bind fun p3 =>
  (zpA p3.2 o0 25 3 p3.1).bind fun σ4 =>
  (znA σ4 0 (20 : Int32)).bind fun p5 =>
  (zpA p5.2 o0 25 6 p5.1).bind fun σ6 =>
  (znA σ6 0 (20 : Int32)).bind fun p7 =>
  (zpA p7.2 o0 25 7 p7.1).bind fun σ8 =>
  (znA σ8 0 (8000 : Int32)).bind fun p9 =>
  (zpA p9.2 o0 25 9 p9.1).bind fun σ10 =>
  (znA σ10 0 (8000 : Int32)).bind fun p11 =>
  (zpA p11.2 o0 25 10 p11.1).bind fun σ12 =>
  (znA σ12 0 (8000 : Int32)).bind fun p13 =>
  (zpA p13.2 o0 25 11 p13.1).bind fun σ14 =>
  (znA σ14 0 (8000 : Int32)).bind fun p15 =>
  (zpA p15.2 o0 25 12 p15.1).bind fun σ16 =>
  (znA σ16 0 (8000 : Int32)).bind fun p17 =>
  (zpA p17.2 o0 25 13 p17.1).bind fun σ18 =>
  (znA σ18 0 (8000 : Int32)).bind fun p19 =>
  (zpA p19.2 o0 25 14 p19.1).bind fun σ20 =>
  (znA σ20 0 (8000 : Int32)).bind fun p21 =>
  (zpA p21.2 o0 25 15 p21.1).bind fun σ22 =>
  (znA σ22 0 (8000 : Int32)).bind fun p23 =>
  (zpA p23.2 o0 25 16 p23.1).bind fun σ24 =>
  (znA σ24 0 (8000 : Int32)).bind fun p25 =>
  (zpA p25.2 o0 25 17 p25.1).bind fun σ26 =>
  (znA σ26 0 (8000 : Int32)).bind fun p27 =>
  (zpA p27.2 o0 25 18 p27.1).bind fun σ28 =>
  (znA σ28 0 (600 : Int32)).bind fun p29 =>
  (zpA p29.2 o0 25 22 p29.1).bind fun σ30 =>
  (znA σ30 0 (600 : Int32)).bind fun p31 =>
  (zpA p31.2 o0 25 23 p31.1).bind fun σ32 =>
  (znA σ32 0 (600 : Int32)).bind fun p33 =>
  (zpA p33.2 o0 25 24 p33.1).bind fun σ34 =>
  (znA σ34 0 (600 : Int32)).bind fun p35 =>
  (zpA p35.2 o0 25 25 p35.1).bind fun σ36 =>
  (znA σ36 0 (11 : Int32)).bind fun p37 =>
  (zpA p37.2 o0 25 27 p37.1).bind fun σ38 =>
  (znA σ38 0 (11 : Int32)).bind fun p39 =>
  (zpA p39.2 o0 25 28 p39.1).bind fun σ40 =>
  (znA σ40 0 (11 : Int32)).bind fun p41 =>
  (zpA p41.2 o0 25 29 p41.1).bind fun σ42 =>
  (znA σ42 1 (11 : Int32)).bind fun p43 =>
  (zpA p43.2 o0 25 30 p43.1).bind fun σ44 =>
  (znA σ44 1 (11 : Int32)).bind fun p45 =>
  (zpA p45.2 o0 25 31 p45.1).bind fun σ46 =>
  (znA σ46 0 (64 : Int32)).bind fun p47 =>
  (zpA p47.2 o0 25 39 p47.1).bind fun σ48 =>
  (znA σ48 0 (64 : Int32)).bind fun p49 =>
  (zpA p49.2 o0 25 40 p49.1).bind fun σ50 =>
  (znA σ50 0 (128 : Int32)).bind fun p51 =>
  (zpA p51.2 o0 25 46 p51.1).bind fun σ52 =>
  (znA σ52 0 (128 : Int32)).bind fun p53 =>
  (zpA p53.2 o0 25 47 p53.1).bind fun σ54 =>
  (znA σ54 0 (128 : Int32)).bind fun p55 =>
  (zpA p55.2 o0 25 48 p55.1).bind fun σ56 =>
  (znA σ56 0 (64 : Int32)).bind fun p57 =>
  (zpA p57.2 o0 25 50 p57.1).bind fun σ58 =>
  (znA σ58 0 (64 : Int32)).bind fun p59 =>
  (zpA p59.2 o0 25 51 p59.1).bind fun σ60 =>
  (znA σ60 0 (64 : Int32)).bind fun p61 =>
  (zpA p61.2 o0 25 52 p61.1).bind fun σ62 =>
  (znA σ62 0 (64 : Int32)).bind fun p63 =>
  (zpA p63.2 o0 25 53 p63.1).bind fun σ64 =>
  (znA σ64 0 (64 : Int32)).bind fun p65 =>
  (zpA p65.2 o0 25 58 p65.1).bind fun σ66 =>
  (znA σ66 0 (64 : Int32)).bind fun p67 =>
  (zpA p67.2 o0 25 59 p67.1).bind fun σ68 =>
  (znA σ68 0 (64 : Int32)).bind fun p69 =>
  (zpA p69.2 o0 25 60 p69.1).bind fun σ70 =>
  (znA σ70 0 (64 : Int32)).bind fun p71 =>
  (zpA p71.2 o0 25 61 p71.1).bind fun σ72 =>
  (znA σ72 0 (64 : Int32)).bind fun p73 =>
  (zpA p73.2 o0 25 62 p73.1).bind fun σ74 =>
  (znA σ74 0 (64 : Int32)).bind fun p75 =>
  (zpA p75.2 o0 25 63 p75.1).bind fun σ76 =>
  (znA σ76 0 (64 : Int32)).bind fun p77 =>
  (zpA p77.2 o0 25 64 p77.1).bind fun σ78 =>
  some ((), σ78)
/-! MainframeHouseModel$Parser.forget()V -/
def hX26_forget (G : xQ) (o0 : Option Nat) (σ : zS) : zF Unit :=
  (zpI σ o0 25 1 (0 : Int32)).bind fun σ1 =>
  some ((), σ1)
/-! MainframeHouseModel$Parser.in(III)Z -/
def hX26_in_15 (G : xQ) (x_s0 : Int32) (σ : zS) : zF Int32 :=
  if narrow .boolean (.int x_s0) = .int x_s0 then some (x_s0, σ) else none
def hX26_in_14 (G : xQ)  (σ : zS) : zF Int32 :=
  hX26_in_15 G 0 σ
def hX26_in (G : xQ) (i0 : Int32) (i1 : Int32) (i2 : Int32) (σ : zS) : zF Int32 :=
  if i0 < i1 then
    hX26_in_14 G  σ
  else
    if i2 < i0 then
      hX26_in_14 G  σ
    else
      hX26_in_15 G 1 σ
/-! MainframeHouseModel$Parser.make(III)I -/
def hX26_make (G : xQ) (o0 : Option Nat) (i1 : Int32) (i2 : Int32) (i3 : Int32) (σ : zS) : zF Int32 :=
  (zfI σ o0 25 8).bind fun x1 =>
  (zfI σ o0 25 8).bind fun x2 =>
  (zpI σ o0 25 8 (x2 + (1 : Int32))).bind fun σ3 =>
  (zfA σ3 o0 25 9).bind fun r4 =>
  (ziast σ3 r4 x1 i1).bind fun σ5 =>
  (zfA σ5 o0 25 10).bind fun r6 =>
  (ziast σ5 r6 x1 i2).bind fun σ7 =>
  (zfA σ7 o0 25 11).bind fun r8 =>
  (ziast σ7 r8 x1 i3).bind fun σ9 =>
  (zfA σ9 o0 25 12).bind fun r10 =>
  (ziast σ9 r10 x1 (0 : Int32)).bind fun σ11 =>
  (zfA σ11 o0 25 13).bind fun r12 =>
  (ziast σ11 r12 x1 (0 : Int32)).bind fun σ13 =>
  (zfA σ13 o0 25 14).bind fun r14 =>
  (ziast σ13 r14 x1 (0 : Int32)).bind fun σ15 =>
  (zfA σ15 o0 25 15).bind fun r16 =>
  (ziast σ15 r16 x1 (0 : Int32)).bind fun σ17 =>
  (zfA σ17 o0 25 16).bind fun r18 =>
  (ziast σ17 r18 x1 (0 : Int32)).bind fun σ19 =>
  some (x1, σ19)
/-! MainframeHouseModel$Parser.within(I)I -/
def hX26_within_27 (G : xQ) (x_2 : Int32) (σ : zS) : zF Int32 :=
  some (x_2, σ)
def hX26_within_7b (G : xQ) (r_0 : Option Nat) (x_1 : Int32) (x_2 : Int32) (σ : zS) : zF (((Option Nat) × Int32 × Int32) ⊕ Int32) :=
  if x_2 < 0 then
    zinr (hX26_within_27 G x_2 σ)
  else
    (zfA σ r_0 25 39).bind fun r1 =>
    (ziald σ r1 x_2).bind fun x2 =>
    if x2 < x_1 then
      zinr (hX26_within_27 G x_2 σ)
    else
      some (.inl (r_0, x_1, x_2 + (-1)), σ)
def hX26_within_7 (G : xQ) (r_0 : Option Nat) (x_1 : Int32) (x_2 : Int32) (σ : zS) : zF Int32 := zloop (fun (a : ((Option Nat) × Int32 × Int32)) σ => hX26_within_7b G a.1 a.2.1 a.2.2 σ) xLim (r_0, x_1, x_2) σ
def hX26_within (G : xQ) (o0 : Option Nat) (i1 : Int32) (σ : zS) : zF Int32 :=
  (zfI σ o0 25 37).bind fun x3 =>
  xlet (x3 - (1 : Int32)) fun x4 =>
  hX26_within_7 G o0 i1 x4 σ
/-! MainframeHouseModel$Parser.note(II)V -/
def hX26_note (G : xQ) (o0 : Option Nat) (i1 : Int32) (i2 : Int32) (σ : zS) : zF Unit :=
  (zfI σ o0 25 5).bind fun x1 =>
  if ¬ x1 = (20 : Int32) then
    (zfA σ o0 25 6).bind fun r2 =>
    (zfI σ o0 25 5).bind fun x3 =>
    (ziast σ r2 x3 i1).bind fun σ4 =>
    (zfA σ4 o0 25 7).bind fun r5 =>
    (zfI σ4 o0 25 5).bind fun x6 =>
    (ziast σ4 r5 x6 i2).bind fun σ7 =>
    (zfI σ7 o0 25 5).bind fun x8 =>
    (zpI σ7 o0 25 5 (x8 + (1 : Int32))).bind fun σ9 =>
    some ((), σ9)
  else
    some ((), σ)
/-! MainframeHouseModel$Parser.isKind(II)Z -/
def hX26_isKind_23 (G : xQ) (x_s0 : Int32) (σ : zS) : zF Int32 :=
  if narrow .boolean (.int x_s0) = .int x_s0 then some (x_s0, σ) else none
def hX26_isKind_22 (G : xQ)  (σ : zS) : zF Int32 :=
  hX26_isKind_23 G 0 σ
def hX26_isKind (G : xQ) (o0 : Option Nat) (i1 : Int32) (i2 : Int32) (σ : zS) : zF Int32 :=
  (zfI σ o0 25 4).bind fun x1 =>
  if x1 ≤ i1 then
    hX26_isKind_22 G  σ
  else
    (zfA σ o0 25 2).bind fun r2 =>
    (ziald σ r2 i1).bind fun x3 =>
    if ¬ x3 = i2 then
      hX26_isKind_22 G  σ
    else
      hX26_isKind_23 G 1 σ
/-! MainframeHouseModel$Parser.isWord(II)Z -/
def hX26_isWord_24 (G : xQ) (x_s0 : Int32) (σ : zS) : zF Int32 :=
  if narrow .boolean (.int x_s0) = .int x_s0 then some (x_s0, σ) else none
def hX26_isWord_23 (G : xQ)  (σ : zS) : zF Int32 :=
  hX26_isWord_24 G 0 σ
def hX26_isWord (G : xQ) (o0 : Option Nat) (i1 : Int32) (i2 : Int32) (σ : zS) : zF Int32 :=
  if zis G σ o0 26 = true then
    (hX26_isKind G o0 i1 0 σ).bind fun p1 =>
    if p1.1 = 0 then
      hX26_isWord_23 G  p1.2
    else
      (zfA p1.2 o0 25 3).bind fun r2 =>
      (ziald p1.2 r2 i1).bind fun x3 =>
      if ¬ x3 = i2 then
        hX26_isWord_23 G  p1.2
      else
        hX26_isWord_24 G 1 p1.2
  else none
/-! MainframeHouseModel$Parser.meets(I)Z -/
def hX26_meets_19 (G : xQ)  (σ : zS) : zF Int32 :=
  some (0, σ)
def hX26_meets (G : xQ) (o0 : Option Nat) (i1 : Int32) (σ : zS) : zF Int32 :=
  (zfI σ o0 25 43).bind fun x1 =>
  if ¬ x1 = 0 then
    hX26_meets_19 G  σ
  else
    (zfI σ o0 25 41).bind fun x2 =>
    if zis G σ o0 26 = true then
      (hX26_isWord G o0 x2 i1 σ).bind fun p3 =>
      if ¬ p3.1 = 0 then
        (zfI p3.2 o0 25 41).bind fun x4 =>
        (zpI p3.2 o0 25 41 (x4 + (1 : Int32))).bind fun σ5 =>
        some (1, σ5)
      else
        hX26_meets_19 G  p3.2
    else none
/-! MainframeHouseModel$Parser.passed()I -/
def hX26_passed_22 (G : xQ) (x_s0 : Int32) (σ : zS) : zF Int32 :=
  some (x_s0, σ)
def hX26_passed (G : xQ) (o0 : Option Nat) (σ : zS) : zF Int32 :=
  (zfI σ o0 25 41).bind fun x1 =>
  if x1 ≤ 0 then
    hX26_passed_22 G 0 σ
  else
    (zfA σ o0 25 3).bind fun r2 =>
    (zfI σ o0 25 41).bind fun x3 =>
    (ziald σ r2 (x3 - (1 : Int32))).bind fun x4 =>
    hX26_passed_22 G x4 σ
/-! MainframeHouseModel$Parser.attach(II)V -/
def hX26_attach_45 (G : xQ) (r_0 : Option Nat) (x_1 : Int32) (x_2 : Int32) (σ : zS) : zF Unit :=
  (zfA σ r_0 25 14).bind fun r1 =>
  (ziast σ r1 x_1 x_2).bind fun σ2 =>
  some ((), σ2)
def hX26_attach (G : xQ) (o0 : Option Nat) (i1 : Int32) (i2 : Int32) (σ : zS) : zF Unit :=
  (zfA σ o0 25 16).bind fun r3 =>
  (ziast σ r3 i2 i1).bind fun σ4 =>
  (zfA σ4 o0 25 15).bind fun r5 =>
  (ziast σ4 r5 i2 (0 : Int32)).bind fun σ6 =>
  (zfA σ6 o0 25 13).bind fun r7 =>
  (ziald σ6 r7 i1).bind fun x8 =>
  if ¬ x8 = 0 then
    (zfA σ6 o0 25 15).bind fun r9 =>
    (zfA σ6 o0 25 14).bind fun r10 =>
    (ziald σ6 r10 i1).bind fun x11 =>
    (ziast σ6 r9 x11 i2).bind fun σ12 =>
    hX26_attach_45 G o0 i1 i2 σ12
  else
    (zfA σ6 o0 25 13).bind fun r13 =>
    (ziast σ6 r13 i1 i2).bind fun σ14 =>
    hX26_attach_45 G o0 i1 i2 σ14
/-! MainframeHouseModel$Parser.isOperand(I)Z -/
def hX26_isOperand_32 (G : xQ) (x_s0 : Int32) (σ : zS) : zF Int32 :=
  if narrow .boolean (.int x_s0) = .int x_s0 then some (x_s0, σ) else none
def hX26_isOperand_27 (G : xQ)  (σ : zS) : zF Int32 :=
  hX26_isOperand_32 G 1 σ
def hX26_isOperand (G : xQ) (o0 : Option Nat) (i1 : Int32) (σ : zS) : zF Int32 :=
  if zis G σ o0 26 = true then
    (hX26_isKind G o0 i1 1 σ).bind fun p1 =>
    if ¬ p1.1 = 0 then
      hX26_isOperand_27 G  p1.2
    else
      if zis G p1.2 o0 26 = true then
        (hX26_isKind G o0 i1 2 p1.2).bind fun p2 =>
        if ¬ p2.1 = 0 then
          hX26_isOperand_27 G  p2.2
        else
          if zis G p2.2 o0 26 = true then
            (hX26_isKind G o0 i1 3 p2.2).bind fun p3 =>
            if p3.1 = 0 then
              hX26_isOperand_32 G 0 p3.2
            else
              hX26_isOperand_27 G  p3.2
          else none
      else none
  else none
/-! MainframeHouseModel$Parser.here()I -/
def hX26_here (G : xQ) (o0 : Option Nat) (σ : zS) : zF Int32 :=
  (zfA σ o0 25 29).bind fun r1 =>
  (zfI σ o0 25 26).bind fun x2 =>
  (ziald σ r1 (x2 - (1 : Int32))).bind fun x3 =>
  some (x3, σ)
/-! MainframeHouseModel$Parser.to(I)V -/
def hX26_to (G : xQ) (o0 : Option Nat) (i1 : Int32) (σ : zS) : zF Unit :=
  (zfA σ o0 25 27).bind fun r1 =>
  (zfI σ o0 25 26).bind fun x2 =>
  (ziast σ r1 (x2 - (1 : Int32)) i1).bind fun σ3 =>
  some ((), σ3)
/-! MainframeHouseModel$Parser.begins(I)Z -/
def hX26_begins_41 (G : xQ) (x_s0 : Int32) (σ : zS) : zF Int32 :=
  if narrow .boolean (.int x_s0) = .int x_s0 then some (x_s0, σ) else none
def hX26_begins_40 (G : xQ)  (σ : zS) : zF Int32 :=
  hX26_begins_41 G 0 σ
def hX26_begins_36 (G : xQ)  (σ : zS) : zF Int32 :=
  hX26_begins_41 G 1 σ
def hX26_begins (G : xQ) (o0 : Option Nat) (i1 : Int32) (σ : zS) : zF Int32 :=
  if zis G σ o0 26 = true then
    (hX26_isKind G o0 i1 0 σ).bind fun p1 =>
    if p1.1 = 0 then
      hX26_begins_40 G  p1.2
    else
      (zfA p1.2 o0 25 3).bind fun r2 =>
      (ziald p1.2 r2 i1).bind fun x3 =>
      (hX26_in G x3 36 47 p1.2).bind fun p4 =>
      if ¬ p4.1 = 0 then
        hX26_begins_36 G  p4.2
      else
        (zfA p4.2 o0 25 3).bind fun r5 =>
        (ziald p4.2 r5 i1).bind fun x6 =>
        if ¬ x6 = (29 : Int32) then
          hX26_begins_40 G  p4.2
        else
          hX26_begins_36 G  p4.2
  else none
/-! MainframeHouseModel$Parser.pile(II)V -/
def hX26_pile (G : xQ) (o0 : Option Nat) (i1 : Int32) (i2 : Int32) (σ : zS) : zF Unit :=
  (zfA σ o0 25 46).bind fun r1 =>
  (zfI σ o0 25 45).bind fun x2 =>
  (ziast σ r1 x2 i1).bind fun σ3 =>
  (zfA σ3 o0 25 47).bind fun r4 =>
  (zfI σ3 o0 25 45).bind fun x5 =>
  (ziast σ3 r4 x5 i2).bind fun σ6 =>
  (zfA σ6 o0 25 48).bind fun r7 =>
  (zfI σ6 o0 25 45).bind fun x8 =>
  (ziast σ6 r7 x8 (0 : Int32)).bind fun σ9 =>
  (zfI σ9 o0 25 45).bind fun x10 =>
  (zpI σ9 o0 25 45 (x10 + (1 : Int32))).bind fun σ11 =>
  some ((), σ11)
/-! MainframeHouseModel$Parser.childrenOf(I)I -/
def hX26_childrenOf_9b (G : xQ) (r_0 : Option Nat) (x_2 : Int32) (x_3 : Int32) (σ : zS) : zF (((Option Nat) × Int32 × Int32) ⊕ Int32) :=
  if x_3 ≤ 0 then
    zinr (
      some (x_2, σ))
  else
    (zfA σ r_0 25 15).bind fun r1 =>
    (ziald σ r1 x_3).bind fun x2 =>
    some (.inl (r_0, x_2 + 1, x2), σ)
def hX26_childrenOf_9 (G : xQ) (r_0 : Option Nat) (x_2 : Int32) (x_3 : Int32) (σ : zS) : zF Int32 := zloop (fun (a : ((Option Nat) × Int32 × Int32)) σ => hX26_childrenOf_9b G a.1 a.2.1 a.2.2 σ) xLim (r_0, x_2, x_3) σ
def hX26_childrenOf (G : xQ) (o0 : Option Nat) (i1 : Int32) (σ : zS) : zF Int32 :=
  (zfA σ o0 25 13).bind fun r3 =>
  (ziald σ r3 i1).bind fun x4 =>
  hX26_childrenOf_9 G o0 0 x4 σ
/-! MainframeHouseModel$Parser.joint()V -/
def hX26_joint (G : xQ) (o0 : Option Nat) (σ : zS) : zF Unit :=
  (zfA σ o0 25 61).bind fun r1 =>
  (zfI σ o0 25 57).bind fun x2 =>
  (ziast σ r1 x2 (0 : Int32)).bind fun σ3 =>
  (zfA σ3 o0 25 64).bind fun r4 =>
  (zfI σ3 o0 25 57).bind fun x5 =>
  (ziast σ3 r4 x5 (0 : Int32)).bind fun σ6 =>
  (zfI σ6 o0 25 57).bind fun x7 =>
  (zpI σ6 o0 25 57 (x7 + (1 : Int32))).bind fun σ8 =>
  (zpI σ8 o0 25 55 (0 : Int32)).bind fun σ9 =>
  some ((), σ9)
/-! MainframeHouseModel$Parser.isComparing(I)Z -/
def hX26_isComparing_53 (G : xQ) (x_s0 : Int32) (σ : zS) : zF Int32 :=
  if narrow .boolean (.int x_s0) = .int x_s0 then some (x_s0, σ) else none
def hX26_isComparing_52 (G : xQ)  (σ : zS) : zF Int32 :=
  hX26_isComparing_53 G 0 σ
def hX26_isComparing_48 (G : xQ)  (σ : zS) : zF Int32 :=
  hX26_isComparing_53 G 1 σ
def hX26_isComparing_23 (G : xQ) (r_0 : Option Nat) (x_1 : Int32) (σ : zS) : zF Int32 :=
  if zis G σ r_0 26 = true then
    (hX26_isKind G r_0 x_1 0 σ).bind fun p1 =>
    if p1.1 = 0 then
      hX26_isComparing_52 G  p1.2
    else
      (zfA p1.2 r_0 25 3).bind fun r2 =>
      (ziald p1.2 r2 x_1).bind fun x3 =>
      (hX26_in G x3 68 70 p1.2).bind fun p4 =>
      if p4.1 = 0 then
        hX26_isComparing_52 G  p4.2
      else
        hX26_isComparing_48 G  p4.2
  else none
def hX26_isComparing (G : xQ) (o0 : Option Nat) (i1 : Int32) (σ : zS) : zF Int32 :=
  if zis G σ o0 26 = true then
    (hX26_isKind G o0 i1 5 σ).bind fun p5 =>
    if p5.1 = 0 then
      hX26_isComparing_23 G o0 i1 p5.2
    else
      (zfA p5.2 o0 25 3).bind fun r6 =>
      (ziald p5.2 r6 i1).bind fun x7 =>
      (hX26_in G x7 2 4 p5.2).bind fun p8 =>
      if ¬ p8.1 = 0 then
        hX26_isComparing_48 G  p8.2
      else
        hX26_isComparing_23 G o0 i1 p8.2
  else none
/-! MainframeHouseModel$Parser.isSign(II)Z -/
def hX26_isSign_24 (G : xQ) (x_s0 : Int32) (σ : zS) : zF Int32 :=
  if narrow .boolean (.int x_s0) = .int x_s0 then some (x_s0, σ) else none
def hX26_isSign_23 (G : xQ)  (σ : zS) : zF Int32 :=
  hX26_isSign_24 G 0 σ
def hX26_isSign (G : xQ) (o0 : Option Nat) (i1 : Int32) (i2 : Int32) (σ : zS) : zF Int32 :=
  if zis G σ o0 26 = true then
    (hX26_isKind G o0 i1 5 σ).bind fun p1 =>
    if p1.1 = 0 then
      hX26_isSign_23 G  p1.2
    else
      (zfA p1.2 o0 25 3).bind fun r2 =>
      (ziald p1.2 r2 i1).bind fun x3 =>
      if ¬ x3 = i2 then
        hX26_isSign_23 G  p1.2
      else
        hX26_isSign_24 G 1 p1.2
  else none
/-! MainframeHouseModel$Parser.isBehind()Z -/
def hX26_isBehind_55 (G : xQ) (x_s0 : Int32) (σ : zS) : zF Int32 :=
  if narrow .boolean (.int x_s0) = .int x_s0 then some (x_s0, σ) else none
def hX26_isBehind_50 (G : xQ)  (σ : zS) : zF Int32 :=
  hX26_isBehind_55 G 1 σ
def hX26_isBehind_39 (G : xQ) (r_0 : Option Nat) (σ : zS) : zF Int32 :=
  (zfI σ r_0 25 41).bind fun x1 =>
  if zis G σ r_0 26 = true then
    (hX26_isComparing G r_0 x1 σ).bind fun p2 =>
    if p2.1 = 0 then
      hX26_isBehind_55 G 0 p2.2
    else
      hX26_isBehind_50 G  p2.2
  else none
def hX26_isBehind (G : xQ) (o0 : Option Nat) (σ : zS) : zF Int32 :=
  (zfI σ o0 25 41).bind fun x3 =>
  if zis G σ o0 26 = true then
    (hX26_isWord G o0 x3 67 σ).bind fun p4 =>
    if ¬ p4.1 = 0 then
      hX26_isBehind_50 G  p4.2
    else
      (zfI p4.2 o0 25 41).bind fun x5 =>
      if zis G p4.2 o0 26 = true then
        (hX26_isWord G o0 x5 64 p4.2).bind fun p6 =>
        if p6.1 = 0 then
          hX26_isBehind_39 G o0 p6.2
        else
          (zfI p6.2 o0 25 41).bind fun x7 =>
          if zis G p6.2 o0 26 = true then
            (hX26_isComparing G o0 (x7 + (1 : Int32)) p6.2).bind fun p8 =>
            if ¬ p8.1 = 0 then
              hX26_isBehind_50 G  p8.2
            else
              hX26_isBehind_39 G o0 p8.2
          else none
      else none
  else none
/-! MainframeHouseModel$Parser.whole(IIII)I -/
def hX26_whole_28b (G : xQ) (r_0 : Option Nat) (x_4 : Int32) (x_5 : Int32) (x_6 : Int32) (x_7 : Int32) (σ : zS) : zF (((Option Nat) × Int32 × Int32 × Int32 × Int32) ⊕ Int32) :=
  if x_4 ≤ x_7 then
    zinr (
      some (x_5, σ))
  else
    (zfA σ r_0 25 15).bind fun r1 =>
    (ziald σ r1 x_6).bind fun x2 =>
    if zis G σ r_0 26 = true then
      (hX26_attach G r_0 x_5 x_6 σ).bind fun p3 =>
      some (.inl (r_0, x_4, x_5, x2, x_7 + 1), p3.2)
    else none
def hX26_whole_28 (G : xQ) (r_0 : Option Nat) (x_4 : Int32) (x_5 : Int32) (x_6 : Int32) (x_7 : Int32) (σ : zS) : zF Int32 := zloop (fun (a : ((Option Nat) × Int32 × Int32 × Int32 × Int32)) σ => hX26_whole_28b G a.1 a.2.1 a.2.2.1 a.2.2.2.1 a.2.2.2.2 σ) xLim (r_0, x_4, x_5, x_6, x_7) σ
def hX26_whole (G : xQ) (o0 : Option Nat) (i1 : Int32) (i2 : Int32) (i3 : Int32) (i4 : Int32) (σ : zS) : zF Int32 :=
  if ¬ i4 = (1 : Int32) then
    (zfA σ o0 25 11).bind fun r4 =>
    (ziald σ r4 i2).bind fun x5 =>
    if zis G σ o0 26 = true then
      (hX26_make G o0 i1 0 x5 σ).bind fun p6 =>
      hX26_whole_28 G o0 i4 p6.1 i2 0 p6.2
    else none
  else
    some (i2, σ)
/-! MainframeHouseModel$Parser.isTimes()Z -/
def hX26_isTimes_44 (G : xQ) (x_s0 : Int32) (σ : zS) : zF Int32 :=
  if narrow .boolean (.int x_s0) = .int x_s0 then some (x_s0, σ) else none
def hX26_isTimes_43 (G : xQ)  (σ : zS) : zF Int32 :=
  hX26_isTimes_44 G 0 σ
def hX26_isTimes_39 (G : xQ)  (σ : zS) : zF Int32 :=
  hX26_isTimes_44 G 1 σ
def hX26_isTimes (G : xQ) (o0 : Option Nat) (σ : zS) : zF Int32 :=
  (zfI σ o0 25 41).bind fun x1 =>
  if zis G σ o0 26 = true then
    (hX26_isKind G o0 x1 2 σ).bind fun p2 =>
    if ¬ p2.1 = 0 then
      hX26_isTimes_39 G  p2.2
    else
      (zfI p2.2 o0 25 41).bind fun x3 =>
      if zis G p2.2 o0 26 = true then
        (hX26_isKind G o0 x3 1 p2.2).bind fun p4 =>
        if p4.1 = 0 then
          hX26_isTimes_43 G  p4.2
        else
          (zfI p4.2 o0 25 41).bind fun x5 =>
          if zis G p4.2 o0 26 = true then
            (hX26_isWord G o0 (x5 + (1 : Int32)) 23 p4.2).bind fun p6 =>
            if p6.1 = 0 then
              hX26_isTimes_43 G  p6.2
            else
              hX26_isTimes_39 G  p6.2
          else none
      else none
  else none
/-! MainframeHouseModel$Parser.context()V -/
def hX26_context (G : xQ) (o0 : Option Nat) (σ : zS) : zF Unit :=
  (zfA σ o0 25 51).bind fun r1 =>
  (zfI σ o0 25 49).bind fun x2 =>
  (ziast σ r1 x2 (0 : Int32)).bind fun σ3 =>
  (zfA σ3 o0 25 53).bind fun r4 =>
  (zfI σ3 o0 25 49).bind fun x5 =>
  (ziast σ3 r4 x5 (0 : Int32)).bind fun σ6 =>
  (zfI σ6 o0 25 49).bind fun x7 =>
  (zpI σ6 o0 25 49 (x7 + (1 : Int32))).bind fun σ8 =>
  some ((), σ8)
/-! MainframeHouseModel$Parser.joined(III)I -/
def hX26_joined (G : xQ) (o0 : Option Nat) (i1 : Int32) (i2 : Int32) (i3 : Int32) (σ : zS) : zF Int32 :=
  if ¬ i2 = 0 then
    (zfA σ o0 25 11).bind fun r1 =>
    (ziald σ r1 i1).bind fun x2 =>
    if zis G σ o0 26 = true then
      (hX26_make G o0 55 i2 x2 σ).bind fun p3 =>
      if zis G p3.2 o0 26 = true then
        (hX26_attach G o0 p3.1 i1 p3.2).bind fun p4 =>
        if zis G p4.2 o0 26 = true then
          (hX26_attach G o0 p3.1 i3 p4.2).bind fun p5 =>
          some (p3.1, p5.2)
        else none
      else none
    else none
  else
    some (i3, σ)
/-! MainframeHouseModel$Parser.numberAll(I)V -/
def hX26_numberAll_117 (G : xQ) (r_0 : Option Nat) (x_1 : Int32) (x_2 : Int32) (x_3 : Int32) (σ : zS) : zF (((Option Nat) × Int32 × Int32 × Int32) ⊕ Unit) :=
  (zfA σ r_0 25 15).bind fun r1 =>
  (ziald σ r1 x_2).bind fun x2 =>
  some (.inl (r_0, x_1, x2, x_3), σ)
def hX26_numberAll_85b (G : xQ) (r_0 : Option Nat) (x_1 : Int32) (x_2 : Int32) (x_3 : Int32) (σ : zS) : zF (((Option Nat) × Int32 × Int32 × Int32) ⊕ (((Option Nat) × Int32 × Int32 × Int32) ⊕ Unit)) :=
  (zfA σ r_0 25 15).bind fun r3 =>
  (ziald σ r3 x_2).bind fun x4 =>
  if ¬ x4 = 0 then
    zinr (hX26_numberAll_117 G r_0 x_1 x_2 x_3 σ)
  else
    (zfA σ r_0 25 16).bind fun r5 =>
    (ziald σ r5 x_2).bind fun x6 =>
    if x6 = x_1 then
      zinr (hX26_numberAll_117 G r_0 x_1 x_2 x_3 σ)
    else
      (zfA σ r_0 25 16).bind fun r7 =>
      (ziald σ r7 x_2).bind fun x8 =>
      some (.inl (r_0, x_1, x8, x_3 + (-1)), σ)
def hX26_numberAll_85 (G : xQ) (r_0 : Option Nat) (x_1 : Int32) (x_2 : Int32) (x_3 : Int32) (σ : zS) : zF (((Option Nat) × Int32 × Int32 × Int32) ⊕ Unit) := zloop (fun (a : ((Option Nat) × Int32 × Int32 × Int32)) σ => hX26_numberAll_85b G a.1 a.2.1 a.2.2.1 a.2.2.2 σ) xLim (r_0, x_1, x_2, x_3) σ
def hX26_numberAll_60 (G : xQ) (r_0 : Option Nat) (x_1 : Int32) (x_2 : Int32) (x_3 : Int32) (x_s0 : Int32) (r_s1 : Option Nat) (σ : zS) : zF (((Option Nat) × Int32 × Int32 × Int32) ⊕ Unit) :=
  (zpI σ r_s1 25 21 x_s0).bind fun σ9 =>
  (zfA σ9 r_0 25 13).bind fun r10 =>
  (ziald σ9 r10 x_2).bind fun x11 =>
  if x11 ≤ 0 then
    hX26_numberAll_85 G r_0 x_1 x_2 x_3 σ9
  else
    (zfA σ9 r_0 25 13).bind fun r12 =>
    (ziald σ9 r12 x_2).bind fun x13 =>
    some (.inl (r_0, x_1, x13, x_3 + 1), σ9)
def hX26_numberAll_9b (G : xQ) (r_0 : Option Nat) (x_1 : Int32) (x_2 : Int32) (x_3 : Int32) (σ : zS) : zF (((Option Nat) × Int32 × Int32 × Int32) ⊕ Unit) :=
  if x_2 ≤ 0 then
    zinr (
      some ((), σ))
  else
    (zfA σ r_0 25 17).bind fun r14 =>
    (zfI σ r_0 25 19).bind fun x15 =>
    (ziast σ r14 x_2 x15).bind fun σ16 =>
    (zfA σ16 r_0 25 18).bind fun r17 =>
    (zfI σ16 r_0 25 19).bind fun x18 =>
    (ziast σ16 r17 x18 x_2).bind fun σ19 =>
    (zfI σ19 r_0 25 19).bind fun x20 =>
    (zpI σ19 r_0 25 19 (x20 + (1 : Int32))).bind fun σ21 =>
    (zfI σ21 r_0 25 21).bind fun x22 =>
    if x_3 ≤ x22 then
      (zfI σ21 r_0 25 21).bind fun x23 =>
      hX26_numberAll_60 G r_0 x_1 x_2 x_3 x23 r_0 σ21
    else
      hX26_numberAll_60 G r_0 x_1 x_2 x_3 x_3 r_0 σ21
def hX26_numberAll_9 (G : xQ) (r_0 : Option Nat) (x_1 : Int32) (x_2 : Int32) (x_3 : Int32) (σ : zS) : zF Unit := zloop (fun (a : ((Option Nat) × Int32 × Int32 × Int32)) σ => hX26_numberAll_9b G a.1 a.2.1 a.2.2.1 a.2.2.2 σ) xLim (r_0, x_1, x_2, x_3) σ
def hX26_numberAll (G : xQ) (o0 : Option Nat) (i1 : Int32) (σ : zS) : zF Unit :=
  (zfA σ o0 25 13).bind fun r24 =>
  (ziald σ r24 i1).bind fun x25 =>
  hX26_numberAll_9 G o0 i1 x25 1 σ
/-! MainframeHouseModel$Parser.faults()I -/
def hX26_faults (G : xQ) (o0 : Option Nat) (σ : zS) : zF Int32 :=
  (zpI σ o0 25 0 (0 : Int32)).bind fun σ1 =>
  (zfI σ1 o0 25 5).bind fun x2 =>
  some (x2, σ1)
/-! MainframeHouseModel$Parser.fault(II)I -/
def hX26_fault_47 (G : xQ) (x_s0 : Int32) (σ : zS) : zF Int32 :=
  some (x_s0, σ)
def hX26_fault_17 (G : xQ)  (σ : zS) : zF Int32 :=
  some ((-1), σ)
def hX26_fault (G : xQ) (o0 : Option Nat) (i1 : Int32) (i2 : Int32) (σ : zS) : zF Int32 :=
  (zpI σ o0 25 0 (0 : Int32)).bind fun σ1 =>
  if i1 < 0 then
    hX26_fault_17 G  σ1
  else
    (zfI σ1 o0 25 5).bind fun x2 =>
    if i1 < x2 then
      if ¬ i2 = 0 then
        if ¬ i2 = (1 : Int32) then
          hX26_fault_47 G ((-1)) σ1
        else
          (zfA σ1 o0 25 7).bind fun r3 =>
          (ziald σ1 r3 i1).bind fun x4 =>
          hX26_fault_47 G x4 σ1
      else
        (zfA σ1 o0 25 6).bind fun r5 =>
        (ziald σ1 r5 i1).bind fun x6 =>
        hX26_fault_47 G x6 σ1
    else
      hX26_fault_17 G  σ1
/-! MainframeHouseModel$Parser.division(II)I -/
def hX26_division_90 (G : xQ) (x_s0 : Int32) (σ : zS) : zF Int32 :=
  some (x_s0, σ)
def hX26_division_75 (G : xQ) (r_0 : Option Nat) (x_s0 : Int32) (σ : zS) : zF Int32 :=
  if x_s0 ≤ 0 then
    hX26_division_90 G ((-1)) σ
  else
    (zfA σ r_0 25 17).bind fun r1 =>
    (ziald σ r1 x_s0).bind fun x2 =>
    hX26_division_90 G x2 σ
def hX26_division_26 (G : xQ)  (σ : zS) : zF Int32 :=
  some ((-1), σ)
def hX26_division (G : xQ) (o0 : Option Nat) (i1 : Int32) (i2 : Int32) (σ : zS) : zF Int32 :=
  (zpI σ o0 25 0 (0 : Int32)).bind fun σ3 =>
  if i1 < 0 then
    hX26_division_26 G  σ3
  else
    (zfI σ3 o0 25 20).bind fun x4 =>
    if x4 ≤ i1 then
      hX26_division_26 G  σ3
    else
      (hX26_in G i2 0 3 σ3).bind fun p5 =>
      if ¬ p5.1 = 0 then
        if ¬ i2 = 0 then
          if ¬ i2 = (1 : Int32) then
            if ¬ i2 = (2 : Int32) then
              (zfA p5.2 o0 25 25).bind fun r6 =>
              (ziald p5.2 r6 i1).bind fun x7 =>
              hX26_division_75 G o0 x7 p5.2
            else
              (zfA p5.2 o0 25 24).bind fun r8 =>
              (ziald p5.2 r8 i1).bind fun x9 =>
              hX26_division_75 G o0 x9 p5.2
          else
            (zfA p5.2 o0 25 23).bind fun r10 =>
            (ziald p5.2 r10 i1).bind fun x11 =>
            hX26_division_75 G o0 x11 p5.2
        else
          (zfA p5.2 o0 25 22).bind fun r12 =>
          (ziald p5.2 r12 i1).bind fun x13 =>
          hX26_division_75 G o0 x13 p5.2
      else
        hX26_division_26 G  p5.2
/-! MainframeHouseModel$Parser.count(I)I -/
def hX26_count_41 (G : xQ) (x_s0 : Int32) (σ : zS) : zF Int32 :=
  some (x_s0, σ)
def hX26_count (G : xQ) (o0 : Option Nat) (i1 : Int32) (σ : zS) : zF Int32 :=
  (zpI σ o0 25 0 (0 : Int32)).bind fun σ1 =>
  if ¬ i1 = 0 then
    if ¬ i1 = (1 : Int32) then
      if ¬ i1 = (2 : Int32) then
        hX26_count_41 G ((-1)) σ1
      else
        (zfI σ1 o0 25 20).bind fun x2 =>
        hX26_count_41 G x2 σ1
    else
      (zfI σ1 o0 25 19).bind fun x3 =>
      hX26_count_41 G x3 σ1
  else
    (zfI σ1 o0 25 1).bind fun x4 =>
    hX26_count_41 G x4 σ1
/-! MainframeHouseModel$Parser.hasValue(I)Z -/
def hX26_hasValue_118 (G : xQ) (x_s0 : Int32) (σ : zS) : zF Int32 :=
  if narrow .boolean (.int x_s0) = .int x_s0 then some (x_s0, σ) else none
def hX26_hasValue_113 (G : xQ)  (σ : zS) : zF Int32 :=
  hX26_hasValue_118 G 1 σ
def hX26_hasValue (G : xQ) (i0 : Int32) (σ : zS) : zF Int32 :=
  if i0 = (1 : Int32) then
    hX26_hasValue_113 G  σ
  else
    if i0 = (2 : Int32) then
      hX26_hasValue_113 G  σ
    else
      (hX26_in G i0 4 6 σ).bind fun p1 =>
      if ¬ p1.1 = 0 then
        hX26_hasValue_113 G  p1.2
      else
        if i0 = (11 : Int32) then
          hX26_hasValue_113 G  p1.2
        else
          (hX26_in G i0 12 13 p1.2).bind fun p2 =>
          if ¬ p2.1 = 0 then
            hX26_hasValue_113 G  p2.2
          else
            (hX26_in G i0 15 19 p2.2).bind fun p3 =>
            if ¬ p3.1 = 0 then
              hX26_hasValue_113 G  p3.2
            else
              if i0 = (21 : Int32) then
                hX26_hasValue_113 G  p3.2
              else
                if i0 = (23 : Int32) then
                  hX26_hasValue_113 G  p3.2
                else
                  if i0 = (24 : Int32) then
                    hX26_hasValue_113 G  p3.2
                  else
                    if i0 = (27 : Int32) then
                      hX26_hasValue_113 G  p3.2
                    else
                      if i0 = (29 : Int32) then
                        hX26_hasValue_113 G  p3.2
                      else
                        if i0 = (31 : Int32) then
                          hX26_hasValue_113 G  p3.2
                        else
                          if i0 = (34 : Int32) then
                            hX26_hasValue_113 G  p3.2
                          else
                            if i0 = (38 : Int32) then
                              hX26_hasValue_113 G  p3.2
                            else
                              if i0 = (41 : Int32) then
                                hX26_hasValue_113 G  p3.2
                              else
                                (hX26_in G i0 53 55 p3.2).bind fun p4 =>
                                if p4.1 = 0 then
                                  hX26_hasValue_118 G 0 p4.2
                                else
                                  hX26_hasValue_113 G  p4.2
/-! MainframeHouse$Parser.word(II)I -/
def hX4_word_72 (G : xQ) (r_0 : Option Nat) (x_1 : Int32) (x_2 : Int32) (σ : zS) : zF Int32 :=
  (zfI σ r_0 40 2).bind fun x1 =>
  if ¬ x1 = (1500 : Int32) then
    (zfA σ r_0 40 0).bind fun r2 =>
    (zfI σ r_0 40 2).bind fun x3 =>
    (ziast σ r2 x3 x_1).bind fun σ4 =>
    (zfA σ4 r_0 40 1).bind fun r5 =>
    (zfI σ4 r_0 40 2).bind fun x6 =>
    (ziast σ4 r5 x6 x_2).bind fun σ7 =>
    (zfI σ7 r_0 40 2).bind fun x8 =>
    (zpI σ7 r_0 40 2 (x8 + (1 : Int32))).bind fun σ9 =>
    (zfI σ9 r_0 40 2).bind fun x10 =>
    some (x10, σ9)
  else
    some ((-1), σ)
def hX4_word_69 (G : xQ)  (σ : zS) : zF Int32 :=
  some ((-4), σ)
def hX4_word_45 (G : xQ) (r_0 : Option Nat) (x_1 : Int32) (x_2 : Int32) (x_s0 : Int32) (σ : zS) : zF Int32 :=
  if x_1 < 0 then
    hX4_word_69 G  σ
  else
    if (5 : Int32) < x_1 then
      hX4_word_69 G  σ
    else
      if x_1 = (4 : Int32) then
        hX4_word_72 G r_0 x_1 x_2 σ
      else
        if x_2 < 0 then
          hX4_word_69 G  σ
        else
          if x_2 ≤ x_s0 then
            hX4_word_72 G r_0 x_1 x_2 σ
          else
            hX4_word_69 G  σ
def hX4_word_19 (G : xQ) (r_0 : Option Nat) (x_1 : Int32) (x_2 : Int32) (σ : zS) : zF Int32 :=
  hX4_word_45 G r_0 x_1 x_2 99 σ
def hX4_word (G : xQ) (o0 : Option Nat) (i1 : Int32) (i2 : Int32) (σ : zS) : zF Int32 :=
  if ¬ i1 = 0 then
    if i1 = (1 : Int32) then
      hX4_word_19 G o0 i1 i2 σ
    else
      if ¬ i1 = (3 : Int32) then
        if ¬ i1 = (2 : Int32) then
          if ¬ i1 = (5 : Int32) then
            hX4_word_45 G o0 i1 i2 0 σ
          else
            hX4_word_45 G o0 i1 i2 8 σ
        else
          hX4_word_45 G o0 i1 i2 99999 σ
      else
        hX4_word_19 G o0 i1 i2 σ
  else
    hX4_word_45 G o0 i1 i2 78 σ
/-! MainframeHouse$Parser.drop()V -/
def hX4_drop (G : xQ) (o0 : Option Nat) (σ : zS) : zF Unit :=
  (zpI σ o0 40 2 (0 : Int32)).bind fun σ1 =>
  some ((), σ1)
/-! MainframeHouse$Parser.isWord(II)Z -/
def hX4_isWord_32 (G : xQ) (x_s0 : Int32) (σ : zS) : zF Int32 :=
  if narrow .boolean (.int x_s0) = .int x_s0 then some (x_s0, σ) else none
def hX4_isWord_31 (G : xQ)  (σ : zS) : zF Int32 :=
  hX4_isWord_32 G 0 σ
def hX4_isWord (G : xQ) (o0 : Option Nat) (i1 : Int32) (i2 : Int32) (σ : zS) : zF Int32 :=
  (zfI σ o0 40 2).bind fun x1 =>
  if x1 ≤ i1 then
    hX4_isWord_31 G  σ
  else
    (zfA σ o0 40 0).bind fun r2 =>
    (ziald σ r2 i1).bind fun x3 =>
    if ¬ x3 = 0 then
      hX4_isWord_31 G  σ
    else
      (zfA σ o0 40 1).bind fun r4 =>
      (ziald σ r4 i1).bind fun x5 =>
      if ¬ x5 = i2 then
        hX4_isWord_31 G  σ
      else
        hX4_isWord_32 G 1 σ
/-! MainframeHouse$Parser.fails(II)V -/
def hX4_fails (G : xQ) (o0 : Option Nat) (i1 : Int32) (i2 : Int32) (σ : zS) : zF (Unit ⊕ Nat) :=
  (zpI σ o0 40 5 i1).bind fun σ1 =>
  (zpI σ1 o0 40 6 i2).bind fun σ2 =>
  (znX σ2 3 6).bind fun p3 =>
  (zXi p3.2 p3.1).bind fun p4 =>
  (p3.1).bind fun q5 =>
  if zthr p4.2 q5 3 = true then
    some (.inr q5, p4.2)
  else none
/-! MainframeHouse$Parser.meets(I)Z -/
def hX4_meets (G : xQ) (o0 : Option Nat) (i1 : Int32) (σ : zS) : zF Int32 :=
  (zfI σ o0 40 3).bind fun x1 =>
  if zis G σ o0 41 = true then
    (hX4_isWord G o0 x1 i1 σ).bind fun p2 =>
    if ¬ p2.1 = 0 then
      (zfI p2.2 o0 40 3).bind fun x3 =>
      (zpI p2.2 o0 40 3 (x3 + (1 : Int32))).bind fun σ4 =>
      some (1, σ4)
    else
      some (0, p2.2)
  else none
/-! MainframeHouse$Parser.isKind(II)Z -/
def hX4_isKind_23 (G : xQ) (x_s0 : Int32) (σ : zS) : zF Int32 :=
  if narrow .boolean (.int x_s0) = .int x_s0 then some (x_s0, σ) else none
def hX4_isKind_22 (G : xQ)  (σ : zS) : zF Int32 :=
  hX4_isKind_23 G 0 σ
def hX4_isKind (G : xQ) (o0 : Option Nat) (i1 : Int32) (i2 : Int32) (σ : zS) : zF Int32 :=
  (zfI σ o0 40 2).bind fun x1 =>
  if x1 ≤ i1 then
    hX4_isKind_22 G  σ
  else
    (zfA σ o0 40 0).bind fun r2 =>
    (ziald σ r2 i1).bind fun x3 =>
    if ¬ x3 = i2 then
      hX4_isKind_22 G  σ
    else
      hX4_isKind_23 G 1 σ
/-! MainframeHouse$Parser.isStatement()Z -/
def hX4_isStatement_59 (G : xQ) (x_s0 : Int32) (σ : zS) : zF Int32 :=
  if narrow .boolean (.int x_s0) = .int x_s0 then some (x_s0, σ) else none
def hX4_isStatement_58 (G : xQ)  (σ : zS) : zF Int32 :=
  hX4_isStatement_59 G 0 σ
def hX4_isStatement_54 (G : xQ)  (σ : zS) : zF Int32 :=
  hX4_isStatement_59 G 1 σ
def hX4_isStatement (G : xQ) (o0 : Option Nat) (σ : zS) : zF Int32 :=
  (zfI σ o0 40 3).bind fun x1 =>
  if zis G σ o0 41 = true then
    (hX4_isKind G o0 x1 0 σ).bind fun p2 =>
    if p2.1 = 0 then
      hX4_isStatement_58 G  p2.2
    else
      (zfA p2.2 o0 40 1).bind fun r3 =>
      (zfI p2.2 o0 40 3).bind fun x4 =>
      (ziald p2.2 r3 x4).bind fun x5 =>
      if x5 = (29 : Int32) then
        hX4_isStatement_54 G  p2.2
      else
        (zfA p2.2 o0 40 1).bind fun r6 =>
        (zfI p2.2 o0 40 3).bind fun x7 =>
        (ziald p2.2 r6 x7).bind fun x8 =>
        if x8 < (36 : Int32) then
          hX4_isStatement_58 G  p2.2
        else
          (zfA p2.2 o0 40 1).bind fun r9 =>
          (zfI p2.2 o0 40 3).bind fun x10 =>
          (ziald p2.2 r9 x10).bind fun x11 =>
          if (47 : Int32) < x11 then
            hX4_isStatement_58 G  p2.2
          else
            hX4_isStatement_54 G  p2.2
  else none
/-! MainframeHouse$Parser.isOperand(I)Z -/
def hX4_isOperand_32 (G : xQ) (x_s0 : Int32) (σ : zS) : zF Int32 :=
  if narrow .boolean (.int x_s0) = .int x_s0 then some (x_s0, σ) else none
def hX4_isOperand_27 (G : xQ)  (σ : zS) : zF Int32 :=
  hX4_isOperand_32 G 1 σ
def hX4_isOperand (G : xQ) (o0 : Option Nat) (i1 : Int32) (σ : zS) : zF Int32 :=
  if zis G σ o0 41 = true then
    (hX4_isKind G o0 i1 1 σ).bind fun p1 =>
    if ¬ p1.1 = 0 then
      hX4_isOperand_27 G  p1.2
    else
      if zis G p1.2 o0 41 = true then
        (hX4_isKind G o0 i1 2 p1.2).bind fun p2 =>
        if ¬ p2.1 = 0 then
          hX4_isOperand_27 G  p2.2
        else
          if zis G p2.2 o0 41 = true then
            (hX4_isKind G o0 i1 3 p2.2).bind fun p3 =>
            if p3.1 = 0 then
              hX4_isOperand_32 G 0 p3.2
            else
              hX4_isOperand_27 G  p3.2
          else none
      else none
  else none
/-! MainframeHouse$Parser.deeper()V -/
def hX4_deeper_18 (G : xQ) (r_0 : Option Nat) (σ : zS) : zF (Unit ⊕ Nat) :=
  (zfI σ r_0 40 4).bind fun x1 =>
  (zpI σ r_0 40 4 (x1 + (1 : Int32))).bind fun σ2 =>
  some (.inl (()), σ2)
def hX4_deeper (G : xQ) (o0 : Option Nat) (σ : zS) : zF (Unit ⊕ Nat) :=
  (zfI σ o0 40 4).bind fun x3 =>
  if ¬ x3 = (40 : Int32) then
    hX4_deeper_18 G o0 σ
  else
    (zfI σ o0 40 3).bind fun x4 =>
    if zis G σ o0 41 = true then
      zcase (hX4_fails G o0 x4 3 σ) (fun p5 =>
        hX4_deeper_18 G o0 p5.2) (fun p6 =>
        if zthr p6.2 p6.1 3 = true then
          some (.inr p6.1, p6.2)
        else none)
    else none
/-! MainframeHouse$Parser.scopeEnd(LMainframeHouse$Parser$Node;I)V -/
def hX4_scopeEnd_14 (G : xQ) (x_s0 : Int32) (r_s1 : Option Nat) (σ : zS) : zF Unit :=
  (zpI σ r_s1 44 2 x_s0).bind fun σ1 =>
  some ((), σ1)
def hX4_scopeEnd (G : xQ) (o0 : Option Nat) (o1 : Option Nat) (i2 : Int32) (σ : zS) : zF Unit :=
  if zis G σ o0 41 = true then
    (hX4_meets G o0 i2 σ).bind fun p2 =>
    if p2.1 = 0 then
      hX4_scopeEnd_14 G 0 o1 p2.2
    else
      hX4_scopeEnd_14 G 1 o1 p2.2
  else none
/-! MainframeHouse$Parser.isComparing(I)Z -/
def hX4_isComparing_65 (G : xQ) (x_s0 : Int32) (σ : zS) : zF Int32 :=
  if narrow .boolean (.int x_s0) = .int x_s0 then some (x_s0, σ) else none
def hX4_isComparing_64 (G : xQ)  (σ : zS) : zF Int32 :=
  hX4_isComparing_65 G 0 σ
def hX4_isComparing_60 (G : xQ)  (σ : zS) : zF Int32 :=
  hX4_isComparing_65 G 1 σ
def hX4_isComparing_29 (G : xQ) (r_0 : Option Nat) (x_1 : Int32) (σ : zS) : zF Int32 :=
  if zis G σ r_0 41 = true then
    (hX4_isKind G r_0 x_1 0 σ).bind fun p1 =>
    if p1.1 = 0 then
      hX4_isComparing_64 G  p1.2
    else
      (zfA p1.2 r_0 40 1).bind fun r2 =>
      (ziald p1.2 r2 x_1).bind fun x3 =>
      if x3 < (68 : Int32) then
        hX4_isComparing_64 G  p1.2
      else
        (zfA p1.2 r_0 40 1).bind fun r4 =>
        (ziald p1.2 r4 x_1).bind fun x5 =>
        if (70 : Int32) < x5 then
          hX4_isComparing_64 G  p1.2
        else
          hX4_isComparing_60 G  p1.2
  else none
def hX4_isComparing (G : xQ) (o0 : Option Nat) (i1 : Int32) (σ : zS) : zF Int32 :=
  if zis G σ o0 41 = true then
    (hX4_isKind G o0 i1 5 σ).bind fun p6 =>
    if p6.1 = 0 then
      hX4_isComparing_29 G o0 i1 p6.2
    else
      (zfA p6.2 o0 40 1).bind fun r7 =>
      (ziald p6.2 r7 i1).bind fun x8 =>
      if x8 < (2 : Int32) then
        hX4_isComparing_29 G o0 i1 p6.2
      else
        (zfA p6.2 o0 40 1).bind fun r9 =>
        (ziald p6.2 r9 i1).bind fun x10 =>
        if x10 ≤ (4 : Int32) then
          hX4_isComparing_60 G  p6.2
        else
          hX4_isComparing_29 G o0 i1 p6.2
  else none
/-! MainframeHouse$Parser.isSign(II)Z -/
def hX4_isSign_33 (G : xQ) (x_s0 : Int32) (σ : zS) : zF Int32 :=
  if narrow .boolean (.int x_s0) = .int x_s0 then some (x_s0, σ) else none
def hX4_isSign_32 (G : xQ)  (σ : zS) : zF Int32 :=
  hX4_isSign_33 G 0 σ
def hX4_isSign (G : xQ) (o0 : Option Nat) (i1 : Int32) (i2 : Int32) (σ : zS) : zF Int32 :=
  (zfI σ o0 40 2).bind fun x1 =>
  if x1 ≤ i1 then
    hX4_isSign_32 G  σ
  else
    (zfA σ o0 40 0).bind fun r2 =>
    (ziald σ r2 i1).bind fun x3 =>
    if ¬ x3 = (5 : Int32) then
      hX4_isSign_32 G  σ
    else
      (zfA σ o0 40 1).bind fun r4 =>
      (ziald σ r4 i1).bind fun x5 =>
      if ¬ x5 = i2 then
        hX4_isSign_32 G  σ
      else
        hX4_isSign_33 G 1 σ
/-! MainframeHouse$Parser.compares()Z -/
def hX4_compares_55 (G : xQ) (x_s0 : Int32) (σ : zS) : zF Int32 :=
  if narrow .boolean (.int x_s0) = .int x_s0 then some (x_s0, σ) else none
def hX4_compares_50 (G : xQ)  (σ : zS) : zF Int32 :=
  hX4_compares_55 G 1 σ
def hX4_compares_39 (G : xQ) (r_0 : Option Nat) (σ : zS) : zF Int32 :=
  (zfI σ r_0 40 3).bind fun x1 =>
  if zis G σ r_0 41 = true then
    (hX4_isComparing G r_0 x1 σ).bind fun p2 =>
    if p2.1 = 0 then
      hX4_compares_55 G 0 p2.2
    else
      hX4_compares_50 G  p2.2
  else none
def hX4_compares (G : xQ) (o0 : Option Nat) (σ : zS) : zF Int32 :=
  (zfI σ o0 40 3).bind fun x3 =>
  if zis G σ o0 41 = true then
    (hX4_isWord G o0 x3 67 σ).bind fun p4 =>
    if ¬ p4.1 = 0 then
      hX4_compares_50 G  p4.2
    else
      (zfI p4.2 o0 40 3).bind fun x5 =>
      if zis G p4.2 o0 41 = true then
        (hX4_isWord G o0 x5 64 p4.2).bind fun p6 =>
        if p6.1 = 0 then
          hX4_compares_39 G o0 p6.2
        else
          (zfI p6.2 o0 40 3).bind fun x7 =>
          if zis G p6.2 o0 41 = true then
            (hX4_isComparing G o0 (x7 + (1 : Int32)) p6.2).bind fun p8 =>
            if ¬ p8.1 = 0 then
              hX4_compares_50 G  p8.2
            else
              hX4_compares_39 G o0 p8.2
          else none
      else none
  else none
/-! MainframeHouse$Parser.isPhrase()Z -/
def hX4_isPhrase_70 (G : xQ) (x_s0 : Int32) (σ : zS) : zF Int32 :=
  if narrow .boolean (.int x_s0) = .int x_s0 then some (x_s0, σ) else none
def hX4_isPhrase_65 (G : xQ)  (σ : zS) : zF Int32 :=
  hX4_isPhrase_70 G 1 σ
def hX4_isPhrase_39 (G : xQ) (r_0 : Option Nat) (σ : zS) : zF Int32 :=
  (zfI σ r_0 40 3).bind fun x1 =>
  if zis G σ r_0 41 = true then
    (hX4_isWord G r_0 x1 56 σ).bind fun p2 =>
    if ¬ p2.1 = 0 then
      hX4_isPhrase_65 G  p2.2
    else
      (zfI p2.2 r_0 40 3).bind fun x3 =>
      if zis G p2.2 r_0 41 = true then
        (hX4_isWord G r_0 x3 57 p2.2).bind fun p4 =>
        if p4.1 = 0 then
          hX4_isPhrase_70 G 0 p4.2
        else
          hX4_isPhrase_65 G  p4.2
      else none
  else none
def hX4_isPhrase (G : xQ) (o0 : Option Nat) (σ : zS) : zF Int32 :=
  (zfI σ o0 40 3).bind fun x5 =>
  if zis G σ o0 41 = true then
    (hX4_isKind G o0 x5 2 σ).bind fun p6 =>
    if ¬ p6.1 = 0 then
      hX4_isPhrase_65 G  p6.2
    else
      (zfI p6.2 o0 40 3).bind fun x7 =>
      if zis G p6.2 o0 41 = true then
        (hX4_isKind G o0 x7 1 p6.2).bind fun p8 =>
        if p8.1 = 0 then
          hX4_isPhrase_39 G o0 p8.2
        else
          (zfI p8.2 o0 40 3).bind fun x9 =>
          if zis G p8.2 o0 41 = true then
            (hX4_isWord G o0 (x9 + (1 : Int32)) 23 p8.2).bind fun p10 =>
            if ¬ p10.1 = 0 then
              hX4_isPhrase_65 G  p10.2
            else
              hX4_isPhrase_39 G o0 p10.2
          else none
      else none
  else none
/-! MainframeHouse$Parser.note(II)V -/
def hX4_note (G : xQ) (o0 : Option Nat) (i1 : Int32) (i2 : Int32) (σ : zS) : zF Unit :=
  (zfI σ o0 40 7).bind fun x1 =>
  if ¬ x1 = (20 : Int32) then
    (zfA σ o0 40 9).bind fun r2 =>
    (zfI σ o0 40 7).bind fun x3 =>
    (ziast σ r2 x3 i1).bind fun σ4 =>
    (zfA σ4 o0 40 10).bind fun r5 =>
    (zfI σ4 o0 40 7).bind fun x6 =>
    (ziast σ4 r5 x6 i2).bind fun σ7 =>
    (zfI σ7 o0 40 7).bind fun x8 =>
    (zpI σ7 o0 40 7 (x8 + (1 : Int32))).bind fun σ9 =>
    some ((), σ9)
  else
    some ((), σ)
/-! MainframeHouse$Parser.number()V -/
def hX4_number_119b (G : xQ) (r_0 : Option Nat) (r_1 : Option Nat) (r_2 : Option Nat) (x_3 : Int32) (σ : zS) : zF (((Option Nat) × (Option Nat) × (Option Nat) × Int32) ⊕ (((Option Nat) × (Option Nat)) ⊕ Unit)) :=
  if x_3 < 0 then
    zinr (
      some (.inl (r_0, r_1), σ))
  else
    (zfA σ r_2 44 8).bind fun r1 =>
    (zLget σ r1 x_3).bind fun r2 =>
    if zco G σ r2 [45] = true then
      (zLadd σ r_1 r2).bind fun p3 =>
      some (.inl (r_0, r_1, r_2, x_3 + (-1)), p3.2)
    else none
def hX4_number_119 (G : xQ) (r_0 : Option Nat) (r_1 : Option Nat) (r_2 : Option Nat) (x_3 : Int32) (σ : zS) : zF (((Option Nat) × (Option Nat)) ⊕ Unit) := zloop (fun (a : ((Option Nat) × (Option Nat) × (Option Nat) × Int32)) σ => hX4_number_119b G a.1 a.2.1 a.2.2.1 a.2.2.2 σ) xLim (r_0, r_1, r_2, x_3) σ
def hX4_number_97 (G : xQ) (r_0 : Option Nat) (r_1 : Option Nat) (r_2 : Option Nat) (x_s0 : Int32) (r_s1 : Option Nat) (σ : zS) : zF (((Option Nat) × (Option Nat)) ⊕ Unit) :=
  (zpI σ r_s1 44 4 x_s0).bind fun σ4 =>
  (zfA σ4 r_0 40 14).bind fun r5 =>
  (zLadd σ4 r5 r_2).bind fun p6 =>
  (zfA p6.2 r_2 44 8).bind fun r7 =>
  (zLsize p6.2 r7).bind fun x8 =>
  xlet (x8 - (1 : Int32)) fun x9 =>
  hX4_number_119 G r_0 r_1 r_2 x9 p6.2
def hX4_number_44b (G : xQ) (r_0 : Option Nat) (r_1 : Option Nat) (σ : zS) : zF (((Option Nat) × (Option Nat)) ⊕ Unit) :=
  (zLempty σ r_1).bind fun x10 =>
  if ¬ x10 = 0 then
    zinr (
      some ((), σ))
  else
    (zLsize σ r_1).bind fun x11 =>
    (zLrem σ r_1 (x11 - (1 : Int32))).bind fun p12 =>
    if zco G p12.2 p12.1 [45] = true then
      (zfA p12.2 r_0 40 14).bind fun r13 =>
      (zLsize p12.2 r13).bind fun x14 =>
      (zpI p12.2 p12.1 44 3 x14).bind fun σ15 =>
      (zfA σ15 p12.1 44 6).bind fun r16 =>
      if r16 = none then
        hX4_number_97 G r_0 r_1 p12.1 1 p12.1 σ15
      else
        (zfA σ15 p12.1 44 6).bind fun r17 =>
        (zfI σ15 r17 44 4).bind fun x18 =>
        hX4_number_97 G r_0 r_1 p12.1 (x18 + (1 : Int32)) p12.1 σ15
    else none
def hX4_number_44 (G : xQ) (r_0 : Option Nat) (r_1 : Option Nat) (σ : zS) : zF Unit := zloop (fun (a : ((Option Nat) × (Option Nat))) σ => hX4_number_44b G a.1 a.2 σ) xLim (r_0, r_1) σ
def hX4_number_18b (G : xQ) (r_0 : Option Nat) (r_1 : Option Nat) (x_2 : Int32) (σ : zS) : zF (((Option Nat) × (Option Nat) × Int32) ⊕ Unit) :=
  if x_2 < 0 then
    zinr (hX4_number_44 G r_0 r_1 σ)
  else
    (zfA σ r_0 40 13).bind fun r19 =>
    (zLget σ r19 x_2).bind fun r20 =>
    if zco G σ r20 [45] = true then
      (zLadd σ r_1 r20).bind fun p21 =>
      some (.inl (r_0, r_1, x_2 + (-1)), p21.2)
    else none
def hX4_number_18 (G : xQ) (r_0 : Option Nat) (r_1 : Option Nat) (x_2 : Int32) (σ : zS) : zF Unit := zloop (fun (a : ((Option Nat) × (Option Nat) × Int32)) σ => hX4_number_18b G a.1 a.2.1 a.2.2 σ) xLim (r_0, r_1, x_2) σ
def hX4_number (G : xQ) (o0 : Option Nat) (σ : zS) : zF Unit :=
  (znX σ 2 3).bind fun p22 =>
  (zLi0 p22.2 p22.1).bind fun p23 =>
  (zfA p23.2 o0 40 13).bind fun r24 =>
  (zLsize p23.2 r24).bind fun x25 =>
  xlet (x25 - (1 : Int32)) fun x26 =>
  hX4_number_18 G o0 p22.1 x26 p23.2
/-! MainframeHouse$Parser.faults()I -/
def hX4_faults (G : xQ) (o0 : Option Nat) (σ : zS) : zF Int32 :=
  (zfI σ o0 40 7).bind fun x1 =>
  some (x1, σ)
/-! MainframeHouse$Parser.fault(II)I -/
def hX4_fault_44 (G : xQ) (x_s0 : Int32) (σ : zS) : zF Int32 :=
  some (x_s0, σ)
def hX4_fault_12 (G : xQ)  (σ : zS) : zF Int32 :=
  hX4_fault_44 G ((-1)) σ
def hX4_fault (G : xQ) (o0 : Option Nat) (i1 : Int32) (i2 : Int32) (σ : zS) : zF Int32 :=
  if i1 < 0 then
    hX4_fault_12 G  σ
  else
    (zfI σ o0 40 7).bind fun x1 =>
    if i1 < x1 then
      if ¬ i2 = 0 then
        if ¬ i2 = (1 : Int32) then
          hX4_fault_44 G ((-1)) σ
        else
          (zfA σ o0 40 10).bind fun r2 =>
          (ziald σ r2 i1).bind fun x3 =>
          hX4_fault_44 G x3 σ
      else
        (zfA σ o0 40 9).bind fun r4 =>
        (ziald σ r4 i1).bind fun x5 =>
        hX4_fault_44 G x5 σ
    else
      hX4_fault_12 G  σ
/-! MainframeHouse$Parser.count(I)I -/
def hX4_count_42 (G : xQ) (x_s0 : Int32) (σ : zS) : zF Int32 :=
  some (x_s0, σ)
def hX4_count (G : xQ) (o0 : Option Nat) (i1 : Int32) (σ : zS) : zF Int32 :=
  if ¬ i1 = 0 then
    if ¬ i1 = (1 : Int32) then
      if ¬ i1 = (2 : Int32) then
        hX4_count_42 G ((-1)) σ
      else
        (zfA σ o0 40 12).bind fun r1 =>
        (zLsize σ r1).bind fun x2 =>
        hX4_count_42 G x2 σ
    else
      (zfA σ o0 40 14).bind fun r3 =>
      (zLsize σ r3).bind fun x4 =>
      hX4_count_42 G x4 σ
  else
    (zfI σ o0 40 2).bind fun x5 =>
    hX4_count_42 G x5 σ
/-! MainframeHouse$Parser.at(I)LMainframeHouse$Parser$Node; -/
def hX4_at_30 (G : xQ) (r_s0 : Option Nat) (σ : zS) : zF (Option Nat) :=
  some (r_s0, σ)
def hX4_at_29 (G : xQ)  (σ : zS) : zF (Option Nat) :=
  hX4_at_30 G none σ
def hX4_at (G : xQ) (o0 : Option Nat) (i1 : Int32) (σ : zS) : zF (Option Nat) :=
  if i1 < 0 then
    hX4_at_29 G  σ
  else
    (zfA σ o0 40 14).bind fun r1 =>
    (zLsize σ r1).bind fun x2 =>
    if x2 ≤ i1 then
      hX4_at_29 G  σ
    else
      (zfA σ o0 40 14).bind fun r3 =>
      (zLget σ r3 i1).bind fun r4 =>
      if zco G σ r4 [45] = true then
        hX4_at_30 G r4 σ
      else none
/-! MainframeHouse$Parser.numberOf(LMainframeHouse$Parser$Node;)I -/
def hX4_numberOf_12 (G : xQ) (x_s0 : Int32) (σ : zS) : zF Int32 :=
  some (x_s0, σ)
def hX4_numberOf (G : xQ) (o0 : Option Nat) (σ : zS) : zF Int32 :=
  if o0 = none then
    hX4_numberOf_12 G ((-1)) σ
  else
    (zfI σ o0 44 3).bind fun x1 =>
    hX4_numberOf_12 G x1 σ
/-! MainframeHouse$Parser.child(II)I -/
def hX4_child_43 (G : xQ) (x_s0 : Int32) (σ : zS) : zF Int32 :=
  some (x_s0, σ)
def hX4_child_25 (G : xQ)  (σ : zS) : zF Int32 :=
  hX4_child_43 G ((-1)) σ
def hX4_child (G : xQ) (o0 : Option Nat) (i1 : Int32) (i2 : Int32) (σ : zS) : zF Int32 :=
  if zis G σ o0 41 = true then
    (hX4_at G o0 i1 σ).bind fun p1 =>
    if p1.1 = none then
      hX4_child_25 G  p1.2
    else
      if i2 < 0 then
        hX4_child_25 G  p1.2
      else
        (zfA p1.2 p1.1 44 8).bind fun r2 =>
        (zLsize p1.2 r2).bind fun x3 =>
        if i2 < x3 then
          (zfA p1.2 p1.1 44 8).bind fun r4 =>
          (zLget p1.2 r4 i2).bind fun r5 =>
          if zco G p1.2 r5 [45] = true then
            (zfI p1.2 r5 44 3).bind fun x6 =>
            hX4_child_43 G x6 p1.2
          else none
        else
          hX4_child_25 G  p1.2
  else none
/-! MainframeHouse$Parser.division(II)I -/
def hX4_division_83 (G : xQ) (x_s0 : Int32) (σ : zS) : zF Int32 :=
  some (x_s0, σ)
def hX4_division_80 (G : xQ) (r_s0 : Option Nat) (σ : zS) : zF Int32 :=
  (hX4_numberOf G r_s0 σ).bind fun p1 =>
  hX4_division_83 G p1.1 p1.2
def hX4_division_15 (G : xQ)  (σ : zS) : zF Int32 :=
  some ((-1), σ)
def hX4_division (G : xQ) (o0 : Option Nat) (i1 : Int32) (i2 : Int32) (σ : zS) : zF Int32 :=
  if i1 < 0 then
    hX4_division_15 G  σ
  else
    (zfA σ o0 40 12).bind fun r2 =>
    (zLsize σ r2).bind fun x3 =>
    if i1 < x3 then
      (zfA σ o0 40 12).bind fun r4 =>
      (zLget σ r4 i1).bind fun r5 =>
      if zco G σ r5 [44] = true then
        if ¬ i2 = 0 then
          if ¬ i2 = (1 : Int32) then
            if ¬ i2 = (2 : Int32) then
              if ¬ i2 = (3 : Int32) then
                hX4_division_80 G none σ
              else
                (zfA σ r5 43 8).bind fun r6 =>
                hX4_division_80 G r6 σ
            else
              (zfA σ r5 43 5).bind fun r7 =>
              hX4_division_80 G r7 σ
          else
            (zfA σ r5 43 4).bind fun r8 =>
            hX4_division_80 G r8 σ
        else
          (zfA σ r5 43 1).bind fun r9 =>
          (zfI σ r9 44 3).bind fun x10 =>
          hX4_division_83 G x10 σ
      else none
    else
      hX4_division_15 G  σ
/-! MainframeHouse$Parser.<init>()V -/
def hX4_init (G : xQ) (o0 : Option Nat) (σ : zS) : zF Unit :=
  if o0 = none then none else
  (znA σ 0 (1500 : Int32)).bind fun p1 =>
  (zpA p1.2 o0 40 0 p1.1).bind fun σ2 =>
  (znA σ2 0 (1500 : Int32)).bind fun p3 =>
  (zpA p3.2 o0 40 1 p3.1).bind fun σ4 =>
  (znA σ4 0 (20 : Int32)).bind fun p5 =>
  (zpA p5.2 o0 40 9 p5.1).bind fun σ6 =>
  (znA σ6 0 (20 : Int32)).bind fun p7 =>
  (zpA p7.2 o0 40 10 p7.1).bind fun σ8 =>
  (znX σ8 2 3).bind fun p9 =>
  (zLiI p9.2 p9.1 (2 : Int32)).bind fun p10 =>
  (zpA p10.2 o0 40 12 p9.1).bind fun σ11 =>
  (znX σ11 2 3).bind fun p12 =>
  (zLiI p12.2 p12.1 (2 : Int32)).bind fun p13 =>
  (zpA p13.2 o0 40 13 p12.1).bind fun σ14 =>
  (znX σ14 2 3).bind fun p15 =>
  (zLi0 p15.2 p15.1).bind fun p16 =>
  (zpA p16.2 o0 40 14 p15.1).bind fun σ17 =>
  some ((), σ17)
/-! MainframeHouse$Parser$Unit.isFunction()Z -/
def hX42_isFunction_16 (G : xQ) (x_s0 : Int32) (σ : zS) : zF Int32 :=
  if narrow .boolean (.int x_s0) = .int x_s0 then some (x_s0, σ) else none
def hX42_isFunction (G : xQ) (o0 : Option Nat) (σ : zS) : zF Int32 :=
  (zfA σ o0 43 1).bind fun r1 =>
  (zfI σ r1 44 0).bind fun x2 =>
  if ¬ x2 = (2 : Int32) then
    hX42_isFunction_16 G 0 σ
  else
    hX42_isFunction_16 G 1 σ
/-! MainframeHouse$Parser$Unit.canEnd()Z -/
def hX42_canEnd_21 (G : xQ) (x_s0 : Int32) (σ : zS) : zF Int32 :=
  if narrow .boolean (.int x_s0) = .int x_s0 then some (x_s0, σ) else none
def hX42_canEnd_20 (G : xQ)  (σ : zS) : zF Int32 :=
  hX42_canEnd_21 G 0 σ
def hX42_canEnd (G : xQ) (o0 : Option Nat) (σ : zS) : zF Int32 :=
  (zfI σ o0 43 3).bind fun x1 =>
  if x1 ≤ 0 then
    hX42_canEnd_20 G  σ
  else
    (zfI σ o0 43 3).bind fun x2 =>
    if x2 = (9 : Int32) then
      hX42_canEnd_20 G  σ
    else
      hX42_canEnd_21 G 1 σ
/-! MainframeHouse$Parser$Unit.goOn()V -/
def hX42_goOn_17 (G : xQ) (x_s0 : Int32) (r_s1 : Option Nat) (σ : zS) : zF Unit :=
  (zpI σ r_s1 43 3 x_s0).bind fun σ1 =>
  some ((), σ1)
def hX42_goOn (G : xQ) (o0 : Option Nat) (σ : zS) : zF Unit :=
  (zfI σ o0 43 3).bind fun x2 =>
  if ¬ x2 = (9 : Int32) then
    hX42_goOn_17 G 11 o0 σ
  else
    hX42_goOn_17 G 9 o0 σ
/-! MainframeHouse$Parser$Unit.sentences()LMainframeHouse$Parser$Node; -/
def hX42_sentences_32 (G : xQ) (r_s0 : Option Nat) (σ : zS) : zF (Option Nat) :=
  some (r_s0, σ)
def hX42_sentences (G : xQ) (o0 : Option Nat) (σ : zS) : zF (Option Nat) :=
  (zfA σ o0 43 11).bind fun r1 =>
  if r1 = none then
    (zfA σ o0 43 10).bind fun r2 =>
    if r2 = none then
      (zfA σ o0 43 8).bind fun r3 =>
      hX42_sentences_32 G r3 σ
    else
      (zfA σ o0 43 10).bind fun r4 =>
      hX42_sentences_32 G r4 σ
  else
    (zfA σ o0 43 11).bind fun r5 =>
    hX42_sentences_32 G r5 σ
/-! MainframeHouse$Parser$Unit.items(LMainframeHouse$Parser$Node;)V -/
def hX42_items (G : xQ) (o0 : Option Nat) (o1 : Option Nat) (σ : zS) : zF Unit :=
  (zpA σ o0 43 7 o1).bind fun σ1 =>
  (zpA σ1 o0 43 12 none).bind fun σ2 =>
  (zfA σ2 o0 43 13).bind fun r3 =>
  (zLclear σ2 r3).bind fun p4 =>
  some ((), p4.2)
/-! MainframeHouse$Parser$Node.<init>(III)V -/
def hX43_init (G : xQ) (o0 : Option Nat) (i1 : Int32) (i2 : Int32) (i3 : Int32) (σ : zS) : zF Unit :=
  if o0 = none then none else
  (znX σ 2 3).bind fun p1 =>
  (zLiI p1.2 p1.1 (2 : Int32)).bind fun p2 =>
  (zpA p2.2 o0 44 8 p1.1).bind fun σ3 =>
  (zpI σ3 o0 44 0 i1).bind fun σ4 =>
  (zpI σ4 o0 44 1 i2).bind fun σ5 =>
  (zpI σ5 o0 44 5 i3).bind fun σ6 =>
  some ((), σ6)
/-! MainframeHouse$Parser$Node.add(LMainframeHouse$Parser$Node;)LMainframeHouse$Parser$Node; -/
def hX43_add (G : xQ) (o0 : Option Nat) (o1 : Option Nat) (σ : zS) : zF (Option Nat) :=
  (zfA σ o0 44 8).bind fun r1 =>
  (zLadd σ r1 o1).bind fun p2 =>
  (zpA p2.2 o1 44 6 o0).bind fun σ3 =>
  some (o1, σ3)
/-! MainframeHouseModel$Parser.word(II)I -/
def hX26_word_66 (G : xQ) (r_0 : Option Nat) (x_1 : Int32) (x_2 : Int32) (σ : zS) : zF Int32 :=
  (zfI σ r_0 25 1).bind fun x1 =>
  if ¬ x1 = (1500 : Int32) then
    (zfA σ r_0 25 2).bind fun r2 =>
    (zfI σ r_0 25 1).bind fun x3 =>
    (ziast σ r2 x3 x_1).bind fun σ4 =>
    (zfA σ4 r_0 25 3).bind fun r5 =>
    (zfI σ4 r_0 25 1).bind fun x6 =>
    (ziast σ4 r5 x6 x_2).bind fun σ7 =>
    (zfI σ7 r_0 25 1).bind fun x8 =>
    (zpI σ7 r_0 25 1 (x8 + (1 : Int32))).bind fun σ9 =>
    (zfI σ9 r_0 25 1).bind fun x10 =>
    some (x10, σ9)
  else
    some ((-1), σ)
def hX26_word_48 (G : xQ) (r_0 : Option Nat) (x_1 : Int32) (x_2 : Int32) (x_s0 : Int32) (σ : zS) : zF Int32 :=
  if x_1 = (4 : Int32) then
    hX26_word_66 G r_0 x_1 x_2 σ
  else
    (hX26_in G x_2 0 x_s0 σ).bind fun p11 =>
    if ¬ p11.1 = 0 then
      hX26_word_66 G r_0 x_1 x_2 p11.2
    else
      some ((-4), p11.2)
def hX26_word (G : xQ) (o0 : Option Nat) (i1 : Int32) (i2 : Int32) (σ : zS) : zF Int32 :=
  (zpI σ o0 25 0 (0 : Int32)).bind fun σ12 =>
  (hX26_in G i1 0 5 σ12).bind fun p13 =>
  if ¬ p13.1 = 0 then
    if ¬ i1 = 0 then
      if ¬ i1 = (2 : Int32) then
        if ¬ i1 = (5 : Int32) then
          hX26_word_48 G o0 i1 i2 99 p13.2
        else
          hX26_word_48 G o0 i1 i2 8 p13.2
      else
        hX26_word_48 G o0 i1 i2 99999 p13.2
    else
      hX26_word_48 G o0 i1 i2 78 p13.2
  else
    some ((-4), p13.2)
/-! MainframeHouseModel$Parser.fail(II)Z -/
def hX26_fail_29 (G : xQ) (r_0 : Option Nat) (x_s0 : Int32) (r_s1 : Option Nat) (σ : zS) : zF Int32 :=
  (zpI σ r_s1 25 42 x_s0).bind fun σ1 =>
  (zpN σ1 r_0 25 43 .boolean 1).bind fun σ2 =>
  some (0, σ2)
def hX26_fail_13 (G : xQ) (r_0 : Option Nat) (x_2 : Int32) (σ : zS) : zF Int32 :=
  (zfI σ r_0 25 43).bind fun x3 =>
  if x3 = 0 then
    hX26_fail_29 G r_0 x_2 r_0 σ
  else
    (zfI σ r_0 25 42).bind fun x4 =>
    hX26_fail_29 G r_0 x4 r_0 σ
def hX26_fail (G : xQ) (o0 : Option Nat) (i1 : Int32) (i2 : Int32) (σ : zS) : zF Int32 :=
  (zfI σ o0 25 43).bind fun x5 =>
  if ¬ x5 = 0 then
    hX26_fail_13 G o0 i2 σ
  else
    if zis G σ o0 26 = true then
      (hX26_note G o0 i1 i2 σ).bind fun p6 =>
      hX26_fail_13 G o0 i2 p6.2
    else none
/-! MainframeHouseModel$Parser.mustBe(I)Z -/
def hX26_mustBe_19 (G : xQ) (r_0 : Option Nat) (σ : zS) : zF Int32 :=
  (zfI σ r_0 25 41).bind fun x1 =>
  if zis G σ r_0 26 = true then
    (hX26_fail G r_0 1 x1 σ).bind fun p2 =>
    if narrow .boolean (.int p2.1) = .int p2.1 then some (p2.1, p2.2) else none
  else none
def hX26_mustBe (G : xQ) (o0 : Option Nat) (i1 : Int32) (σ : zS) : zF Int32 :=
  (zfI σ o0 25 43).bind fun x3 =>
  if ¬ x3 = 0 then
    hX26_mustBe_19 G o0 σ
  else
    (zfI σ o0 25 41).bind fun x4 =>
    if zis G σ o0 26 = true then
      (hX26_isKind G o0 x4 i1 σ).bind fun p5 =>
      if ¬ p5.1 = 0 then
        (zfI p5.2 o0 25 41).bind fun x6 =>
        (zpI p5.2 o0 25 41 (x6 + (1 : Int32))).bind fun σ7 =>
        some (1, σ7)
      else
        hX26_mustBe_19 G o0 p5.2
    else none
/-! MainframeHouseModel$Parser.child(IIII)V -/
def hX26_child (G : xQ) (o0 : Option Nat) (i1 : Int32) (i2 : Int32) (i3 : Int32) (i4 : Int32) (σ : zS) : zF Unit :=
  if zis G σ o0 26 = true then
    (hX26_make G o0 i2 i3 i4 σ).bind fun p1 =>
    if zis G p1.2 o0 26 = true then
      (hX26_attach G o0 i1 p1.1 p1.2).bind fun p2 =>
      some ((), p2.2)
    else none
  else none
/-! MainframeHouseModel$Parser.operand()I -/
def hX26_operand_18 (G : xQ) (r_0 : Option Nat) (σ : zS) : zF Int32 :=
  (zfI σ r_0 25 41).bind fun x1 =>
  if zis G σ r_0 26 = true then
    (hX26_fail G r_0 1 x1 σ).bind fun p2 =>
    some (0, p2.2)
  else none
def hX26_operand (G : xQ) (o0 : Option Nat) (σ : zS) : zF Int32 :=
  (zfI σ o0 25 43).bind fun x3 =>
  if ¬ x3 = 0 then
    hX26_operand_18 G o0 σ
  else
    (zfI σ o0 25 41).bind fun x4 =>
    if zis G σ o0 26 = true then
      (hX26_isOperand G o0 x4 σ).bind fun p5 =>
      if ¬ p5.1 = 0 then
        (zfI p5.2 o0 25 41).bind fun x6 =>
        (zpI p5.2 o0 25 41 (x6 + (1 : Int32))).bind fun σ7 =>
        (zfA σ7 o0 25 2).bind fun r8 =>
        (zfI σ7 o0 25 41).bind fun x9 =>
        (ziald σ7 r8 (x9 - (1 : Int32))).bind fun x10 =>
        (zfA σ7 o0 25 3).bind fun r11 =>
        (zfI σ7 o0 25 41).bind fun x12 =>
        (ziald σ7 r11 (x12 - (1 : Int32))).bind fun x13 =>
        (zfI σ7 o0 25 41).bind fun x14 =>
        if zis G σ7 o0 26 = true then
          (hX26_make G o0 41 (((100000 : Int32) * x10) + x13) (x14 - (1 : Int32)) σ7).bind fun p15 =>
          some (p15.1, p15.2)
        else none
      else
        hX26_operand_18 G o0 p5.2
    else none
/-! MainframeHouseModel$Parser.names(II)V -/
def hX26_names_66 (G : xQ) (r_0 : Option Nat) (x_1 : Int32) (x_2 : Int32) (x_3 : Int32) (x_s0 : Int32) (x_s1 : Int32) (r_s2 : Option Nat) (σ : zS) : zF (((Option Nat) × Int32 × Int32 × Int32) ⊕ Unit) :=
  (zpI σ r_s2 25 41 (x_s1 + x_s0)).bind fun σ1 =>
  some (.inl (r_0, x_1, x_2, x_3), σ1)
def hX26_names_33 (G : xQ) (r_0 : Option Nat) (x_1 : Int32) (x_2 : Int32) (x_s0 : Int32) (x_s1 : Int32) (x_s2 : Int32) (r_s3 : Option Nat) (σ : zS) : zF (((Option Nat) × Int32 × Int32 × Int32) ⊕ Unit) :=
  (zfI σ r_0 25 41).bind fun x2 =>
  if zis G σ r_s3 26 = true then
    (hX26_child G r_s3 x_s2 x_s1 x_s0 (x2 - (1 : Int32)) σ).bind fun p3 =>
    (zfI p3.2 r_0 25 41).bind fun x4 =>
    if zis G p3.2 r_0 26 = true then
      (hX26_isKind G r_0 x4 1 p3.2).bind fun p5 =>
      (zfI p5.2 r_0 25 41).bind fun x6 =>
      if p5.1 = 0 then
        hX26_names_66 G r_0 x_1 x_2 p5.1 0 x6 r_0 p5.2
      else
        hX26_names_66 G r_0 x_1 x_2 p5.1 1 x6 r_0 p5.2
    else none
  else none
def hX26_names_6b (G : xQ) (r_0 : Option Nat) (x_1 : Int32) (x_2 : Int32) (x_3 : Int32) (σ : zS) : zF (((Option Nat) × Int32 × Int32 × Int32) ⊕ Unit) :=
  if x_3 = 0 then
    zinr (
      some ((), σ))
  else
    if ¬ x_2 = (41 : Int32) then
      if zis G σ r_0 26 = true then
        (hX26_passed G r_0 σ).bind fun p7 =>
        hX26_names_33 G r_0 x_1 x_2 p7.1 x_2 x_1 r_0 p7.2
      else none
    else
      if zis G σ r_0 26 = true then
        (hX26_passed G r_0 σ).bind fun p8 =>
        hX26_names_33 G r_0 x_1 x_2 ((100000 : Int32) + p8.1) x_2 x_1 r_0 p8.2
      else none
def hX26_names_6 (G : xQ) (r_0 : Option Nat) (x_1 : Int32) (x_2 : Int32) (x_3 : Int32) (σ : zS) : zF Unit := zloop (fun (a : ((Option Nat) × Int32 × Int32 × Int32)) σ => hX26_names_6b G a.1 a.2.1 a.2.2.1 a.2.2.2 σ) xLim (r_0, x_1, x_2, x_3) σ
def hX26_names (G : xQ) (o0 : Option Nat) (i1 : Int32) (i2 : Int32) (σ : zS) : zF Unit :=
  if zis G σ o0 26 = true then
    (hX26_mustBe G o0 1 σ).bind fun p9 =>
    hX26_names_6 G o0 i1 i2 p9.1 p9.2
  else none
/-! MainframeHouseModel$Parser.named(I)V -/
def hX26_named_216 (G : xQ)  (σ : zS) : zF Unit :=
  some ((), σ)
def hX26_named_201 (G : xQ) (r_0 : Option Nat) (x_1 : Int32) (x_s0 : Int32) (r_s1 : Option Nat) (σ : zS) : zF Unit :=
  (zpI σ r_s1 25 36 x_s0).bind fun σ1 =>
  if x_1 = (9 : Int32) then
    hX26_named_216 G  σ1
  else
    if zis G σ1 r_0 26 = true then
      (hX26_to G r_0 11 σ1).bind fun p2 =>
      hX26_named_216 G  p2.2
    else none
def hX26_named_187 (G : xQ) (r_0 : Option Nat) (x_1 : Int32) (x_3 : Int32) (x_4 : Int32) (x_s0 : Int32) (r_s1 : Option Nat) (σ : zS) : zF Unit :=
  (zpI σ r_s1 25 35 x_s0).bind fun σ3 =>
  if x_3 = 0 then
    hX26_named_201 G r_0 x_1 x_4 r_0 σ3
  else
    hX26_named_201 G r_0 x_1 0 r_0 σ3
def hX26_named_173 (G : xQ) (r_0 : Option Nat) (x_1 : Int32) (x_3 : Int32) (x_4 : Int32) (σ : zS) : zF Unit :=
  if x_3 = 0 then
    (zfI σ r_0 25 35).bind fun x4 =>
    hX26_named_187 G r_0 x_1 x_3 x_4 x4 r_0 σ
  else
    hX26_named_187 G r_0 x_1 x_3 x_4 x_4 r_0 σ
def hX26_named_168 (G : xQ) (r_0 : Option Nat) (x_1 : Int32) (x_3 : Int32) (x_4 : Int32) (x_s0 : Int32) (r_s1 : Option Nat) (σ : zS) : zF Unit :=
  if zis G σ r_s1 26 = true then
    (hX26_attach G r_s1 x_s0 x_4 σ).bind fun p5 =>
    hX26_named_173 G r_0 x_1 x_3 x_4 p5.2
  else none
def hX26_named_136 (G : xQ) (r_0 : Option Nat) (x_1 : Int32) (x_3 : Int32) (x_4 : Int32) (x_s0 : Int32) (r_s1 : Option Nat) (σ : zS) : zF Unit :=
  if zis G σ r_s1 26 = true then
    (hX26_attach G r_s1 x_s0 x_4 σ).bind fun p6 =>
    hX26_named_173 G r_0 x_1 x_3 x_4 p6.2
  else none
def hX26_named_97 (G : xQ) (r_0 : Option Nat) (x_1 : Int32) (x_2 : Int32) (x_3 : Int32) (x_s0 : Int32) (r_s1 : Option Nat) (σ : zS) : zF Unit :=
  (zfA σ r_0 25 3).bind fun r7 =>
  (ziald σ r7 x_2).bind fun x8 =>
  if zis G σ r_s1 26 = true then
    (hX26_make G r_s1 x_s0 x8 x_2 σ).bind fun p9 =>
    if x_3 = 0 then
      (zfI p9.2 r_0 25 35).bind fun x10 =>
      if x10 ≤ 0 then
        (zfA p9.2 r_0 25 25).bind fun r11 =>
        if zis G p9.2 r_0 26 = true then
          (hX26_here G r_0 p9.2).bind fun p12 =>
          (ziald p12.2 r11 p12.1).bind fun x13 =>
          hX26_named_168 G r_0 x_1 x_3 p9.1 x13 r_0 p12.2
        else none
      else
        (zfI p9.2 r_0 25 35).bind fun x14 =>
        hX26_named_168 G r_0 x_1 x_3 p9.1 x14 r_0 p9.2
    else
      if ¬ x_1 = (9 : Int32) then
        (zfA p9.2 r_0 25 25).bind fun r15 =>
        if zis G p9.2 r_0 26 = true then
          (hX26_here G r_0 p9.2).bind fun p16 =>
          (ziald p16.2 r15 p16.1).bind fun x17 =>
          hX26_named_136 G r_0 x_1 x_3 p9.1 x17 r_0 p16.2
        else none
      else
        (zfI p9.2 r_0 25 34).bind fun x18 =>
        hX26_named_136 G r_0 x_1 x_3 p9.1 x18 r_0 p9.2
  else none
def hX26_named_85 (G : xQ) (r_0 : Option Nat) (x_1 : Int32) (x_2 : Int32) (x_3 : Int32) (σ : zS) : zF Unit :=
  if x_3 = 0 then
    hX26_named_97 G r_0 x_1 x_2 x_3 24 r_0 σ
  else
    hX26_named_97 G r_0 x_1 x_2 x_3 23 r_0 σ
def hX26_named_62 (G : xQ) (r_0 : Option Nat) (x_1 : Int32) (x_2 : Int32) (x_3 : Int32) (σ : zS) : zF Unit :=
  (zfI σ r_0 25 41).bind fun x19 =>
  (zpI σ r_0 25 41 (x19 + (2 : Int32))).bind fun σ20 =>
  if x_3 = 0 then
    hX26_named_85 G r_0 x_1 x_2 x_3 σ20
  else
    if zis G σ20 r_0 26 = true then
      (hX26_mustBe G r_0 4 σ20).bind fun p21 =>
      if ¬ p21.1 = 0 then
        hX26_named_85 G r_0 x_1 x_2 x_3 p21.2
      else
        some ((), p21.2)
    else none
def hX26_named_49 (G : xQ) (r_0 : Option Nat) (σ : zS) : zF Unit :=
  (zfI σ r_0 25 41).bind fun x22 =>
  if zis G σ r_0 26 = true then
    (hX26_fail G r_0 1 (x22 + (1 : Int32)) σ).bind fun p23 =>
    some ((), p23.2)
  else none
def hX26_named (G : xQ) (o0 : Option Nat) (i1 : Int32) (σ : zS) : zF Unit :=
  (zfI σ o0 25 41).bind fun x24 =>
  (zfI σ o0 25 41).bind fun x25 =>
  if zis G σ o0 26 = true then
    (hX26_isWord G o0 (x25 + (1 : Int32)) 16 σ).bind fun p26 =>
    if ¬ p26.1 = 0 then
      hX26_named_62 G o0 i1 x24 p26.1 p26.2
    else
      (zfI p26.2 o0 25 41).bind fun x27 =>
      if zis G p26.2 o0 26 = true then
        (hX26_isKind G o0 (x27 + (1 : Int32)) 4 p26.2).bind fun p28 =>
        if p28.1 = 0 then
          hX26_named_49 G o0 p28.2
        else
          if ¬ i1 = (9 : Int32) then
            hX26_named_62 G o0 i1 x24 p26.1 p28.2
          else
            (zfI p28.2 o0 25 35).bind fun x29 =>
            if 0 < x29 then
              hX26_named_62 G o0 i1 x24 p26.1 p28.2
            else
              hX26_named_49 G o0 p28.2
      else none
  else none
/-! MainframeHouseModel$Parser.must(I)Z -/
def hX26_must_25 (G : xQ) (x_s0 : Int32) (σ : zS) : zF Int32 :=
  if narrow .boolean (.int x_s0) = .int x_s0 then some (x_s0, σ) else none
def hX26_must_20 (G : xQ)  (σ : zS) : zF Int32 :=
  hX26_must_25 G 1 σ
def hX26_must (G : xQ) (o0 : Option Nat) (i1 : Int32) (σ : zS) : zF Int32 :=
  if zis G σ o0 26 = true then
    (hX26_meets G o0 i1 σ).bind fun p1 =>
    if ¬ p1.1 = 0 then
      hX26_must_20 G  p1.2
    else
      (zfI p1.2 o0 25 41).bind fun x2 =>
      if zis G p1.2 o0 26 = true then
        (hX26_fail G o0 1 x2 p1.2).bind fun p3 =>
        if p3.1 = 0 then
          hX26_must_25 G 0 p3.2
        else
          hX26_must_20 G  p3.2
      else none
  else none
/-! MainframeHouseModel$Parser.list(I)V -/
def hX26_list (G : xQ) (o0 : Option Nat) (i1 : Int32) (σ : zS) : zF Unit :=
  (zfI σ o0 25 43).bind fun x1 =>
  if x1 = 0 then
    (zfI σ o0 25 41).bind fun x2 =>
    if zis G σ o0 26 = true then
      (hX26_begins G o0 x2 σ).bind fun p3 =>
      if ¬ p3.1 = 0 then
        (zfI p3.2 o0 25 44).bind fun x4 =>
        if ¬ x4 = (40 : Int32) then
          (zfI p3.2 o0 25 44).bind fun x5 =>
          (zpI p3.2 o0 25 44 (x5 + (1 : Int32))).bind fun σ6 =>
          (zfI σ6 o0 25 41).bind fun x7 =>
          if zis G σ6 o0 26 = true then
            (hX26_make G o0 40 0 x7 σ6).bind fun p8 =>
            if zis G p8.2 o0 26 = true then
              (hX26_attach G o0 i1 p8.1 p8.2).bind fun p9 =>
              if zis G p9.2 o0 26 = true then
                (hX26_pile G o0 0 p8.1 p9.2).bind fun p10 =>
                some ((), p10.2)
              else none
            else none
          else none
        else
          (zfI p3.2 o0 25 41).bind fun x11 =>
          if zis G p3.2 o0 26 = true then
            (hX26_fail G o0 3 x11 p3.2).bind fun p12 =>
            some ((), p12.2)
          else none
      else
        (zfI p3.2 o0 25 41).bind fun x13 =>
        if zis G p3.2 o0 26 = true then
          (hX26_fail G o0 1 x13 p3.2).bind fun p14 =>
          some ((), p14.2)
        else none
    else none
  else
    some ((), σ)
/-! MainframeHouseModel$Parser.deeper(I)V -/
def hX26_deeper (G : xQ) (o0 : Option Nat) (i1 : Int32) (σ : zS) : zF Unit :=
  (zfI σ o0 25 44).bind fun x1 =>
  if ¬ x1 = (40 : Int32) then
    (zfI σ o0 25 44).bind fun x2 =>
    (zpI σ o0 25 44 (x2 + (1 : Int32))).bind fun σ3 =>
    (zfA σ3 o0 25 58).bind fun r4 =>
    (zfI σ3 o0 25 54).bind fun x5 =>
    (ziast σ3 r4 x5 i1).bind fun σ6 =>
    (zfI σ6 o0 25 54).bind fun x7 =>
    (zpI σ6 o0 25 54 (x7 + (1 : Int32))).bind fun σ8 =>
    (zfI σ8 o0 25 41).bind fun x9 =>
    (zpI σ8 o0 25 41 (x9 + (1 : Int32))).bind fun σ10 =>
    some ((), σ10)
  else
    (zfI σ o0 25 41).bind fun x11 =>
    if zis G σ o0 26 = true then
      (hX26_fail G o0 3 x11 σ).bind fun p12 =>
      some ((), p12.2)
    else none
/-! MainframeHouseModel$Parser.closeAnds()V -/
def hX26_closeAnds_77 (G : xQ) (r_0 : Option Nat) (x_1 : Int32) (x_2 : Int32) (σ : zS) : zF Unit :=
  (zfA σ r_0 25 63).bind fun r1 =>
  (ziast σ r1 x_1 x_2).bind fun σ2 =>
  (zfA σ2 r_0 25 64).bind fun r3 =>
  (ziald σ2 r3 x_1).bind fun x4 =>
  (ziast σ2 r3 x_1 (x4 + (1 : Int32))).bind fun σ5 =>
  some ((), σ5)
def hX26_closeAnds (G : xQ) (o0 : Option Nat) (σ : zS) : zF Unit :=
  (zfI σ o0 25 57).bind fun x6 =>
  xlet (x6 - (1 : Int32)) fun x7 =>
  (zfA σ o0 25 59).bind fun r8 =>
  (ziald σ r8 x7).bind fun x9 =>
  (zfA σ o0 25 60).bind fun r10 =>
  (ziald σ r10 x7).bind fun x11 =>
  (zfA σ o0 25 61).bind fun r12 =>
  (ziald σ r12 x7).bind fun x13 =>
  if zis G σ o0 26 = true then
    (hX26_whole G o0 51 x9 x11 x13 σ).bind fun p14 =>
    (zfA p14.2 o0 25 61).bind fun r15 =>
    (ziast p14.2 r15 x7 (0 : Int32)).bind fun σ16 =>
    (zfA σ16 o0 25 15).bind fun r17 =>
    (ziast σ16 r17 p14.1 (0 : Int32)).bind fun σ18 =>
    (zfA σ18 o0 25 64).bind fun r19 =>
    (ziald σ18 r19 x7).bind fun x20 =>
    if ¬ x20 = 0 then
      (zfA σ18 o0 25 15).bind fun r21 =>
      (zfA σ18 o0 25 63).bind fun r22 =>
      (ziald σ18 r22 x7).bind fun x23 =>
      (ziast σ18 r21 x23 p14.1).bind fun σ24 =>
      hX26_closeAnds_77 G o0 x7 p14.1 σ24
    else
      (zfA σ18 o0 25 62).bind fun r25 =>
      (ziast σ18 r25 x7 p14.1).bind fun σ26 =>
      hX26_closeAnds_77 G o0 x7 p14.1 σ26
  else none
/-! MainframeHouseModel$Parser.behindUnit(I)I -/
def hX26_behindUnit_82 (G : xQ) (r_0 : Option Nat) (x_3 : Int32) (x_s0 : Int32) (σ : zS) : zF (((Option Nat) × Int32) ⊕ Int32) :=
  if x_s0 ≤ (6 : Int32) then
    (zfA σ r_0 25 50).bind fun r1 =>
    (zfA σ r_0 25 50).bind fun r2 =>
    (ziald σ r2 x_3).bind fun x3 =>
    (zfA σ r_0 25 51).bind fun r4 =>
    (ziald σ r4 x_3).bind fun x5 =>
    (zfA σ r_0 25 52).bind fun r6 =>
    (ziald σ r6 x_3).bind fun x7 =>
    if zis G σ r_0 26 = true then
      (hX26_joined G r_0 x3 x5 x7 σ).bind fun p8 =>
      (ziast p8.2 r1 x_3 p8.1).bind fun σ9 =>
      (zfA σ9 r_0 25 51).bind fun r10 =>
      (ziast σ9 r10 x_3 x_s0).bind fun σ11 =>
      if x_s0 ≤ 0 then
        if ¬ x_3 = 0 then
          (zfI σ11 r_0 25 41).bind fun x12 =>
          if zis G σ11 r_0 26 = true then
            (hX26_isSign G r_0 x12 1 σ11).bind fun p13 =>
            if ¬ p13.1 = 0 then
              (zfI p13.2 r_0 25 41).bind fun x14 =>
              (zpI p13.2 r_0 25 41 (x14 + (1 : Int32))).bind fun σ15 =>
              (zfA σ15 r_0 25 50).bind fun r16 =>
              (ziald σ15 r16 x_3).bind fun x17 =>
              (zfI σ15 r_0 25 49).bind fun x18 =>
              (zpI σ15 r_0 25 49 (x18 - (1 : Int32))).bind fun σ19 =>
              (zfI σ19 r_0 25 44).bind fun x20 =>
              (zpI σ19 r_0 25 44 (x20 - (1 : Int32))).bind fun σ21 =>
              some (.inl (r_0, x17), σ21)
            else
              zinr (
                (zfI p13.2 r_0 25 41).bind fun x22 =>
                if zis G p13.2 r_0 26 = true then
                  (hX26_fail G r_0 1 x22 p13.2).bind fun p23 =>
                  some (0, p23.2)
                else none)
          else none
        else
          zinr (
            (zfA σ11 r_0 25 50).bind fun r24 =>
            (ziald σ11 r24 (0 : Int32)).bind fun x25 =>
            some (x25, σ11))
      else
        zinr (
          (zfI σ11 r_0 25 41).bind fun x26 =>
          (zpI σ11 r_0 25 41 (x26 + (1 : Int32))).bind fun σ27 =>
          some (0, σ27))
    else none
  else
    zinr (
      (zfA σ r_0 25 53).bind fun r28 =>
      (ziast σ r28 x_3 x_s0).bind fun σ29 =>
      (zfI σ29 r_0 25 41).bind fun x30 =>
      (zpI σ29 r_0 25 41 (x30 + (1 : Int32))).bind fun σ31 =>
      some (0, σ31))
def hX26_behindUnit_81 (G : xQ) (r_0 : Option Nat) (x_3 : Int32) (σ : zS) : zF (((Option Nat) × Int32) ⊕ Int32) :=
  hX26_behindUnit_82 G r_0 x_3 0 σ
def hX26_behindUnit_2b (G : xQ) (r_0 : Option Nat) (x_2 : Int32) (σ : zS) : zF (((Option Nat) × Int32) ⊕ Int32) :=
  (zfI σ r_0 25 49).bind fun x32 =>
  xlet (x32 - (1 : Int32)) fun x33 =>
  (zfA σ r_0 25 52).bind fun r34 =>
  (zfA σ r_0 25 52).bind fun r35 =>
  (ziald σ r35 x33).bind fun x36 =>
  (zfA σ r_0 25 53).bind fun r37 =>
  (ziald σ r37 x33).bind fun x38 =>
  if zis G σ r_0 26 = true then
    (hX26_joined G r_0 x36 x38 x_2 σ).bind fun p39 =>
    (ziast p39.2 r34 x33 p39.1).bind fun σ40 =>
    (zfA σ40 r_0 25 53).bind fun r41 =>
    (ziast σ40 r41 x33 (0 : Int32)).bind fun σ42 =>
    (zfI σ42 r_0 25 41).bind fun x43 =>
    if zis G σ42 r_0 26 = true then
      (hX26_isKind G r_0 x43 5 σ42).bind fun p44 =>
      if p44.1 = 0 then
        hX26_behindUnit_81 G r_0 x33 p44.2
      else
        (zfA p44.2 r_0 25 3).bind fun r45 =>
        (zfI p44.2 r_0 25 41).bind fun x46 =>
        (ziald p44.2 r45 x46).bind fun x47 =>
        (hX26_in G x47 5 8 p44.2).bind fun p48 =>
        if p48.1 = 0 then
          hX26_behindUnit_81 G r_0 x33 p48.2
        else
          (zfA p48.2 r_0 25 3).bind fun r49 =>
          (zfI p48.2 r_0 25 41).bind fun x50 =>
          (ziald p48.2 r49 x50).bind fun x51 =>
          hX26_behindUnit_82 G r_0 x33 x51 p48.2
    else none
  else none
def hX26_behindUnit_2 (G : xQ) (r_0 : Option Nat) (x_2 : Int32) (σ : zS) : zF Int32 := zloop (fun (a : ((Option Nat) × Int32)) σ => hX26_behindUnit_2b G a.1 a.2 σ) xLim (r_0, x_2) σ
def hX26_behindUnit (G : xQ) (o0 : Option Nat) (i1 : Int32) (σ : zS) : zF Int32 :=
  hX26_behindUnit_2 G o0 i1 σ
/-! MainframeHouseModel$Parser.identified(I)V -/
def hX26_identified_172 (G : xQ) (r_0 : Option Nat) (x_4 : Int32) (σ : zS) : zF Unit :=
  (zfA σ r_0 25 22).bind fun r1 =>
  (zfI σ r_0 25 20).bind fun x2 =>
  (ziast σ r1 x2 x_4).bind fun σ3 =>
  (zfA σ3 r_0 25 23).bind fun r4 =>
  (zfI σ3 r_0 25 20).bind fun x5 =>
  (ziast σ3 r4 x5 (0 : Int32)).bind fun σ6 =>
  (zfA σ6 r_0 25 24).bind fun r7 =>
  (zfI σ6 r_0 25 20).bind fun x8 =>
  (ziast σ6 r7 x8 (0 : Int32)).bind fun σ9 =>
  (zfA σ9 r_0 25 25).bind fun r10 =>
  (zfI σ9 r_0 25 20).bind fun x11 =>
  (ziast σ9 r10 x11 (0 : Int32)).bind fun σ12 =>
  (zfA σ12 r_0 25 27).bind fun r13 =>
  (zfI σ12 r_0 25 26).bind fun x14 =>
  (ziast σ12 r13 x14 (0 : Int32)).bind fun σ15 =>
  (zfA σ15 r_0 25 29).bind fun r16 =>
  (zfI σ15 r_0 25 26).bind fun x17 =>
  (zfI σ15 r_0 25 20).bind fun x18 =>
  (ziast σ15 r16 x17 x18).bind fun σ19 =>
  (zfA σ19 r_0 25 30).bind fun r20 =>
  (zfI σ19 r_0 25 26).bind fun x21 =>
  (zbast σ19 r20 x21 (0 : Int32)).bind fun σ22 =>
  (zfA σ22 r_0 25 31).bind fun r23 =>
  (zfI σ22 r_0 25 26).bind fun x24 =>
  (zbast σ22 r23 x24 (0 : Int32)).bind fun σ25 =>
  (zfI σ25 r_0 25 26).bind fun x26 =>
  (zpI σ25 r_0 25 26 (x26 + (1 : Int32))).bind fun σ27 =>
  (zfI σ27 r_0 25 20).bind fun x28 =>
  (zpI σ27 r_0 25 20 (x28 + (1 : Int32))).bind fun σ29 =>
  some ((), σ29)
def hX26_identified_142 (G : xQ) (r_0 : Option Nat) (x_4 : Int32) (x_s0 : Int32) (r_s1 : Option Nat) (σ : zS) : zF Unit :=
  if zis G σ r_s1 26 = true then
    (hX26_attach G r_s1 x_s0 x_4 σ).bind fun p30 =>
    (zfI p30.2 r_0 25 26).bind fun x31 =>
    if x31 ≤ 0 then
      hX26_identified_172 G r_0 x_4 p30.2
    else
      if zis G p30.2 r_0 26 = true then
        (hX26_to G r_0 12 p30.2).bind fun p32 =>
        (zfA p32.2 r_0 25 31).bind fun r33 =>
        (zfI p32.2 r_0 25 26).bind fun x34 =>
        (zbast p32.2 r33 (x34 - (1 : Int32)) (1 : Int32)).bind fun σ35 =>
        hX26_identified_172 G r_0 x_4 σ35
      else none
  else none
def hX26_identified_111 (G : xQ)  (σ : zS) : zF Unit :=
  some ((), σ)
def hX26_identified_71 (G : xQ) (r_0 : Option Nat) (x_s0 : Int32) (r_s1 : Option Nat) (σ : zS) : zF Unit :=
  (zfI σ r_0 25 41).bind fun x36 =>
  if zis G σ r_s1 26 = true then
    (hX26_fail G r_s1 x_s0 x36 σ).bind fun p37 =>
    some ((), p37.2)
  else none
def hX26_identified_61 (G : xQ) (r_0 : Option Nat) (x_2 : Int32) (σ : zS) : zF Unit :=
  if x_2 = 0 then
    hX26_identified_71 G r_0 1 r_0 σ
  else
    hX26_identified_71 G r_0 3 r_0 σ
def hX26_identified_47 (G : xQ) (r_0 : Option Nat) (x_s0 : Int32) (σ : zS) : zF Unit :=
  if x_s0 = 0 then
    hX26_identified_61 G r_0 x_s0 σ
  else
    (zfI σ r_0 25 26).bind fun x38 =>
    if ¬ x38 = (10 : Int32) then
      (zfI σ r_0 25 41).bind fun x39 =>
      (zfI σ r_0 25 41).bind fun x40 =>
      (zpI σ r_0 25 41 (x40 + (1 : Int32))).bind fun σ41 =>
      if zis G σ41 r_0 26 = true then
        (hX26_must G r_0 1 σ41).bind fun p42 =>
        if p42.1 = 0 then
          hX26_identified_111 G  p42.2
        else
          if zis G p42.2 r_0 26 = true then
            (hX26_mustBe G r_0 4 p42.2).bind fun p43 =>
            if ¬ p43.1 = 0 then
              if zis G p43.2 r_0 26 = true then
                (hX26_make G r_0 1 0 x39 p43.2).bind fun p44 =>
                (zfI p44.2 r_0 25 26).bind fun x45 =>
                if ¬ x45 = 0 then
                  (zfA p44.2 r_0 25 22).bind fun r46 =>
                  if zis G p44.2 r_0 26 = true then
                    (hX26_here G r_0 p44.2).bind fun p47 =>
                    (ziald p47.2 r46 p47.1).bind fun x48 =>
                    hX26_identified_142 G r_0 p44.1 x48 r_0 p47.2
                  else none
                else
                  hX26_identified_142 G r_0 p44.1 0 r_0 p44.2
              else none
            else
              hX26_identified_111 G  p43.2
          else none
      else none
    else
      hX26_identified_61 G r_0 x_s0 σ
def hX26_identified_46 (G : xQ) (r_0 : Option Nat) (σ : zS) : zF Unit :=
  hX26_identified_47 G r_0 0 σ
def hX26_identified_42 (G : xQ) (r_0 : Option Nat) (σ : zS) : zF Unit :=
  hX26_identified_47 G r_0 1 σ
def hX26_identified (G : xQ) (o0 : Option Nat) (i1 : Int32) (σ : zS) : zF Unit :=
  (zfI σ o0 25 26).bind fun x49 =>
  if x49 = 0 then
    hX26_identified_42 G o0 σ
  else
    (zfA σ o0 25 30).bind fun r50 =>
    (zfI σ o0 25 26).bind fun x51 =>
    (zbald σ r50 (x51 - (1 : Int32))).bind fun x52 =>
    if ¬ x52 = 0 then
      hX26_identified_46 G o0 σ
    else
      (hX26_in G i1 1 8 σ).bind fun p53 =>
      if ¬ p53.1 = 0 then
        hX26_identified_42 G o0 p53.2
      else
        (hX26_in G i1 10 12 p53.2).bind fun p54 =>
        if p54.1 = 0 then
          hX26_identified_46 G o0 p54.2
        else
          hX26_identified_42 G o0 p54.2
/-! MainframeHouseModel$Parser.unitNamed(Z)V -/
def hX26_unitNamed_45 (G : xQ) (r_0 : Option Nat) (x_1 : Int32) (x_2 : Int32) (x_s0 : Int32) (x_s1 : Int32) (r_s2 : Option Nat) (σ : zS) : zF Unit :=
  (ziast σ r_s2 x_s1 x_s0).bind fun σ1 =>
  (zfA σ1 r_0 25 10).bind fun r2 =>
  (zfA σ1 r_0 25 22).bind fun r3 =>
  if zis G σ1 r_0 26 = true then
    (hX26_here G r_0 σ1).bind fun p4 =>
    (ziald p4.2 r3 p4.1).bind fun x5 =>
    (ziast p4.2 r2 x5 x_2).bind fun σ6 =>
    (zfA σ6 r_0 25 28).bind fun r7 =>
    (zfI σ6 r_0 25 26).bind fun x8 =>
    (ziast σ6 r7 (x8 - (1 : Int32)) x_2).bind fun σ9 =>
    (zfA σ9 r_0 25 30).bind fun r10 =>
    (zfI σ9 r_0 25 26).bind fun x11 =>
    (zbast σ9 r10 (x11 - (1 : Int32)) x_1).bind fun σ12 =>
    if zis G σ12 r_0 26 = true then
      (hX26_to G r_0 1 σ12).bind fun p13 =>
      some ((), p13.2)
    else none
  else none
def hX26_unitNamed (G : xQ) (o0 : Option Nat) (i1 : Int32) (σ : zS) : zF Unit :=
  if zis G σ o0 26 = true then
    (hX26_mustBe G o0 1 σ).bind fun p14 =>
    if ¬ p14.1 = 0 then
      if zis G p14.2 o0 26 = true then
        (hX26_passed G o0 p14.2).bind fun p15 =>
        if zis G p15.2 o0 26 = true then
          (hX26_mustBe G o0 4 p15.2).bind fun p16 =>
          if ¬ p16.1 = 0 then
            (zfA p16.2 o0 25 9).bind fun r17 =>
            (zfA p16.2 o0 25 22).bind fun r18 =>
            if zis G p16.2 o0 26 = true then
              (hX26_here G o0 p16.2).bind fun p19 =>
              (ziald p19.2 r18 p19.1).bind fun x20 =>
              if i1 = 0 then
                hX26_unitNamed_45 G o0 i1 p15.1 1 x20 r17 p19.2
              else
                hX26_unitNamed_45 G o0 i1 p15.1 2 x20 r17 p19.2
            else none
          else
            some ((), p16.2)
        else none
      else none
    else
      some ((), p14.2)
  else none
/-! MainframeHouseModel$Parser.described(I)V -/
def hX26_described (G : xQ) (o0 : Option Nat) (i1 : Int32) (σ : zS) : zF Unit :=
  if zis G σ o0 26 = true then
    (hX26_mustBe G o0 1 σ).bind fun p1 =>
    if ¬ p1.1 = 0 then
      if zis G p1.2 o0 26 = true then
        (hX26_passed G o0 p1.2).bind fun p2 =>
        if zis G p2.2 o0 26 = true then
          (hX26_make G o0 11 p2.1 i1 p2.2).bind fun p3 =>
          if zis G p3.2 o0 26 = true then
            (hX26_mustBe G o0 4 p3.2).bind fun p4 =>
            if ¬ p4.1 = 0 then
              (zfI p4.2 o0 25 32).bind fun x5 =>
              if zis G p4.2 o0 26 = true then
                (hX26_attach G o0 x5 p3.1 p4.2).bind fun p6 =>
                (zpI p6.2 o0 25 33 p3.1).bind fun σ7 =>
                (zpI σ7 o0 25 37 (0 : Int32)).bind fun σ8 =>
                (zpI σ8 o0 25 38 (0 : Int32)).bind fun σ9 =>
                if zis G σ9 o0 26 = true then
                  (hX26_to G o0 5 σ9).bind fun p10 =>
                  some ((), p10.2)
                else none
              else none
            else
              some ((), p4.2)
          else none
        else none
      else none
    else
      some ((), p1.2)
  else none
/-! MainframeHouseModel$Parser.begun(I)V -/
def hX26_begun_34 (G : xQ) (r_0 : Option Nat) (x_2 : Int32) (σ : zS) : zF Unit :=
  if zis G σ r_0 26 = true then
    (hX26_mustBe G r_0 4 σ).bind fun p1 =>
    if ¬ p1.1 = 0 then
      (zfA p1.2 r_0 25 22).bind fun r2 =>
      if zis G p1.2 r_0 26 = true then
        (hX26_here G r_0 p1.2).bind fun p3 =>
        (ziald p3.2 r2 p3.1).bind fun x4 =>
        if zis G p3.2 r_0 26 = true then
          (hX26_attach G r_0 x4 x_2 p3.2).bind fun p5 =>
          (zfA p5.2 r_0 25 25).bind fun r6 =>
          if zis G p5.2 r_0 26 = true then
            (hX26_here G r_0 p5.2).bind fun p7 =>
            (ziast p7.2 r6 p7.1 x_2).bind fun σ8 =>
            (zpI σ8 r_0 25 35 (0 : Int32)).bind fun σ9 =>
            (zpI σ9 r_0 25 36 (0 : Int32)).bind fun σ10 =>
            (zpI σ10 r_0 25 34 (0 : Int32)).bind fun σ11 =>
            if zis G σ11 r_0 26 = true then
              (hX26_to G r_0 8 σ11).bind fun p12 =>
              some ((), p12.2)
            else none
          else none
        else none
      else none
    else
      some ((), p1.2)
  else none
def hX26_begun (G : xQ) (o0 : Option Nat) (i1 : Int32) (σ : zS) : zF Unit :=
  if zis G σ o0 26 = true then
    (hX26_must G o0 1 σ).bind fun p13 =>
    if ¬ p13.1 = 0 then
      if zis G p13.2 o0 26 = true then
        (hX26_make G o0 20 0 i1 p13.2).bind fun p14 =>
        if zis G p14.2 o0 26 = true then
          (hX26_meets G o0 31 p14.2).bind fun p15 =>
          if p15.1 = 0 then
            hX26_begun_34 G o0 p14.1 p15.2
          else
            if zis G p15.2 o0 26 = true then
              (hX26_names G o0 p14.1 21 p15.2).bind fun p16 =>
              hX26_begun_34 G o0 p14.1 p16.2
            else none
        else none
      else none
    else
      some ((), p13.2)
  else none
/-! MainframeHouseModel$Parser.ended(I)V -/
def hX26_ended_169 (G : xQ) (r_0 : Option Nat) (σ : zS) : zF Unit :=
  (zfI σ r_0 25 26).bind fun x1 =>
  (zpI σ r_0 25 26 (x1 - (1 : Int32))).bind fun σ2 =>
  some ((), σ2)
def hX26_ended_78 (G : xQ) (r_0 : Option Nat) (x_2 : Int32) (σ : zS) : zF Unit :=
  (zfI σ r_0 25 41).bind fun x3 =>
  (zpI σ r_0 25 41 (x3 + (1 : Int32))).bind fun σ4 =>
  if ¬ x_2 = 0 then
    if zis G σ4 r_0 26 = true then
      (hX26_mustBe G r_0 1 σ4).bind fun p5 =>
      if ¬ p5.1 = 0 then
        (zfI p5.2 r_0 25 41).bind fun x6 =>
        xlet (x6 - (1 : Int32)) fun x7 =>
        if zis G p5.2 r_0 26 = true then
          (hX26_mustBe G r_0 4 p5.2).bind fun p8 =>
          if ¬ p8.1 = 0 then
            (zfA p8.2 r_0 25 3).bind fun r9 =>
            (ziald p8.2 r9 x7).bind fun x10 =>
            (zfA p8.2 r_0 25 28).bind fun r11 =>
            (zfI p8.2 r_0 25 26).bind fun x12 =>
            (ziald p8.2 r11 (x12 - (1 : Int32))).bind fun x13 =>
            if x10 = x13 then
              hX26_ended_169 G r_0 p8.2
            else
              if zis G p8.2 r_0 26 = true then
                (hX26_note G r_0 2 x7 p8.2).bind fun p14 =>
                hX26_ended_169 G r_0 p14.2
              else none
          else
            some ((), p8.2)
        else none
      else
        some ((), p5.2)
    else none
  else
    if zis G σ4 r_0 26 = true then
      (hX26_mustBe G r_0 4 σ4).bind fun p15 =>
      if ¬ p15.1 = 0 then
        (zpI p15.2 r_0 25 35 (0 : Int32)).bind fun σ16 =>
        (zpI σ16 r_0 25 36 (0 : Int32)).bind fun σ17 =>
        if zis G σ17 r_0 26 = true then
          (hX26_to G r_0 10 σ17).bind fun p18 =>
          some ((), p18.2)
        else none
      else
        some ((), p15.2)
    else none
def hX26_ended_67 (G : xQ) (r_0 : Option Nat) (σ : zS) : zF Unit :=
  (zfI σ r_0 25 41).bind fun x19 =>
  if zis G σ r_0 26 = true then
    (hX26_fail G r_0 1 x19 σ).bind fun p20 =>
    some ((), p20.2)
  else none
def hX26_ended_43 (G : xQ) (r_0 : Option Nat) (x_1 : Int32) (x_s0 : Int32) (σ : zS) : zF Unit :=
  if ¬ x_s0 = 0 then
    hX26_ended_78 G r_0 x_s0 σ
  else
    if ¬ x_1 = (9 : Int32) then
      hX26_ended_67 G r_0 σ
    else
      (zfI σ r_0 25 41).bind fun x21 =>
      if zis G σ r_0 26 = true then
        (hX26_isWord G r_0 x21 32 σ).bind fun p22 =>
        if ¬ p22.1 = 0 then
          hX26_ended_78 G r_0 x_s0 p22.2
        else
          hX26_ended_67 G r_0 p22.2
      else none
def hX26_ended_42 (G : xQ) (r_0 : Option Nat) (x_1 : Int32) (σ : zS) : zF Unit :=
  hX26_ended_43 G r_0 x_1 0 σ
def hX26_ended_32 (G : xQ) (r_0 : Option Nat) (x_1 : Int32) (x_s0 : Int32) (x_s1 : Int32) (r_s2 : Option Nat) (σ : zS) : zF Unit :=
  if zis G σ r_s2 26 = true then
    (hX26_isWord G r_s2 x_s1 x_s0 σ).bind fun p23 =>
    if p23.1 = 0 then
      hX26_ended_42 G r_0 x_1 p23.2
    else
      hX26_ended_43 G r_0 x_1 1 p23.2
  else none
def hX26_ended (G : xQ) (o0 : Option Nat) (i1 : Int32) (σ : zS) : zF Unit :=
  if i1 = (9 : Int32) then
    hX26_ended_42 G o0 i1 σ
  else
    (zfI σ o0 25 41).bind fun x24 =>
    (zfA σ o0 25 30).bind fun r25 =>
    (zfI σ o0 25 26).bind fun x26 =>
    (zbald σ r25 (x26 - (1 : Int32))).bind fun x27 =>
    if x27 = 0 then
      hX26_ended_32 G o0 i1 34 x24 o0 σ
    else
      hX26_ended_32 G o0 i1 35 x24 o0 σ
/-! MainframeHouseModel$Parser.division2(II)V -/
def hX26_division2_232 (G : xQ) (x_s0 : Int32) (r_s1 : Option Nat) (σ : zS) : zF Unit :=
  if zis G σ r_s1 26 = true then
    (hX26_to G r_s1 x_s0 σ).bind fun p1 =>
    some ((), p1.2)
  else none
def hX26_division2_179 (G : xQ) (r_0 : Option Nat) (x_1 : Int32) (σ : zS) : zF Unit :=
  (zpI σ r_0 25 37 (0 : Int32)).bind fun σ2 =>
  (zpI σ2 r_0 25 38 (0 : Int32)).bind fun σ3 =>
  if ¬ x_1 = (4 : Int32) then
    if ¬ x_1 = (12 : Int32) then
      if ¬ x_1 = (13 : Int32) then
        if ¬ x_1 = (14 : Int32) then
          hX26_division2_232 G 7 r_0 σ3
        else
          hX26_division2_232 G 6 r_0 σ3
      else
        hX26_division2_232 G 4 r_0 σ3
    else
      hX26_division2_232 G 3 r_0 σ3
  else
    hX26_division2_232 G 2 r_0 σ3
def hX26_division2_169 (G : xQ) (r_0 : Option Nat) (x_1 : Int32) (x_3 : Int32) (x_4 : Int32) (σ : zS) : zF Unit :=
  if ¬ x_3 = 0 then
    hX26_division2_179 G r_0 x_1 σ
  else
    (zpI σ r_0 25 33 x_4).bind fun σ4 =>
    hX26_division2_179 G r_0 x_1 σ4
def hX26_division2_157 (G : xQ) (r_0 : Option Nat) (x_1 : Int32) (x_3 : Int32) (x_4 : Int32) (σ : zS) : zF Unit :=
  if ¬ x_1 = (13 : Int32) then
    hX26_division2_169 G r_0 x_1 x_3 x_4 σ
  else
    (zpI σ r_0 25 32 x_4).bind fun σ5 =>
    hX26_division2_169 G r_0 x_1 x_3 x_4 σ5
def hX26_division2_142 (G : xQ) (r_0 : Option Nat) (x_1 : Int32) (x_3 : Int32) (x_4 : Int32) (x_5 : Int32) (σ : zS) : zF Unit :=
  if ¬ x_1 = (12 : Int32) then
    hX26_division2_157 G r_0 x_1 x_3 x_4 σ
  else
    (zfA σ r_0 25 24).bind fun r6 =>
    (ziast σ r6 x_5 x_4).bind fun σ7 =>
    hX26_division2_157 G r_0 x_1 x_3 x_4 σ7
def hX26_division2_123 (G : xQ) (r_0 : Option Nat) (x_1 : Int32) (x_3 : Int32) (x_4 : Int32) (x_5 : Int32) (x_s0 : Int32) (r_s1 : Option Nat) (σ : zS) : zF Unit :=
  if zis G σ r_s1 26 = true then
    (hX26_attach G r_s1 x_s0 x_4 σ).bind fun p8 =>
    if ¬ x_1 = (4 : Int32) then
      hX26_division2_142 G r_0 x_1 x_3 x_4 x_5 p8.2
    else
      (zfA p8.2 r_0 25 23).bind fun r9 =>
      (ziast p8.2 r9 x_5 x_4).bind fun σ10 =>
      hX26_division2_142 G r_0 x_1 x_3 x_4 x_5 σ10
  else none
def hX26_division2_88 (G : xQ) (r_0 : Option Nat) (x_1 : Int32) (x_2 : Int32) (x_3 : Int32) (x_s0 : Int32) (r_s1 : Option Nat) (σ : zS) : zF Unit :=
  if zis G σ r_s1 26 = true then
    (hX26_make G r_s1 x_s0 0 x_2 σ).bind fun p11 =>
    if zis G p11.2 r_0 26 = true then
      (hX26_here G r_0 p11.2).bind fun p12 =>
      if x_3 = 0 then
        (zfA p12.2 r_0 25 24).bind fun r13 =>
        (ziald p12.2 r13 p12.1).bind fun x14 =>
        hX26_division2_123 G r_0 x_1 x_3 p11.1 p12.1 x14 r_0 p12.2
      else
        (zfA p12.2 r_0 25 22).bind fun r15 =>
        (ziald p12.2 r15 p12.1).bind fun x16 =>
        hX26_division2_123 G r_0 x_1 x_3 p11.1 p12.1 x16 r_0 p12.2
    else none
  else none
def hX26_division2_42 (G : xQ)  (σ : zS) : zF Unit :=
  some ((), σ)
def hX26_division2_28 (G : xQ) (r_0 : Option Nat) (x_1 : Int32) (x_2 : Int32) (x_3 : Int32) (x_s0 : Int32) (r_s1 : Option Nat) (σ : zS) : zF Unit :=
  if zis G σ r_s1 26 = true then
    (hX26_must G r_s1 x_s0 σ).bind fun p17 =>
    if p17.1 = 0 then
      hX26_division2_42 G  p17.2
    else
      if zis G p17.2 r_0 26 = true then
        (hX26_mustBe G r_0 4 p17.2).bind fun p18 =>
        if ¬ p18.1 = 0 then
          if ¬ x_1 = (4 : Int32) then
            if ¬ x_1 = (12 : Int32) then
              if ¬ x_1 = (13 : Int32) then
                if ¬ x_1 = (14 : Int32) then
                  hX26_division2_88 G r_0 x_1 x_2 x_3 10 r_0 p18.2
                else
                  hX26_division2_88 G r_0 x_1 x_2 x_3 9 r_0 p18.2
              else
                hX26_division2_88 G r_0 x_1 x_2 x_3 8 r_0 p18.2
            else
              hX26_division2_88 G r_0 x_1 x_2 x_3 7 r_0 p18.2
          else
            hX26_division2_88 G r_0 x_1 x_2 x_3 3 r_0 p18.2
        else
          hX26_division2_42 G  p18.2
      else none
  else none
def hX26_division2_16 (G : xQ) (r_0 : Option Nat) (x_1 : Int32) (x_2 : Int32) (x_s0 : Int32) (σ : zS) : zF Unit :=
  if x_s0 = 0 then
    hX26_division2_28 G r_0 x_1 x_2 x_s0 16 r_0 σ
  else
    hX26_division2_28 G r_0 x_1 x_2 x_s0 1 r_0 σ
def hX26_division2_11 (G : xQ) (r_0 : Option Nat) (x_1 : Int32) (x_2 : Int32) (σ : zS) : zF Unit :=
  hX26_division2_16 G r_0 x_1 x_2 1 σ
def hX26_division2 (G : xQ) (o0 : Option Nat) (i1 : Int32) (i2 : Int32) (σ : zS) : zF Unit :=
  if i1 = (4 : Int32) then
    hX26_division2_11 G o0 i1 i2 σ
  else
    if ¬ i1 = (12 : Int32) then
      hX26_division2_16 G o0 i1 i2 0 σ
    else
      hX26_division2_11 G o0 i1 i2 σ
/-! MainframeHouseModel$Parser.node(II)I -/
def hX26_node_203 (G : xQ) (x_s0 : Int32) (σ : zS) : zF Int32 :=
  some (x_s0, σ)
def hX26_node_159 (G : xQ) (x_s0 : Int32) (σ : zS) : zF Int32 :=
  some (x_s0, σ)
def hX26_node_112b (G : xQ) (r_0 : Option Nat) (x_5 : Int32) (x_6 : Int32) (σ : zS) : zF (((Option Nat) × Int32 × Int32) ⊕ Int32) :=
  if x_6 ≤ 0 then
    zinr (
      some (x_5, σ))
  else
    (zfA σ r_0 25 15).bind fun r1 =>
    (ziald σ r1 x_6).bind fun x2 =>
    some (.inl (r_0, x_5 + 1, x2), σ)
def hX26_node_112 (G : xQ) (r_0 : Option Nat) (x_5 : Int32) (x_6 : Int32) (σ : zS) : zF Int32 := zloop (fun (a : ((Option Nat) × Int32 × Int32)) σ => hX26_node_112b G a.1 a.2.1 a.2.2 σ) xLim (r_0, x_5, x_6) σ
def hX26_node_93 (G : xQ) (x_s0 : Int32) (σ : zS) : zF Int32 :=
  some (x_s0, σ)
def hX26_node_17 (G : xQ)  (σ : zS) : zF Int32 :=
  some ((-1), σ)
def hX26_node (G : xQ) (o0 : Option Nat) (i1 : Int32) (i2 : Int32) (σ : zS) : zF Int32 :=
  (zpI σ o0 25 0 (0 : Int32)).bind fun σ3 =>
  if i1 < 0 then
    hX26_node_17 G  σ3
  else
    (zfI σ3 o0 25 19).bind fun x4 =>
    if i1 < x4 then
      (zfA σ3 o0 25 18).bind fun r5 =>
      (ziald σ3 r5 i1).bind fun x6 =>
      (zfA σ3 o0 25 9).bind fun r7 =>
      (ziald σ3 r7 x6).bind fun x8 =>
      if i2 < 0 ∨ 5 < i2 then
        some ((-1), σ3)
      else if i2 = 0 then
        some (x8, σ3)
      else if i2 = 1 then
        (hX26_hasValue G x8 σ3).bind fun p9 =>
        if p9.1 = 0 then
          hX26_node_93 G 0 p9.2
        else
          (zfA p9.2 o0 25 10).bind fun r10 =>
          (ziald p9.2 r10 x6).bind fun x11 =>
          hX26_node_93 G x11 p9.2
      else if i2 = 2 then
        (zfA σ3 o0 25 11).bind fun r12 =>
        (ziald σ3 r12 x6).bind fun x13 =>
        some (x13, σ3)
      else if i2 = 3 then
        (zfA σ3 o0 25 13).bind fun r14 =>
        (ziald σ3 r14 x6).bind fun x15 =>
        hX26_node_112 G o0 0 x15 σ3
      else if i2 = 4 then
        (zfA σ3 o0 25 16).bind fun r16 =>
        (ziald σ3 r16 x6).bind fun x17 =>
        if ¬ x17 = 0 then
          (zfA σ3 o0 25 17).bind fun r18 =>
          (zfA σ3 o0 25 16).bind fun r19 =>
          (ziald σ3 r19 x6).bind fun x20 =>
          (ziald σ3 r18 x20).bind fun x21 =>
          hX26_node_159 G x21 σ3
        else
          hX26_node_159 G ((-1)) σ3
      else if i2 = 5 then
        if ¬ x8 = (53 : Int32) then
          (hX26_in G x8 26 38 σ3).bind fun p22 =>
          if p22.1 = 0 then
            hX26_node_203 G ((-1)) p22.2
          else
            (zfA p22.2 o0 25 12).bind fun r23 =>
            (ziald p22.2 r23 x6).bind fun x24 =>
            hX26_node_203 G x24 p22.2
        else
          (zfA σ3 o0 25 17).bind fun r25 =>
          (zfA σ3 o0 25 12).bind fun r26 =>
          (ziald σ3 r26 x6).bind fun x27 =>
          (ziald σ3 r25 x27).bind fun x28 =>
          hX26_node_203 G x28 σ3
      else none
    else
      hX26_node_17 G  σ3
/-! MainframeHouse$Parser.must(Z)V -/
def hX4_must_13 (G : xQ)  (σ : zS) : zF (Unit ⊕ Nat) :=
  some (.inl (()), σ)
def hX4_must (G : xQ) (o0 : Option Nat) (i1 : Int32) (σ : zS) : zF (Unit ⊕ Nat) :=
  if ¬ i1 = 0 then
    hX4_must_13 G  σ
  else
    (zfI σ o0 40 3).bind fun x1 =>
    if zis G σ o0 41 = true then
      zcase (hX4_fails G o0 x1 1 σ) (fun p2 =>
        hX4_must_13 G  p2.2) (fun p3 =>
        if zthr p3.2 p3.1 3 = true then
          some (.inr p3.1, p3.2)
        else none)
    else none
/-! MainframeHouse$Parser.need(I)V -/
def hX4_need (G : xQ) (o0 : Option Nat) (i1 : Int32) (σ : zS) : zF (Unit ⊕ Nat) :=
  if zis G σ o0 41 = true then
    (hX4_meets G o0 i1 σ).bind fun p1 =>
    if zis G p1.2 o0 41 = true then
      zcase (hX4_must G o0 p1.1 p1.2) (fun p2 =>
        some (.inl (()), p2.2)) (fun p3 =>
        if zthr p3.2 p3.1 3 = true then
          some (.inr p3.1, p3.2)
        else none)
    else none
  else none
/-! MainframeHouse$Parser.take(I)I -/
def hX4_take (G : xQ) (o0 : Option Nat) (i1 : Int32) (σ : zS) : zF (Int32 ⊕ Nat) :=
  (zfI σ o0 40 3).bind fun x1 =>
  if zis G σ o0 41 = true then
    (hX4_isKind G o0 x1 i1 σ).bind fun p2 =>
    if zis G p2.2 o0 41 = true then
      zcase (hX4_must G o0 p2.1 p2.2) (fun p3 =>
        (zfI p3.2 o0 40 3).bind fun x4 =>
        (zpI p3.2 o0 40 3 (x4 + (1 : Int32))).bind fun σ5 =>
        (zfA σ5 o0 40 1).bind fun r6 =>
        (zfI σ5 o0 40 3).bind fun x7 =>
        (ziald σ5 r6 (x7 - (1 : Int32))).bind fun x8 =>
        some (.inl (x8), σ5)) (fun p9 =>
        if zthr p9.2 p9.1 3 = true then
          some (.inr p9.1, p9.2)
        else none)
    else none
  else none
/-! MainframeHouse$Parser.state(II)V -/
def hX4_state_28 (G : xQ) (x_s0 : Int32) (r_s1 : Option Nat) (σ : zS) : zF (Unit ⊕ Nat) :=
  if zis G σ r_s1 41 = true then
    zcase (hX4_must G r_s1 x_s0 σ) (fun p1 =>
      some (.inl (()), p1.2)) (fun p2 =>
      if zthr p2.2 p2.1 3 = true then
        some (.inr p2.1, p2.2)
      else none)
  else none
def hX4_state_27 (G : xQ) (r_s0 : Option Nat) (σ : zS) : zF (Unit ⊕ Nat) :=
  hX4_state_28 G 0 r_s0 σ
def hX4_state (G : xQ) (o0 : Option Nat) (i1 : Int32) (i2 : Int32) (σ : zS) : zF (Unit ⊕ Nat) :=
  (zfA σ o0 40 11).bind fun r3 =>
  (zfI σ r3 43 3).bind fun x4 =>
  if x4 < i1 then
    hX4_state_27 G o0 σ
  else
    (zfA σ o0 40 11).bind fun r5 =>
    (zfI σ r5 43 3).bind fun x6 =>
    if i2 < x6 then
      hX4_state_27 G o0 σ
    else
      hX4_state_28 G 1 o0 σ
/-! MainframeHouse$Parser.operand(Z)LMainframeHouse$Parser$Node; -/
def hX4_operand_46 (G : xQ) (r_0 : Option Nat) (x_s0 : Int32) (r_s1 : Option Nat) (σ : zS) : zF ((Option Nat) ⊕ Nat) :=
  if zis G σ r_s1 41 = true then
    zcase (hX4_must G r_s1 x_s0 σ) (fun p1 =>
      (zfI p1.2 r_0 40 3).bind fun x2 =>
      (zpI p1.2 r_0 40 3 (x2 + (1 : Int32))).bind fun σ3 =>
      (znO σ3 44 9).bind fun p4 =>
      (zfA p4.2 r_0 40 0).bind fun r5 =>
      (zfI p4.2 r_0 40 3).bind fun x6 =>
      (ziald p4.2 r5 (x6 - (1 : Int32))).bind fun x7 =>
      (zfA p4.2 r_0 40 1).bind fun r8 =>
      (zfI p4.2 r_0 40 3).bind fun x9 =>
      (ziald p4.2 r8 (x9 - (1 : Int32))).bind fun x10 =>
      (zfI p4.2 r_0 40 3).bind fun x11 =>
      if zis G p4.2 p4.1 45 = true then
        (hX43_init G p4.1 41 (((100000 : Int32) * x7) + x10) (x11 - (1 : Int32)) p4.2).bind fun p12 =>
        some (.inl (p4.1), p12.2)
      else none) (fun p13 =>
      if zthr p13.2 p13.1 3 = true then
        some (.inr p13.1, p13.2)
      else none)
  else none
def hX4_operand_45 (G : xQ) (r_0 : Option Nat) (r_s0 : Option Nat) (σ : zS) : zF ((Option Nat) ⊕ Nat) :=
  hX4_operand_46 G r_0 0 r_s0 σ
def hX4_operand_41 (G : xQ) (r_0 : Option Nat) (r_s0 : Option Nat) (σ : zS) : zF ((Option Nat) ⊕ Nat) :=
  hX4_operand_46 G r_0 1 r_s0 σ
def hX4_operand (G : xQ) (o0 : Option Nat) (i1 : Int32) (σ : zS) : zF ((Option Nat) ⊕ Nat) :=
  (zfI σ o0 40 3).bind fun x14 =>
  if zis G σ o0 41 = true then
    (hX4_isKind G o0 x14 2 σ).bind fun p15 =>
    if ¬ p15.1 = 0 then
      hX4_operand_41 G o0 o0 p15.2
    else
      (zfI p15.2 o0 40 3).bind fun x16 =>
      if zis G p15.2 o0 41 = true then
        (hX4_isKind G o0 x16 3 p15.2).bind fun p17 =>
        if ¬ p17.1 = 0 then
          hX4_operand_41 G o0 o0 p17.2
        else
          if i1 = 0 then
            hX4_operand_45 G o0 o0 p17.2
          else
            (zfI p17.2 o0 40 3).bind fun x18 =>
            if zis G p17.2 o0 41 = true then
              (hX4_isKind G o0 x18 1 p17.2).bind fun p19 =>
              if p19.1 = 0 then
                hX4_operand_45 G o0 o0 p19.2
              else
                hX4_operand_41 G o0 o0 p19.2
            else none
      else none
  else none
/-! MainframeHouse$Parser.names(LMainframeHouse$Parser$Node;I)V -/
def hX4_names_13b (G : xQ) (r_0 : Option Nat) (r_1 : Option Nat) (x_2 : Int32) (σ : zS) : zF (((Option Nat) × (Option Nat) × Int32) ⊕ (Unit ⊕ Nat)) :=
  (zfI σ r_0 40 3).bind fun x1 =>
  if zis G σ r_0 41 = true then
    (hX4_isKind G r_0 x1 1 σ).bind fun p2 =>
    if p2.1 = 0 then
      zinr (
        some (.inl (()), p2.2))
    else
      (znO p2.2 44 9).bind fun p3 =>
      (zfA p3.2 r_0 40 1).bind fun r4 =>
      (zfI p3.2 r_0 40 3).bind fun x5 =>
      (ziald p3.2 r4 x5).bind fun x6 =>
      (zfI p3.2 r_0 40 3).bind fun x7 =>
      if zis G p3.2 p3.1 45 = true then
        (hX43_init G p3.1 x_2 x6 x7 p3.2).bind fun p8 =>
        if zis G p8.2 r_1 45 = true then
          (hX43_add G r_1 p3.1 p8.2).bind fun p9 =>
          (zfI p9.2 r_0 40 3).bind fun x10 =>
          (zpI p9.2 r_0 40 3 (x10 + (1 : Int32))).bind fun σ11 =>
          some (.inl (r_0, r_1, x_2), σ11)
        else none
      else none
  else none
def hX4_names_13 (G : xQ) (r_0 : Option Nat) (r_1 : Option Nat) (x_2 : Int32) (σ : zS) : zF (Unit ⊕ Nat) := zloop (fun (a : ((Option Nat) × (Option Nat) × Int32)) σ => hX4_names_13b G a.1 a.2.1 a.2.2 σ) xLim (r_0, r_1, x_2) σ
def hX4_names (G : xQ) (o0 : Option Nat) (o1 : Option Nat) (i2 : Int32) (σ : zS) : zF (Unit ⊕ Nat) :=
  (zfI σ o0 40 3).bind fun x12 =>
  if zis G σ o0 41 = true then
    (hX4_isKind G o0 x12 1 σ).bind fun p13 =>
    if zis G p13.2 o0 41 = true then
      zcase (hX4_must G o0 p13.1 p13.2) (fun p14 =>
        hX4_names_13 G o0 o1 i2 p14.2) (fun p15 =>
        if zthr p15.2 p15.1 3 = true then
          some (.inr p15.1, p15.2)
        else none)
    else none
  else none
/-! MainframeHouse$Parser.targets(LMainframeHouse$Parser$Node;)V -/
def hX4_targets_13b (G : xQ) (r_0 : Option Nat) (r_1 : Option Nat) (σ : zS) : zF (((Option Nat) × (Option Nat)) ⊕ (Unit ⊕ Nat)) :=
  (zfI σ r_0 40 3).bind fun x1 =>
  if zis G σ r_0 41 = true then
    (hX4_isKind G r_0 x1 1 σ).bind fun p2 =>
    if p2.1 = 0 then
      zinr (
        some (.inl (()), p2.2))
    else
      if zis G p2.2 r_0 41 = true then
        zcase (hX4_operand G r_0 1 p2.2) (fun p3 =>
          if zis G p3.2 r_1 45 = true then
            (hX43_add G r_1 p3.1 p3.2).bind fun p4 =>
            some (.inl (r_0, r_1), p4.2)
          else none) (fun p5 =>
          if zthr p5.2 p5.1 3 = true then
            some (.inr (.inr p5.1), p5.2)
          else none)
      else none
  else none
def hX4_targets_13 (G : xQ) (r_0 : Option Nat) (r_1 : Option Nat) (σ : zS) : zF (Unit ⊕ Nat) := zloop (fun (a : ((Option Nat) × (Option Nat))) σ => hX4_targets_13b G a.1 a.2 σ) xLim (r_0, r_1) σ
def hX4_targets (G : xQ) (o0 : Option Nat) (o1 : Option Nat) (σ : zS) : zF (Unit ⊕ Nat) :=
  (zfI σ o0 40 3).bind fun x6 =>
  if zis G σ o0 41 = true then
    (hX4_isKind G o0 x6 1 σ).bind fun p7 =>
    if zis G p7.2 o0 41 = true then
      zcase (hX4_must G o0 p7.1 p7.2) (fun p8 =>
        hX4_targets_13 G o0 o1 p8.2) (fun p9 =>
        if zthr p9.2 p9.1 3 = true then
          some (.inr p9.1, p9.2)
        else none)
    else none
  else none
/-! MainframeHouse$Parser.operands(LMainframeHouse$Parser$Node;)V -/
def hX4_operands_12b (G : xQ) (r_0 : Option Nat) (r_1 : Option Nat) (σ : zS) : zF (((Option Nat) × (Option Nat)) ⊕ (Unit ⊕ Nat)) :=
  (zfI σ r_0 40 3).bind fun x1 =>
  if zis G σ r_0 41 = true then
    (hX4_isOperand G r_0 x1 σ).bind fun p2 =>
    if p2.1 = 0 then
      zinr (
        some (.inl (()), p2.2))
    else
      if zis G p2.2 r_0 41 = true then
        zcase (hX4_operand G r_0 1 p2.2) (fun p3 =>
          if zis G p3.2 r_1 45 = true then
            (hX43_add G r_1 p3.1 p3.2).bind fun p4 =>
            some (.inl (r_0, r_1), p4.2)
          else none) (fun p5 =>
          if zthr p5.2 p5.1 3 = true then
            some (.inr (.inr p5.1), p5.2)
          else none)
      else none
  else none
def hX4_operands_12 (G : xQ) (r_0 : Option Nat) (r_1 : Option Nat) (σ : zS) : zF (Unit ⊕ Nat) := zloop (fun (a : ((Option Nat) × (Option Nat))) σ => hX4_operands_12b G a.1 a.2 σ) xLim (r_0, r_1) σ
def hX4_operands (G : xQ) (o0 : Option Nat) (o1 : Option Nat) (σ : zS) : zF (Unit ⊕ Nat) :=
  (zfI σ o0 40 3).bind fun x6 =>
  if zis G σ o0 41 = true then
    (hX4_isOperand G o0 x6 σ).bind fun p7 =>
    if zis G p7.2 o0 41 = true then
      zcase (hX4_must G o0 p7.1 p7.2) (fun p8 =>
        hX4_operands_12 G o0 o1 p8.2) (fun p9 =>
        if zthr p9.2 p9.1 3 = true then
          some (.inr p9.1, p9.2)
        else none)
    else none
  else none
/-! MainframeHouse$Parser.compare()V -/
def hX4_compare_128 (G : xQ) (x_s0 : Int32) (x_s1 : Int32) (r_s2 : Option Nat) (σ : zS) : zF (Unit ⊕ Nat) :=
  (zpI σ r_s2 40 16 (x_s1 + x_s0)).bind fun σ1 =>
  some (.inl (()), σ1)
def hX4_compare_95 (G : xQ) (r_0 : Option Nat) (x_1 : Int32) (x_2 : Int32) (x_3 : Int32) (σ : zS) : zF (Unit ⊕ Nat) :=
  if x_2 = 0 then
    if ¬ x_3 = (68 : Int32) then
      if ¬ x_3 = (70 : Int32) then
        hX4_compare_128 G 2 x_1 r_0 σ
      else
        hX4_compare_128 G 1 x_1 r_0 σ
    else
      hX4_compare_128 G 0 x_1 r_0 σ
  else
    hX4_compare_128 G (x_3 - (2 : Int32)) x_1 r_0 σ
def hX4_compare_91 (G : xQ) (r_0 : Option Nat) (x_1 : Int32) (x_2 : Int32) (x_3 : Int32) (x_s0 : Int32) (r_s1 : Option Nat) (σ : zS) : zF (Unit ⊕ Nat) :=
  if zis G σ r_s1 41 = true then
    (hX4_meets G r_s1 x_s0 σ).bind fun p2 =>
    hX4_compare_95 G r_0 x_1 x_2 x_3 p2.2
  else none
def hX4_compare_52 (G : xQ) (r_0 : Option Nat) (x_1 : Int32) (x_s0 : Int32) (σ : zS) : zF (Unit ⊕ Nat) :=
  (zfA σ r_0 40 1).bind fun r3 =>
  (zfI σ r_0 40 3).bind fun x4 =>
  (ziald σ r3 x4).bind fun x5 =>
  (zfI σ r_0 40 3).bind fun x6 =>
  (zpI σ r_0 40 3 (x6 + (1 : Int32))).bind fun σ7 =>
  if ¬ x_s0 = 0 then
    hX4_compare_95 G r_0 x_1 x_s0 x5 σ7
  else
    if ¬ x5 = (68 : Int32) then
      hX4_compare_91 G r_0 x_1 x_s0 x5 71 r_0 σ7
    else
      hX4_compare_91 G r_0 x_1 x_s0 x5 48 r_0 σ7
def hX4_compare_21 (G : xQ) (r_0 : Option Nat) (x_s0 : Int32) (σ : zS) : zF (Unit ⊕ Nat) :=
  (zfI σ r_0 40 3).bind fun x8 =>
  if zis G σ r_0 41 = true then
    (hX4_isComparing G r_0 x8 σ).bind fun p9 =>
    if zis G p9.2 r_0 41 = true then
      zcase (hX4_must G r_0 p9.1 p9.2) (fun p10 =>
        (zfA p10.2 r_0 40 0).bind fun r11 =>
        (zfI p10.2 r_0 40 3).bind fun x12 =>
        (ziald p10.2 r11 x12).bind fun x13 =>
        if ¬ x13 = (5 : Int32) then
          hX4_compare_52 G r_0 x_s0 0 p10.2
        else
          hX4_compare_52 G r_0 x_s0 1 p10.2) (fun p14 =>
        if zthr p14.2 p14.1 3 = true then
          some (.inr p14.1, p14.2)
        else none)
    else none
  else none
def hX4_compare (G : xQ) (o0 : Option Nat) (σ : zS) : zF (Unit ⊕ Nat) :=
  if zis G σ o0 41 = true then
    (hX4_meets G o0 67 σ).bind fun p15 =>
    if zis G p15.2 o0 41 = true then
      (hX4_meets G o0 64 p15.2).bind fun p16 =>
      if p16.1 = 0 then
        hX4_compare_21 G o0 0 p16.2
      else
        hX4_compare_21 G o0 3 p16.2
    else none
  else none
/-! MainframeHouse$Parser.alone(LMainframeHouse$Parser$Node;)LMainframeHouse$Parser$Node; -/
def hX4_alone_24 (G : xQ) (r_1 : Option Nat) (x_s0 : Int32) (r_s1 : Option Nat) (σ : zS) : zF ((Option Nat) ⊕ Nat) :=
  if zis G σ r_s1 41 = true then
    zcase (hX4_must G r_s1 x_s0 σ) (fun p1 =>
      (znO p1.2 44 9).bind fun p2 =>
      (zfI p2.2 r_1 44 1).bind fun x3 =>
      if (100000 : Int32) = 0 then none else
      (zfI p2.2 r_1 44 5).bind fun x4 =>
      if zis G p2.2 p2.1 45 = true then
        (hX43_init G p2.1 54 (x3 - x3 / (100000 : Int32) * (100000 : Int32)) x4 p2.2).bind fun p5 =>
        some (.inl (p2.1), p5.2)
      else none) (fun p6 =>
      if zthr p6.2 p6.1 3 = true then
        some (.inr p6.1, p6.2)
      else none)
  else none
def hX4_alone (G : xQ) (o0 : Option Nat) (o1 : Option Nat) (σ : zS) : zF ((Option Nat) ⊕ Nat) :=
  (zfA σ o0 40 15).bind fun r7 =>
  if r7 = none then
    (zfI σ o1 44 1).bind fun x15 =>
    if (100000 : Int32) = 0 then none else
    if ¬ (x15 / (100000 : Int32)) = (1 : Int32) then
      hX4_alone_24 G o1 0 o0 σ
    else
      hX4_alone_24 G o1 1 o0 σ
  else
    (znO σ 44 9).bind fun p8 =>
    (zfI p8.2 o0 40 16).bind fun x9 =>
    (zfI p8.2 o1 44 5).bind fun x10 =>
    if zis G p8.2 p8.1 45 = true then
      (hX43_init G p8.1 53 x9 x10 p8.2).bind fun p11 =>
      (zfA p11.2 o0 40 15).bind fun r12 =>
      (zpA p11.2 p8.1 44 7 r12).bind fun σ13 =>
      if zis G σ13 p8.1 45 = true then
        (hX43_add G p8.1 o1 σ13).bind fun p14 =>
        some (.inl (p8.1), p14.2)
      else none
    else none
/-! MainframeHouse$Parser.close()V -/
def hX4_close (G : xQ) (o0 : Option Nat) (σ : zS) : zF (Unit ⊕ Nat) :=
  (zfI σ o0 40 3).bind fun x1 =>
  if zis G σ o0 41 = true then
    (hX4_isSign G o0 x1 1 σ).bind fun p2 =>
    if zis G p2.2 o0 41 = true then
      zcase (hX4_must G o0 p2.1 p2.2) (fun p3 =>
        (zfI p3.2 o0 40 3).bind fun x4 =>
        (zpI p3.2 o0 40 3 (x4 + (1 : Int32))).bind fun σ5 =>
        (zfI σ5 o0 40 4).bind fun x6 =>
        (zpI σ5 o0 40 4 (x6 - (1 : Int32))).bind fun σ7 =>
        some (.inl (()), σ7)) (fun p8 =>
        if zthr p8.2 p8.1 3 = true then
          some (.inr p8.1, p8.2)
        else none)
    else none
  else none
/-! MainframeHouse$Parser.node(II)I -/
def hX4_node_128 (G : xQ) (x_s0 : Int32) (σ : zS) : zF Int32 :=
  some (x_s0, σ)
def hX4_node_127 (G : xQ)  (σ : zS) : zF Int32 :=
  hX4_node_128 G ((-1)) σ
def hX4_node (G : xQ) (o0 : Option Nat) (i1 : Int32) (i2 : Int32) (σ : zS) : zF Int32 :=
  if zis G σ o0 41 = true then
    (hX4_at G o0 i1 σ).bind fun p1 =>
    if p1.1 = none then
      some ((-1), p1.2)
    else
      if i2 < 0 ∨ 5 < i2 then
        some ((-1), p1.2)
      else if i2 = 0 then
        (zfI p1.2 p1.1 44 0).bind fun x2 =>
        some (x2, p1.2)
      else if i2 = 1 then
        (zfI p1.2 p1.1 44 1).bind fun x3 =>
        some (x3, p1.2)
      else if i2 = 2 then
        (zfI p1.2 p1.1 44 5).bind fun x4 =>
        some (x4, p1.2)
      else if i2 = 3 then
        (zfA p1.2 p1.1 44 8).bind fun r5 =>
        (zLsize p1.2 r5).bind fun x6 =>
        some (x6, p1.2)
      else if i2 = 4 then
        (zfA p1.2 p1.1 44 6).bind fun r7 =>
        (hX4_numberOf G r7 p1.2).bind fun p8 =>
        some (p8.1, p8.2)
      else if i2 = 5 then
        (zfI p1.2 p1.1 44 0).bind fun x9 =>
        if ¬ x9 = (53 : Int32) then
          (zfI p1.2 p1.1 44 0).bind fun x10 =>
          if x10 < (26 : Int32) then
            hX4_node_127 G  p1.2
          else
            (zfI p1.2 p1.1 44 0).bind fun x11 =>
            if (38 : Int32) < x11 then
              hX4_node_127 G  p1.2
            else
              (zfI p1.2 p1.1 44 2).bind fun x12 =>
              hX4_node_128 G x12 p1.2
        else
          (zfA p1.2 p1.1 44 7).bind fun r13 =>
          (hX4_numberOf G r13 p1.2).bind fun p14 =>
          hX4_node_128 G p14.1 p14.2
      else none
  else none
/-! MainframeHouse$Parser$Unit.<init>(LMainframeHouse$Parser$Unit;I)V -/
def hX42_init (G : xQ) (o0 : Option Nat) (o1 : Option Nat) (i2 : Int32) (σ : zS) : zF Unit :=
  if o0 = none then none else
  (znX σ 2 3).bind fun p1 =>
  (zLi0 p1.2 p1.1).bind fun p2 =>
  (zpA p2.2 o0 43 13 p1.1).bind fun σ3 =>
  (zpA σ3 o0 43 0 o1).bind fun σ4 =>
  (znO σ4 44 9).bind fun p5 =>
  if zis G p5.2 p5.1 45 = true then
    (hX43_init G p5.1 1 0 i2 p5.2).bind fun p6 =>
    (zpA p6.2 o0 43 1 p5.1).bind fun σ7 =>
    some ((), σ7)
  else none
/-! MainframeHouseModel$Parser.operandOf(I)V -/
def hX26_operandOf_15 (G : xQ)  (σ : zS) : zF Unit :=
  some ((), σ)
def hX26_operandOf (G : xQ) (o0 : Option Nat) (i1 : Int32) (σ : zS) : zF Unit :=
  if zis G σ o0 26 = true then
    (hX26_operand G o0 σ).bind fun p1 =>
    if p1.1 ≤ 0 then
      hX26_operandOf_15 G  p1.2
    else
      if zis G p1.2 o0 26 = true then
        (hX26_attach G o0 i1 p1.1 p1.2).bind fun p2 =>
        hX26_operandOf_15 G  p2.2
      else none
  else none
/-! MainframeHouseModel$Parser.occurs(II)V -/
def hX26_occurs_93 (G : xQ)  (σ : zS) : zF Unit :=
  some ((), σ)
def hX26_occurs_69 (G : xQ) (r_0 : Option Nat) (x_3 : Int32) (σ : zS) : zF Unit :=
  if zis G σ r_0 26 = true then
    (hX26_meets G r_0 10 σ).bind fun p1 =>
    if p1.1 = 0 then
      hX26_occurs_93 G  p1.2
    else
      if zis G p1.2 r_0 26 = true then
        (hX26_meets G r_0 25 p1.2).bind fun p2 =>
        if zis G p2.2 r_0 26 = true then
          (hX26_names G r_0 x_3 17 p2.2).bind fun p3 =>
          hX26_occurs_93 G  p3.2
        else none
      else none
  else none
def hX26_occurs (G : xQ) (o0 : Option Nat) (i1 : Int32) (i2 : Int32) (σ : zS) : zF Unit :=
  if zis G σ o0 26 = true then
    (hX26_mustBe G o0 2 σ).bind fun p4 =>
    if ¬ p4.1 = 0 then
      if zis G p4.2 o0 26 = true then
        (hX26_passed G o0 p4.2).bind fun p5 =>
        if zis G p5.2 o0 26 = true then
          (hX26_make G o0 15 p5.1 i2 p5.2).bind fun p6 =>
          if zis G p6.2 o0 26 = true then
            (hX26_attach G o0 i1 p6.1 p6.2).bind fun p7 =>
            if zis G p7.2 o0 26 = true then
              (hX26_meets G o0 23 p7.2).bind fun p8 =>
              if zis G p8.2 o0 26 = true then
                (hX26_meets G o0 24 p8.2).bind fun p9 =>
                if p9.1 = 0 then
                  hX26_occurs_69 G o0 p6.1 p9.2
                else
                  if zis G p9.2 o0 26 = true then
                    (hX26_mustBe G o0 1 p9.2).bind fun p10 =>
                    if p10.1 = 0 then
                      hX26_occurs_69 G o0 p6.1 p10.2
                    else
                      if zis G p10.2 o0 26 = true then
                        (hX26_passed G o0 p10.2).bind fun p11 =>
                        (zfI p11.2 o0 25 41).bind fun x12 =>
                        if zis G p11.2 o0 26 = true then
                          (hX26_child G o0 p6.1 16 p11.1 (x12 - (1 : Int32)) p11.2).bind fun p13 =>
                          hX26_occurs_69 G o0 p6.1 p13.2
                        else none
                      else none
                  else none
              else none
            else none
          else none
        else none
      else none
    else
      some ((), p4.2)
  else none
/-! MainframeHouseModel$Parser.scope(IIZ)V -/
def hX26_scope_34 (G : xQ) (r_0 : Option Nat) (x_s0 : Int32) (x_s1 : Int32) (r_s2 : Option Nat) (σ : zS) : zF Unit :=
  (ziast σ r_s2 x_s1 x_s0).bind fun σ1 =>
  (zfI σ1 r_0 25 45).bind fun x2 =>
  (zpI σ1 r_0 25 45 (x2 - (1 : Int32))).bind fun σ3 =>
  some ((), σ3)
def hX26_scope_17 (G : xQ) (r_0 : Option Nat) (x_1 : Int32) (x_s0 : Int32) (σ : zS) : zF Unit :=
  (zfA σ r_0 25 12).bind fun r4 =>
  if x_s0 = 0 then
    hX26_scope_34 G r_0 0 x_1 r4 σ
  else
    hX26_scope_34 G r_0 1 x_1 r4 σ
def hX26_scope (G : xQ) (o0 : Option Nat) (i1 : Int32) (i2 : Int32) (i3 : Int32) (σ : zS) : zF Unit :=
  if i3 = 0 then
    if zis G σ o0 26 = true then
      (hX26_meets G o0 i2 σ).bind fun p5 =>
      hX26_scope_17 G o0 i1 p5.1 p5.2
    else none
  else
    if zis G σ o0 26 = true then
      (hX26_must G o0 i2 σ).bind fun p6 =>
      hX26_scope_17 G o0 i1 p6.1 p6.2
    else none
/-! MainframeHouseModel$Parser.branch(III)V -/
def hX26_branch_82 (G : xQ)  (σ : zS) : zF Unit :=
  some ((), σ)
def hX26_branch_28 (G : xQ) (r_0 : Option Nat) (x_2 : Int32) (σ : zS) : zF Unit :=
  (zfI σ r_0 25 41).bind fun x1 =>
  (zfI σ r_0 25 41).bind fun x2 =>
  if zis G σ r_0 26 = true then
    (hX26_isWord G r_0 x2 54 σ).bind fun p3 =>
    if ¬ p3.1 = 0 then
      (zfI p3.2 r_0 25 41).bind fun x4 =>
      (zpI p3.2 r_0 25 41 (x4 + (1 : Int32))).bind fun σ5 =>
      if zis G σ5 r_0 26 = true then
        (hX26_must G r_0 55 σ5).bind fun p6 =>
        if p6.1 = 0 then
          hX26_branch_82 G  p6.2
        else
          if zis G p6.2 r_0 26 = true then
            (hX26_child G r_0 x_2 42 0 x1 p6.2).bind fun p7 =>
            hX26_branch_82 G  p7.2
          else none
      else none
    else
      if zis G p3.2 r_0 26 = true then
        (hX26_list G r_0 x_2 p3.2).bind fun p8 =>
        some ((), p8.2)
      else none
  else none
def hX26_branch_19 (G : xQ) (r_0 : Option Nat) (x_2 : Int32) (σ : zS) : zF Unit :=
  if zis G σ r_0 26 = true then
    (hX26_scope G r_0 x_2 73 0 σ).bind fun p9 =>
    some ((), p9.2)
  else none
def hX26_branch (G : xQ) (o0 : Option Nat) (i1 : Int32) (i2 : Int32) (i3 : Int32) (σ : zS) : zF Unit :=
  if i3 = (2 : Int32) then
    hX26_branch_19 G o0 i2 σ
  else
    if ¬ i3 = (1 : Int32) then
      hX26_branch_28 G o0 i2 σ
    else
      if zis G σ o0 26 = true then
        (hX26_meets G o0 53 σ).bind fun p10 =>
        if ¬ p10.1 = 0 then
          hX26_branch_28 G o0 i2 p10.2
        else
          hX26_branch_19 G o0 i2 p10.2
      else none
/-! MainframeHouseModel$Parser.whens(III)V -/
def hX26_whens_42b (G : xQ) (r_0 : Option Nat) (x_4 : Int32) (σ : zS) : zF (((Option Nat) × Int32) ⊕ Unit) :=
  if zis G σ r_0 26 = true then
    (hX26_meets G r_0 59 σ).bind fun p1 =>
    if p1.1 = 0 then
      zinr (
        if zis G p1.2 r_0 26 = true then
          (hX26_list G r_0 x_4 p1.2).bind fun p2 =>
          some ((), p2.2)
        else none)
    else
      (zfI p1.2 r_0 25 41).bind fun x3 =>
      if zis G p1.2 r_0 26 = true then
        (hX26_isWord G r_0 x3 60 p1.2).bind fun p4 =>
        if p4.1 = 0 then
          if zis G p4.2 r_0 26 = true then
            (hX26_operandOf G r_0 x_4 p4.2).bind fun p5 =>
            some (.inl (r_0, x_4), p5.2)
          else none
        else
          (zfI p4.2 r_0 25 41).bind fun x6 =>
          if zis G p4.2 r_0 26 = true then
            (hX26_child G r_0 x_4 47 0 x6 p4.2).bind fun p7 =>
            (zfI p7.2 r_0 25 41).bind fun x8 =>
            (zpI p7.2 r_0 25 41 (x8 + (1 : Int32))).bind fun σ9 =>
            some (.inl (r_0, x_4), σ9)
          else none
      else none
  else none
def hX26_whens_42 (G : xQ) (r_0 : Option Nat) (x_4 : Int32) (σ : zS) : zF Unit := zloop (fun (a : ((Option Nat) × Int32)) σ => hX26_whens_42b G a.1 a.2 σ) xLim (r_0, x_4) σ
def hX26_whens (G : xQ) (o0 : Option Nat) (i1 : Int32) (i2 : Int32) (i3 : Int32) (σ : zS) : zF Unit :=
  (zfI σ o0 25 41).bind fun x10 =>
  if zis G σ o0 26 = true then
    (hX26_isWord G o0 x10 59 σ).bind fun p11 =>
    if ¬ p11.1 = 0 then
      (zfI p11.2 o0 25 41).bind fun x12 =>
      if zis G p11.2 o0 26 = true then
        (hX26_make G o0 46 0 x12 p11.2).bind fun p13 =>
        if zis G p13.2 o0 26 = true then
          (hX26_attach G o0 i2 p13.1 p13.2).bind fun p14 =>
          hX26_whens_42 G o0 p13.1 p14.2
        else none
      else none
    else
      if zis G p11.2 o0 26 = true then
        (hX26_scope G o0 i2 75 0 p11.2).bind fun p15 =>
        some ((), p15.2)
      else none
  else none
/-! MainframeHouseModel$Parser.add(I)V -/
def hX26_add_114 (G : xQ) (r_0 : Option Nat) (x_1 : Int32) (σ : zS) : zF Unit :=
  if zis G σ r_0 26 = true then
    (hX26_pile G r_0 37 x_1 σ).bind fun p1 =>
    some ((), p1.2)
  else none
def hX26_add_31 (G : xQ) (r_0 : Option Nat) (x_1 : Int32) (σ : zS) : zF Unit :=
  if zis G σ r_0 26 = true then
    (hX26_childrenOf G r_0 x_1 σ).bind fun p2 =>
    if zis G p2.2 r_0 26 = true then
      (hX26_meets G r_0 48 p2.2).bind fun p3 =>
      if p3.1 = 0 then
        if zis G p3.2 r_0 26 = true then
          (hX26_must G r_0 49 p3.2).bind fun p4 =>
          if p4.1 = 0 then
            hX26_add_114 G r_0 x_1 p4.2
          else
            (zfA p4.2 r_0 25 10).bind fun r5 =>
            (ziast p4.2 r5 x_1 (101 : Int32)).bind fun σ6 =>
            if zis G σ6 r_0 26 = true then
              (hX26_mustBe G r_0 1 σ6).bind fun p7 =>
              if p7.1 = 0 then
                hX26_add_114 G r_0 x_1 p7.2
              else
                if zis G p7.2 r_0 26 = true then
                  (hX26_passed G r_0 p7.2).bind fun p8 =>
                  (zfI p8.2 r_0 25 41).bind fun x9 =>
                  if zis G p8.2 r_0 26 = true then
                    (hX26_child G r_0 x_1 41 ((100000 : Int32) + p8.1) (x9 - (1 : Int32)) p8.2).bind fun p10 =>
                    hX26_add_114 G r_0 x_1 p10.2
                  else none
                else none
            else none
        else none
      else
        if zis G p3.2 r_0 26 = true then
          (hX26_names G r_0 x_1 41 p3.2).bind fun p11 =>
          (zfA p11.2 r_0 25 10).bind fun r12 =>
          if zis G p11.2 r_0 26 = true then
            (hX26_childrenOf G r_0 x_1 p11.2).bind fun p13 =>
            (ziast p13.2 r12 x_1 (p13.1 - p2.1)).bind fun σ14 =>
            hX26_add_114 G r_0 x_1 σ14
          else none
        else none
    else none
  else none
def hX26_add_5b (G : xQ) (r_0 : Option Nat) (x_1 : Int32) (σ : zS) : zF (((Option Nat) × Int32) ⊕ Unit) :=
  (zfI σ r_0 25 43).bind fun x15 =>
  if ¬ x15 = 0 then
    zinr (hX26_add_31 G r_0 x_1 σ)
  else
    (zfI σ r_0 25 41).bind fun x16 =>
    if zis G σ r_0 26 = true then
      (hX26_isOperand G r_0 x16 σ).bind fun p17 =>
      if p17.1 = 0 then
        zinr (hX26_add_31 G r_0 x_1 p17.2)
      else
        if zis G p17.2 r_0 26 = true then
          (hX26_operandOf G r_0 x_1 p17.2).bind fun p18 =>
          some (.inl (r_0, x_1), p18.2)
        else none
    else none
def hX26_add_5 (G : xQ) (r_0 : Option Nat) (x_1 : Int32) (σ : zS) : zF Unit := zloop (fun (a : ((Option Nat) × Int32)) σ => hX26_add_5b G a.1 a.2 σ) xLim (r_0, x_1) σ
def hX26_add (G : xQ) (o0 : Option Nat) (i1 : Int32) (σ : zS) : zF Unit :=
  if zis G σ o0 26 = true then
    (hX26_operandOf G o0 i1 σ).bind fun p19 =>
    hX26_add_5 G o0 i1 p19.2
  else none
/-! MainframeHouseModel$Parser.compare(I)V -/
def hX26_compare_153 (G : xQ) (r_0 : Option Nat) (x_1 : Int32) (x_3 : Int32) (x_6 : Int32) (σ : zS) : zF Unit :=
  (zpI σ r_0 25 56 (x_6 + x_3)).bind fun σ1 =>
  (zfA σ1 r_0 25 10).bind fun r2 =>
  (zfI σ1 r_0 25 56).bind fun x3 =>
  (ziast σ1 r2 x_1 x3).bind fun σ4 =>
  if zis G σ4 r_0 26 = true then
    (hX26_operandOf G r_0 x_1 σ4).bind fun p5 =>
    some ((), p5.2)
  else none
def hX26_compare_149 (G : xQ) (r_0 : Option Nat) (x_1 : Int32) (x_3 : Int32) (x_6 : Int32) (x_s0 : Int32) (r_s1 : Option Nat) (σ : zS) : zF Unit :=
  if zis G σ r_s1 26 = true then
    (hX26_meets G r_s1 x_s0 σ).bind fun p6 =>
    hX26_compare_153 G r_0 x_1 x_3 x_6 p6.2
  else none
def hX26_compare_127 (G : xQ) (r_0 : Option Nat) (x_1 : Int32) (x_3 : Int32) (x_4 : Int32) (x_5 : Int32) (x_s0 : Int32) (σ : zS) : zF Unit :=
  if ¬ x_4 = 0 then
    hX26_compare_153 G r_0 x_1 x_3 x_s0 σ
  else
    if ¬ x_5 = (68 : Int32) then
      hX26_compare_149 G r_0 x_1 x_3 x_s0 71 r_0 σ
    else
      hX26_compare_149 G r_0 x_1 x_3 x_s0 48 r_0 σ
def hX26_compare_69 (G : xQ) (r_0 : Option Nat) (x_1 : Int32) (x_3 : Int32) (x_s0 : Int32) (σ : zS) : zF Unit :=
  (zfA σ r_0 25 3).bind fun r7 =>
  (zfI σ r_0 25 41).bind fun x8 =>
  (ziald σ r7 x8).bind fun x9 =>
  (zfI σ r_0 25 41).bind fun x10 =>
  (zpI σ r_0 25 41 (x10 + (1 : Int32))).bind fun σ11 =>
  if x_s0 = 0 then
    if ¬ x9 = (68 : Int32) then
      if ¬ x9 = (69 : Int32) then
        hX26_compare_127 G r_0 x_1 x_3 x_s0 x9 1 σ11
      else
        hX26_compare_127 G r_0 x_1 x_3 x_s0 x9 2 σ11
    else
      hX26_compare_127 G r_0 x_1 x_3 x_s0 x9 0 σ11
  else
    hX26_compare_127 G r_0 x_1 x_3 x_s0 x9 (x9 - (2 : Int32)) σ11
def hX26_compare_40 (G : xQ) (r_0 : Option Nat) (σ : zS) : zF Unit :=
  (zfI σ r_0 25 41).bind fun x12 =>
  if zis G σ r_0 26 = true then
    (hX26_fail G r_0 1 x12 σ).bind fun p13 =>
    some ((), p13.2)
  else none
def hX26_compare_21 (G : xQ) (r_0 : Option Nat) (x_1 : Int32) (x_s0 : Int32) (σ : zS) : zF Unit :=
  (zfI σ r_0 25 43).bind fun x14 =>
  if ¬ x14 = 0 then
    hX26_compare_40 G r_0 σ
  else
    (zfI σ r_0 25 41).bind fun x15 =>
    if zis G σ r_0 26 = true then
      (hX26_isComparing G r_0 x15 σ).bind fun p16 =>
      if ¬ p16.1 = 0 then
        (zfA p16.2 r_0 25 2).bind fun r17 =>
        (zfI p16.2 r_0 25 41).bind fun x18 =>
        (ziald p16.2 r17 x18).bind fun x19 =>
        if ¬ x19 = (5 : Int32) then
          hX26_compare_69 G r_0 x_1 x_s0 0 p16.2
        else
          hX26_compare_69 G r_0 x_1 x_s0 1 p16.2
      else
        hX26_compare_40 G r_0 p16.2
    else none
def hX26_compare (G : xQ) (o0 : Option Nat) (i1 : Int32) (σ : zS) : zF Unit :=
  if zis G σ o0 26 = true then
    (hX26_meets G o0 67 σ).bind fun p20 =>
    if zis G p20.2 o0 26 = true then
      (hX26_meets G o0 64 p20.2).bind fun p21 =>
      if p21.1 = 0 then
        hX26_compare_21 G o0 i1 0 p21.2
      else
        hX26_compare_21 G o0 i1 3 p21.2
    else none
  else none
/-! MainframeHouseModel$Parser.behindFactor(I)I -/
def hX26_behindFactor_117 (G : xQ) (r_0 : Option Nat) (x_2 : Int32) (x_3 : Int32) (σ : zS) : zF (((Option Nat) × Int32) ⊕ Int32) :=
  (zfA σ r_0 25 60).bind fun r1 =>
  (ziast σ r1 x_3 x_2).bind fun σ2 =>
  (zfA σ2 r_0 25 61).bind fun r3 =>
  (ziald σ2 r3 x_3).bind fun x4 =>
  (ziast σ2 r3 x_3 (x4 + (1 : Int32))).bind fun σ5 =>
  if zis G σ5 r_0 26 = true then
    (hX26_meets G r_0 65 σ5).bind fun p6 =>
    if p6.1 = 0 then
      if zis G p6.2 r_0 26 = true then
        (hX26_closeAnds G r_0 p6.2).bind fun p7 =>
        if zis G p7.2 r_0 26 = true then
          (hX26_meets G r_0 66 p7.2).bind fun p8 =>
          if p8.1 = 0 then
            (zfA p8.2 r_0 25 62).bind fun r9 =>
            (ziald p8.2 r9 x_3).bind fun x10 =>
            (zfA p8.2 r_0 25 63).bind fun r11 =>
            (ziald p8.2 r11 x_3).bind fun x12 =>
            (zfA p8.2 r_0 25 64).bind fun r13 =>
            (ziald p8.2 r13 x_3).bind fun x14 =>
            if zis G p8.2 r_0 26 = true then
              (hX26_whole G r_0 50 x10 x12 x14 p8.2).bind fun p15 =>
              (zfI p15.2 r_0 25 54).bind fun x16 =>
              if ¬ x16 = 0 then
                (zfI p15.2 r_0 25 41).bind fun x17 =>
                if zis G p15.2 r_0 26 = true then
                  (hX26_isSign G r_0 x17 1 p15.2).bind fun p18 =>
                  if ¬ p18.1 = 0 then
                    (zfI p18.2 r_0 25 41).bind fun x19 =>
                    (zpI p18.2 r_0 25 41 (x19 + (1 : Int32))).bind fun σ20 =>
                    (zfI σ20 r_0 25 54).bind fun x21 =>
                    (zpI σ20 r_0 25 54 (x21 - (1 : Int32))).bind fun σ22 =>
                    (zfI σ22 r_0 25 44).bind fun x23 =>
                    (zpI σ22 r_0 25 44 (x23 - (1 : Int32))).bind fun σ24 =>
                    (zfI σ24 r_0 25 57).bind fun x25 =>
                    (zpI σ24 r_0 25 57 (x25 - (1 : Int32))).bind fun σ26 =>
                    (zpI σ26 r_0 25 55 (0 : Int32)).bind fun σ27 =>
                    some (.inl (r_0, p15.1), σ27)
                  else
                    zinr (
                      (zfI p18.2 r_0 25 41).bind fun x28 =>
                      if zis G p18.2 r_0 26 = true then
                        (hX26_fail G r_0 1 x28 p18.2).bind fun p29 =>
                        some (0, p29.2)
                      else none)
                else none
              else
                zinr (
                  some (p15.1, p15.2))
            else none
          else
            zinr (
              some (0, p8.2))
        else none
      else none
    else
      zinr (
        some (0, p6.2))
  else none
def hX26_behindFactor_72 (G : xQ) (r_0 : Option Nat) (x_2 : Int32) (σ : zS) : zF (((Option Nat) × Int32) ⊕ Int32) :=
  (zfI σ r_0 25 57).bind fun x30 =>
  xlet (x30 - (1 : Int32)) fun x31 =>
  (zfA σ r_0 25 15).bind fun r32 =>
  (ziast σ r32 x_2 (0 : Int32)).bind fun σ33 =>
  (zfA σ33 r_0 25 61).bind fun r34 =>
  (ziald σ33 r34 x31).bind fun x35 =>
  if ¬ x35 = 0 then
    (zfA σ33 r_0 25 15).bind fun r36 =>
    (zfA σ33 r_0 25 60).bind fun r37 =>
    (ziald σ33 r37 x31).bind fun x38 =>
    (ziast σ33 r36 x38 x_2).bind fun σ39 =>
    hX26_behindFactor_117 G r_0 x_2 x31 σ39
  else
    (zfA σ33 r_0 25 59).bind fun r40 =>
    (ziast σ33 r40 x31 x_2).bind fun σ41 =>
    hX26_behindFactor_117 G r_0 x_2 x31 σ41
def hX26_behindFactor_2b (G : xQ) (r_0 : Option Nat) (x_2 : Int32) (σ : zS) : zF (((Option Nat) × Int32) ⊕ Int32) :=
  (zfI σ r_0 25 54).bind fun x42 =>
  if x42 ≤ 0 then
    hX26_behindFactor_72 G r_0 x_2 σ
  else
    (zfA σ r_0 25 58).bind fun r43 =>
    (zfI σ r_0 25 54).bind fun x44 =>
    (ziald σ r43 (x44 - (1 : Int32))).bind fun x45 =>
    if x45 = (-1 : Int32) then
      hX26_behindFactor_72 G r_0 x_2 σ
    else
      (zfI σ r_0 25 54).bind fun x46 =>
      (zpI σ r_0 25 54 (x46 - (1 : Int32))).bind fun σ47 =>
      (zfI σ47 r_0 25 44).bind fun x48 =>
      (zpI σ47 r_0 25 44 (x48 - (1 : Int32))).bind fun σ49 =>
      (zfA σ49 r_0 25 58).bind fun r50 =>
      (zfI σ49 r_0 25 54).bind fun x51 =>
      (ziald σ49 r50 x51).bind fun x52 =>
      if zis G σ49 r_0 26 = true then
        (hX26_make G r_0 52 0 x52 σ49).bind fun p53 =>
        if zis G p53.2 r_0 26 = true then
          (hX26_attach G r_0 p53.1 x_2 p53.2).bind fun p54 =>
          some (.inl (r_0, p53.1), p54.2)
        else none
      else none
def hX26_behindFactor_2 (G : xQ) (r_0 : Option Nat) (x_2 : Int32) (σ : zS) : zF Int32 := zloop (fun (a : ((Option Nat) × Int32)) σ => hX26_behindFactor_2b G a.1 a.2 σ) xLim (r_0, x_2) σ
def hX26_behindFactor (G : xQ) (o0 : Option Nat) (i1 : Int32) (σ : zS) : zF Int32 :=
  hX26_behindFactor_2 G o0 i1 σ
/-! MainframeHouseModel$Parser.call(I)V -/
def hX26_call_65 (G : xQ) (r_0 : Option Nat) (x_1 : Int32) (σ : zS) : zF Unit :=
  if zis G σ r_0 26 = true then
    (hX26_pile G r_0 42 x_1 σ).bind fun p1 =>
    some ((), p1.2)
  else none
def hX26_call_49 (G : xQ) (r_0 : Option Nat) (x_1 : Int32) (σ : zS) : zF Unit :=
  if zis G σ r_0 26 = true then
    (hX26_meets G r_0 31 σ).bind fun p2 =>
    if p2.1 = 0 then
      hX26_call_65 G r_0 x_1 p2.2
    else
      if zis G p2.2 r_0 26 = true then
        (hX26_names G r_0 x_1 21 p2.2).bind fun p3 =>
        hX26_call_65 G r_0 x_1 p3.2
      else none
  else none
def hX26_call_44 (G : xQ) (r_0 : Option Nat) (x_1 : Int32) (σ : zS) : zF Unit :=
  if zis G σ r_0 26 = true then
    (hX26_operandOf G r_0 x_1 σ).bind fun p4 =>
    hX26_call_49 G r_0 x_1 p4.2
  else none
def hX26_call (G : xQ) (o0 : Option Nat) (i1 : Int32) (σ : zS) : zF Unit :=
  (zfI σ o0 25 43).bind fun x5 =>
  if ¬ x5 = 0 then
    hX26_call_44 G o0 i1 σ
  else
    (zfI σ o0 25 41).bind fun x6 =>
    if zis G σ o0 26 = true then
      (hX26_isKind G o0 x6 1 σ).bind fun p7 =>
      if ¬ p7.1 = 0 then
        hX26_call_44 G o0 i1 p7.2
      else
        (zfI p7.2 o0 25 41).bind fun x8 =>
        if zis G p7.2 o0 26 = true then
          (hX26_isKind G o0 x8 3 p7.2).bind fun p9 =>
          if ¬ p9.1 = 0 then
            hX26_call_44 G o0 i1 p9.2
          else
            (zfI p9.2 o0 25 41).bind fun x10 =>
            if zis G p9.2 o0 26 = true then
              (hX26_fail G o0 1 x10 p9.2).bind fun p11 =>
              hX26_call_49 G o0 i1 p11.2
            else none
        else none
    else none
/-! MainframeHouseModel$Parser.sum()I -/
def hX26_sum_129 (G : xQ) (x_1 : Int32) (σ : zS) : zF Int32 :=
  some (x_1, σ)
def hX26_sum_117 (G : xQ) (r_0 : Option Nat) (σ : zS) : zF (((Option Nat) × Int32) ⊕ Int32) :=
  if zis G σ r_0 26 = true then
    (hX26_operand G r_0 σ).bind fun p1 =>
    if zis G p1.2 r_0 26 = true then
      (hX26_behindUnit G r_0 p1.1 p1.2).bind fun p2 =>
      some (.inl (r_0, p2.1), p2.2)
    else none
  else none
def hX26_sum_53 (G : xQ) (r_0 : Option Nat) (x_1 : Int32) (σ : zS) : zF (((Option Nat) × Int32) ⊕ Int32) :=
  (zfI σ r_0 25 44).bind fun x3 =>
  (zpI σ r_0 25 44 (x3 + (1 : Int32))).bind fun σ4 =>
  (zfI σ4 r_0 25 41).bind fun x5 =>
  (zpI σ4 r_0 25 41 (x5 + (1 : Int32))).bind fun σ6 =>
  if zis G σ6 r_0 26 = true then
    (hX26_context G r_0 σ6).bind fun p7 =>
    some (.inl (r_0, x_1), p7.2)
  else none
def hX26_sum_11b (G : xQ) (r_0 : Option Nat) (x_1 : Int32) (σ : zS) : zF (((Option Nat) × Int32) ⊕ Int32) :=
  if ¬ x_1 = 0 then
    zinr (hX26_sum_129 G x_1 σ)
  else
    (zfI σ r_0 25 43).bind fun x8 =>
    if ¬ x8 = 0 then
      zinr (hX26_sum_129 G x_1 σ)
    else
      (zfI σ r_0 25 41).bind fun x9 =>
      if zis G σ r_0 26 = true then
        (hX26_isSign G r_0 x9 0 σ).bind fun p10 =>
        if p10.1 = 0 then
          (zfI p10.2 r_0 25 41).bind fun x11 =>
          if zis G p10.2 r_0 26 = true then
            (hX26_isKind G r_0 x11 1 p10.2).bind fun p12 =>
            if ¬ p12.1 = 0 then
              hX26_sum_117 G r_0 p12.2
            else
              (zfI p12.2 r_0 25 41).bind fun x13 =>
              if zis G p12.2 r_0 26 = true then
                (hX26_isKind G r_0 x13 2 p12.2).bind fun p14 =>
                if ¬ p14.1 = 0 then
                  hX26_sum_117 G r_0 p14.2
                else
                  (zfI p14.2 r_0 25 41).bind fun x15 =>
                  if zis G p14.2 r_0 26 = true then
                    (hX26_fail G r_0 1 x15 p14.2).bind fun p16 =>
                    some (.inl (r_0, x_1), p16.2)
                  else none
              else none
          else none
        else
          (zfI p10.2 r_0 25 44).bind fun x17 =>
          if ¬ x17 = (40 : Int32) then
            hX26_sum_53 G r_0 x_1 p10.2
          else
            (zfI p10.2 r_0 25 41).bind fun x18 =>
            if zis G p10.2 r_0 26 = true then
              (hX26_fail G r_0 3 x18 p10.2).bind fun p19 =>
              hX26_sum_53 G r_0 x_1 p19.2
            else none
      else none
def hX26_sum_11 (G : xQ) (r_0 : Option Nat) (x_1 : Int32) (σ : zS) : zF Int32 := zloop (fun (a : ((Option Nat) × Int32)) σ => hX26_sum_11b G a.1 a.2 σ) xLim (r_0, x_1) σ
def hX26_sum (G : xQ) (o0 : Option Nat) (σ : zS) : zF Int32 :=
  (zpI σ o0 25 49 (0 : Int32)).bind fun σ20 =>
  if zis G σ20 o0 26 = true then
    (hX26_context G o0 σ20).bind fun p21 =>
    hX26_sum_11 G o0 0 p21.2
  else none
/-! MainframeHouseModel$Parser.select(I)V -/
def hX26_select_255 (G : xQ)  (σ : zS) : zF Unit :=
  some ((), σ)
def hX26_select_233 (G : xQ) (r_0 : Option Nat) (x_2 : Int32) (σ : zS) : zF Unit :=
  if zis G σ r_0 26 = true then
    (hX26_mustBe G r_0 4 σ).bind fun p1 =>
    if p1.1 = 0 then
      hX26_select_255 G  p1.2
    else
      (zfA p1.2 r_0 25 23).bind fun r2 =>
      if zis G p1.2 r_0 26 = true then
        (hX26_here G r_0 p1.2).bind fun p3 =>
        (ziald p3.2 r2 p3.1).bind fun x4 =>
        if zis G p3.2 r_0 26 = true then
          (hX26_attach G r_0 x4 x_2 p3.2).bind fun p5 =>
          hX26_select_255 G  p5.2
        else none
      else none
  else none
def hX26_select_190 (G : xQ) (r_0 : Option Nat) (x_2 : Int32) (σ : zS) : zF Unit :=
  (zfI σ r_0 25 41).bind fun x6 =>
  if zis G σ r_0 26 = true then
    (hX26_meets G r_0 11 σ).bind fun p7 =>
    if p7.1 = 0 then
      hX26_select_233 G r_0 x_2 p7.2
    else
      if zis G p7.2 r_0 26 = true then
        (hX26_meets G r_0 67 p7.2).bind fun p8 =>
        if zis G p8.2 r_0 26 = true then
          (hX26_mustBe G r_0 1 p8.2).bind fun p9 =>
          if p9.1 = 0 then
            hX26_select_233 G r_0 x_2 p9.2
          else
            if zis G p9.2 r_0 26 = true then
              (hX26_passed G r_0 p9.2).bind fun p10 =>
              if zis G p10.2 r_0 26 = true then
                (hX26_child G r_0 x_2 6 p10.1 x6 p10.2).bind fun p11 =>
                hX26_select_233 G r_0 x_2 p11.2
              else none
            else none
        else none
      else none
  else none
def hX26_select_162 (G : xQ) (r_0 : Option Nat) (x_2 : Int32) (x_5 : Int32) (σ : zS) : zF Unit :=
  if x_5 = 0 then
    (zfI σ r_0 25 41).bind fun x12 =>
    if zis G σ r_0 26 = true then
      (hX26_fail G r_0 1 x12 σ).bind fun p13 =>
      hX26_select_190 G r_0 x_2 p13.2
    else none
  else
    (zfI σ r_0 25 41).bind fun x14 =>
    (zpI σ r_0 25 41 (x14 + (1 : Int32))).bind fun σ15 =>
    hX26_select_190 G r_0 x_2 σ15
def hX26_select_135 (G : xQ) (r_0 : Option Nat) (x_2 : Int32) (x_4 : Int32) (x_s0 : Int32) (σ : zS) : zF Unit :=
  if x_s0 = 0 then
    hX26_select_162 G r_0 x_2 x_s0 σ
  else
    (zfA σ r_0 25 3).bind fun r16 =>
    (zfI σ r_0 25 41).bind fun x17 =>
    (ziald σ r16 x17).bind fun x18 =>
    if zis G σ r_0 26 = true then
      (hX26_child G r_0 x_2 5 (x18 - (8 : Int32)) x_4 σ).bind fun p19 =>
      hX26_select_162 G r_0 x_2 x_s0 p19.2
    else none
def hX26_select_134 (G : xQ) (r_0 : Option Nat) (x_2 : Int32) (x_4 : Int32) (σ : zS) : zF Unit :=
  hX26_select_135 G r_0 x_2 x_4 0 σ
def hX26_select_72 (G : xQ) (r_0 : Option Nat) (x_2 : Int32) (σ : zS) : zF Unit :=
  if zis G σ r_0 26 = true then
    (hX26_operandOf G r_0 x_2 σ).bind fun p20 =>
    (zfI p20.2 r_0 25 41).bind fun x21 =>
    if zis G p20.2 r_0 26 = true then
      (hX26_meets G r_0 7 p20.2).bind fun p22 =>
      if p22.1 = 0 then
        hX26_select_190 G r_0 x_2 p22.2
      else
        if zis G p22.2 r_0 26 = true then
          (hX26_meets G r_0 67 p22.2).bind fun p23 =>
          (zfI p23.2 r_0 25 41).bind fun x24 =>
          if zis G p23.2 r_0 26 = true then
            (hX26_isKind G r_0 x24 0 p23.2).bind fun p25 =>
            if p25.1 = 0 then
              hX26_select_134 G r_0 x_2 x21 p25.2
            else
              (zfA p25.2 r_0 25 3).bind fun r26 =>
              (zfI p25.2 r_0 25 41).bind fun x27 =>
              (ziald p25.2 r26 x27).bind fun x28 =>
              (hX26_in G x28 8 10 p25.2).bind fun p29 =>
              if p29.1 = 0 then
                hX26_select_134 G r_0 x_2 x21 p29.2
              else
                hX26_select_135 G r_0 x_2 x21 1 p29.2
          else none
        else none
    else none
  else none
def hX26_select (G : xQ) (o0 : Option Nat) (i1 : Int32) (σ : zS) : zF Unit :=
  if zis G σ o0 26 = true then
    (hX26_mustBe G o0 1 σ).bind fun p30 =>
    if ¬ p30.1 = 0 then
      if zis G p30.2 o0 26 = true then
        (hX26_passed G o0 p30.2).bind fun p31 =>
        if zis G p31.2 o0 26 = true then
          (hX26_make G o0 4 p31.1 i1 p31.2).bind fun p32 =>
          if zis G p32.2 o0 26 = true then
            (hX26_must G o0 6 p32.2).bind fun p33 =>
            if ¬ p33.1 = 0 then
              if zis G p33.2 o0 26 = true then
                (hX26_meets G o0 48 p33.2).bind fun p34 =>
                (zfI p34.2 o0 25 41).bind fun x35 =>
                if zis G p34.2 o0 26 = true then
                  (hX26_isKind G o0 x35 1 p34.2).bind fun p36 =>
                  if ¬ p36.1 = 0 then
                    hX26_select_72 G o0 p32.1 p36.2
                  else
                    (zfI p36.2 o0 25 41).bind fun x37 =>
                    if zis G p36.2 o0 26 = true then
                      (hX26_isKind G o0 x37 3 p36.2).bind fun p38 =>
                      if ¬ p38.1 = 0 then
                        hX26_select_72 G o0 p32.1 p38.2
                      else
                        (zfI p38.2 o0 25 41).bind fun x39 =>
                        if zis G p38.2 o0 26 = true then
                          (hX26_fail G o0 1 x39 p38.2).bind fun p40 =>
                          some ((), p40.2)
                        else none
                    else none
                else none
              else none
            else
              some ((), p33.2)
          else none
        else none
      else none
    else
      some ((), p30.2)
  else none
/-! MainframeHouse$Parser.period()V -/
def hX4_period (G : xQ) (o0 : Option Nat) (σ : zS) : zF (Unit ⊕ Nat) :=
  if zis G σ o0 41 = true then
    zcase (hX4_take G o0 4 σ) (fun p1 =>
      some (.inl (()), p1.2)) (fun p2 =>
      if zthr p2.2 p2.1 3 = true then
        some (.inr p2.1, p2.2)
      else none)
  else none
/-! MainframeHouse$Parser.part(LMainframeHouse$Parser$Node;)V -/
def hX4_part_346 (G : xQ)  (σ : zS) : zF (Unit ⊕ Nat) :=
  some (.inl (()), σ)
def hX4_part_306 (G : xQ) (r_0 : Option Nat) (r_1 : Option Nat) (x_2 : Int32) (x_s0 : Int32) (r_s1 : Option Nat) (σ : zS) : zF (Unit ⊕ Nat) :=
  if zis G σ r_s1 41 = true then
    zcase (hX4_must G r_s1 x_s0 σ) (fun p1 =>
      (znO p1.2 44 9).bind fun p2 =>
      (zfA p2.2 r_0 40 1).bind fun r3 =>
      (zfI p2.2 r_0 40 3).bind fun x4 =>
      (ziald p2.2 r3 x4).bind fun x5 =>
      if zis G p2.2 p2.1 45 = true then
        (hX43_init G p2.1 19 (x5 - (28 : Int32)) x_2 p2.2).bind fun p6 =>
        if zis G p6.2 r_1 45 = true then
          (hX43_add G r_1 p2.1 p6.2).bind fun p7 =>
          (zfI p7.2 r_0 40 3).bind fun x8 =>
          (zpI p7.2 r_0 40 3 (x8 + (1 : Int32))).bind fun σ9 =>
          hX4_part_346 G  σ9
        else none
      else none) (fun p10 =>
      if zthr p10.2 p10.1 3 = true then
        some (.inr p10.1, p10.2)
      else none)
  else none
def hX4_part_301 (G : xQ) (r_0 : Option Nat) (r_1 : Option Nat) (x_2 : Int32) (r_s0 : Option Nat) (σ : zS) : zF (Unit ⊕ Nat) :=
  hX4_part_306 G r_0 r_1 x_2 1 r_s0 σ
def hX4_part_226 (G : xQ)  (σ : zS) : zF (Unit ⊕ Nat) :=
  hX4_part_346 G  σ
def hX4_part_203 (G : xQ) (r_0 : Option Nat) (r_3 : Option Nat) (σ : zS) : zF (Unit ⊕ Nat) :=
  if zis G σ r_0 41 = true then
    (hX4_meets G r_0 10 σ).bind fun p11 =>
    if p11.1 = 0 then
      hX4_part_226 G  p11.2
    else
      if zis G p11.2 r_0 41 = true then
        (hX4_meets G r_0 25 p11.2).bind fun p12 =>
        if zis G p12.2 r_0 41 = true then
          zcase (hX4_names G r_0 r_3 17 p12.2) (fun p13 =>
            hX4_part_226 G  p13.2) (fun p14 =>
            if zthr p14.2 p14.1 3 = true then
              some (.inr p14.1, p14.2)
            else none)
        else none
      else none
  else none
def hX4_part_105 (G : xQ)  (σ : zS) : zF (Unit ⊕ Nat) :=
  hX4_part_346 G  σ
def hX4_part (G : xQ) (o0 : Option Nat) (o1 : Option Nat) (σ : zS) : zF (Unit ⊕ Nat) :=
  (zfI σ o0 40 3).bind fun x15 =>
  if zis G σ o0 41 = true then
    (hX4_meets G o0 19 σ).bind fun p16 =>
    if p16.1 = 0 then
      if zis G p16.2 o0 41 = true then
        (hX4_meets G o0 20 p16.2).bind fun p17 =>
        if p17.1 = 0 then
          if zis G p17.2 o0 41 = true then
            (hX4_meets G o0 22 p17.2).bind fun p18 =>
            if p18.1 = 0 then
              if zis G p18.2 o0 41 = true then
                (hX4_meets G o0 26 p18.2).bind fun p19 =>
                if p19.1 = 0 then
                  if zis G p19.2 o0 41 = true then
                    zcase (hX4_need G o0 27 p19.2) (fun p20 =>
                      if zis G p20.2 o0 41 = true then
                        (hX4_meets G o0 67 p20.2).bind fun p21 =>
                        (zfI p21.2 o0 40 3).bind fun x22 =>
                        if zis G p21.2 o0 41 = true then
                          (hX4_isWord G o0 x22 28 p21.2).bind fun p23 =>
                          if ¬ p23.1 = 0 then
                            hX4_part_301 G o0 o1 x15 o0 p23.2
                          else
                            (zfI p23.2 o0 40 3).bind fun x24 =>
                            if zis G p23.2 o0 41 = true then
                              (hX4_isWord G o0 x24 29 p23.2).bind fun p25 =>
                              if p25.1 = 0 then
                                hX4_part_306 G o0 o1 x15 0 o0 p25.2
                              else
                                hX4_part_301 G o0 o1 x15 o0 p25.2
                            else none
                        else none
                      else none) (fun p26 =>
                      if zthr p26.2 p26.1 3 = true then
                        some (.inr p26.1, p26.2)
                      else none)
                  else none
                else
                  (znO p19.2 44 9).bind fun p27 =>
                  if zis G p27.2 o0 41 = true then
                    zcase (hX4_take G o0 1 p27.2) (fun p28 =>
                      if zis G p28.2 p27.1 45 = true then
                        (hX43_init G p27.1 18 p28.1 x15 p28.2).bind fun p29 =>
                        if zis G p29.2 o1 45 = true then
                          (hX43_add G o1 p27.1 p29.2).bind fun p30 =>
                          hX4_part_346 G  p30.2
                        else none
                      else none) (fun p31 =>
                      if zthr p31.2 p31.1 3 = true then
                        some (.inr p31.1, p31.2)
                      else none)
                  else none
              else none
            else
              (znO p18.2 44 9).bind fun p32 =>
              if zis G p32.2 o0 41 = true then
                zcase (hX4_take G o0 2 p32.2) (fun p33 =>
                  if zis G p33.2 p32.1 45 = true then
                    (hX43_init G p32.1 15 p33.1 x15 p33.2).bind fun p34 =>
                    if zis G p34.2 o1 45 = true then
                      (hX43_add G o1 p32.1 p34.2).bind fun p35 =>
                      if zis G p35.2 o0 41 = true then
                        (hX4_meets G o0 23 p35.2).bind fun p36 =>
                        if zis G p36.2 o0 41 = true then
                          (hX4_meets G o0 24 p36.2).bind fun p37 =>
                          if p37.1 = 0 then
                            hX4_part_203 G o0 p35.1 p37.2
                          else
                            (zfI p37.2 o0 40 3).bind fun x38 =>
                            if zis G p37.2 o0 41 = true then
                              (hX4_isKind G o0 x38 1 p37.2).bind fun p39 =>
                              if zis G p39.2 o0 41 = true then
                                zcase (hX4_must G o0 p39.1 p39.2) (fun p40 =>
                                  (znO p40.2 44 9).bind fun p41 =>
                                  (zfA p41.2 o0 40 1).bind fun r42 =>
                                  (zfI p41.2 o0 40 3).bind fun x43 =>
                                  (ziald p41.2 r42 x43).bind fun x44 =>
                                  (zfI p41.2 o0 40 3).bind fun x45 =>
                                  if zis G p41.2 p41.1 45 = true then
                                    (hX43_init G p41.1 16 x44 x45 p41.2).bind fun p46 =>
                                    if zis G p46.2 p35.1 45 = true then
                                      (hX43_add G p35.1 p41.1 p46.2).bind fun p47 =>
                                      (zfI p47.2 o0 40 3).bind fun x48 =>
                                      (zpI p47.2 o0 40 3 (x48 + (1 : Int32))).bind fun σ49 =>
                                      hX4_part_203 G o0 p35.1 σ49
                                    else none
                                  else none) (fun p50 =>
                                  if zthr p50.2 p50.1 3 = true then
                                    some (.inr p50.1, p50.2)
                                  else none)
                              else none
                            else none
                        else none
                      else none
                    else none
                  else none) (fun p51 =>
                  if zthr p51.2 p51.1 3 = true then
                    some (.inr p51.1, p51.2)
                  else none)
              else none
          else none
        else
          if zis G p17.2 o0 41 = true then
            (hX4_meets G o0 67 p17.2).bind fun p52 =>
            (znO p52.2 44 9).bind fun p53 =>
            if zis G p53.2 p53.1 45 = true then
              (hX43_init G p53.1 14 0 x15 p53.2).bind fun p54 =>
              if zis G p54.2 o1 45 = true then
                (hX43_add G o1 p53.1 p54.2).bind fun p55 =>
                if zis G p55.2 o0 41 = true then
                  zcase (hX4_operand G o0 0 p55.2) (fun p56 =>
                    if zis G p56.2 p55.1 45 = true then
                      (hX43_add G p55.1 p56.1 p56.2).bind fun p57 =>
                      if zis G p57.2 o0 41 = true then
                        (hX4_meets G o0 21 p57.2).bind fun p58 =>
                        if p58.1 = 0 then
                          hX4_part_105 G  p58.2
                        else
                          if zis G p58.2 o0 41 = true then
                            zcase (hX4_operand G o0 0 p58.2) (fun p59 =>
                              if zis G p59.2 p55.1 45 = true then
                                (hX43_add G p55.1 p59.1 p59.2).bind fun p60 =>
                                hX4_part_105 G  p60.2
                              else none) (fun p61 =>
                              if zthr p61.2 p61.1 3 = true then
                                some (.inr p61.1, p61.2)
                              else none)
                          else none
                      else none
                    else none) (fun p62 =>
                    if zthr p62.2 p62.1 3 = true then
                      some (.inr p62.1, p62.2)
                    else none)
                else none
              else none
            else none
          else none
      else none
    else
      if zis G p16.2 o0 41 = true then
        (hX4_meets G o0 67 p16.2).bind fun p63 =>
        (znO p63.2 44 9).bind fun p64 =>
        if zis G p64.2 o0 41 = true then
          zcase (hX4_take G o0 3 p64.2) (fun p65 =>
            if zis G p65.2 p64.1 45 = true then
              (hX43_init G p64.1 13 p65.1 x15 p65.2).bind fun p66 =>
              if zis G p66.2 o1 45 = true then
                (hX43_add G o1 p64.1 p66.2).bind fun p67 =>
                hX4_part_346 G  p67.2
              else none
            else none) (fun p68 =>
            if zthr p68.2 p68.1 3 = true then
              some (.inr p68.1, p68.2)
            else none)
        else none
      else none
  else none
/-! MainframeHouse$Parser.named()V -/
def hX4_named_153 (G : xQ) (r_1 : Option Nat) (σ : zS) : zF (Unit ⊕ Nat) :=
  if zis G σ r_1 44 = true then
    (hX42_goOn G r_1 σ).bind fun p1 =>
    some (.inl (()), p1.2)
  else none
def hX4_named_136 (G : xQ) (r_1 : Option Nat) (x_2 : Int32) (x_3 : Int32) (r_s0 : Option Nat) (r_s1 : Option Nat) (σ : zS) : zF (Unit ⊕ Nat) :=
  (znO σ 44 9).bind fun p2 =>
  if zis G p2.2 p2.1 45 = true then
    (hX43_init G p2.1 24 x_3 x_2 p2.2).bind fun p3 =>
    if zis G p3.2 r_s0 45 = true then
      (hX43_add G r_s0 p2.1 p3.2).bind fun p4 =>
      (zpA p4.2 r_s1 43 11 p4.1).bind fun σ5 =>
      hX4_named_153 G r_1 σ5
    else none
  else none
def hX4_named_92 (G : xQ) (r_1 : Option Nat) (x_2 : Int32) (x_3 : Int32) (r_s0 : Option Nat) (r_s1 : Option Nat) (σ : zS) : zF (Unit ⊕ Nat) :=
  (znO σ 44 9).bind fun p6 =>
  if zis G p6.2 p6.1 45 = true then
    (hX43_init G p6.1 23 x_3 x_2 p6.2).bind fun p7 =>
    if zis G p7.2 r_s0 45 = true then
      (hX43_add G r_s0 p6.1 p7.2).bind fun p8 =>
      (zpA p8.2 r_s1 43 10 p8.1).bind fun σ9 =>
      (zpA σ9 r_1 43 11 none).bind fun σ10 =>
      hX4_named_153 G r_1 σ10
    else none
  else none
def hX4_named_59 (G : xQ) (r_0 : Option Nat) (r_1 : Option Nat) (x_2 : Int32) (x_3 : Int32) (x_4 : Int32) (x_s0 : Int32) (r_s1 : Option Nat) (σ : zS) : zF (Unit ⊕ Nat) :=
  if zis G σ r_s1 41 = true then
    zcase (hX4_must G r_s1 x_s0 σ) (fun p11 =>
      if zis G p11.2 r_0 41 = true then
        zcase (hX4_period G r_0 p11.2) (fun p12 =>
          if x_4 = 0 then
            (zfA p12.2 r_1 43 10).bind fun r13 =>
            if r13 = none then
              (zfA p12.2 r_1 43 8).bind fun r15 =>
              hX4_named_136 G r_1 x_2 x_3 r15 r_1 p12.2
            else
              (zfA p12.2 r_1 43 10).bind fun r14 =>
              hX4_named_136 G r_1 x_2 x_3 r14 r_1 p12.2
          else
            (zfI p12.2 r_1 43 3).bind fun x16 =>
            if ¬ x16 = (9 : Int32) then
              (zfA p12.2 r_1 43 8).bind fun r17 =>
              hX4_named_92 G r_1 x_2 x_3 r17 r_1 p12.2
            else
              (zfA p12.2 r_1 43 9).bind fun r18 =>
              hX4_named_92 G r_1 x_2 x_3 r18 r_1 p12.2) (fun p19 =>
          if zthr p19.2 p19.1 3 = true then
            some (.inr p19.1, p19.2)
          else none)
      else none) (fun p20 =>
      if zthr p20.2 p20.1 3 = true then
        some (.inr p20.1, p20.2)
      else none)
  else none
def hX4_named_54 (G : xQ) (r_0 : Option Nat) (r_1 : Option Nat) (x_2 : Int32) (x_3 : Int32) (x_4 : Int32) (r_s0 : Option Nat) (σ : zS) : zF (Unit ⊕ Nat) :=
  hX4_named_59 G r_0 r_1 x_2 x_3 x_4 1 r_s0 σ
def hX4_named (G : xQ) (o0 : Option Nat) (σ : zS) : zF (Unit ⊕ Nat) :=
  (zfA σ o0 40 11).bind fun r21 =>
  if zis G σ o0 41 = true then
    zcase (hX4_state G o0 8 11 σ) (fun p22 =>
      (zfI p22.2 o0 40 3).bind fun x23 =>
      if zis G p22.2 o0 41 = true then
        zcase (hX4_take G o0 1 p22.2) (fun p24 =>
          if zis G p24.2 o0 41 = true then
            (hX4_meets G o0 16 p24.2).bind fun p25 =>
            if ¬ p25.1 = 0 then
              hX4_named_54 G o0 r21 x23 p24.1 p25.1 o0 p25.2
            else
              (zfI p25.2 r21 43 3).bind fun x26 =>
              if ¬ x26 = (9 : Int32) then
                hX4_named_54 G o0 r21 x23 p24.1 p25.1 o0 p25.2
              else
                (zfA p25.2 r21 43 10).bind fun r27 =>
                if r27 = none then
                  hX4_named_59 G o0 r21 x23 p24.1 p25.1 0 o0 p25.2
                else
                  hX4_named_54 G o0 r21 x23 p24.1 p25.1 o0 p25.2
          else none) (fun p28 =>
          if zthr p28.2 p28.1 3 = true then
            some (.inr p28.1, p28.2)
          else none)
      else none) (fun p29 =>
      if zthr p29.2 p29.1 3 = true then
        some (.inr p29.1, p29.2)
      else none)
  else none
/-! MainframeHouse$Parser.relation()LMainframeHouse$Parser$Node; -/
def hX4_relation_98 (G : xQ) (r_0 : Option Nat) (r_3 : Option Nat) (σ : zS) : zF ((Option Nat) ⊕ Nat) :=
  if zis G σ r_0 41 = true then
    zcase (hX4_operand G r_0 1 σ) (fun p1 =>
      if zis G p1.2 r_3 45 = true then
        (hX43_add G r_3 p1.1 p1.2).bind fun p2 =>
        some (.inl (r_3), p2.2)
      else none) (fun p3 =>
      if zthr p3.2 p3.1 3 = true then
        some (.inr p3.1, p3.2)
      else none)
  else none
def hX4_relation_65 (G : xQ) (r_0 : Option Nat) (x_1 : Int32) (r_2 : Option Nat) (σ : zS) : zF ((Option Nat) ⊕ Nat) :=
  (znO σ 44 9).bind fun p4 =>
  (zfI p4.2 r_0 40 16).bind fun x5 =>
  if zis G p4.2 p4.1 45 = true then
    (hX43_init G p4.1 53 x5 x_1 p4.2).bind fun p6 =>
    (zfA p6.2 r_0 40 15).bind fun r7 =>
    (zpA p6.2 p4.1 44 7 r7).bind fun σ8 =>
    if r_2 = none then
      hX4_relation_98 G r_0 p4.1 σ8
    else
      if zis G σ8 p4.1 45 = true then
        (hX43_add G p4.1 r_2 σ8).bind fun p9 =>
        hX4_relation_98 G r_0 p4.1 p9.2
      else none
  else none
def hX4_relation_27 (G : xQ) (r_0 : Option Nat) (x_1 : Int32) (r_2 : Option Nat) (x_s0 : Int32) (r_s1 : Option Nat) (σ : zS) : zF ((Option Nat) ⊕ Nat) :=
  if zis G σ r_s1 41 = true then
    zcase (hX4_must G r_s1 x_s0 σ) (fun p10 =>
      if zis G p10.2 r_0 41 = true then
        zcase (hX4_compare G r_0 p10.2) (fun p11 =>
          hX4_relation_65 G r_0 x_1 r_2 p11.2) (fun p12 =>
          if zthr p12.2 p12.1 3 = true then
            some (.inr p12.1, p12.2)
          else none)
      else none) (fun p13 =>
      if zthr p13.2 p13.1 3 = true then
        some (.inr p13.1, p13.2)
      else none)
  else none
def hX4_relation (G : xQ) (o0 : Option Nat) (σ : zS) : zF ((Option Nat) ⊕ Nat) :=
  (zfI σ o0 40 3).bind fun x14 =>
  if zis G σ o0 41 = true then
    (hX4_compares G o0 σ).bind fun p15 =>
    if p15.1 = 0 then
      if zis G p15.2 o0 41 = true then
        zcase (hX4_operand G o0 1 p15.2) (fun p16 =>
          if zis G p16.2 o0 41 = true then
            (hX4_compares G o0 p16.2).bind fun p17 =>
            if ¬ p17.1 = 0 then
              (zpA p17.2 o0 40 15 p16.1).bind fun σ18 =>
              if zis G σ18 o0 41 = true then
                zcase (hX4_compare G o0 σ18) (fun p19 =>
                  hX4_relation_65 G o0 x14 p16.1 p19.2) (fun p20 =>
                  if zthr p20.2 p20.1 3 = true then
                    some (.inr p20.1, p20.2)
                  else none)
              else none
            else
              if zis G p17.2 o0 41 = true then
                zcase (hX4_alone G o0 p16.1 p17.2) (fun p21 =>
                  some (.inl (p21.1), p21.2)) (fun p22 =>
                  if zthr p22.2 p22.1 3 = true then
                    some (.inr p22.1, p22.2)
                  else none)
              else none
          else none) (fun p23 =>
          if zthr p23.2 p23.1 3 = true then
            some (.inr p23.1, p23.2)
          else none)
      else none
    else
      (zfA p15.2 o0 40 15).bind fun r24 =>
      if r24 = none then
        hX4_relation_27 G o0 x14 none 0 o0 p15.2
      else
        hX4_relation_27 G o0 x14 none 1 o0 p15.2
  else none
/-! MainframeHouse$Parser.second(I)V -/
def hX4_second (G : xQ) (o0 : Option Nat) (i1 : Int32) (σ : zS) : zF (Unit ⊕ Nat) :=
  (zfI σ o0 40 3).bind fun x1 =>
  (zpI σ o0 40 3 (x1 + (1 : Int32))).bind fun σ2 =>
  if zis G σ2 o0 41 = true then
    zcase (hX4_need G o0 i1 σ2) (fun p3 =>
      if zis G p3.2 o0 41 = true then
        zcase (hX4_period G o0 p3.2) (fun p4 =>
          some (.inl (()), p4.2)) (fun p5 =>
          if zthr p5.2 p5.1 3 = true then
            some (.inr p5.1, p5.2)
          else none)
      else none) (fun p6 =>
      if zthr p6.2 p6.1 3 = true then
        some (.inr p6.1, p6.2)
      else none)
  else none
/-! MainframeHouse$Parser.select()LMainframeHouse$Parser$Node; -/
def hX4_select_221 (G : xQ) (r_0 : Option Nat) (r_2 : Option Nat) (σ : zS) : zF ((Option Nat) ⊕ Nat) :=
  if zis G σ r_0 41 = true then
    zcase (hX4_period G r_0 σ) (fun p1 =>
      some (.inl (r_2), p1.2)) (fun p2 =>
      if zthr p2.2 p2.1 3 = true then
        some (.inr p2.1, p2.2)
      else none)
  else none
def hX4_select_180 (G : xQ) (r_0 : Option Nat) (r_2 : Option Nat) (σ : zS) : zF ((Option Nat) ⊕ Nat) :=
  (zfI σ r_0 40 3).bind fun x3 =>
  if zis G σ r_0 41 = true then
    (hX4_meets G r_0 11 σ).bind fun p4 =>
    if p4.1 = 0 then
      hX4_select_221 G r_0 r_2 p4.2
    else
      if zis G p4.2 r_0 41 = true then
        (hX4_meets G r_0 67 p4.2).bind fun p5 =>
        (znO p5.2 44 9).bind fun p6 =>
        if zis G p6.2 r_0 41 = true then
          zcase (hX4_take G r_0 1 p6.2) (fun p7 =>
            if zis G p7.2 p6.1 45 = true then
              (hX43_init G p6.1 6 p7.1 x3 p7.2).bind fun p8 =>
              if zis G p8.2 r_2 45 = true then
                (hX43_add G r_2 p6.1 p8.2).bind fun p9 =>
                hX4_select_221 G r_0 r_2 p9.2
              else none
            else none) (fun p10 =>
            if zthr p10.2 p10.1 3 = true then
              some (.inr p10.1, p10.2)
            else none)
        else none
      else none
  else none
def hX4_select_141 (G : xQ) (r_0 : Option Nat) (r_2 : Option Nat) (x_3 : Int32) (x_s0 : Int32) (r_s1 : Option Nat) (σ : zS) : zF ((Option Nat) ⊕ Nat) :=
  if zis G σ r_s1 41 = true then
    zcase (hX4_must G r_s1 x_s0 σ) (fun p11 =>
      (znO p11.2 44 9).bind fun p12 =>
      (zfA p12.2 r_0 40 1).bind fun r13 =>
      (zfI p12.2 r_0 40 3).bind fun x14 =>
      (ziald p12.2 r13 x14).bind fun x15 =>
      if zis G p12.2 p12.1 45 = true then
        (hX43_init G p12.1 5 (x15 - (8 : Int32)) x_3 p12.2).bind fun p16 =>
        if zis G p16.2 r_2 45 = true then
          (hX43_add G r_2 p12.1 p16.2).bind fun p17 =>
          (zfI p17.2 r_0 40 3).bind fun x18 =>
          (zpI p17.2 r_0 40 3 (x18 + (1 : Int32))).bind fun σ19 =>
          hX4_select_180 G r_0 r_2 σ19
        else none
      else none) (fun p20 =>
      if zthr p20.2 p20.1 3 = true then
        some (.inr p20.1, p20.2)
      else none)
  else none
def hX4_select_140 (G : xQ) (r_0 : Option Nat) (r_2 : Option Nat) (x_3 : Int32) (r_s0 : Option Nat) (σ : zS) : zF ((Option Nat) ⊕ Nat) :=
  hX4_select_141 G r_0 r_2 x_3 0 r_s0 σ
def hX4_select_61 (G : xQ) (r_0 : Option Nat) (r_2 : Option Nat) (x_s0 : Int32) (r_s1 : Option Nat) (σ : zS) : zF ((Option Nat) ⊕ Nat) :=
  if zis G σ r_s1 41 = true then
    zcase (hX4_must G r_s1 x_s0 σ) (fun p21 =>
      if zis G p21.2 r_0 41 = true then
        zcase (hX4_operand G r_0 1 p21.2) (fun p22 =>
          if zis G p22.2 r_2 45 = true then
            (hX43_add G r_2 p22.1 p22.2).bind fun p23 =>
            (zfI p23.2 r_0 40 3).bind fun x24 =>
            if zis G p23.2 r_0 41 = true then
              (hX4_meets G r_0 7 p23.2).bind fun p25 =>
              if p25.1 = 0 then
                hX4_select_180 G r_0 r_2 p25.2
              else
                if zis G p25.2 r_0 41 = true then
                  (hX4_meets G r_0 67 p25.2).bind fun p26 =>
                  (zfI p26.2 r_0 40 3).bind fun x27 =>
                  if zis G p26.2 r_0 41 = true then
                    (hX4_isKind G r_0 x27 0 p26.2).bind fun p28 =>
                    if p28.1 = 0 then
                      hX4_select_140 G r_0 r_2 x24 r_0 p28.2
                    else
                      (zfA p28.2 r_0 40 1).bind fun r29 =>
                      (zfI p28.2 r_0 40 3).bind fun x30 =>
                      (ziald p28.2 r29 x30).bind fun x31 =>
                      if x31 < (8 : Int32) then
                        hX4_select_140 G r_0 r_2 x24 r_0 p28.2
                      else
                        (zfA p28.2 r_0 40 1).bind fun r32 =>
                        (zfI p28.2 r_0 40 3).bind fun x33 =>
                        (ziald p28.2 r32 x33).bind fun x34 =>
                        if (10 : Int32) < x34 then
                          hX4_select_140 G r_0 r_2 x24 r_0 p28.2
                        else
                          hX4_select_141 G r_0 r_2 x24 1 r_0 p28.2
                  else none
                else none
            else none
          else none) (fun p35 =>
          if zthr p35.2 p35.1 3 = true then
            some (.inr p35.1, p35.2)
          else none)
      else none) (fun p36 =>
      if zthr p36.2 p36.1 3 = true then
        some (.inr p36.1, p36.2)
      else none)
  else none
def hX4_select (G : xQ) (o0 : Option Nat) (σ : zS) : zF ((Option Nat) ⊕ Nat) :=
  (zfI σ o0 40 3).bind fun x37 =>
  (zfI σ o0 40 3).bind fun x38 =>
  (zpI σ o0 40 3 (x38 + (1 : Int32))).bind fun σ39 =>
  (znO σ39 44 9).bind fun p40 =>
  if zis G p40.2 o0 41 = true then
    zcase (hX4_take G o0 1 p40.2) (fun p41 =>
      if zis G p41.2 p40.1 45 = true then
        (hX43_init G p40.1 4 p41.1 x37 p41.2).bind fun p42 =>
        if zis G p42.2 o0 41 = true then
          zcase (hX4_need G o0 6 p42.2) (fun p43 =>
            if zis G p43.2 o0 41 = true then
              (hX4_meets G o0 48 p43.2).bind fun p44 =>
              (zfI p44.2 o0 40 3).bind fun x45 =>
              if zis G p44.2 o0 41 = true then
                (hX4_isKind G o0 x45 2 p44.2).bind fun p46 =>
                if ¬ p46.1 = 0 then
                  hX4_select_61 G o0 p40.1 0 o0 p46.2
                else
                  hX4_select_61 G o0 p40.1 1 o0 p46.2
              else none
            else none) (fun p47 =>
            if zthr p47.2 p47.1 3 = true then
              some (.inr p47.1, p47.2)
            else none)
        else none
      else none) (fun p48 =>
      if zthr p48.2 p48.1 3 = true then
        some (.inr p48.1, p48.2)
      else none)
  else none
/-! MainframeHouse$Parser.end()V -/
def hX4_end_101 (G : xQ) (r_0 : Option Nat) (r_1 : Option Nat) (σ : zS) : zF (Unit ⊕ Nat) :=
  (zfA σ r_1 43 0).bind fun r1 =>
  (zpA σ r_0 40 11 r1).bind fun σ2 =>
  (zfI σ2 r_0 40 8).bind fun x3 =>
  (zpI σ2 r_0 40 8 (x3 - (1 : Int32))).bind fun σ4 =>
  some (.inl (()), σ4)
def hX4_end_66 (G : xQ) (r_0 : Option Nat) (r_1 : Option Nat) (x_s0 : Int32) (r_s1 : Option Nat) (σ : zS) : zF (Unit ⊕ Nat) :=
  if zis G σ r_s1 41 = true then
    zcase (hX4_need G r_s1 x_s0 σ) (fun p5 =>
      (zfI p5.2 r_0 40 3).bind fun x6 =>
      if zis G p5.2 r_0 41 = true then
        zcase (hX4_take G r_0 1 p5.2) (fun p7 =>
          if zis G p7.2 r_0 41 = true then
            zcase (hX4_period G r_0 p7.2) (fun p8 =>
              (zfA p8.2 r_1 43 1).bind fun r9 =>
              (zfI p8.2 r9 44 1).bind fun x10 =>
              if p7.1 = x10 then
                hX4_end_101 G r_0 r_1 p8.2
              else
                if zis G p8.2 r_0 41 = true then
                  (hX4_note G r_0 2 x6 p8.2).bind fun p11 =>
                  hX4_end_101 G r_0 r_1 p11.2
                else none) (fun p12 =>
              if zthr p12.2 p12.1 3 = true then
                some (.inr p12.1, p12.2)
              else none)
          else none) (fun p13 =>
          if zthr p13.2 p13.1 3 = true then
            some (.inr p13.1, p13.2)
          else none)
      else none) (fun p14 =>
      if zthr p14.2 p14.1 3 = true then
        some (.inr p14.1, p14.2)
      else none)
  else none
def hX4_end (G : xQ) (o0 : Option Nat) (σ : zS) : zF (Unit ⊕ Nat) :=
  (zfA σ o0 40 11).bind fun r15 =>
  (zfI σ o0 40 3).bind fun x16 =>
  (zpI σ o0 40 3 (x16 + (1 : Int32))).bind fun σ17 =>
  (zfI σ17 r15 43 3).bind fun x18 =>
  if ¬ x18 = (9 : Int32) then
    if zis G σ17 r15 44 = true then
      (hX42_isFunction G r15 σ17).bind fun p19 =>
      if p19.1 = 0 then
        hX4_end_66 G o0 r15 34 o0 p19.2
      else
        hX4_end_66 G o0 r15 35 o0 p19.2
    else none
  else
    if zis G σ17 o0 41 = true then
      zcase (hX4_need G o0 32 σ17) (fun p20 =>
        if zis G p20.2 o0 41 = true then
          zcase (hX4_period G o0 p20.2) (fun p21 =>
            (zpA p21.2 r15 43 10 none).bind fun σ22 =>
            (zpA σ22 r15 43 11 none).bind fun σ23 =>
            (zpI σ23 r15 43 3 (10 : Int32)).bind fun σ24 =>
            some (.inl (()), σ24)) (fun p25 =>
            if zthr p25.2 p25.1 3 = true then
              some (.inr p25.1, p25.2)
            else none)
        else none) (fun p26 =>
        if zthr p26.2 p26.1 3 = true then
          some (.inr p26.1, p26.2)
        else none)
    else none
/-! MainframeHouseModel$Parser.literal(I)V -/
def hX26_literal_42 (G : xQ)  (σ : zS) : zF Unit :=
  some ((), σ)
def hX26_literal_37 (G : xQ) (r_0 : Option Nat) (x_1 : Int32) (σ : zS) : zF Unit :=
  if zis G σ r_0 26 = true then
    (hX26_operandOf G r_0 x_1 σ).bind fun p1 =>
    hX26_literal_42 G  p1.2
  else none
def hX26_literal (G : xQ) (o0 : Option Nat) (i1 : Int32) (σ : zS) : zF Unit :=
  (zfI σ o0 25 41).bind fun x2 =>
  if zis G σ o0 26 = true then
    (hX26_isKind G o0 x2 2 σ).bind fun p3 =>
    if ¬ p3.1 = 0 then
      hX26_literal_37 G o0 i1 p3.2
    else
      (zfI p3.2 o0 25 41).bind fun x4 =>
      if zis G p3.2 o0 26 = true then
        (hX26_isKind G o0 x4 3 p3.2).bind fun p5 =>
        if ¬ p5.1 = 0 then
          hX26_literal_37 G o0 i1 p5.2
        else
          (zfI p5.2 o0 25 41).bind fun x6 =>
          if zis G p5.2 o0 26 = true then
            (hX26_fail G o0 1 x6 p5.2).bind fun p7 =>
            hX26_literal_42 G  p7.2
          else none
      else none
  else none
/-! MainframeHouseModel$Parser.asked(IIIII)V -/
def hX26_asked_53 (G : xQ)  (σ : zS) : zF Unit :=
  some ((), σ)
def hX26_asked_41 (G : xQ) (r_0 : Option Nat) (x_1 : Int32) (x_s0 : Int32) (σ : zS) : zF Unit :=
  if x_s0 = 0 then
    hX26_asked_53 G  σ
  else
    if zis G σ r_0 26 = true then
      (hX26_list G r_0 x_1 σ).bind fun p1 =>
      hX26_asked_53 G  p1.2
    else none
def hX26_asked_36 (G : xQ) (r_0 : Option Nat) (x_1 : Int32) (σ : zS) : zF Unit :=
  hX26_asked_41 G r_0 x_1 1 σ
def hX26_asked_12 (G : xQ) (r_0 : Option Nat) (x_1 : Int32) (x_5 : Int32) (σ : zS) : zF Unit :=
  if zis G σ r_0 26 = true then
    (hX26_scope G r_0 x_1 x_5 0 σ).bind fun p2 =>
    some ((), p2.2)
  else none
def hX26_asked (G : xQ) (o0 : Option Nat) (i1 : Int32) (i2 : Int32) (i3 : Int32) (i4 : Int32) (i5 : Int32) (σ : zS) : zF Unit :=
  if 0 < i2 then
    hX26_asked_12 G o0 i1 i5 σ
  else
    if zis G σ o0 26 = true then
      (hX26_meets G o0 i3 σ).bind fun p3 =>
      if ¬ p3.1 = 0 then
        if i4 = (-1 : Int32) then
          hX26_asked_36 G o0 i1 p3.2
        else
          if zis G p3.2 o0 26 = true then
            (hX26_must G o0 i4 p3.2).bind fun p4 =>
            if p4.1 = 0 then
              hX26_asked_41 G o0 i1 0 p4.2
            else
              hX26_asked_36 G o0 i1 p4.2
          else none
      else
        hX26_asked_12 G o0 i1 i5 p3.2
    else none
/-! MainframeHouseModel$Parser.factor()I -/
def hX26_factor_36 (G : xQ) (r_0 : Option Nat) (σ : zS) : zF Int32 :=
  (zfI σ r_0 25 41).bind fun x1 =>
  if zis G σ r_0 26 = true then
    (hX26_isSign G r_0 x1 0 σ).bind fun p2 =>
    if p2.1 = 0 then
      if zis G p2.2 r_0 26 = true then
        (hX26_isBehind G r_0 p2.2).bind fun p3 =>
        if p3.1 = 0 then
          if zis G p3.2 r_0 26 = true then
            (hX26_operand G r_0 p3.2).bind fun p4 =>
            (zfI p4.2 r_0 25 43).bind fun x5 =>
            if x5 = 0 then
              if zis G p4.2 r_0 26 = true then
                (hX26_isBehind G r_0 p4.2).bind fun p6 =>
                if p6.1 = 0 then
                  (zfI p6.2 r_0 25 55).bind fun x7 =>
                  if x7 ≤ 0 then
                    (zfI p6.2 r_0 25 41).bind fun x8 =>
                    if zis G p6.2 r_0 26 = true then
                      (hX26_isKind G r_0 (x8 - (1 : Int32)) 1 p6.2).bind fun p9 =>
                      if ¬ p9.1 = 0 then
                        (zfA p9.2 r_0 25 9).bind fun r10 =>
                        (ziast p9.2 r10 p4.1 (54 : Int32)).bind fun σ11 =>
                        (zfA σ11 r_0 25 10).bind fun r12 =>
                        if zis G σ11 r_0 26 = true then
                          (hX26_passed G r_0 σ11).bind fun p13 =>
                          (ziast p13.2 r12 p4.1 p13.1).bind fun σ14 =>
                          some (p4.1, σ14)
                        else none
                      else
                        (zfI p9.2 r_0 25 41).bind fun x15 =>
                        if zis G p9.2 r_0 26 = true then
                          (hX26_fail G r_0 1 x15 p9.2).bind fun p16 =>
                          some (0, p16.2)
                        else none
                    else none
                  else
                    (zfI p6.2 r_0 25 56).bind fun x17 =>
                    (zfA p6.2 r_0 25 11).bind fun r18 =>
                    (ziald p6.2 r18 p4.1).bind fun x19 =>
                    if zis G p6.2 r_0 26 = true then
                      (hX26_make G r_0 53 x17 x19 p6.2).bind fun p20 =>
                      (zfA p20.2 r_0 25 12).bind fun r21 =>
                      (zfI p20.2 r_0 25 55).bind fun x22 =>
                      (ziast p20.2 r21 p20.1 x22).bind fun σ23 =>
                      if zis G σ23 r_0 26 = true then
                        (hX26_attach G r_0 p20.1 p4.1 σ23).bind fun p24 =>
                        some (p20.1, p24.2)
                      else none
                    else none
                else
                  (zfA p6.2 r_0 25 11).bind fun r25 =>
                  (ziald p6.2 r25 p4.1).bind fun x26 =>
                  if zis G p6.2 r_0 26 = true then
                    (hX26_make G r_0 53 0 x26 p6.2).bind fun p27 =>
                    if zis G p27.2 r_0 26 = true then
                      (hX26_attach G r_0 p27.1 p4.1 p27.2).bind fun p28 =>
                      (zfA p28.2 r_0 25 12).bind fun r29 =>
                      (ziast p28.2 r29 p27.1 p4.1).bind fun σ30 =>
                      (zpI σ30 r_0 25 55 p4.1).bind fun σ31 =>
                      if zis G σ31 r_0 26 = true then
                        (hX26_compare G r_0 p27.1 σ31).bind fun p32 =>
                        some (p27.1, p32.2)
                      else none
                    else none
                  else none
              else none
            else
              some (0, p4.2)
          else none
        else
          (zfI p3.2 r_0 25 55).bind fun x33 =>
          if ¬ x33 = 0 then
            (zfI p3.2 r_0 25 41).bind fun x34 =>
            if zis G p3.2 r_0 26 = true then
              (hX26_make G r_0 53 0 x34 p3.2).bind fun p35 =>
              (zfA p35.2 r_0 25 12).bind fun r36 =>
              (zfI p35.2 r_0 25 55).bind fun x37 =>
              (ziast p35.2 r36 p35.1 x37).bind fun σ38 =>
              if zis G σ38 r_0 26 = true then
                (hX26_compare G r_0 p35.1 σ38).bind fun p39 =>
                some (p35.1, p39.2)
              else none
            else none
          else
            (zfI p3.2 r_0 25 41).bind fun x40 =>
            if zis G p3.2 r_0 26 = true then
              (hX26_fail G r_0 1 x40 p3.2).bind fun p41 =>
              some (0, p41.2)
            else none
      else none
    else
      if zis G p2.2 r_0 26 = true then
        (hX26_deeper G r_0 ((-1)) p2.2).bind fun p42 =>
        if zis G p42.2 r_0 26 = true then
          (hX26_joint G r_0 p42.2).bind fun p43 =>
          some (0, p43.2)
        else none
      else none
  else none
def hX26_factor (G : xQ) (o0 : Option Nat) (σ : zS) : zF Int32 :=
  (zfI σ o0 25 41).bind fun x44 =>
  if zis G σ o0 26 = true then
    (hX26_isWord G o0 x44 64 σ).bind fun p45 =>
    if p45.1 = 0 then
      hX26_factor_36 G o0 p45.2
    else
      (zfI p45.2 o0 25 41).bind fun x46 =>
      if zis G p45.2 o0 26 = true then
        (hX26_isComparing G o0 (x46 + (1 : Int32)) p45.2).bind fun p47 =>
        if ¬ p47.1 = 0 then
          hX26_factor_36 G o0 p47.2
        else
          (zfI p47.2 o0 25 41).bind fun x48 =>
          if zis G p47.2 o0 26 = true then
            (hX26_deeper G o0 x48 p47.2).bind fun p49 =>
            some (0, p49.2)
          else none
      else none
  else none
/-! MainframeHouseModel$Parser.compute(I)V -/
def hX26_compute_90 (G : xQ) (x_s0 : Int32) (x_s1 : Int32) (r_s2 : Option Nat) (σ : zS) : zF Unit :=
  (ziast σ r_s2 x_s1 x_s0).bind fun σ1 =>
  some ((), σ1)
def hX26_compute (G : xQ) (o0 : Option Nat) (i1 : Int32) (σ : zS) : zF Unit :=
  if zis G σ o0 26 = true then
    (hX26_mustBe G o0 1 σ).bind fun p2 =>
    if ¬ p2.1 = 0 then
      (zfA p2.2 o0 25 10).bind fun r3 =>
      if zis G p2.2 o0 26 = true then
        (hX26_passed G o0 p2.2).bind fun p4 =>
        (ziast p4.2 r3 i1 p4.1).bind fun σ5 =>
        (zfI σ5 o0 25 41).bind fun x6 =>
        if zis G σ5 o0 26 = true then
          (hX26_isSign G o0 x6 2 σ5).bind fun p7 =>
          if ¬ p7.1 = 0 then
            (zfI p7.2 o0 25 41).bind fun x8 =>
            (zpI p7.2 o0 25 41 (x8 + (1 : Int32))).bind fun σ9 =>
            if zis G σ9 o0 26 = true then
              (hX26_sum G o0 σ9).bind fun p10 =>
              (zfI p10.2 o0 25 43).bind fun x11 =>
              if x11 = 0 then
                if zis G p10.2 o0 26 = true then
                  (hX26_attach G o0 i1 p10.1 p10.2).bind fun p12 =>
                  (zfA p12.2 o0 25 12).bind fun r13 =>
                  if zis G p12.2 o0 26 = true then
                    (hX26_meets G o0 78 p12.2).bind fun p14 =>
                    if p14.1 = 0 then
                      hX26_compute_90 G 0 i1 r13 p14.2
                    else
                      hX26_compute_90 G 1 i1 r13 p14.2
                  else none
                else none
              else
                some ((), p10.2)
            else none
          else
            (zfI p7.2 o0 25 41).bind fun x15 =>
            if zis G p7.2 o0 26 = true then
              (hX26_fail G o0 1 x15 p7.2).bind fun p16 =>
              some ((), p16.2)
            else none
        else none
      else none
    else
      some ((), p2.2)
  else none
/-! MainframeHouse$Parser.begin()V -/
def hX4_begin_143 (G : xQ) (r_0 : Option Nat) (r_1 : Option Nat) (σ : zS) : zF (Unit ⊕ Nat) :=
  (zpA σ r_0 40 11 r_1).bind fun σ1 =>
  (zfA σ1 r_0 40 12).bind fun r2 =>
  (zLadd σ1 r2 r_1).bind fun p3 =>
  (zfI p3.2 r_0 40 8).bind fun x4 =>
  (zpI p3.2 r_0 40 8 (x4 + (1 : Int32))).bind fun σ5 =>
  some (.inl (()), σ5)
def hX4_begin_54 (G : xQ) (r_0 : Option Nat) (σ : zS) : zF (Unit ⊕ Nat) :=
  (znO σ 43 14).bind fun p6 =>
  (zfA p6.2 r_0 40 11).bind fun r7 =>
  (zfI p6.2 r_0 40 3).bind fun x8 =>
  if zis G p6.2 p6.1 44 = true then
    (hX42_init G p6.1 r7 x8 p6.2).bind fun p9 =>
    (zfI p9.2 r_0 40 3).bind fun x10 =>
    (zpI p9.2 r_0 40 3 (x10 + (1 : Int32))).bind fun σ11 =>
    if zis G σ11 r_0 41 = true then
      zcase (hX4_need G r_0 1 σ11) (fun p12 =>
        if zis G p12.2 r_0 41 = true then
          zcase (hX4_period G r_0 p12.2) (fun p13 =>
            (zfA p13.2 r_0 40 11).bind fun r14 =>
            if r14 = none then
              (zfA p13.2 r_0 40 13).bind fun r23 =>
              (zfA p13.2 p6.1 43 1).bind fun r24 =>
              (zLadd p13.2 r23 r24).bind fun p25 =>
              hX4_begin_143 G r_0 p6.1 p25.2
            else
              (zfA p13.2 r_0 40 11).bind fun r15 =>
              (zpI p13.2 r15 43 3 (12 : Int32)).bind fun σ16 =>
              (zfA σ16 r_0 40 11).bind fun r17 =>
              (zpN σ16 r17 43 2 .boolean 1).bind fun σ18 =>
              (zfA σ18 r_0 40 11).bind fun r19 =>
              (zfA σ18 r19 43 1).bind fun r20 =>
              (zfA σ18 p6.1 43 1).bind fun r21 =>
              if zis G σ18 r20 45 = true then
                (hX43_add G r20 r21 σ18).bind fun p22 =>
                hX4_begin_143 G r_0 p6.1 p22.2
              else none) (fun p26 =>
            if zthr p26.2 p26.1 3 = true then
              some (.inr p26.1, p26.2)
            else none)
        else none) (fun p27 =>
        if zthr p27.2 p27.1 3 = true then
          some (.inr p27.1, p27.2)
        else none)
    else none
  else none
def hX4_begin_33 (G : xQ) (r_0 : Option Nat) (x_s0 : Int32) (r_s1 : Option Nat) (σ : zS) : zF (Unit ⊕ Nat) :=
  if zis G σ r_s1 41 = true then
    zcase (hX4_must G r_s1 x_s0 σ) (fun p28 =>
      (zfI p28.2 r_0 40 8).bind fun x29 =>
      if ¬ x29 = (10 : Int32) then
        hX4_begin_54 G r_0 p28.2
      else
        (zfI p28.2 r_0 40 3).bind fun x30 =>
        if zis G p28.2 r_0 41 = true then
          zcase (hX4_fails G r_0 x30 3 p28.2) (fun p31 =>
            hX4_begin_54 G r_0 p31.2) (fun p32 =>
            if zthr p32.2 p32.1 3 = true then
              some (.inr p32.1, p32.2)
            else none)
        else none) (fun p33 =>
      if zthr p33.2 p33.1 3 = true then
        some (.inr p33.1, p33.2)
      else none)
  else none
def hX4_begin_32 (G : xQ) (r_0 : Option Nat) (r_s0 : Option Nat) (σ : zS) : zF (Unit ⊕ Nat) :=
  hX4_begin_33 G r_0 0 r_s0 σ
def hX4_begin_28 (G : xQ) (r_0 : Option Nat) (r_s0 : Option Nat) (σ : zS) : zF (Unit ⊕ Nat) :=
  hX4_begin_33 G r_0 1 r_s0 σ
def hX4_begin (G : xQ) (o0 : Option Nat) (σ : zS) : zF (Unit ⊕ Nat) :=
  (zfA σ o0 40 11).bind fun r34 =>
  if r34 = none then
    hX4_begin_28 G o0 o0 σ
  else
    (zfA σ o0 40 11).bind fun r35 =>
    if zis G σ r35 44 = true then
      (hX42_isFunction G r35 σ).bind fun p36 =>
      if ¬ p36.1 = 0 then
        hX4_begin_32 G o0 o0 p36.2
      else
        (zfA p36.2 o0 40 11).bind fun r37 =>
        if zis G p36.2 r37 44 = true then
          (hX42_canEnd G r37 p36.2).bind fun p38 =>
          if p38.1 = 0 then
            hX4_begin_32 G o0 o0 p38.2
          else
            hX4_begin_28 G o0 o0 p38.2
        else none
    else none
/-! MainframeHouse$Parser.item()V -/
def hX4_item_335b (G : xQ) (r_1 : Option Nat) (x_5 : Int32) (r_8 : Option Nat) (σ : zS) : zF (((Option Nat) × Int32 × (Option Nat)) ⊕ (Unit ⊕ Nat)) :=
  (zfA σ r_1 43 13).bind fun r1 =>
  (zLsize σ r1).bind fun x2 =>
  if x2 ≤ x_5 then
    zinr (
      (zfA σ r_1 43 13).bind fun r3 =>
      (zLadd σ r3 r_8).bind fun p4 =>
      (zpA p4.2 r_1 43 12 r_8).bind fun σ5 =>
      some (.inl (()), σ5))
  else
    (zfA σ r_1 43 13).bind fun r6 =>
    (zfA σ r_1 43 13).bind fun r7 =>
    (zLsize σ r7).bind fun x8 =>
    (zLrem σ r6 (x8 - (1 : Int32))).bind fun p9 =>
    some (.inl (r_1, x_5, r_8), p9.2)
def hX4_item_335 (G : xQ) (r_1 : Option Nat) (x_5 : Int32) (r_8 : Option Nat) (σ : zS) : zF (Unit ⊕ Nat) := zloop (fun (a : ((Option Nat) × Int32 × (Option Nat))) σ => hX4_item_335b G a.1 a.2.1 a.2.2 σ) xLim (r_1, x_5, r_8) σ
def hX4_item_295b (G : xQ) (r_0 : Option Nat) (r_1 : Option Nat) (x_3 : Int32) (x_5 : Int32) (r_6 : Option Nat) (r_8 : Option Nat) (σ : zS) : zF (((Option Nat) × (Option Nat) × Int32 × Int32 × (Option Nat) × (Option Nat)) ⊕ (Unit ⊕ Nat)) :=
  (zfI σ r_0 40 3).bind fun x10 =>
  if zis G σ r_0 41 = true then
    (hX4_isKind G r_0 x10 4 σ).bind fun p11 =>
    if ¬ p11.1 = 0 then
      zinr (
        if zis G p11.2 r_0 41 = true then
          zcase (hX4_period G r_0 p11.2) (fun p12 =>
            if zis G p12.2 r_6 45 = true then
              (hX43_add G r_6 r_8 p12.2).bind fun p13 =>
              if ¬ x_3 = (88 : Int32) then
                hX4_item_335 G r_1 x_5 r_8 p13.2
              else
                some (.inl (()), p13.2)
            else none) (fun p14 =>
            if zthr p14.2 p14.1 3 = true then
              some (.inr p14.1, p14.2)
            else none)
        else none)
    else
      if zis G p11.2 r_0 41 = true then
        zcase (hX4_part G r_0 r_8 p11.2) (fun p15 =>
          some (.inl (r_0, r_1, x_3, x_5, r_6, r_8), p15.2)) (fun p16 =>
          if zthr p16.2 p16.1 3 = true then
            some (.inr (.inr p16.1), p16.2)
          else none)
      else none
  else none
def hX4_item_295 (G : xQ) (r_0 : Option Nat) (r_1 : Option Nat) (x_3 : Int32) (x_5 : Int32) (r_6 : Option Nat) (r_8 : Option Nat) (σ : zS) : zF (Unit ⊕ Nat) := zloop (fun (a : ((Option Nat) × (Option Nat) × Int32 × Int32 × (Option Nat) × (Option Nat))) σ => hX4_item_295b G a.1 a.2.1 a.2.2.1 a.2.2.2.1 a.2.2.2.2.1 a.2.2.2.2.2 σ) xLim (r_0, r_1, x_3, x_5, r_6, r_8) σ
def hX4_item_275 (G : xQ) (r_0 : Option Nat) (r_1 : Option Nat) (x_2 : Int32) (x_3 : Int32) (x_5 : Int32) (r_6 : Option Nat) (x_7 : Int32) (σ : zS) : zF (Unit ⊕ Nat) :=
  (znO σ 44 9).bind fun p17 =>
  if zis G p17.2 p17.1 45 = true then
    (hX43_init G p17.1 12 (((1000 : Int32) * x_3) + x_7) x_2 p17.2).bind fun p18 =>
    hX4_item_295 G r_0 r_1 x_3 x_5 r_6 p17.1 p18.2
  else none
def hX4_item_265 (G : xQ) (r_0 : Option Nat) (r_1 : Option Nat) (x_2 : Int32) (x_3 : Int32) (x_5 : Int32) (r_6 : Option Nat) (x_7 : Int32) (σ : zS) : zF (Unit ⊕ Nat) :=
  (zfI σ r_0 40 3).bind fun x19 =>
  (zpI σ r_0 40 3 (x19 + (1 : Int32))).bind fun σ20 =>
  hX4_item_275 G r_0 r_1 x_2 x_3 x_5 r_6 x_7 σ20
def hX4_item_245 (G : xQ) (r_0 : Option Nat) (r_1 : Option Nat) (x_2 : Int32) (x_3 : Int32) (x_5 : Int32) (r_6 : Option Nat) (x_s0 : Int32) (σ : zS) : zF (Unit ⊕ Nat) :=
  if 0 < x_s0 then
    hX4_item_265 G r_0 r_1 x_2 x_3 x_5 r_6 x_s0 σ
  else
    (zfI σ r_0 40 3).bind fun x21 =>
    if zis G σ r_0 41 = true then
      (hX4_isWord G r_0 x21 18 σ).bind fun p22 =>
      if p22.1 = 0 then
        hX4_item_275 G r_0 r_1 x_2 x_3 x_5 r_6 x_s0 p22.2
      else
        hX4_item_265 G r_0 r_1 x_2 x_3 x_5 r_6 x_s0 p22.2
    else none
def hX4_item_206 (G : xQ) (r_0 : Option Nat) (r_1 : Option Nat) (x_2 : Int32) (x_3 : Int32) (x_5 : Int32) (r_s0 : Option Nat) (σ : zS) : zF (Unit ⊕ Nat) :=
  (zfI σ r_0 40 3).bind fun x23 =>
  (zpI σ r_0 40 3 (x23 + (1 : Int32))).bind fun σ24 =>
  (zfI σ24 r_0 40 3).bind fun x25 =>
  if zis G σ24 r_0 41 = true then
    (hX4_isKind G r_0 x25 1 σ24).bind fun p26 =>
    if p26.1 = 0 then
      hX4_item_245 G r_0 r_1 x_2 x_3 x_5 r_s0 0 p26.2
    else
      (zfA p26.2 r_0 40 1).bind fun r27 =>
      (zfI p26.2 r_0 40 3).bind fun x28 =>
      (ziald p26.2 r27 x28).bind fun x29 =>
      hX4_item_245 G r_0 r_1 x_2 x_3 x_5 r_s0 (x29 + (1 : Int32)) p26.2
  else none
def hX4_item_164 (G : xQ) (r_0 : Option Nat) (r_1 : Option Nat) (x_2 : Int32) (x_3 : Int32) (x_4 : Int32) (x_5 : Int32) (x_s0 : Int32) (r_s1 : Option Nat) (σ : zS) : zF (Unit ⊕ Nat) :=
  if zis G σ r_s1 41 = true then
    zcase (hX4_must G r_s1 x_s0 σ) (fun p30 =>
      if x_4 = 0 then
        if ¬ x_3 = (88 : Int32) then
          (zfA p30.2 r_1 43 13).bind fun r31 =>
          (zLget p30.2 r31 (x_5 - (1 : Int32))).bind fun r32 =>
          if zco G p30.2 r32 [45] = true then
            hX4_item_206 G r_0 r_1 x_2 x_3 x_5 r32 p30.2
          else none
        else
          (zfA p30.2 r_1 43 12).bind fun r33 =>
          hX4_item_206 G r_0 r_1 x_2 x_3 x_5 r33 p30.2
      else
        (zfA p30.2 r_1 43 7).bind fun r34 =>
        hX4_item_206 G r_0 r_1 x_2 x_3 x_5 r34 p30.2) (fun p35 =>
      if zthr p35.2 p35.1 3 = true then
        some (.inr p35.1, p35.2)
      else none)
  else none
def hX4_item_163 (G : xQ) (r_0 : Option Nat) (r_1 : Option Nat) (x_2 : Int32) (x_3 : Int32) (x_4 : Int32) (x_5 : Int32) (r_s0 : Option Nat) (σ : zS) : zF (Unit ⊕ Nat) :=
  hX4_item_164 G r_0 r_1 x_2 x_3 x_4 x_5 0 r_s0 σ
def hX4_item_159 (G : xQ) (r_0 : Option Nat) (r_1 : Option Nat) (x_2 : Int32) (x_3 : Int32) (x_4 : Int32) (x_5 : Int32) (r_s0 : Option Nat) (σ : zS) : zF (Unit ⊕ Nat) :=
  hX4_item_164 G r_0 r_1 x_2 x_3 x_4 x_5 1 r_s0 σ
def hX4_item_132 (G : xQ) (r_0 : Option Nat) (r_1 : Option Nat) (x_2 : Int32) (x_3 : Int32) (x_4 : Int32) (x_5 : Int32) (σ : zS) : zF (Unit ⊕ Nat) :=
  if ¬ x_4 = 0 then
    hX4_item_159 G r_0 r_1 x_2 x_3 x_4 x_5 r_0 σ
  else
    if ¬ x_3 = (88 : Int32) then
      if x_5 ≤ 0 then
        hX4_item_163 G r_0 r_1 x_2 x_3 x_4 x_5 r_0 σ
      else
        hX4_item_159 G r_0 r_1 x_2 x_3 x_4 x_5 r_0 σ
    else
      (zfA σ r_1 43 12).bind fun r36 =>
      if r36 = none then
        hX4_item_163 G r_0 r_1 x_2 x_3 x_4 x_5 r_0 σ
      else
        hX4_item_159 G r_0 r_1 x_2 x_3 x_4 x_5 r_0 σ
def hX4_item_126 (G : xQ) (r_0 : Option Nat) (r_1 : Option Nat) (x_2 : Int32) (x_3 : Int32) (x_4 : Int32) (x_5 : Int32) (σ : zS) : zF (((Option Nat) × (Option Nat) × Int32 × Int32 × Int32 × Int32) ⊕ (Unit ⊕ Nat)) :=
  some (.inl (r_0, r_1, x_2, x_3, x_4, x_5 + (-1)), σ)
def hX4_item_85b (G : xQ) (r_0 : Option Nat) (r_1 : Option Nat) (x_2 : Int32) (x_3 : Int32) (x_4 : Int32) (x_5 : Int32) (σ : zS) : zF (((Option Nat) × (Option Nat) × Int32 × Int32 × Int32 × Int32) ⊕ (Unit ⊕ Nat)) :=
  if x_3 = (88 : Int32) then
    zinr (hX4_item_132 G r_0 r_1 x_2 x_3 x_4 x_5 σ)
  else
    if x_5 ≤ 0 then
      zinr (hX4_item_132 G r_0 r_1 x_2 x_3 x_4 x_5 σ)
    else
      if ¬ x_4 = 0 then
        hX4_item_126 G r_0 r_1 x_2 x_3 x_4 x_5 σ
      else
        (zfA σ r_1 43 13).bind fun r37 =>
        (zLget σ r37 (x_5 - (1 : Int32))).bind fun r38 =>
        if zco G σ r38 [45] = true then
          (zfI σ r38 44 1).bind fun x39 =>
          if (1000 : Int32) = 0 then none else
          if (x39 / (1000 : Int32)) < x_3 then
            zinr (hX4_item_132 G r_0 r_1 x_2 x_3 x_4 x_5 σ)
          else
            hX4_item_126 G r_0 r_1 x_2 x_3 x_4 x_5 σ
        else none
def hX4_item_85 (G : xQ) (r_0 : Option Nat) (r_1 : Option Nat) (x_2 : Int32) (x_3 : Int32) (x_4 : Int32) (x_5 : Int32) (σ : zS) : zF (Unit ⊕ Nat) := zloop (fun (a : ((Option Nat) × (Option Nat) × Int32 × Int32 × Int32 × Int32)) σ => hX4_item_85b G a.1 a.2.1 a.2.2.1 a.2.2.2.1 a.2.2.2.2.1 a.2.2.2.2.2 σ) xLim (r_0, r_1, x_2, x_3, x_4, x_5) σ
def hX4_item_73 (G : xQ) (r_0 : Option Nat) (r_1 : Option Nat) (x_2 : Int32) (x_3 : Int32) (x_4 : Int32) (x_s0 : Int32) (r_s1 : Option Nat) (σ : zS) : zF (Unit ⊕ Nat) :=
  if zis G σ r_s1 41 = true then
    zcase (hX4_must G r_s1 x_s0 σ) (fun p40 =>
      (zfA p40.2 r_1 43 13).bind fun r41 =>
      (zLsize p40.2 r41).bind fun x42 =>
      hX4_item_85 G r_0 r_1 x_2 x_3 x_4 x42 p40.2) (fun p43 =>
      if zthr p43.2 p43.1 3 = true then
        some (.inr p43.1, p43.2)
      else none)
  else none
def hX4_item_72 (G : xQ) (r_0 : Option Nat) (r_1 : Option Nat) (x_2 : Int32) (x_3 : Int32) (x_4 : Int32) (r_s0 : Option Nat) (σ : zS) : zF (Unit ⊕ Nat) :=
  hX4_item_73 G r_0 r_1 x_2 x_3 x_4 0 r_s0 σ
def hX4_item_68 (G : xQ) (r_0 : Option Nat) (r_1 : Option Nat) (x_2 : Int32) (x_3 : Int32) (x_4 : Int32) (r_s0 : Option Nat) (σ : zS) : zF (Unit ⊕ Nat) :=
  hX4_item_73 G r_0 r_1 x_2 x_3 x_4 1 r_s0 σ
def hX4_item_43 (G : xQ) (r_0 : Option Nat) (r_1 : Option Nat) (x_2 : Int32) (x_3 : Int32) (x_s0 : Int32) (σ : zS) : zF (Unit ⊕ Nat) :=
  if ¬ x_s0 = 0 then
    hX4_item_68 G r_0 r_1 x_2 x_3 x_s0 r_0 σ
  else
    if x_3 = (88 : Int32) then
      hX4_item_68 G r_0 r_1 x_2 x_3 x_s0 r_0 σ
    else
      if x_3 < (2 : Int32) then
        hX4_item_72 G r_0 r_1 x_2 x_3 x_s0 r_0 σ
      else
        if (49 : Int32) < x_3 then
          hX4_item_72 G r_0 r_1 x_2 x_3 x_s0 r_0 σ
        else
          hX4_item_68 G r_0 r_1 x_2 x_3 x_s0 r_0 σ
def hX4_item_38 (G : xQ) (r_0 : Option Nat) (r_1 : Option Nat) (x_2 : Int32) (x_3 : Int32) (σ : zS) : zF (Unit ⊕ Nat) :=
  hX4_item_43 G r_0 r_1 x_2 x_3 1 σ
def hX4_item (G : xQ) (o0 : Option Nat) (σ : zS) : zF (Unit ⊕ Nat) :=
  (zfA σ o0 40 11).bind fun r44 =>
  if zis G σ o0 41 = true then
    zcase (hX4_state G o0 5 7 σ) (fun p45 =>
      (zfI p45.2 o0 40 3).bind fun x46 =>
      (zfA p45.2 o0 40 1).bind fun r47 =>
      (zfI p45.2 o0 40 3).bind fun x48 =>
      (ziald p45.2 r47 x48).bind fun x49 =>
      if x49 = (1 : Int32) then
        hX4_item_38 G o0 r44 x46 x49 p45.2
      else
        if ¬ x49 = (77 : Int32) then
          hX4_item_43 G o0 r44 x46 x49 0 p45.2
        else
          hX4_item_38 G o0 r44 x46 x49 p45.2) (fun p50 =>
      if zthr p50.2 p50.1 3 = true then
        some (.inr p50.1, p50.2)
      else none)
  else none
/-! MainframeHouse$Parser.header(I)V -/
def hX4_header_666 (G : xQ)  (σ : zS) : zF (Unit ⊕ Nat) :=
  some (.inl (()), σ)
def hX4_header_659 (G : xQ) (r_0 : Option Nat) (x_s0 : Int32) (r_s1 : Option Nat) (σ : zS) : zF (Unit ⊕ Nat) :=
  if zis G σ r_s1 41 = true then
    zcase (hX4_must G r_s1 x_s0 σ) (fun p1 =>
      if zis G p1.2 r_0 41 = true then
        zcase (hX4_end G r_0 p1.2) (fun p2 =>
          hX4_header_666 G  p2.2) (fun p3 =>
          if zthr p3.2 p3.1 3 = true then
            some (.inr p3.1, p3.2)
          else none)
      else none) (fun p4 =>
      if zthr p4.2 p4.1 3 = true then
        some (.inr p4.1, p4.2)
      else none)
  else none
def hX4_header_658 (G : xQ) (r_0 : Option Nat) (r_s0 : Option Nat) (σ : zS) : zF (Unit ⊕ Nat) :=
  hX4_header_659 G r_0 0 r_s0 σ
def hX4_header_640 (G : xQ) (r_0 : Option Nat) (x_1 : Int32) (r_2 : Option Nat) (σ : zS) : zF (Unit ⊕ Nat) :=
  if ¬ x_1 = (33 : Int32) then
    hX4_header_658 G r_0 r_0 σ
  else
    (zfI σ r_2 43 3).bind fun x5 =>
    if x5 ≤ 0 then
      hX4_header_658 G r_0 r_0 σ
    else
      hX4_header_659 G r_0 1 r_0 σ
def hX4_header_561 (G : xQ) (r_0 : Option Nat) (r_2 : Option Nat) (r_6 : Option Nat) (σ : zS) : zF (Unit ⊕ Nat) :=
  if zis G σ r_0 41 = true then
    zcase (hX4_period G r_0 σ) (fun p6 =>
      (zfA p6.2 r_2 43 1).bind fun r7 =>
      if zis G p6.2 r7 45 = true then
        (hX43_add G r7 r_6 p6.2).bind fun p8 =>
        (zpA p8.2 r_2 43 8 p8.1).bind fun σ9 =>
        (zpI σ9 r_2 43 3 (8 : Int32)).bind fun σ10 =>
        hX4_header_666 G  σ10
      else none) (fun p11 =>
      if zthr p11.2 p11.1 3 = true then
        some (.inr p11.1, p11.2)
      else none)
  else none
def hX4_header_503 (G : xQ) (x_s0 : Int32) (r_s1 : Option Nat) (σ : zS) : zF (Unit ⊕ Nat) :=
  (zpI σ r_s1 43 3 x_s0).bind fun σ12 =>
  hX4_header_666 G  σ12
def hX4_header_478 (G : xQ) (x_1 : Int32) (r_2 : Option Nat) (x_3 : Int32) (x_s0 : Int32) (r_s1 : Option Nat) (r_s2 : Option Nat) (r_s3 : Option Nat) (r_s4 : Option Nat) (σ : zS) : zF (Unit ⊕ Nat) :=
  if zis G σ r_s1 45 = true then
    (hX43_init G r_s1 x_s0 0 x_3 σ).bind fun p13 =>
    if zis G p13.2 r_s3 45 = true then
      (hX43_add G r_s3 r_s2 p13.2).bind fun p14 =>
      if zis G p14.2 r_s4 44 = true then
        (hX42_items G r_s4 p14.1 p14.2).bind fun p15 =>
        if ¬ x_1 = (14 : Int32) then
          hX4_header_503 G 7 r_2 p15.2
        else
          hX4_header_503 G 6 r_2 p15.2
      else none
    else none
  else none
def hX4_header_447 (G : xQ) (r_0 : Option Nat) (x_1 : Int32) (r_2 : Option Nat) (x_3 : Int32) (x_s0 : Int32) (x_s1 : Int32) (r_s2 : Option Nat) (σ : zS) : zF (Unit ⊕ Nat) :=
  if zis G σ r_s2 41 = true then
    zcase (hX4_state G r_s2 x_s1 x_s0 σ) (fun p16 =>
      if zis G p16.2 r_0 41 = true then
        zcase (hX4_second G r_0 16 p16.2) (fun p17 =>
          (zfA p17.2 r_2 43 5).bind fun r18 =>
          (znO p17.2 44 9).bind fun p19 =>
          if ¬ x_1 = (14 : Int32) then
            hX4_header_478 G x_1 r_2 x_3 10 p19.1 p19.1 r18 r_2 p19.2
          else
            hX4_header_478 G x_1 r_2 x_3 9 p19.1 p19.1 r18 r_2 p19.2) (fun p20 =>
          if zthr p20.2 p20.1 3 = true then
            some (.inr p20.1, p20.2)
          else none)
      else none) (fun p21 =>
      if zthr p21.2 p21.1 3 = true then
        some (.inr p21.1, p21.2)
      else none)
  else none
def hX4_header_433 (G : xQ) (r_0 : Option Nat) (x_1 : Int32) (r_2 : Option Nat) (x_3 : Int32) (σ : zS) : zF (Unit ⊕ Nat) :=
  if ¬ x_1 = (14 : Int32) then
    hX4_header_447 G r_0 x_1 r_2 x_3 6 3 r_0 σ
  else
    hX4_header_447 G r_0 x_1 r_2 x_3 5 3 r_0 σ
def hX4_header_211 (G : xQ) (r_2 : Option Nat) (x_4 : Int32) (x_s0 : Int32) (r_s1 : Option Nat) (σ : zS) : zF (Unit ⊕ Nat) :=
  (zpI σ r_s1 44 0 x_s0).bind fun σ22 =>
  (zfA σ22 r_2 43 1).bind fun r23 =>
  (zpI σ22 r23 44 1 x_4).bind fun σ24 =>
  (zpI σ24 r_2 43 3 (1 : Int32)).bind fun σ25 =>
  hX4_header_666 G  σ25
def hX4_header_173 (G : xQ) (r_0 : Option Nat) (x_1 : Int32) (r_2 : Option Nat) (x_s0 : Int32) (r_s1 : Option Nat) (σ : zS) : zF (Unit ⊕ Nat) :=
  if zis G σ r_s1 41 = true then
    zcase (hX4_must G r_s1 x_s0 σ) (fun p26 =>
      (zfI p26.2 r_0 40 3).bind fun x27 =>
      (zpI p26.2 r_0 40 3 (x27 + (1 : Int32))).bind fun σ28 =>
      if zis G σ28 r_0 41 = true then
        zcase (hX4_take G r_0 1 σ28) (fun p29 =>
          if zis G p29.2 r_0 41 = true then
            zcase (hX4_period G r_0 p29.2) (fun p30 =>
              (zfA p30.2 r_2 43 1).bind fun r31 =>
              if ¬ x_1 = (2 : Int32) then
                hX4_header_211 G r_2 p29.1 2 r31 p30.2
              else
                hX4_header_211 G r_2 p29.1 1 r31 p30.2) (fun p32 =>
              if zthr p32.2 p32.1 3 = true then
                some (.inr p32.1, p32.2)
              else none)
          else none) (fun p33 =>
          if zthr p33.2 p33.1 3 = true then
            some (.inr p33.1, p33.2)
          else none)
      else none) (fun p34 =>
      if zthr p34.2 p34.1 3 = true then
        some (.inr p34.1, p34.2)
      else none)
  else none
def hX4_header_172 (G : xQ) (r_0 : Option Nat) (x_1 : Int32) (r_2 : Option Nat) (r_s0 : Option Nat) (σ : zS) : zF (Unit ⊕ Nat) :=
  hX4_header_173 G r_0 x_1 r_2 0 r_s0 σ
def hX4_header_168 (G : xQ) (r_0 : Option Nat) (x_1 : Int32) (r_2 : Option Nat) (r_s0 : Option Nat) (σ : zS) : zF (Unit ⊕ Nat) :=
  hX4_header_173 G r_0 x_1 r_2 1 r_s0 σ
def hX4_header_148 (G : xQ) (r_0 : Option Nat) (x_1 : Int32) (r_2 : Option Nat) (σ : zS) : zF (Unit ⊕ Nat) :=
  (zfI σ r_2 43 3).bind fun x35 =>
  if ¬ x35 = 0 then
    hX4_header_172 G r_0 x_1 r_2 r_0 σ
  else
    if x_1 = (2 : Int32) then
      hX4_header_168 G r_0 x_1 r_2 r_0 σ
    else
      (zfA σ r_2 43 0).bind fun r36 =>
      if r36 = none then
        hX4_header_168 G r_0 x_1 r_2 r_0 σ
      else
        hX4_header_172 G r_0 x_1 r_2 r_0 σ
def hX4_header (G : xQ) (o0 : Option Nat) (i1 : Int32) (σ : zS) : zF (Unit ⊕ Nat) :=
  (zfA σ o0 40 11).bind fun r37 =>
  (zfI σ o0 40 3).bind fun x38 =>
  if i1 < 2 ∨ 32 < i1 then
    hX4_header_640 G o0 i1 r37 σ
  else if i1 = 2 then
    hX4_header_148 G o0 i1 r37 σ
  else if i1 = 3 then
    hX4_header_148 G o0 i1 r37 σ
  else if i1 = 4 then
    if zis G σ o0 41 = true then
      zcase (hX4_state G o0 1 1 σ) (fun p39 =>
        if zis G p39.2 o0 41 = true then
          zcase (hX4_second G o0 1 p39.2) (fun p40 =>
            (zfA p40.2 r37 43 1).bind fun r41 =>
            (znO p40.2 44 9).bind fun p42 =>
            if zis G p42.2 p42.1 45 = true then
              (hX43_init G p42.1 3 0 x38 p42.2).bind fun p43 =>
              if zis G p43.2 r41 45 = true then
                (hX43_add G r41 p42.1 p43.2).bind fun p44 =>
                (zpA p44.2 r37 43 4 p44.1).bind fun σ45 =>
                (zpI σ45 r37 43 3 (2 : Int32)).bind fun σ46 =>
                hX4_header_666 G  σ46
              else none
            else none) (fun p47 =>
            if zthr p47.2 p47.1 3 = true then
              some (.inr p47.1, p47.2)
            else none)
        else none) (fun p48 =>
        if zthr p48.2 p48.1 3 = true then
          some (.inr p48.1, p48.2)
        else none)
    else none
  else if i1 = 5 then
    if zis G σ o0 41 = true then
      zcase (hX4_state G o0 2 2 σ) (fun p49 =>
        (zfA p49.2 r37 43 4).bind fun r50 =>
        if zis G p49.2 o0 41 = true then
          zcase (hX4_select G o0 p49.2) (fun p51 =>
            if zis G p51.2 r50 45 = true then
              (hX43_add G r50 p51.1 p51.2).bind fun p52 =>
              hX4_header_666 G  p52.2
            else none) (fun p53 =>
            if zthr p53.2 p53.1 3 = true then
              some (.inr p53.1, p53.2)
            else none)
        else none) (fun p54 =>
        if zthr p54.2 p54.1 3 = true then
          some (.inr p54.1, p54.2)
        else none)
    else none
  else if i1 = 6 then
    hX4_header_640 G o0 i1 r37 σ
  else if i1 = 7 then
    hX4_header_640 G o0 i1 r37 σ
  else if i1 = 8 then
    hX4_header_640 G o0 i1 r37 σ
  else if i1 = 9 then
    hX4_header_640 G o0 i1 r37 σ
  else if i1 = 10 then
    hX4_header_640 G o0 i1 r37 σ
  else if i1 = 11 then
    hX4_header_640 G o0 i1 r37 σ
  else if i1 = 12 then
    if zis G σ o0 41 = true then
      zcase (hX4_state G o0 1 2 σ) (fun p55 =>
        if zis G p55.2 o0 41 = true then
          zcase (hX4_second G o0 1 p55.2) (fun p56 =>
            (zfA p56.2 r37 43 1).bind fun r57 =>
            (znO p56.2 44 9).bind fun p58 =>
            if zis G p58.2 p58.1 45 = true then
              (hX43_init G p58.1 7 0 x38 p58.2).bind fun p59 =>
              if zis G p59.2 r57 45 = true then
                (hX43_add G r57 p58.1 p59.2).bind fun p60 =>
                (zpA p60.2 r37 43 5 p60.1).bind fun σ61 =>
                (zpI σ61 r37 43 3 (3 : Int32)).bind fun σ62 =>
                hX4_header_666 G  σ62
              else none
            else none) (fun p63 =>
            if zthr p63.2 p63.1 3 = true then
              some (.inr p63.1, p63.2)
            else none)
        else none) (fun p64 =>
        if zthr p64.2 p64.1 3 = true then
          some (.inr p64.1, p64.2)
        else none)
    else none
  else if i1 = 13 then
    if zis G σ o0 41 = true then
      zcase (hX4_state G o0 3 3 σ) (fun p65 =>
        if zis G p65.2 o0 41 = true then
          zcase (hX4_second G o0 16 p65.2) (fun p66 =>
            (zfA p66.2 r37 43 5).bind fun r67 =>
            (znO p66.2 44 9).bind fun p68 =>
            if zis G p68.2 p68.1 45 = true then
              (hX43_init G p68.1 8 0 x38 p68.2).bind fun p69 =>
              if zis G p69.2 r67 45 = true then
                (hX43_add G r67 p68.1 p69.2).bind fun p70 =>
                (zpA p70.2 r37 43 6 p70.1).bind fun σ71 =>
                (zpI σ71 r37 43 3 (4 : Int32)).bind fun σ72 =>
                hX4_header_666 G  σ72
              else none
            else none) (fun p73 =>
            if zthr p73.2 p73.1 3 = true then
              some (.inr p73.1, p73.2)
            else none)
        else none) (fun p74 =>
        if zthr p74.2 p74.1 3 = true then
          some (.inr p74.1, p74.2)
        else none)
    else none
  else if i1 = 14 then
    hX4_header_433 G o0 i1 r37 x38 σ
  else if i1 = 15 then
    hX4_header_433 G o0 i1 r37 x38 σ
  else if i1 = 16 then
    hX4_header_640 G o0 i1 r37 σ
  else if i1 = 17 then
    if zis G σ o0 41 = true then
      zcase (hX4_state G o0 4 5 σ) (fun p75 =>
        (zfI p75.2 o0 40 3).bind fun x76 =>
        (zpI p75.2 o0 40 3 (x76 + (1 : Int32))).bind fun σ77 =>
        (znO σ77 44 9).bind fun p78 =>
        if zis G p78.2 o0 41 = true then
          zcase (hX4_take G o0 1 p78.2) (fun p79 =>
            if zis G p79.2 p78.1 45 = true then
              (hX43_init G p78.1 11 p79.1 x38 p79.2).bind fun p80 =>
              if zis G p80.2 o0 41 = true then
                zcase (hX4_period G o0 p80.2) (fun p81 =>
                  (zfA p81.2 r37 43 6).bind fun r82 =>
                  if zis G p81.2 r82 45 = true then
                    (hX43_add G r82 p78.1 p81.2).bind fun p83 =>
                    if zis G p83.2 r37 44 = true then
                      (hX42_items G r37 p83.1 p83.2).bind fun p84 =>
                      (zpI p84.2 r37 43 3 (5 : Int32)).bind fun σ85 =>
                      hX4_header_666 G  σ85
                    else none
                  else none) (fun p86 =>
                  if zthr p86.2 p86.1 3 = true then
                    some (.inr p86.1, p86.2)
                  else none)
              else none
            else none) (fun p87 =>
            if zthr p87.2 p87.1 3 = true then
              some (.inr p87.1, p87.2)
            else none)
        else none) (fun p88 =>
        if zthr p88.2 p88.1 3 = true then
          some (.inr p88.1, p88.2)
        else none)
    else none
  else if i1 = 18 then
    hX4_header_640 G o0 i1 r37 σ
  else if i1 = 19 then
    hX4_header_640 G o0 i1 r37 σ
  else if i1 = 20 then
    hX4_header_640 G o0 i1 r37 σ
  else if i1 = 21 then
    hX4_header_640 G o0 i1 r37 σ
  else if i1 = 22 then
    hX4_header_640 G o0 i1 r37 σ
  else if i1 = 23 then
    hX4_header_640 G o0 i1 r37 σ
  else if i1 = 24 then
    hX4_header_640 G o0 i1 r37 σ
  else if i1 = 25 then
    hX4_header_640 G o0 i1 r37 σ
  else if i1 = 26 then
    hX4_header_640 G o0 i1 r37 σ
  else if i1 = 27 then
    hX4_header_640 G o0 i1 r37 σ
  else if i1 = 28 then
    hX4_header_640 G o0 i1 r37 σ
  else if i1 = 29 then
    hX4_header_640 G o0 i1 r37 σ
  else if i1 = 30 then
    if zis G σ o0 41 = true then
      zcase (hX4_state G o0 1 7 σ) (fun p89 =>
        (zfI p89.2 o0 40 3).bind fun x90 =>
        (zpI p89.2 o0 40 3 (x90 + (1 : Int32))).bind fun σ91 =>
        if zis G σ91 o0 41 = true then
          zcase (hX4_need G o0 1 σ91) (fun p92 =>
            (znO p92.2 44 9).bind fun p93 =>
            if zis G p93.2 p93.1 45 = true then
              (hX43_init G p93.1 20 0 x38 p93.2).bind fun p94 =>
              if zis G p94.2 o0 41 = true then
                (hX4_meets G o0 31 p94.2).bind fun p95 =>
                if p95.1 = 0 then
                  hX4_header_561 G o0 r37 p93.1 p95.2
                else
                  if zis G p95.2 o0 41 = true then
                    zcase (hX4_names G o0 p93.1 21 p95.2) (fun p96 =>
                      hX4_header_561 G o0 r37 p93.1 p96.2) (fun p97 =>
                      if zthr p97.2 p97.1 3 = true then
                        some (.inr p97.1, p97.2)
                      else none)
                  else none
              else none
            else none) (fun p98 =>
            if zthr p98.2 p98.1 3 = true then
              some (.inr p98.1, p98.2)
            else none)
        else none) (fun p99 =>
        if zthr p99.2 p99.1 3 = true then
          some (.inr p99.1, p99.2)
        else none)
    else none
  else if i1 = 31 then
    hX4_header_640 G o0 i1 r37 σ
  else if i1 = 32 then
    if zis G σ o0 41 = true then
      zcase (hX4_state G o0 8 8 σ) (fun p100 =>
        (zfI p100.2 o0 40 3).bind fun x101 =>
        (zpI p100.2 o0 40 3 (x101 + (1 : Int32))).bind fun σ102 =>
        if zis G σ102 o0 41 = true then
          zcase (hX4_period G o0 σ102) (fun p103 =>
            (zfA p103.2 r37 43 8).bind fun r104 =>
            (znO p103.2 44 9).bind fun p105 =>
            if zis G p105.2 p105.1 45 = true then
              (hX43_init G p105.1 22 0 x38 p105.2).bind fun p106 =>
              if zis G p106.2 r104 45 = true then
                (hX43_add G r104 p105.1 p106.2).bind fun p107 =>
                (zpA p107.2 r37 43 9 p107.1).bind fun σ108 =>
                (zpI σ108 r37 43 3 (9 : Int32)).bind fun σ109 =>
                hX4_header_666 G  σ109
              else none
            else none) (fun p110 =>
            if zthr p110.2 p110.1 3 = true then
              some (.inr p110.1, p110.2)
            else none)
        else none) (fun p111 =>
        if zthr p111.2 p111.1 3 = true then
          some (.inr p111.1, p111.2)
        else none)
    else none
  else none
/-! MainframeHouseModel$Parser.described2(I)V -/
def hX26_described2_320 (G : xQ)  (σ : zS) : zF Unit :=
  some ((), σ)
def hX26_described2_313 (G : xQ) (r_0 : Option Nat) (x_2 : Int32) (σ : zS) : zF Unit :=
  if zis G σ r_0 26 = true then
    (hX26_fail G r_0 1 x_2 σ).bind fun p1 =>
    hX26_described2_320 G  p1.2
  else none
def hX26_described2_282 (G : xQ) (r_0 : Option Nat) (x_6 : Int32) (σ : zS) : zF Unit :=
  if x_6 = 0 then
    (zfI σ r_0 25 41).bind fun x2 =>
    if zis G σ r_0 26 = true then
      (hX26_fail G r_0 1 x2 σ).bind fun p3 =>
      hX26_described2_320 G  p3.2
    else none
  else
    (zfI σ r_0 25 41).bind fun x4 =>
    (zpI σ r_0 25 41 (x4 + (1 : Int32))).bind fun σ5 =>
    hX26_described2_320 G  σ5
def hX26_described2_255 (G : xQ) (r_0 : Option Nat) (x_1 : Int32) (x_2 : Int32) (x_s0 : Int32) (σ : zS) : zF Unit :=
  if x_s0 = 0 then
    hX26_described2_282 G r_0 x_s0 σ
  else
    (zfA σ r_0 25 3).bind fun r6 =>
    (zfI σ r_0 25 41).bind fun x7 =>
    (ziald σ r6 x7).bind fun x8 =>
    if zis G σ r_0 26 = true then
      (hX26_child G r_0 x_1 19 (x8 - (28 : Int32)) x_2 σ).bind fun p9 =>
      hX26_described2_282 G r_0 x_s0 p9.2
    else none
def hX26_described2_250 (G : xQ) (r_0 : Option Nat) (x_1 : Int32) (x_2 : Int32) (σ : zS) : zF Unit :=
  hX26_described2_255 G r_0 x_1 x_2 1 σ
def hX26_described2_73 (G : xQ) (r_0 : Option Nat) (x_1 : Int32) (x_2 : Int32) (x_3 : Int32) (x_s0 : Int32) (σ : zS) : zF Unit :=
  if x_3 < 19 ∨ 27 < x_3 then
    hX26_described2_313 G r_0 x_2 σ
  else if x_3 = 19 then
    if zis G σ r_0 26 = true then
      (hX26_mustBe G r_0 3 σ).bind fun p10 =>
      if p10.1 = 0 then
        hX26_described2_320 G  p10.2
      else
        if zis G p10.2 r_0 26 = true then
          (hX26_passed G r_0 p10.2).bind fun p11 =>
          if zis G p11.2 r_0 26 = true then
            (hX26_child G r_0 x_1 13 p11.1 x_2 p11.2).bind fun p12 =>
            hX26_described2_320 G  p12.2
          else none
        else none
    else none
  else if x_3 = 20 then
    if zis G σ r_0 26 = true then
      (hX26_make G r_0 14 0 x_2 σ).bind fun p13 =>
      if zis G p13.2 r_0 26 = true then
        (hX26_attach G r_0 x_1 p13.1 p13.2).bind fun p14 =>
        if zis G p14.2 r_0 26 = true then
          (hX26_literal G r_0 p13.1 p14.2).bind fun p15 =>
          if zis G p15.2 r_0 26 = true then
            (hX26_meets G r_0 21 p15.2).bind fun p16 =>
            if p16.1 = 0 then
              hX26_described2_320 G  p16.2
            else
              if zis G p16.2 r_0 26 = true then
                (hX26_literal G r_0 p13.1 p16.2).bind fun p17 =>
                hX26_described2_320 G  p17.2
              else none
          else none
        else none
      else none
    else none
  else if x_3 = 21 then
    hX26_described2_313 G r_0 x_2 σ
  else if x_3 = 22 then
    if zis G σ r_0 26 = true then
      (hX26_occurs G r_0 x_1 x_2 σ).bind fun p18 =>
      hX26_described2_320 G  p18.2
    else none
  else if x_3 = 23 then
    hX26_described2_313 G r_0 x_2 σ
  else if x_3 = 24 then
    hX26_described2_313 G r_0 x_2 σ
  else if x_3 = 25 then
    hX26_described2_313 G r_0 x_2 σ
  else if x_3 = 26 then
    if zis G σ r_0 26 = true then
      (hX26_mustBe G r_0 1 σ).bind fun p19 =>
      if p19.1 = 0 then
        hX26_described2_320 G  p19.2
      else
        if zis G p19.2 r_0 26 = true then
          (hX26_passed G r_0 p19.2).bind fun p20 =>
          if zis G p20.2 r_0 26 = true then
            (hX26_child G r_0 x_1 18 p20.1 x_2 p20.2).bind fun p21 =>
            hX26_described2_320 G  p21.2
          else none
        else none
    else none
  else if x_3 = 27 then
    (zfI σ r_0 25 41).bind fun x22 =>
    if zis G σ r_0 26 = true then
      (hX26_isWord G r_0 x22 28 σ).bind fun p23 =>
      if ¬ p23.1 = 0 then
        hX26_described2_250 G r_0 x_1 x_2 p23.2
      else
        (zfI p23.2 r_0 25 41).bind fun x24 =>
        if zis G p23.2 r_0 26 = true then
          (hX26_isWord G r_0 x24 29 p23.2).bind fun p25 =>
          if p25.1 = 0 then
            hX26_described2_255 G r_0 x_1 x_2 0 p25.2
          else
            hX26_described2_250 G r_0 x_1 x_2 p25.2
        else none
    else none
  else none
def hX26_described2_72 (G : xQ) (r_0 : Option Nat) (x_1 : Int32) (x_2 : Int32) (x_3 : Int32) (σ : zS) : zF Unit :=
  hX26_described2_73 G r_0 x_1 x_2 x_3 0 σ
def hX26_described2_59 (G : xQ) (r_0 : Option Nat) (x_1 : Int32) (x_2 : Int32) (x_3 : Int32) (σ : zS) : zF Unit :=
  if zis G σ r_0 26 = true then
    (hX26_meets G r_0 67 σ).bind fun p26 =>
    if p26.1 = 0 then
      hX26_described2_72 G r_0 x_1 x_2 x_3 p26.2
    else
      hX26_described2_73 G r_0 x_1 x_2 x_3 1 p26.2
  else none
def hX26_described2_30 (G : xQ) (r_0 : Option Nat) (x_1 : Int32) (x_2 : Int32) (x_s0 : Int32) (σ : zS) : zF Unit :=
  (zfI σ r_0 25 41).bind fun x27 =>
  (zpI σ r_0 25 41 (x27 + (1 : Int32))).bind fun σ28 =>
  if x_s0 = (19 : Int32) then
    hX26_described2_59 G r_0 x_1 x_2 x_s0 σ28
  else
    if x_s0 = (20 : Int32) then
      hX26_described2_59 G r_0 x_1 x_2 x_s0 σ28
    else
      if ¬ x_s0 = (27 : Int32) then
        hX26_described2_72 G r_0 x_1 x_2 x_s0 σ28
      else
        hX26_described2_59 G r_0 x_1 x_2 x_s0 σ28
def hX26_described2 (G : xQ) (o0 : Option Nat) (i1 : Int32) (σ : zS) : zF Unit :=
  (zfI σ o0 25 41).bind fun x29 =>
  (zfI σ o0 25 41).bind fun x30 =>
  if zis G σ o0 26 = true then
    (hX26_isKind G o0 x30 0 σ).bind fun p31 =>
    if p31.1 = 0 then
      hX26_described2_30 G o0 i1 x29 ((-1)) p31.2
    else
      (zfA p31.2 o0 25 3).bind fun r32 =>
      (zfI p31.2 o0 25 41).bind fun x33 =>
      (ziald p31.2 r32 x33).bind fun x34 =>
      hX26_described2_30 G o0 i1 x29 x34 p31.2
  else none
/-! MainframeHouseModel$Parser.goOn(II)V -/
def hX26_goOn_144 (G : xQ)  (σ : zS) : zF Unit :=
  some ((), σ)
def hX26_goOn_137 (G : xQ) (r_0 : Option Nat) (x_1 : Int32) (x_2 : Int32) (x_3 : Int32) (σ : zS) : zF Unit :=
  if zis G σ r_0 26 = true then
    (hX26_whens G r_0 x_1 x_2 x_3 σ).bind fun p1 =>
    hX26_goOn_144 G  p1.2
  else none
def hX26_goOn (G : xQ) (o0 : Option Nat) (i1 : Int32) (i2 : Int32) (σ : zS) : zF Unit :=
  (zfA σ o0 25 48).bind fun r2 =>
  (ziald σ r2 i1).bind fun x3 =>
  (zfA σ o0 25 48).bind fun r4 =>
  (ziast σ r4 i1 (x3 + (1 : Int32))).bind fun σ5 =>
  (zfA σ5 o0 25 46).bind fun r6 =>
  (ziald σ5 r6 i1).bind fun x7 =>
  if x7 < 37 ∨ 42 < x7 then
    hX26_goOn_137 G o0 i1 i2 x3 σ5
  else if x7 = 37 then
    if zis G σ5 o0 26 = true then
      (hX26_asked G o0 i2 x3 50 51 72 σ5).bind fun p8 =>
      hX26_goOn_144 G  p8.2
    else none
  else if x7 = 38 then
    if zis G σ5 o0 26 = true then
      (hX26_branch G o0 i1 i2 x3 σ5).bind fun p9 =>
      hX26_goOn_144 G  p9.2
    else none
  else if x7 = 39 then
    if ¬ x3 = 0 then
      if zis G σ5 o0 26 = true then
        (hX26_scope G o0 i2 74 1 σ5).bind fun p10 =>
        hX26_goOn_144 G  p10.2
      else none
    else
      if zis G σ5 o0 26 = true then
        (hX26_list G o0 i2 σ5).bind fun p11 =>
        hX26_goOn_144 G  p11.2
      else none
  else if x7 = 40 then
    hX26_goOn_137 G o0 i1 i2 x3 σ5
  else if x7 = 41 then
    if zis G σ5 o0 26 = true then
      (hX26_asked G o0 i2 x3 61 33 76 σ5).bind fun p12 =>
      hX26_goOn_144 G  p12.2
    else none
  else if x7 = 42 then
    if zis G σ5 o0 26 = true then
      (hX26_asked G o0 i2 x3 62 ((-1)) 77 σ5).bind fun p13 =>
      hX26_goOn_144 G  p13.2
    else none
  else none
/-! MainframeHouseModel$Parser.condition()I -/
def hX26_condition_52 (G : xQ) (x_1 : Int32) (σ : zS) : zF Int32 :=
  some (x_1, σ)
def hX26_condition_49 (G : xQ) (r_0 : Option Nat) (x_1 : Int32) (σ : zS) : zF (((Option Nat) × Int32) ⊕ Int32) :=
  some (.inl (r_0, x_1), σ)
def hX26_condition_16b (G : xQ) (r_0 : Option Nat) (x_1 : Int32) (σ : zS) : zF (((Option Nat) × Int32) ⊕ Int32) :=
  if ¬ x_1 = 0 then
    zinr (hX26_condition_52 G x_1 σ)
  else
    (zfI σ r_0 25 43).bind fun x1 =>
    if ¬ x1 = 0 then
      zinr (hX26_condition_52 G x_1 σ)
    else
      if zis G σ r_0 26 = true then
        (hX26_factor G r_0 σ).bind fun p2 =>
        if p2.1 ≤ 0 then
          hX26_condition_49 G r_0 x_1 p2.2
        else
          (zfI p2.2 r_0 25 43).bind fun x3 =>
          if ¬ x3 = 0 then
            hX26_condition_49 G r_0 x_1 p2.2
          else
            if zis G p2.2 r_0 26 = true then
              (hX26_behindFactor G r_0 p2.1 p2.2).bind fun p4 =>
              hX26_condition_49 G r_0 p4.1 p4.2
            else none
      else none
def hX26_condition_16 (G : xQ) (r_0 : Option Nat) (x_1 : Int32) (σ : zS) : zF Int32 := zloop (fun (a : ((Option Nat) × Int32)) σ => hX26_condition_16b G a.1 a.2 σ) xLim (r_0, x_1) σ
def hX26_condition (G : xQ) (o0 : Option Nat) (σ : zS) : zF Int32 :=
  (zpI σ o0 25 54 (0 : Int32)).bind fun σ5 =>
  (zpI σ5 o0 25 57 (0 : Int32)).bind fun σ6 =>
  if zis G σ6 o0 26 = true then
    (hX26_joint G o0 σ6).bind fun p7 =>
    hX26_condition_16 G o0 0 p7.2
  else none
/-! MainframeHouseModel$Parser.item()V -/
def hX26_item_300 (G : xQ) (r_0 : Option Nat) (x_2 : Int32) (x_5 : Int32) (x_s0 : Int32) (r_s1 : Option Nat) (σ : zS) : zF Unit :=
  if zis G σ r_s1 26 = true then
    (hX26_attach G r_s1 x_s0 x_5 σ).bind fun p1 =>
    (zfA p1.2 r_0 25 39).bind fun r2 =>
    (zfI p1.2 r_0 25 37).bind fun x3 =>
    (ziast p1.2 r2 x3 x_2).bind fun σ4 =>
    (zfA σ4 r_0 25 40).bind fun r5 =>
    (zfI σ4 r_0 25 37).bind fun x6 =>
    (ziast σ4 r5 x6 x_5).bind fun σ7 =>
    (zfI σ7 r_0 25 37).bind fun x8 =>
    (zpI σ7 r_0 25 37 (x8 + (1 : Int32))).bind fun σ9 =>
    (zpI σ9 r_0 25 38 x_5).bind fun σ10 =>
    some ((), σ10)
  else none
def hX26_item_274 (G : xQ) (r_0 : Option Nat) (x_2 : Int32) (x_3 : Int32) (x_5 : Int32) (x_s0 : Int32) (r_s1 : Option Nat) (σ : zS) : zF Unit :=
  (zpI σ r_s1 25 37 x_s0).bind fun σ11 =>
  if x_3 = 0 then
    (zfA σ11 r_0 25 40).bind fun r12 =>
    (zfI σ11 r_0 25 37).bind fun x13 =>
    (ziald σ11 r12 (x13 - (1 : Int32))).bind fun x14 =>
    hX26_item_300 G r_0 x_2 x_5 x14 r_0 σ11
  else
    (zfI σ11 r_0 25 33).bind fun x15 =>
    hX26_item_300 G r_0 x_2 x_5 x15 r_0 σ11
def hX26_item_223 (G : xQ) (r_0 : Option Nat) (x_2 : Int32) (x_3 : Int32) (x_5 : Int32) (σ : zS) : zF Unit :=
  (zfI σ r_0 25 43).bind fun x16 =>
  if x16 = 0 then
    (zfI σ r_0 25 41).bind fun x17 =>
    (zpI σ r_0 25 41 (x17 + (1 : Int32))).bind fun σ18 =>
    if ¬ x_2 = (88 : Int32) then
      if x_3 = 0 then
        if zis G σ18 r_0 26 = true then
          (hX26_within G r_0 x_2 σ18).bind fun p19 =>
          hX26_item_274 G r_0 x_2 x_3 x_5 (p19.1 + (1 : Int32)) r_0 p19.2
        else none
      else
        hX26_item_274 G r_0 x_2 x_3 x_5 0 r_0 σ18
    else
      (zfI σ18 r_0 25 38).bind fun x20 =>
      if zis G σ18 r_0 26 = true then
        (hX26_attach G r_0 x20 x_5 σ18).bind fun p21 =>
        some ((), p21.2)
      else none
  else
    some ((), σ)
def hX26_item_207 (G : xQ) (r_0 : Option Nat) (x_2 : Int32) (x_3 : Int32) (x_5 : Int32) (x_s0 : Int32) (σ : zS) : zF (((Option Nat) × Int32 × Int32 × Int32 × Int32) ⊕ Unit) :=
  if x_s0 = 0 then
    some (.inl (r_0, x_2, x_3, x_5, x_s0), σ)
  else
    if zis G σ r_0 26 = true then
      (hX26_described2 G r_0 x_5 σ).bind fun p22 =>
      some (.inl (r_0, x_2, x_3, x_5, x_s0), p22.2)
    else none
def hX26_item_178b (G : xQ) (r_0 : Option Nat) (x_2 : Int32) (x_3 : Int32) (x_5 : Int32) (x_6 : Int32) (σ : zS) : zF (((Option Nat) × Int32 × Int32 × Int32 × Int32) ⊕ Unit) :=
  if x_6 = 0 then
    zinr (hX26_item_223 G r_0 x_2 x_3 x_5 σ)
  else
    (zfI σ r_0 25 43).bind fun x23 =>
    if ¬ x23 = 0 then
      zinr (hX26_item_223 G r_0 x_2 x_3 x_5 σ)
    else
      (zfI σ r_0 25 41).bind fun x24 =>
      if zis G σ r_0 26 = true then
        (hX26_isKind G r_0 x24 4 σ).bind fun p25 =>
        if ¬ p25.1 = 0 then
          hX26_item_207 G r_0 x_2 x_3 x_5 0 p25.2
        else
          hX26_item_207 G r_0 x_2 x_3 x_5 1 p25.2
      else none
def hX26_item_178 (G : xQ) (r_0 : Option Nat) (x_2 : Int32) (x_3 : Int32) (x_5 : Int32) (x_6 : Int32) (σ : zS) : zF Unit := zloop (fun (a : ((Option Nat) × Int32 × Int32 × Int32 × Int32)) σ => hX26_item_178b G a.1 a.2.1 a.2.2.1 a.2.2.2.1 a.2.2.2.2 σ) xLim (r_0, x_2, x_3, x_5, x_6) σ
def hX26_item_158 (G : xQ) (r_0 : Option Nat) (x_1 : Int32) (x_2 : Int32) (x_3 : Int32) (x_4 : Int32) (σ : zS) : zF Unit :=
  if zis G σ r_0 26 = true then
    (hX26_make G r_0 12 (((1000 : Int32) * x_2) + x_4) x_1 σ).bind fun p26 =>
    hX26_item_178 G r_0 x_2 x_3 p26.1 1 p26.2
  else none
def hX26_item_115 (G : xQ) (r_0 : Option Nat) (x_1 : Int32) (x_2 : Int32) (x_3 : Int32) (x_s0 : Int32) (σ : zS) : zF Unit :=
  if x_s0 ≤ 0 then
    (zfI σ r_0 25 41).bind fun x27 =>
    if zis G σ r_0 26 = true then
      (hX26_isWord G r_0 x27 18 σ).bind fun p28 =>
      if p28.1 = 0 then
        hX26_item_158 G r_0 x_1 x_2 x_3 x_s0 p28.2
      else
        (zfI p28.2 r_0 25 41).bind fun x29 =>
        (zpI p28.2 r_0 25 41 (x29 + (1 : Int32))).bind fun σ30 =>
        hX26_item_158 G r_0 x_1 x_2 x_3 x_s0 σ30
    else none
  else
    (zfI σ r_0 25 41).bind fun x31 =>
    (zpI σ r_0 25 41 (x31 + (1 : Int32))).bind fun σ32 =>
    hX26_item_158 G r_0 x_1 x_2 x_3 x_s0 σ32
def hX26_item_78 (G : xQ) (r_0 : Option Nat) (x_1 : Int32) (x_2 : Int32) (x_3 : Int32) (σ : zS) : zF Unit :=
  (zfI σ r_0 25 41).bind fun x33 =>
  (zpI σ r_0 25 41 (x33 + (1 : Int32))).bind fun σ34 =>
  (zfI σ34 r_0 25 41).bind fun x35 =>
  if zis G σ34 r_0 26 = true then
    (hX26_isKind G r_0 x35 1 σ34).bind fun p36 =>
    if p36.1 = 0 then
      hX26_item_115 G r_0 x_1 x_2 x_3 0 p36.2
    else
      (zfA p36.2 r_0 25 3).bind fun r37 =>
      (zfI p36.2 r_0 25 41).bind fun x38 =>
      (ziald p36.2 r37 x38).bind fun x39 =>
      hX26_item_115 G r_0 x_1 x_2 x_3 (x39 + (1 : Int32)) p36.2
  else none
def hX26_item_67 (G : xQ) (r_0 : Option Nat) (σ : zS) : zF Unit :=
  (zfI σ r_0 25 41).bind fun x40 =>
  if zis G σ r_0 26 = true then
    (hX26_fail G r_0 1 x40 σ).bind fun p41 =>
    some ((), p41.2)
  else none
def hX26_item_49 (G : xQ) (r_0 : Option Nat) (x_1 : Int32) (x_2 : Int32) (x_3 : Int32) (σ : zS) : zF Unit :=
  (hX26_in G x_2 2 49 σ).bind fun p42 =>
  if p42.1 = 0 then
    hX26_item_67 G r_0 p42.2
  else
    if zis G p42.2 r_0 26 = true then
      (hX26_within G r_0 x_2 p42.2).bind fun p43 =>
      if 0 ≤ p43.1 then
        hX26_item_78 G r_0 x_1 x_2 x_3 p43.2
      else
        hX26_item_67 G r_0 p43.2
    else none
def hX26_item_31 (G : xQ) (r_0 : Option Nat) (x_1 : Int32) (x_2 : Int32) (x_s0 : Int32) (σ : zS) : zF Unit :=
  if ¬ x_s0 = 0 then
    hX26_item_78 G r_0 x_1 x_2 x_s0 σ
  else
    if ¬ x_2 = (88 : Int32) then
      hX26_item_49 G r_0 x_1 x_2 x_s0 σ
    else
      (zfI σ r_0 25 38).bind fun x44 =>
      if 0 < x44 then
        hX26_item_78 G r_0 x_1 x_2 x_s0 σ
      else
        hX26_item_49 G r_0 x_1 x_2 x_s0 σ
def hX26_item_26 (G : xQ) (r_0 : Option Nat) (x_1 : Int32) (x_2 : Int32) (σ : zS) : zF Unit :=
  hX26_item_31 G r_0 x_1 x_2 1 σ
def hX26_item (G : xQ) (o0 : Option Nat) (σ : zS) : zF Unit :=
  (zfI σ o0 25 41).bind fun x45 =>
  (zfA σ o0 25 3).bind fun r46 =>
  (zfI σ o0 25 41).bind fun x47 =>
  (ziald σ r46 x47).bind fun x48 =>
  if x48 = (1 : Int32) then
    hX26_item_26 G o0 x45 x48 σ
  else
    if ¬ x48 = (77 : Int32) then
      hX26_item_31 G o0 x45 x48 0 σ
    else
      hX26_item_26 G o0 x45 x48 σ
/-! MainframeHouseModel$Parser.conditionOf(I)V -/
def hX26_conditionOf_26 (G : xQ)  (σ : zS) : zF Unit :=
  some ((), σ)
def hX26_conditionOf (G : xQ) (o0 : Option Nat) (i1 : Int32) (σ : zS) : zF Unit :=
  (zfI σ o0 25 43).bind fun x1 =>
  if x1 = 0 then
    if zis G σ o0 26 = true then
      (hX26_condition G o0 σ).bind fun p2 =>
      (zfI p2.2 o0 25 43).bind fun x3 =>
      if ¬ x3 = 0 then
        hX26_conditionOf_26 G  p2.2
      else
        if zis G p2.2 o0 26 = true then
          (hX26_attach G o0 i1 p2.1 p2.2).bind fun p4 =>
          hX26_conditionOf_26 G  p4.2
        else none
    else none
  else
    some ((), σ)
/-! MainframeHouseModel$Parser.phrase(I)V -/
def hX26_phrase_177 (G : xQ)  (σ : zS) : zF Unit :=
  some ((), σ)
def hX26_phrase_163 (G : xQ) (r_0 : Option Nat) (x_3 : Int32) (σ : zS) : zF Unit :=
  if zis G σ r_0 26 = true then
    (hX26_must G r_0 56 σ).bind fun p1 =>
    if p1.1 = 0 then
      hX26_phrase_177 G  p1.2
    else
      if zis G p1.2 r_0 26 = true then
        (hX26_conditionOf G r_0 x_3 p1.2).bind fun p2 =>
        hX26_phrase_177 G  p2.2
      else none
  else none
def hX26_phrase_149 (G : xQ) (r_0 : Option Nat) (x_3 : Int32) (σ : zS) : zF Unit :=
  if zis G σ r_0 26 = true then
    (hX26_must G r_0 25 σ).bind fun p3 =>
    if p3.1 = 0 then
      hX26_phrase_163 G r_0 x_3 p3.2
    else
      if zis G p3.2 r_0 26 = true then
        (hX26_operandOf G r_0 x_3 p3.2).bind fun p4 =>
        hX26_phrase_163 G r_0 x_3 p4.2
      else none
  else none
def hX26_phrase_135 (G : xQ) (r_0 : Option Nat) (x_3 : Int32) (σ : zS) : zF Unit :=
  if zis G σ r_0 26 = true then
    (hX26_must G r_0 58 σ).bind fun p5 =>
    if p5.1 = 0 then
      hX26_phrase_149 G r_0 x_3 p5.2
    else
      if zis G p5.2 r_0 26 = true then
        (hX26_operandOf G r_0 x_3 p5.2).bind fun p6 =>
        hX26_phrase_149 G r_0 x_3 p6.2
      else none
  else none
def hX26_phrase (G : xQ) (o0 : Option Nat) (i1 : Int32) (σ : zS) : zF Unit :=
  (zfI σ o0 25 43).bind fun x7 =>
  if x7 = 0 then
    (zfI σ o0 25 41).bind fun x8 =>
    if zis G σ o0 26 = true then
      (hX26_isTimes G o0 σ).bind fun p9 =>
      if p9.1 = 0 then
        if zis G p9.2 o0 26 = true then
          (hX26_meets G o0 56 p9.2).bind fun p10 =>
          if p10.1 = 0 then
            if zis G p10.2 o0 26 = true then
              (hX26_meets G o0 57 p10.2).bind fun p11 =>
              if p11.1 = 0 then
                hX26_phrase_177 G  p11.2
              else
                if zis G p11.2 o0 26 = true then
                  (hX26_make G o0 45 0 x8 p11.2).bind fun p12 =>
                  if zis G p12.2 o0 26 = true then
                    (hX26_attach G o0 i1 p12.1 p12.2).bind fun p13 =>
                    if zis G p13.2 o0 26 = true then
                      (hX26_mustBe G o0 1 p13.2).bind fun p14 =>
                      if p14.1 = 0 then
                        hX26_phrase_135 G o0 p12.1 p14.2
                      else
                        if zis G p14.2 o0 26 = true then
                          (hX26_passed G o0 p14.2).bind fun p15 =>
                          (zfI p15.2 o0 25 41).bind fun x16 =>
                          if zis G p15.2 o0 26 = true then
                            (hX26_child G o0 p12.1 41 ((100000 : Int32) + p15.1) (x16 - (1 : Int32)) p15.2).bind fun p17 =>
                            hX26_phrase_135 G o0 p12.1 p17.2
                          else none
                        else none
                    else none
                  else none
                else none
            else none
          else
            if zis G p10.2 o0 26 = true then
              (hX26_make G o0 44 0 x8 p10.2).bind fun p18 =>
              if zis G p18.2 o0 26 = true then
                (hX26_attach G o0 i1 p18.1 p18.2).bind fun p19 =>
                if zis G p19.2 o0 26 = true then
                  (hX26_conditionOf G o0 p18.1 p19.2).bind fun p20 =>
                  hX26_phrase_177 G  p20.2
                else none
              else none
            else none
        else none
      else
        if zis G p9.2 o0 26 = true then
          (hX26_make G o0 43 0 x8 p9.2).bind fun p21 =>
          if zis G p21.2 o0 26 = true then
            (hX26_attach G o0 i1 p21.1 p21.2).bind fun p22 =>
            if zis G p22.2 o0 26 = true then
              (hX26_operandOf G o0 p21.1 p22.2).bind fun p23 =>
              if zis G p23.2 o0 26 = true then
                (hX26_must G o0 23 p23.2).bind fun p24 =>
                hX26_phrase_177 G  p24.2
              else none
            else none
          else none
        else none
    else none
  else
    some ((), σ)
/-! MainframeHouseModel$Parser.perform(I)V -/
def hX26_perform_79 (G : xQ) (r_0 : Option Nat) (x_1 : Int32) (x_2 : Int32) (σ : zS) : zF Unit :=
  if zis G σ r_0 26 = true then
    (hX26_phrase G r_0 x_1 σ).bind fun p1 =>
    if x_2 = 0 then
      (zfA p1.2 r_0 25 10).bind fun r2 =>
      (ziast p1.2 r2 x_1 (1 : Int32)).bind fun σ3 =>
      if zis G σ3 r_0 26 = true then
        (hX26_pile G r_0 39 x_1 σ3).bind fun p4 =>
        some ((), p4.2)
      else none
    else
      some ((), p1.2)
  else none
def hX26_perform_32 (G : xQ) (r_0 : Option Nat) (x_1 : Int32) (x_s0 : Int32) (σ : zS) : zF Unit :=
  if x_s0 = 0 then
    hX26_perform_79 G r_0 x_1 x_s0 σ
  else
    if zis G σ r_0 26 = true then
      (hX26_operandOf G r_0 x_1 σ).bind fun p5 =>
      if zis G p5.2 r_0 26 = true then
        (hX26_meets G r_0 21 p5.2).bind fun p6 =>
        if p6.1 = 0 then
          hX26_perform_79 G r_0 x_1 x_s0 p6.2
        else
          if zis G p6.2 r_0 26 = true then
            (hX26_mustBe G r_0 1 p6.2).bind fun p7 =>
            if p7.1 = 0 then
              hX26_perform_79 G r_0 x_1 x_s0 p7.2
            else
              if zis G p7.2 r_0 26 = true then
                (hX26_passed G r_0 p7.2).bind fun p8 =>
                (zfI p8.2 r_0 25 41).bind fun x9 =>
                if zis G p8.2 r_0 26 = true then
                  (hX26_child G r_0 x_1 41 ((100000 : Int32) + p8.1) (x9 - (1 : Int32)) p8.2).bind fun p10 =>
                  hX26_perform_79 G r_0 x_1 x_s0 p10.2
                else none
              else none
          else none
      else none
    else none
def hX26_perform_31 (G : xQ) (r_0 : Option Nat) (x_1 : Int32) (σ : zS) : zF Unit :=
  hX26_perform_32 G r_0 x_1 0 σ
def hX26_perform (G : xQ) (o0 : Option Nat) (i1 : Int32) (σ : zS) : zF Unit :=
  (zfI σ o0 25 41).bind fun x11 =>
  if zis G σ o0 26 = true then
    (hX26_isKind G o0 x11 1 σ).bind fun p12 =>
    if p12.1 = 0 then
      hX26_perform_31 G o0 i1 p12.2
    else
      (zfI p12.2 o0 25 41).bind fun x13 =>
      if zis G p12.2 o0 26 = true then
        (hX26_isWord G o0 (x13 + (1 : Int32)) 23 p12.2).bind fun p14 =>
        if ¬ p14.1 = 0 then
          hX26_perform_31 G o0 i1 p14.2
        else
          hX26_perform_32 G o0 i1 1 p14.2
      else none
  else none
/-! MainframeHouseModel$Parser.statement(I)V -/
def hX26_statement_521 (G : xQ)  (σ : zS) : zF Unit :=
  some ((), σ)
def hX26_statement_444b (G : xQ) (r_0 : Option Nat) (x_4 : Int32) (σ : zS) : zF (((Option Nat) × Int32) ⊕ Unit) :=
  (zfI σ r_0 25 43).bind fun x1 =>
  if ¬ x1 = 0 then
    zinr (hX26_statement_521 G  σ)
  else
    (zfI σ r_0 25 41).bind fun x2 =>
    if zis G σ r_0 26 = true then
      (hX26_isOperand G r_0 x2 σ).bind fun p3 =>
      if p3.1 = 0 then
        zinr (hX26_statement_521 G  p3.2)
      else
        if zis G p3.2 r_0 26 = true then
          (hX26_operandOf G r_0 x_4 p3.2).bind fun p4 =>
          some (.inl (r_0, x_4), p4.2)
        else none
    else none
def hX26_statement_444 (G : xQ) (r_0 : Option Nat) (x_4 : Int32) (σ : zS) : zF Unit := zloop (fun (a : ((Option Nat) × Int32)) σ => hX26_statement_444b G a.1 a.2 σ) xLim (r_0, x_4) σ
def hX26_statement_419 (G : xQ) (r_0 : Option Nat) (x_3 : Int32) (x_4 : Int32) (σ : zS) : zF Unit :=
  if zis G σ r_0 26 = true then
    (hX26_pile G r_0 x_3 x_4 σ).bind fun p5 =>
    hX26_statement_521 G  p5.2
  else none
def hX26_statement_390 (G : xQ) (r_0 : Option Nat) (x_3 : Int32) (x_4 : Int32) (σ : zS) : zF Unit :=
  if zis G σ r_0 26 = true then
    (hX26_pile G r_0 x_3 x_4 σ).bind fun p6 =>
    hX26_statement_521 G  p6.2
  else none
def hX26_statement_335 (G : xQ) (r_0 : Option Nat) (x_3 : Int32) (x_4 : Int32) (σ : zS) : zF Unit :=
  if zis G σ r_0 26 = true then
    (hX26_pile G r_0 x_3 x_4 σ).bind fun p7 =>
    hX26_statement_521 G  p7.2
  else none
def hX26_statement_160 (G : xQ) (r_0 : Option Nat) (x_1 : Int32) (x_2 : Int32) (x_3 : Int32) (x_s0 : Int32) (r_s1 : Option Nat) (σ : zS) : zF Unit :=
  if zis G σ r_s1 26 = true then
    (hX26_make G r_s1 x_s0 0 x_2 σ).bind fun p8 =>
    if zis G p8.2 r_0 26 = true then
      (hX26_attach G r_0 x_1 p8.1 p8.2).bind fun p9 =>
      if x_3 < 29 ∨ 47 < x_3 then
        hX26_statement_521 G  p9.2
      else if x_3 = 29 then
        if zis G p9.2 r_0 26 = true then
          (hX26_operandOf G r_0 p8.1 p9.2).bind fun p10 =>
          hX26_statement_444 G r_0 p8.1 p10.2
        else none
      else if x_3 = 30 then
        hX26_statement_521 G  p9.2
      else if x_3 = 31 then
        hX26_statement_521 G  p9.2
      else if x_3 = 32 then
        hX26_statement_521 G  p9.2
      else if x_3 = 33 then
        hX26_statement_521 G  p9.2
      else if x_3 = 34 then
        hX26_statement_521 G  p9.2
      else if x_3 = 35 then
        hX26_statement_521 G  p9.2
      else if x_3 = 36 then
        if zis G p9.2 r_0 26 = true then
          (hX26_operandOf G r_0 p8.1 p9.2).bind fun p11 =>
          if zis G p11.2 r_0 26 = true then
            (hX26_must G r_0 48 p11.2).bind fun p12 =>
            if p12.1 = 0 then
              hX26_statement_521 G  p12.2
            else
              if zis G p12.2 r_0 26 = true then
                (hX26_names G r_0 p8.1 41 p12.2).bind fun p13 =>
                hX26_statement_521 G  p13.2
              else none
          else none
        else none
      else if x_3 = 37 then
        if zis G p9.2 r_0 26 = true then
          (hX26_add G r_0 p8.1 p9.2).bind fun p14 =>
          hX26_statement_521 G  p14.2
        else none
      else if x_3 = 38 then
        if zis G p9.2 r_0 26 = true then
          (hX26_conditionOf G r_0 p8.1 p9.2).bind fun p15 =>
          (zfI p15.2 r_0 25 43).bind fun x16 =>
          if ¬ x16 = 0 then
            hX26_statement_335 G r_0 x_3 p8.1 p15.2
          else
            (zfI p15.2 r_0 25 41).bind fun x17 =>
            if zis G p15.2 r_0 26 = true then
              (hX26_isWord G r_0 x17 52 p15.2).bind fun p18 =>
              if p18.1 = 0 then
                hX26_statement_335 G r_0 x_3 p8.1 p18.2
              else
                (zfI p18.2 r_0 25 41).bind fun x19 =>
                (zpI p18.2 r_0 25 41 (x19 + (1 : Int32))).bind fun σ20 =>
                hX26_statement_335 G r_0 x_3 p8.1 σ20
            else none
        else none
      else if x_3 = 39 then
        if zis G p9.2 r_0 26 = true then
          (hX26_perform G r_0 p8.1 p9.2).bind fun p21 =>
          hX26_statement_521 G  p21.2
        else none
      else if x_3 = 40 then
        if zis G p9.2 r_0 26 = true then
          (hX26_operandOf G r_0 p8.1 p9.2).bind fun p22 =>
          (zfI p22.2 r_0 25 43).bind fun x23 =>
          if ¬ x23 = 0 then
            hX26_statement_390 G r_0 x_3 p8.1 p22.2
          else
            (zfI p22.2 r_0 25 41).bind fun x24 =>
            if zis G p22.2 r_0 26 = true then
              (hX26_isWord G r_0 x24 59 p22.2).bind fun p25 =>
              if ¬ p25.1 = 0 then
                hX26_statement_390 G r_0 x_3 p8.1 p25.2
              else
                (zfI p25.2 r_0 25 41).bind fun x26 =>
                if zis G p25.2 r_0 26 = true then
                  (hX26_fail G r_0 1 x26 p25.2).bind fun p27 =>
                  hX26_statement_390 G r_0 x_3 p8.1 p27.2
                else none
            else none
        else none
      else if x_3 = 41 then
        if zis G p9.2 r_0 26 = true then
          (hX26_mustBe G r_0 1 p9.2).bind fun p28 =>
          if p28.1 = 0 then
            hX26_statement_419 G r_0 x_3 p8.1 p28.2
          else
            (zfA p28.2 r_0 25 10).bind fun r29 =>
            if zis G p28.2 r_0 26 = true then
              (hX26_passed G r_0 p28.2).bind fun p30 =>
              (ziast p30.2 r29 p8.1 p30.1).bind fun σ31 =>
              hX26_statement_419 G r_0 x_3 p8.1 σ31
            else none
        else none
      else if x_3 = 42 then
        if zis G p9.2 r_0 26 = true then
          (hX26_call G r_0 p8.1 p9.2).bind fun p32 =>
          hX26_statement_521 G  p32.2
        else none
      else if x_3 = 43 then
        if zis G p9.2 r_0 26 = true then
          (hX26_meets G r_0 48 p9.2).bind fun p33 =>
          if zis G p33.2 r_0 26 = true then
            (hX26_mustBe G r_0 1 p33.2).bind fun p34 =>
            if p34.1 = 0 then
              hX26_statement_521 G  p34.2
            else
              (zfA p34.2 r_0 25 10).bind fun r35 =>
              if zis G p34.2 r_0 26 = true then
                (hX26_passed G r_0 p34.2).bind fun p36 =>
                (ziast p36.2 r35 p8.1 p36.1).bind fun σ37 =>
                hX26_statement_521 G  σ37
              else none
          else none
        else none
      else if x_3 = 44 then
        if zis G p9.2 r_0 26 = true then
          (hX26_must G r_0 63 p9.2).bind fun p38 =>
          hX26_statement_521 G  p38.2
        else none
      else if x_3 = 45 then
        hX26_statement_521 G  p9.2
      else if x_3 = 46 then
        hX26_statement_521 G  p9.2
      else if x_3 = 47 then
        if zis G p9.2 r_0 26 = true then
          (hX26_compute G r_0 p8.1 p9.2).bind fun p39 =>
          hX26_statement_521 G  p39.2
        else none
      else none
    else none
  else none
def hX26_statement (G : xQ) (o0 : Option Nat) (i1 : Int32) (σ : zS) : zF Unit :=
  (zfI σ o0 25 41).bind fun x40 =>
  (zfA σ o0 25 3).bind fun r41 =>
  (zfI σ o0 25 41).bind fun x42 =>
  (ziald σ r41 x42).bind fun x43 =>
  (zfI σ o0 25 41).bind fun x44 =>
  (zpI σ o0 25 41 (x44 + (1 : Int32))).bind fun σ45 =>
  if ¬ x43 = (36 : Int32) then
    if ¬ x43 = (37 : Int32) then
      if ¬ x43 = (38 : Int32) then
        if ¬ x43 = (39 : Int32) then
          if ¬ x43 = (40 : Int32) then
            if ¬ x43 = (41 : Int32) then
              if ¬ x43 = (42 : Int32) then
                if ¬ x43 = (29 : Int32) then
                  if ¬ x43 = (43 : Int32) then
                    if ¬ x43 = (44 : Int32) then
                      if ¬ x43 = (45 : Int32) then
                        if ¬ x43 = (46 : Int32) then
                          hX26_statement_160 G o0 i1 x40 x43 38 o0 σ45
                        else
                          hX26_statement_160 G o0 i1 x40 x43 37 o0 σ45
                      else
                        hX26_statement_160 G o0 i1 x40 x43 36 o0 σ45
                    else
                      hX26_statement_160 G o0 i1 x40 x43 35 o0 σ45
                  else
                    hX26_statement_160 G o0 i1 x40 x43 34 o0 σ45
                else
                  hX26_statement_160 G o0 i1 x40 x43 33 o0 σ45
              else
                hX26_statement_160 G o0 i1 x40 x43 32 o0 σ45
            else
              hX26_statement_160 G o0 i1 x40 x43 31 o0 σ45
          else
            hX26_statement_160 G o0 i1 x40 x43 30 o0 σ45
        else
          hX26_statement_160 G o0 i1 x40 x43 29 o0 σ45
      else
        hX26_statement_160 G o0 i1 x40 x43 28 o0 σ45
    else
      hX26_statement_160 G o0 i1 x40 x43 27 o0 σ45
  else
    hX26_statement_160 G o0 i1 x40 x43 26 o0 σ45
/-! MainframeHouseModel$Parser.statements(I)V -/
def hX26_statements_136 (G : xQ)  (σ : zS) : zF Unit :=
  some ((), σ)
def hX26_statements_133 (G : xQ) (r_0 : Option Nat) (σ : zS) : zF (((Option Nat)) ⊕ Unit) :=
  some (.inl (r_0), σ)
def hX26_statements_16b (G : xQ) (r_0 : Option Nat) (σ : zS) : zF (((Option Nat)) ⊕ Unit) :=
  (zfI σ r_0 25 45).bind fun x1 =>
  if x1 ≤ 0 then
    zinr (hX26_statements_136 G  σ)
  else
    (zfI σ r_0 25 43).bind fun x2 =>
    if ¬ x2 = 0 then
      zinr (hX26_statements_136 G  σ)
    else
      (zfI σ r_0 25 45).bind fun x3 =>
      xlet (x3 - (1 : Int32)) fun x4 =>
      (zfA σ r_0 25 46).bind fun r5 =>
      (ziald σ r5 x4).bind fun x6 =>
      if x6 = 0 then
        (zfI σ r_0 25 41).bind fun x7 =>
        if zis G σ r_0 26 = true then
          (hX26_begins G r_0 x7 σ).bind fun p8 =>
          if p8.1 = 0 then
            (zfA p8.2 r_0 25 48).bind fun r9 =>
            (ziald p8.2 r9 x4).bind fun x10 =>
            if ¬ x10 = 0 then
              (zfI p8.2 r_0 25 45).bind fun x11 =>
              (zpI p8.2 r_0 25 45 (x11 - (1 : Int32))).bind fun σ12 =>
              (zfI σ12 r_0 25 44).bind fun x13 =>
              (zpI σ12 r_0 25 44 (x13 - (1 : Int32))).bind fun σ14 =>
              hX26_statements_133 G r_0 σ14
            else
              (zfI p8.2 r_0 25 41).bind fun x15 =>
              if zis G p8.2 r_0 26 = true then
                (hX26_fail G r_0 1 x15 p8.2).bind fun p16 =>
                hX26_statements_133 G r_0 p16.2
              else none
          else
            (zfA p8.2 r_0 25 48).bind fun r17 =>
            (ziast p8.2 r17 x4 (1 : Int32)).bind fun σ18 =>
            (zfA σ18 r_0 25 47).bind fun r19 =>
            (ziald σ18 r19 x4).bind fun x20 =>
            if zis G σ18 r_0 26 = true then
              (hX26_statement G r_0 x20 σ18).bind fun p21 =>
              hX26_statements_133 G r_0 p21.2
            else none
        else none
      else
        (zfA σ r_0 25 47).bind fun r22 =>
        (ziald σ r22 x4).bind fun x23 =>
        if zis G σ r_0 26 = true then
          (hX26_goOn G r_0 x4 x23 σ).bind fun p24 =>
          hX26_statements_133 G r_0 p24.2
        else none
def hX26_statements_16 (G : xQ) (r_0 : Option Nat) (σ : zS) : zF Unit := zloop (fun (a : ((Option Nat))) σ => hX26_statements_16b G a σ) xLim (r_0) σ
def hX26_statements (G : xQ) (o0 : Option Nat) (i1 : Int32) (σ : zS) : zF Unit :=
  (zpI σ o0 25 45 (0 : Int32)).bind fun σ25 =>
  (zpI σ25 o0 25 44 (0 : Int32)).bind fun σ26 =>
  if zis G σ26 o0 26 = true then
    (hX26_pile G o0 0 i1 σ26).bind fun p27 =>
    hX26_statements_16 G o0 p27.2
  else none
/-! MainframeHouseModel$Parser.sentence(I)V -/
def hX26_sentence_80 (G : xQ)  (σ : zS) : zF Unit :=
  some ((), σ)
def hX26_sentence_64 (G : xQ) (r_0 : Option Nat) (x_1 : Int32) (x_2 : Int32) (x_s0 : Int32) (r_s1 : Option Nat) (σ : zS) : zF Unit :=
  if zis G σ r_s1 26 = true then
    (hX26_attach G r_s1 x_s0 x_2 σ).bind fun p1 =>
    if x_1 = (9 : Int32) then
      hX26_sentence_80 G  p1.2
    else
      if zis G p1.2 r_0 26 = true then
        (hX26_to G r_0 11 p1.2).bind fun p2 =>
        hX26_sentence_80 G  p2.2
      else none
  else none
def hX26_sentence (G : xQ) (o0 : Option Nat) (i1 : Int32) (σ : zS) : zF Unit :=
  (zfI σ o0 25 41).bind fun x3 =>
  if zis G σ o0 26 = true then
    (hX26_make G o0 25 0 x3 σ).bind fun p4 =>
    if zis G p4.2 o0 26 = true then
      (hX26_statements G o0 p4.1 p4.2).bind fun p5 =>
      if zis G p5.2 o0 26 = true then
        (hX26_mustBe G o0 4 p5.2).bind fun p6 =>
        if ¬ p6.1 = 0 then
          (zfI p6.2 o0 25 36).bind fun x7 =>
          if x7 ≤ 0 then
            (zfI p6.2 o0 25 35).bind fun x8 =>
            if x8 ≤ 0 then
              (zfA p6.2 o0 25 25).bind fun r9 =>
              if zis G p6.2 o0 26 = true then
                (hX26_here G o0 p6.2).bind fun p10 =>
                (ziald p10.2 r9 p10.1).bind fun x11 =>
                hX26_sentence_64 G o0 i1 p4.1 x11 o0 p10.2
              else none
            else
              (zfI p6.2 o0 25 35).bind fun x12 =>
              hX26_sentence_64 G o0 i1 p4.1 x12 o0 p6.2
          else
            (zfI p6.2 o0 25 36).bind fun x13 =>
            hX26_sentence_64 G o0 i1 p4.1 x13 o0 p6.2
        else
          some ((), p6.2)
      else none
    else none
  else none
/-! MainframeHouseModel$Parser.reserved(II)V -/
def hX26_reserved_446 (G : xQ)  (σ : zS) : zF Unit :=
  some ((), σ)
def hX26_reserved_355 (G : xQ) (x_s0 : Int32) (r_s1 : Option Nat) (σ : zS) : zF Unit :=
  if zis G σ r_s1 26 = true then
    (hX26_unitNamed G r_s1 x_s0 σ).bind fun p1 =>
    hX26_reserved_446 G  p1.2
  else none
def hX26_reserved_344 (G : xQ) (r_0 : Option Nat) (x_2 : Int32) (σ : zS) : zF Unit :=
  if ¬ x_2 = (3 : Int32) then
    hX26_reserved_355 G 0 r_0 σ
  else
    hX26_reserved_355 G 1 r_0 σ
def hX26_reserved_247 (G : xQ) (r_0 : Option Nat) (x_1 : Int32) (x_2 : Int32) (x_3 : Int32) (x_4 : Int32) (σ : zS) : zF Unit :=
  if x_4 = 0 then
    if ¬ x_2 = 0 then
      (zfI σ r_0 25 41).bind fun x2 =>
      (zpI σ r_0 25 41 (x2 + (1 : Int32))).bind fun σ3 =>
      if xnone #[(2, 65), (3, 65), (5, 82), (17, 90), (30, 98), (32, 106), (33, 153)] x_2 = true then
        if zis G σ3 r_0 26 = true then
          (hX26_division2 G r_0 x_2 x_3 σ3).bind fun p4 =>
          hX26_reserved_446 G  p4.2
        else none
      else if x_2 = 2 then
        hX26_reserved_344 G r_0 x_2 σ3
      else if x_2 = 3 then
        hX26_reserved_344 G r_0 x_2 σ3
      else if x_2 = 5 then
        if zis G σ3 r_0 26 = true then
          (hX26_select G r_0 x_3 σ3).bind fun p5 =>
          hX26_reserved_446 G  p5.2
        else none
      else if x_2 = 17 then
        if zis G σ3 r_0 26 = true then
          (hX26_described G r_0 x_3 σ3).bind fun p6 =>
          hX26_reserved_446 G  p6.2
        else none
      else if x_2 = 30 then
        if zis G σ3 r_0 26 = true then
          (hX26_begun G r_0 x_3 σ3).bind fun p7 =>
          hX26_reserved_446 G  p7.2
        else none
      else if x_2 = 32 then
        if zis G σ3 r_0 26 = true then
          (hX26_mustBe G r_0 4 σ3).bind fun p8 =>
          if ¬ p8.1 = 0 then
            if zis G p8.2 r_0 26 = true then
              (hX26_make G r_0 22 0 x_3 p8.2).bind fun p9 =>
              (zpI p9.2 r_0 25 34 p9.1).bind fun σ10 =>
              (zfA σ10 r_0 25 25).bind fun r11 =>
              if zis G σ10 r_0 26 = true then
                (hX26_here G r_0 σ10).bind fun p12 =>
                (ziald p12.2 r11 p12.1).bind fun x13 =>
                (zfI p12.2 r_0 25 34).bind fun x14 =>
                if zis G p12.2 r_0 26 = true then
                  (hX26_attach G r_0 x13 x14 p12.2).bind fun p15 =>
                  if zis G p15.2 r_0 26 = true then
                    (hX26_to G r_0 9 p15.2).bind fun p16 =>
                    hX26_reserved_446 G  p16.2
                  else none
                else none
              else none
            else none
          else
            some ((), p8.2)
        else none
      else if x_2 = 33 then
        if zis G σ3 r_0 26 = true then
          (hX26_ended G r_0 x_1 σ3).bind fun p17 =>
          hX26_reserved_446 G  p17.2
        else none
      else none
    else
      if zis G σ r_0 26 = true then
        (hX26_identified G r_0 x_1 σ).bind fun p18 =>
        some ((), p18.2)
      else none
  else
    if zis G σ r_0 26 = true then
      (hX26_sentence G r_0 x_1 σ).bind fun p19 =>
      some ((), p19.2)
    else none
def hX26_reserved_224 (G : xQ) (r_0 : Option Nat) (x_1 : Int32) (x_2 : Int32) (x_3 : Int32) (x_4 : Int32) (x_s0 : Int32) (σ : zS) : zF Unit :=
  if ¬ x_s0 = 0 then
    hX26_reserved_247 G r_0 x_1 x_2 x_3 x_4 σ
  else
    if ¬ x_4 = 0 then
      hX26_reserved_247 G r_0 x_1 x_2 x_3 x_4 σ
    else
      (zfI σ r_0 25 41).bind fun x20 =>
      if zis G σ r_0 26 = true then
        (hX26_fail G r_0 1 x20 σ).bind fun p21 =>
        some ((), p21.2)
      else none
def hX26_reserved_223 (G : xQ) (r_0 : Option Nat) (x_1 : Int32) (x_2 : Int32) (x_3 : Int32) (x_4 : Int32) (σ : zS) : zF Unit :=
  hX26_reserved_224 G r_0 x_1 x_2 x_3 x_4 0 σ
def hX26_reserved_219 (G : xQ) (r_0 : Option Nat) (x_1 : Int32) (x_2 : Int32) (x_3 : Int32) (x_4 : Int32) (σ : zS) : zF Unit :=
  hX26_reserved_224 G r_0 x_1 x_2 x_3 x_4 1 σ
def hX26_reserved_209 (G : xQ) (r_0 : Option Nat) (x_1 : Int32) (x_2 : Int32) (x_3 : Int32) (x_4 : Int32) (σ : zS) : zF Unit :=
  if ¬ x_2 = (33 : Int32) then
    hX26_reserved_223 G r_0 x_1 x_2 x_3 x_4 σ
  else
    if x_1 ≤ 0 then
      hX26_reserved_223 G r_0 x_1 x_2 x_3 x_4 σ
    else
      hX26_reserved_219 G r_0 x_1 x_2 x_3 x_4 σ
def hX26_reserved_197 (G : xQ) (r_0 : Option Nat) (x_1 : Int32) (x_2 : Int32) (x_3 : Int32) (x_4 : Int32) (σ : zS) : zF Unit :=
  if ¬ x_2 = (32 : Int32) then
    hX26_reserved_209 G r_0 x_1 x_2 x_3 x_4 σ
  else
    if x_1 = (8 : Int32) then
      hX26_reserved_219 G r_0 x_1 x_2 x_3 x_4 σ
    else
      hX26_reserved_209 G r_0 x_1 x_2 x_3 x_4 σ
def hX26_reserved_181 (G : xQ) (r_0 : Option Nat) (x_1 : Int32) (x_2 : Int32) (x_3 : Int32) (x_4 : Int32) (σ : zS) : zF Unit :=
  if ¬ x_2 = (30 : Int32) then
    hX26_reserved_197 G r_0 x_1 x_2 x_3 x_4 σ
  else
    (hX26_in G x_1 1 7 σ).bind fun p22 =>
    if ¬ p22.1 = 0 then
      hX26_reserved_219 G r_0 x_1 x_2 x_3 x_4 p22.2
    else
      hX26_reserved_197 G r_0 x_1 x_2 x_3 x_4 p22.2
def hX26_reserved_165 (G : xQ) (r_0 : Option Nat) (x_1 : Int32) (x_2 : Int32) (x_3 : Int32) (x_4 : Int32) (σ : zS) : zF Unit :=
  if ¬ x_2 = (15 : Int32) then
    hX26_reserved_181 G r_0 x_1 x_2 x_3 x_4 σ
  else
    (hX26_in G x_1 3 6 σ).bind fun p23 =>
    if ¬ p23.1 = 0 then
      hX26_reserved_219 G r_0 x_1 x_2 x_3 x_4 p23.2
    else
      hX26_reserved_181 G r_0 x_1 x_2 x_3 x_4 p23.2
def hX26_reserved_150 (G : xQ) (r_0 : Option Nat) (x_1 : Int32) (x_2 : Int32) (x_3 : Int32) (x_4 : Int32) (σ : zS) : zF Unit :=
  if ¬ x_2 = (14 : Int32) then
    hX26_reserved_165 G r_0 x_1 x_2 x_3 x_4 σ
  else
    (hX26_in G x_1 3 5 σ).bind fun p24 =>
    if ¬ p24.1 = 0 then
      hX26_reserved_219 G r_0 x_1 x_2 x_3 x_4 p24.2
    else
      hX26_reserved_165 G r_0 x_1 x_2 x_3 x_4 p24.2
def hX26_reserved_128 (G : xQ) (r_0 : Option Nat) (x_1 : Int32) (x_2 : Int32) (x_3 : Int32) (x_4 : Int32) (x_s0 : Int32) (σ : zS) : zF Unit :=
  if ¬ x_s0 = 0 then
    hX26_reserved_219 G r_0 x_1 x_2 x_3 x_4 σ
  else
    if ¬ x_2 = (17 : Int32) then
      hX26_reserved_150 G r_0 x_1 x_2 x_3 x_4 σ
    else
      (hX26_in G x_1 4 5 σ).bind fun p25 =>
      if ¬ p25.1 = 0 then
        hX26_reserved_219 G r_0 x_1 x_2 x_3 x_4 p25.2
      else
        hX26_reserved_150 G r_0 x_1 x_2 x_3 x_4 p25.2
def hX26_reserved_127 (G : xQ) (r_0 : Option Nat) (x_1 : Int32) (x_2 : Int32) (x_3 : Int32) (x_4 : Int32) (σ : zS) : zF Unit :=
  hX26_reserved_128 G r_0 x_1 x_2 x_3 x_4 0 σ
def hX26_reserved_123 (G : xQ) (r_0 : Option Nat) (x_1 : Int32) (x_2 : Int32) (x_3 : Int32) (x_4 : Int32) (σ : zS) : zF Unit :=
  hX26_reserved_128 G r_0 x_1 x_2 x_3 x_4 1 σ
def hX26_reserved_112 (G : xQ) (r_0 : Option Nat) (x_1 : Int32) (x_2 : Int32) (x_3 : Int32) (x_4 : Int32) (σ : zS) : zF Unit :=
  if ¬ x_2 = (13 : Int32) then
    hX26_reserved_127 G r_0 x_1 x_2 x_3 x_4 σ
  else
    if ¬ x_1 = (3 : Int32) then
      hX26_reserved_127 G r_0 x_1 x_2 x_3 x_4 σ
    else
      hX26_reserved_123 G r_0 x_1 x_2 x_3 x_4 σ
def hX26_reserved_97 (G : xQ) (r_0 : Option Nat) (x_1 : Int32) (x_2 : Int32) (x_3 : Int32) (x_4 : Int32) (σ : zS) : zF Unit :=
  if ¬ x_2 = (12 : Int32) then
    hX26_reserved_112 G r_0 x_1 x_2 x_3 x_4 σ
  else
    (hX26_in G x_1 1 2 σ).bind fun p26 =>
    if ¬ p26.1 = 0 then
      hX26_reserved_123 G r_0 x_1 x_2 x_3 x_4 p26.2
    else
      hX26_reserved_112 G r_0 x_1 x_2 x_3 x_4 p26.2
def hX26_reserved_87 (G : xQ) (r_0 : Option Nat) (x_1 : Int32) (x_2 : Int32) (x_3 : Int32) (x_4 : Int32) (σ : zS) : zF Unit :=
  if ¬ x_2 = (5 : Int32) then
    hX26_reserved_97 G r_0 x_1 x_2 x_3 x_4 σ
  else
    if x_1 = (2 : Int32) then
      hX26_reserved_123 G r_0 x_1 x_2 x_3 x_4 σ
    else
      hX26_reserved_97 G r_0 x_1 x_2 x_3 x_4 σ
def hX26_reserved_77 (G : xQ) (r_0 : Option Nat) (x_1 : Int32) (x_2 : Int32) (x_3 : Int32) (x_4 : Int32) (σ : zS) : zF Unit :=
  if ¬ x_2 = (4 : Int32) then
    hX26_reserved_87 G r_0 x_1 x_2 x_3 x_4 σ
  else
    if x_1 = (1 : Int32) then
      hX26_reserved_123 G r_0 x_1 x_2 x_3 x_4 σ
    else
      hX26_reserved_87 G r_0 x_1 x_2 x_3 x_4 σ
def hX26_reserved_60 (G : xQ) (r_0 : Option Nat) (x_1 : Int32) (x_2 : Int32) (x_3 : Int32) (x_4 : Int32) (σ : zS) : zF Unit :=
  if ¬ x_2 = (3 : Int32) then
    hX26_reserved_77 G r_0 x_1 x_2 x_3 x_4 σ
  else
    if ¬ x_1 = 0 then
      hX26_reserved_77 G r_0 x_1 x_2 x_3 x_4 σ
    else
      (zfI σ r_0 25 26).bind fun x27 =>
      if x27 = (1 : Int32) then
        hX26_reserved_123 G r_0 x_1 x_2 x_3 x_4 σ
      else
        hX26_reserved_77 G r_0 x_1 x_2 x_3 x_4 σ
def hX26_reserved_45 (G : xQ) (r_0 : Option Nat) (x_1 : Int32) (x_2 : Int32) (x_3 : Int32) (x_s0 : Int32) (σ : zS) : zF Unit :=
  if x_2 = 0 then
    hX26_reserved_123 G r_0 x_1 x_2 x_3 x_s0 σ
  else
    if ¬ x_2 = (2 : Int32) then
      hX26_reserved_60 G r_0 x_1 x_2 x_3 x_s0 σ
    else
      if x_1 = 0 then
        hX26_reserved_123 G r_0 x_1 x_2 x_3 x_s0 σ
      else
        hX26_reserved_60 G r_0 x_1 x_2 x_3 x_s0 σ
def hX26_reserved_44 (G : xQ) (r_0 : Option Nat) (x_1 : Int32) (x_2 : Int32) (x_3 : Int32) (σ : zS) : zF Unit :=
  hX26_reserved_45 G r_0 x_1 x_2 x_3 0 σ
def hX26_reserved_40 (G : xQ) (r_0 : Option Nat) (x_1 : Int32) (x_2 : Int32) (x_3 : Int32) (σ : zS) : zF Unit :=
  hX26_reserved_45 G r_0 x_1 x_2 x_3 1 σ
def hX26_reserved (G : xQ) (o0 : Option Nat) (i1 : Int32) (i2 : Int32) (σ : zS) : zF Unit :=
  (zfI σ o0 25 41).bind fun x28 =>
  (zfI σ o0 25 41).bind fun x29 =>
  if zis G σ o0 26 = true then
    (hX26_begins G o0 x29 σ).bind fun p30 =>
    if p30.1 = 0 then
      hX26_reserved_44 G o0 i1 i2 x28 p30.2
    else
      (hX26_in G i1 8 11 p30.2).bind fun p31 =>
      if p31.1 = 0 then
        hX26_reserved_44 G o0 i1 i2 x28 p31.2
      else
        if ¬ i1 = (9 : Int32) then
          hX26_reserved_40 G o0 i1 i2 x28 p31.2
        else
          (zfI p31.2 o0 25 35).bind fun x32 =>
          if x32 ≤ 0 then
            hX26_reserved_44 G o0 i1 i2 x28 p31.2
          else
            hX26_reserved_40 G o0 i1 i2 x28 p31.2
  else none
/-! MainframeHouseModel$Parser.clause()V -/
def hX26_clause_124 (G : xQ)  (σ : zS) : zF Unit :=
  some ((), σ)
def hX26_clause_85 (G : xQ) (r_0 : Option Nat) (x_1 : Int32) (σ : zS) : zF Unit :=
  (zfA σ r_0 25 2).bind fun r1 =>
  (zfI σ r_0 25 41).bind fun x2 =>
  (ziald σ r1 x2).bind fun x3 =>
  if x3 = 0 then
    (zfA σ r_0 25 3).bind fun r4 =>
    (zfI σ r_0 25 41).bind fun x5 =>
    (ziald σ r4 x5).bind fun x6 =>
    if zis G σ r_0 26 = true then
      (hX26_reserved G r_0 x_1 x6 σ).bind fun p7 =>
      hX26_clause_124 G  p7.2
    else none
  else
    (zfI σ r_0 25 41).bind fun x8 =>
    if zis G σ r_0 26 = true then
      (hX26_fail G r_0 1 x8 σ).bind fun p9 =>
      hX26_clause_124 G  p9.2
    else none
def hX26_clause_53 (G : xQ) (r_0 : Option Nat) (x_1 : Int32) (σ : zS) : zF Unit :=
  (zfA σ r_0 25 2).bind fun r10 =>
  (zfI σ r_0 25 41).bind fun x11 =>
  (ziald σ r10 x11).bind fun x12 =>
  if ¬ x12 = (1 : Int32) then
    hX26_clause_85 G r_0 x_1 σ
  else
    (hX26_in G x_1 8 11 σ).bind fun p13 =>
    if p13.1 = 0 then
      hX26_clause_85 G r_0 x_1 p13.2
    else
      if zis G p13.2 r_0 26 = true then
        (hX26_named G r_0 x_1 p13.2).bind fun p14 =>
        hX26_clause_124 G  p14.2
      else none
def hX26_clause_22 (G : xQ) (r_0 : Option Nat) (x_s0 : Int32) (σ : zS) : zF Unit :=
  (zfA σ r_0 25 2).bind fun r15 =>
  (zfI σ r_0 25 41).bind fun x16 =>
  (ziald σ r15 x16).bind fun x17 =>
  if ¬ x17 = (2 : Int32) then
    hX26_clause_53 G r_0 x_s0 σ
  else
    (hX26_in G x_s0 5 7 σ).bind fun p18 =>
    if p18.1 = 0 then
      hX26_clause_53 G r_0 x_s0 p18.2
    else
      if zis G p18.2 r_0 26 = true then
        (hX26_item G r_0 p18.2).bind fun p19 =>
        hX26_clause_124 G  p19.2
      else none
def hX26_clause (G : xQ) (o0 : Option Nat) (σ : zS) : zF Unit :=
  (zfI σ o0 25 26).bind fun x20 =>
  if ¬ x20 = 0 then
    (zfA σ o0 25 27).bind fun r21 =>
    (zfI σ o0 25 26).bind fun x22 =>
    (ziald σ r21 (x22 - (1 : Int32))).bind fun x23 =>
    hX26_clause_22 G o0 x23 σ
  else
    hX26_clause_22 G o0 ((-1)) σ
/-! MainframeHouseModel$Parser.parse()I -/
def hX26_parse_238 (G : xQ) (r_0 : Option Nat) (x_1 : Int32) (x_s0 : Int32) (r_s1 : Option Nat) (σ : zS) : zF Int32 :=
  (zpI σ r_s1 25 0 x_s0).bind fun σ1 =>
  (zfI σ1 r_0 25 5).bind fun x2 =>
  if x2 ≤ 0 then
    if zis G σ1 r_0 26 = true then
      (hX26_numberAll G r_0 x_1 σ1).bind fun p3 =>
      (zfI p3.2 r_0 25 20).bind fun x4 =>
      some (x4, p3.2)
    else none
  else
    (zpI σ1 r_0 25 20 (0 : Int32)).bind fun σ5 =>
    some (0, σ5)
def hX26_parse_225 (G : xQ) (r_0 : Option Nat) (x_1 : Int32) (σ : zS) : zF Int32 :=
  (zfI σ r_0 25 5).bind fun x6 =>
  if x6 ≤ 0 then
    hX26_parse_238 G r_0 x_1 0 r_0 σ
  else
    hX26_parse_238 G r_0 x_1 1 r_0 σ
def hX26_parse_195 (G : xQ) (r_0 : Option Nat) (x_1 : Int32) (x_s0 : Int32) (σ : zS) : zF Int32 :=
  (zfI σ r_0 25 5).bind fun x7 =>
  if (20 : Int32) ≤ x7 then
    hX26_parse_225 G r_0 x_1 σ
  else
    (zfI σ r_0 25 26).bind fun x8 =>
    if x8 ≤ 0 then
      hX26_parse_225 G r_0 x_1 σ
    else
      if ¬ x_s0 = 0 then
        hX26_parse_225 G r_0 x_1 σ
      else
        (zfI σ r_0 25 4).bind fun x9 =>
        if zis G σ r_0 26 = true then
          (hX26_note G r_0 1 x9 σ).bind fun p10 =>
          hX26_parse_225 G r_0 x_1 p10.2
        else none
def hX26_parse_194 (G : xQ) (r_0 : Option Nat) (x_1 : Int32) (σ : zS) : zF Int32 :=
  hX26_parse_195 G r_0 x_1 0 σ
def hX26_parse_153 (G : xQ) (r_0 : Option Nat) (x_1 : Int32) (σ : zS) : zF Int32 :=
  (zfI σ r_0 25 26).bind fun x11 =>
  if ¬ x11 = (1 : Int32) then
    hX26_parse_194 G r_0 x_1 σ
  else
    (zfA σ r_0 25 27).bind fun r12 =>
    (ziald σ r12 (0 : Int32)).bind fun x13 =>
    if x13 = 0 then
      hX26_parse_194 G r_0 x_1 σ
    else
      (zfA σ r_0 25 27).bind fun r14 =>
      (ziald σ r14 (0 : Int32)).bind fun x15 =>
      if x15 = (9 : Int32) then
        hX26_parse_194 G r_0 x_1 σ
      else
        (zfA σ r_0 25 31).bind fun r16 =>
        (zbald σ r16 (0 : Int32)).bind fun x17 =>
        if ¬ x17 = 0 then
          hX26_parse_194 G r_0 x_1 σ
        else
          hX26_parse_195 G r_0 x_1 1 σ
def hX26_parse_140 (G : xQ) (r_0 : Option Nat) (x_1 : Int32) (σ : zS) : zF (((Option Nat) × Int32) ⊕ Int32) :=
  (zfI σ r_0 25 41).bind fun x18 =>
  (zpI σ r_0 25 41 (x18 + (1 : Int32))).bind fun σ19 =>
  some (.inl (r_0, x_1), σ19)
def hX26_parse_103b (G : xQ) (r_0 : Option Nat) (x_1 : Int32) (σ : zS) : zF (((Option Nat) × Int32) ⊕ (((Option Nat) × Int32) ⊕ Int32)) :=
  (zfI σ r_0 25 41).bind fun x20 =>
  (zfI σ r_0 25 4).bind fun x21 =>
  if x21 ≤ x20 then
    zinr (hX26_parse_140 G r_0 x_1 σ)
  else
    (zfA σ r_0 25 2).bind fun r22 =>
    (zfI σ r_0 25 41).bind fun x23 =>
    (ziald σ r22 x23).bind fun x24 =>
    if x24 = (4 : Int32) then
      zinr (hX26_parse_140 G r_0 x_1 σ)
    else
      (zfI σ r_0 25 41).bind fun x25 =>
      (zpI σ r_0 25 41 (x25 + (1 : Int32))).bind fun σ26 =>
      some (.inl (r_0, x_1), σ26)
def hX26_parse_103 (G : xQ) (r_0 : Option Nat) (x_1 : Int32) (σ : zS) : zF (((Option Nat) × Int32) ⊕ Int32) := zloop (fun (a : ((Option Nat) × Int32)) σ => hX26_parse_103b G a.1 a.2 σ) xLim (r_0, x_1) σ
def hX26_parse_56b (G : xQ) (r_0 : Option Nat) (x_1 : Int32) (σ : zS) : zF (((Option Nat) × Int32) ⊕ Int32) :=
  (zfI σ r_0 25 41).bind fun x27 =>
  (zfI σ r_0 25 4).bind fun x28 =>
  if x28 ≤ x27 then
    zinr (hX26_parse_153 G r_0 x_1 σ)
  else
    (zfI σ r_0 25 5).bind fun x29 =>
    if (20 : Int32) ≤ x29 then
      zinr (hX26_parse_153 G r_0 x_1 σ)
    else
      (zpN σ r_0 25 43 .boolean 0).bind fun σ30 =>
      if zis G σ30 r_0 26 = true then
        (hX26_clause G r_0 σ30).bind fun p31 =>
        (zfI p31.2 r_0 25 43).bind fun x32 =>
        if ¬ x32 = 0 then
          (zfI p31.2 r_0 25 42).bind fun x33 =>
          (zpI p31.2 r_0 25 41 x33).bind fun σ34 =>
          hX26_parse_103 G r_0 x_1 σ34
        else
          some (.inl (r_0, x_1), p31.2)
      else none
def hX26_parse_56 (G : xQ) (r_0 : Option Nat) (x_1 : Int32) (σ : zS) : zF Int32 := zloop (fun (a : ((Option Nat) × Int32)) σ => hX26_parse_56b G a.1 a.2 σ) xLim (r_0, x_1) σ
def hX26_parse (G : xQ) (o0 : Option Nat) (σ : zS) : zF Int32 :=
  (zfI σ o0 25 1).bind fun x35 =>
  (zpI σ o0 25 4 x35).bind fun σ36 =>
  (zpI σ36 o0 25 1 (0 : Int32)).bind fun σ37 =>
  (zpI σ37 o0 25 41 (0 : Int32)).bind fun σ38 =>
  (zpI σ38 o0 25 5 (0 : Int32)).bind fun σ39 =>
  (zpI σ39 o0 25 8 (0 : Int32)).bind fun σ40 =>
  (zpI σ40 o0 25 20 (0 : Int32)).bind fun σ41 =>
  (zpI σ41 o0 25 26 (0 : Int32)).bind fun σ42 =>
  (zpI σ42 o0 25 19 (0 : Int32)).bind fun σ43 =>
  (zpI σ43 o0 25 21 (0 : Int32)).bind fun σ44 =>
  if zis G σ44 o0 26 = true then
    (hX26_make G o0 0 0 0 σ44).bind fun p45 =>
    hX26_parse_56 G o0 p45.1 p45.2
  else none
/-! MainframeHouse$Parser.factor()LMainframeHouse$Parser$Node; -/
def hX4_factor_78 (G : xQ) (FX4_factor : (Option Nat) → zS → zF ((Option Nat) ⊕ Nat)) (FX4_row : (Option Nat) → Int32 → zS → zF ((Option Nat) ⊕ Nat)) (r_0 : Option Nat) (σ : zS) : zF ((Option Nat) ⊕ Nat) :=
  (zfI σ r_0 40 3).bind fun x1 =>
  if zis G σ r_0 41 = true then
    (hX4_isSign G r_0 x1 0 σ).bind fun p2 =>
    if ¬ p2.1 = 0 then
      if zis G p2.2 r_0 41 = true then
        zcase (hX4_deeper G r_0 p2.2) (fun p3 =>
          (zfI p3.2 r_0 40 3).bind fun x4 =>
          (zpI p3.2 r_0 40 3 (x4 + (1 : Int32))).bind fun σ5 =>
          (zpA σ5 r_0 40 15 none).bind fun σ6 =>
          if zis G σ6 r_0 41 = true then
            zcase (FX4_row r_0 1 σ6) (fun p7 =>
              if zis G p7.2 r_0 41 = true then
                zcase (hX4_close G r_0 p7.2) (fun p8 =>
                  (zpA p8.2 r_0 40 15 none).bind fun σ9 =>
                  some (.inl (p7.1), σ9)) (fun p10 =>
                  if zthr p10.2 p10.1 3 = true then
                    some (.inr p10.1, p10.2)
                  else none)
              else none) (fun p11 =>
              if zthr p11.2 p11.1 3 = true then
                some (.inr p11.1, p11.2)
              else none)
          else none) (fun p12 =>
          if zthr p12.2 p12.1 3 = true then
            some (.inr p12.1, p12.2)
          else none)
      else none
    else
      if zis G p2.2 r_0 41 = true then
        zcase (hX4_relation G r_0 p2.2) (fun p13 =>
          some (.inl (p13.1), p13.2)) (fun p14 =>
          if zthr p14.2 p14.1 3 = true then
            some (.inr p14.1, p14.2)
          else none)
      else none
  else none
def hX4_factor_r (G : xQ) (FX4_factor : (Option Nat) → zS → zF ((Option Nat) ⊕ Nat)) (FX4_row : (Option Nat) → Int32 → zS → zF ((Option Nat) ⊕ Nat)) (o0 : Option Nat) (σ : zS) : zF ((Option Nat) ⊕ Nat) :=
  (zfI σ o0 40 3).bind fun x15 =>
  (zfI σ o0 40 3).bind fun x16 =>
  if zis G σ o0 41 = true then
    (hX4_isWord G o0 x16 64 σ).bind fun p17 =>
    if p17.1 = 0 then
      hX4_factor_78 G FX4_factor FX4_row o0 p17.2
    else
      (zfI p17.2 o0 40 3).bind fun x18 =>
      if zis G p17.2 o0 41 = true then
        (hX4_isComparing G o0 (x18 + (1 : Int32)) p17.2).bind fun p19 =>
        if ¬ p19.1 = 0 then
          hX4_factor_78 G FX4_factor FX4_row o0 p19.2
        else
          if zis G p19.2 o0 41 = true then
            zcase (hX4_deeper G o0 p19.2) (fun p20 =>
              (zfI p20.2 o0 40 3).bind fun x21 =>
              (zpI p20.2 o0 40 3 (x21 + (1 : Int32))).bind fun σ22 =>
              (znO σ22 44 9).bind fun p23 =>
              if zis G p23.2 p23.1 45 = true then
                (hX43_init G p23.1 52 0 x15 p23.2).bind fun p24 =>
                if zis G p24.2 o0 41 = true then
                  zcase (FX4_factor o0 p24.2) (fun p25 =>
                    if zis G p25.2 p23.1 45 = true then
                      (hX43_add G p23.1 p25.1 p25.2).bind fun p26 =>
                      (zfI p26.2 o0 40 4).bind fun x27 =>
                      (zpI p26.2 o0 40 4 (x27 - (1 : Int32))).bind fun σ28 =>
                      some (.inl (p23.1), σ28)
                    else none) (fun p29 =>
                    if zthr p29.2 p29.1 3 = true then
                      some (.inr p29.1, p29.2)
                    else none)
                else none
              else none) (fun p30 =>
              if zthr p30.2 p30.1 3 = true then
                some (.inr p30.1, p30.2)
              else none)
          else none
      else none
  else none
def hX4_row_101 (G : xQ) (FX4_factor : (Option Nat) → zS → zF ((Option Nat) ⊕ Nat)) (FX4_row : (Option Nat) → Int32 → zS → zF ((Option Nat) ⊕ Nat)) (r_0 : Option Nat) (x_1 : Int32) (x_3 : Int32) (r_4 : Option Nat) (r_s0 : Option Nat) (r_s1 : Option Nat) (σ : zS) : zF (((Option Nat) × Int32 × Int32 × (Option Nat)) ⊕ ((Option Nat) ⊕ Nat)) :=
  if zis G σ r_s1 45 = true then
    (hX43_add G r_s1 r_s0 σ).bind fun p1 =>
    some (.inl (r_0, x_1, x_3, r_4), p1.2)
  else none
def hX4_row_75b (G : xQ) (FX4_factor : (Option Nat) → zS → zF ((Option Nat) ⊕ Nat)) (FX4_row : (Option Nat) → Int32 → zS → zF ((Option Nat) ⊕ Nat)) (r_0 : Option Nat) (x_1 : Int32) (x_3 : Int32) (r_4 : Option Nat) (σ : zS) : zF (((Option Nat) × Int32 × Int32 × (Option Nat)) ⊕ ((Option Nat) ⊕ Nat)) :=
  if zis G σ r_0 41 = true then
    (hX4_meets G r_0 x_3 σ).bind fun p2 =>
    if p2.1 = 0 then
      zinr (
        some (.inl (r_4), p2.2))
    else
      if x_1 = 0 then
        if zis G p2.2 r_0 41 = true then
          zcase (FX4_factor r_0 p2.2) (fun p3 =>
            hX4_row_101 G FX4_factor FX4_row r_0 x_1 x_3 r_4 p3.1 r_4 p3.2) (fun p4 =>
            if zthr p4.2 p4.1 3 = true then
              some (.inr (.inr p4.1), p4.2)
            else none)
        else none
      else
        if zis G p2.2 r_0 41 = true then
          zcase (FX4_row r_0 0 p2.2) (fun p5 =>
            hX4_row_101 G FX4_factor FX4_row r_0 x_1 x_3 r_4 p5.1 r_4 p5.2) (fun p6 =>
            if zthr p6.2 p6.1 3 = true then
              some (.inr (.inr p6.1), p6.2)
            else none)
        else none
  else none
def hX4_row_75 (G : xQ) (FX4_factor : (Option Nat) → zS → zF ((Option Nat) ⊕ Nat)) (FX4_row : (Option Nat) → Int32 → zS → zF ((Option Nat) ⊕ Nat)) (r_0 : Option Nat) (x_1 : Int32) (x_3 : Int32) (r_4 : Option Nat) (σ : zS) : zF ((Option Nat) ⊕ Nat) := zloop (fun (a : ((Option Nat) × Int32 × Int32 × (Option Nat))) σ => hX4_row_75b G FX4_factor FX4_row a.1 a.2.1 a.2.2.1 a.2.2.2 σ) xLim (r_0, x_1, x_3, r_4) σ
def hX4_row_58 (G : xQ) (FX4_factor : (Option Nat) → zS → zF ((Option Nat) ⊕ Nat)) (FX4_row : (Option Nat) → Int32 → zS → zF ((Option Nat) ⊕ Nat)) (r_0 : Option Nat) (x_1 : Int32) (r_2 : Option Nat) (x_3 : Int32) (x_s0 : Int32) (r_s1 : Option Nat) (r_s2 : Option Nat) (σ : zS) : zF ((Option Nat) ⊕ Nat) :=
  (zfI σ r_2 44 5).bind fun x7 =>
  if zis G σ r_s1 45 = true then
    (hX43_init G r_s1 x_s0 0 x7 σ).bind fun p8 =>
    if zis G p8.2 r_s2 45 = true then
      (hX43_add G r_s2 r_2 p8.2).bind fun p9 =>
      hX4_row_75 G FX4_factor FX4_row r_0 x_1 x_3 r_s2 p9.2
    else none
  else none
def hX4_row_28 (G : xQ) (FX4_factor : (Option Nat) → zS → zF ((Option Nat) ⊕ Nat)) (FX4_row : (Option Nat) → Int32 → zS → zF ((Option Nat) ⊕ Nat)) (r_0 : Option Nat) (x_1 : Int32) (r_2 : Option Nat) (x_s0 : Int32) (σ : zS) : zF ((Option Nat) ⊕ Nat) :=
  (zfI σ r_0 40 3).bind fun x10 =>
  if zis G σ r_0 41 = true then
    (hX4_isWord G r_0 x10 x_s0 σ).bind fun p11 =>
    if ¬ p11.1 = 0 then
      (znO p11.2 44 9).bind fun p12 =>
      if x_1 = 0 then
        hX4_row_58 G FX4_factor FX4_row r_0 x_1 r_2 x_s0 51 p12.1 p12.1 p12.2
      else
        hX4_row_58 G FX4_factor FX4_row r_0 x_1 r_2 x_s0 50 p12.1 p12.1 p12.2
    else
      some (.inl (r_2), p11.2)
  else none
def hX4_row_16 (G : xQ) (FX4_factor : (Option Nat) → zS → zF ((Option Nat) ⊕ Nat)) (FX4_row : (Option Nat) → Int32 → zS → zF ((Option Nat) ⊕ Nat)) (r_0 : Option Nat) (x_1 : Int32) (r_s0 : Option Nat) (σ : zS) : zF ((Option Nat) ⊕ Nat) :=
  if x_1 = 0 then
    hX4_row_28 G FX4_factor FX4_row r_0 x_1 r_s0 65 σ
  else
    hX4_row_28 G FX4_factor FX4_row r_0 x_1 r_s0 66 σ
def hX4_row_r (G : xQ) (FX4_factor : (Option Nat) → zS → zF ((Option Nat) ⊕ Nat)) (FX4_row : (Option Nat) → Int32 → zS → zF ((Option Nat) ⊕ Nat)) (o0 : Option Nat) (i1 : Int32) (σ : zS) : zF ((Option Nat) ⊕ Nat) :=
  if i1 = 0 then
    if zis G σ o0 41 = true then
      zcase (FX4_factor o0 σ) (fun p13 =>
        hX4_row_16 G FX4_factor FX4_row o0 i1 p13.1 p13.2) (fun p14 =>
        if zthr p14.2 p14.1 3 = true then
          some (.inr p14.1, p14.2)
        else none)
    else none
  else
    if zis G σ o0 41 = true then
      zcase (FX4_row o0 0 σ) (fun p15 =>
        hX4_row_16 G FX4_factor FX4_row o0 i1 p15.1 p15.2) (fun p16 =>
        if zthr p16.2 p16.1 3 = true then
          some (.inr p16.1, p16.2)
        else none)
    else none
def rrX4_factor (G : xQ) : Nat → (((Option Nat) → zS → zF ((Option Nat) ⊕ Nat)) × ((Option Nat) → Int32 → zS → zF ((Option Nat) ⊕ Nat)))
  | 0 => (fun _ _ => none, fun _ _ _ => none)
  | n + 1 => (hX4_factor_r G (rrX4_factor G n).1 (rrX4_factor G n).2, hX4_row_r G (rrX4_factor G n).1 (rrX4_factor G n).2)
def hX4_factor (G : xQ) (n : Nat) (r0 : Option Nat) (σ : zS) : zF ((Option Nat) ⊕ Nat) := (rrX4_factor G n).1 r0 σ
def hX4_row (G : xQ) (n : Nat) (r0 : Option Nat) (x1 : Int32) (σ : zS) : zF ((Option Nat) ⊕ Nat) := (rrX4_factor G n).2 r0 x1 σ
/-! MainframeHouse$Parser.row(Z)LMainframeHouse$Parser$Node; -/
/-! MainframeHouse$Parser.condition()LMainframeHouse$Parser$Node; -/
def hX4_condition (G : xQ) (o0 : Option Nat) (σ : zS) : zF ((Option Nat) ⊕ Nat) :=
  (zpA σ o0 40 15 none).bind fun σ1 =>
  if zis G σ1 o0 41 = true then
    zcase (hX4_row G xRec o0 1 σ1) (fun p2 =>
      some (.inl (p2.1), p2.2)) (fun p3 =>
      if zthr p3.2 p3.1 3 = true then
        some (.inr p3.1, p3.2)
      else none)
  else none
/-! MainframeHouse$Parser.phrase()LMainframeHouse$Parser$Node; -/
def hX4_phrase (G : xQ) (o0 : Option Nat) (σ : zS) : zF ((Option Nat) ⊕ Nat) :=
  (zfI σ o0 40 3).bind fun x1 =>
  if zis G σ o0 41 = true then
    (hX4_meets G o0 56 σ).bind fun p2 =>
    if p2.1 = 0 then
      if zis G p2.2 o0 41 = true then
        (hX4_meets G o0 57 p2.2).bind fun p3 =>
        if ¬ p3.1 = 0 then
          (znO p3.2 44 9).bind fun p4 =>
          if zis G p4.2 p4.1 45 = true then
            (hX43_init G p4.1 45 0 x1 p4.2).bind fun p5 =>
            (zfI p5.2 o0 40 3).bind fun x6 =>
            if zis G p5.2 o0 41 = true then
              (hX4_isKind G o0 x6 1 p5.2).bind fun p7 =>
              if zis G p7.2 o0 41 = true then
                zcase (hX4_must G o0 p7.1 p7.2) (fun p8 =>
                  if zis G p8.2 o0 41 = true then
                    zcase (hX4_operand G o0 1 p8.2) (fun p9 =>
                      if zis G p9.2 p4.1 45 = true then
                        (hX43_add G p4.1 p9.1 p9.2).bind fun p10 =>
                        if zis G p10.2 o0 41 = true then
                          zcase (hX4_need G o0 58 p10.2) (fun p11 =>
                            if zis G p11.2 o0 41 = true then
                              zcase (hX4_operand G o0 1 p11.2) (fun p12 =>
                                if zis G p12.2 p4.1 45 = true then
                                  (hX43_add G p4.1 p12.1 p12.2).bind fun p13 =>
                                  if zis G p13.2 o0 41 = true then
                                    zcase (hX4_need G o0 25 p13.2) (fun p14 =>
                                      if zis G p14.2 o0 41 = true then
                                        zcase (hX4_operand G o0 1 p14.2) (fun p15 =>
                                          if zis G p15.2 p4.1 45 = true then
                                            (hX43_add G p4.1 p15.1 p15.2).bind fun p16 =>
                                            if zis G p16.2 o0 41 = true then
                                              zcase (hX4_need G o0 56 p16.2) (fun p17 =>
                                                if zis G p17.2 o0 41 = true then
                                                  zcase (hX4_condition G o0 p17.2) (fun p18 =>
                                                    if zis G p18.2 p4.1 45 = true then
                                                      (hX43_add G p4.1 p18.1 p18.2).bind fun p19 =>
                                                      some (.inl (p4.1), p19.2)
                                                    else none) (fun p20 =>
                                                    if zthr p20.2 p20.1 3 = true then
                                                      some (.inr p20.1, p20.2)
                                                    else none)
                                                else none) (fun p21 =>
                                                if zthr p21.2 p21.1 3 = true then
                                                  some (.inr p21.1, p21.2)
                                                else none)
                                            else none
                                          else none) (fun p22 =>
                                          if zthr p22.2 p22.1 3 = true then
                                            some (.inr p22.1, p22.2)
                                          else none)
                                      else none) (fun p23 =>
                                      if zthr p23.2 p23.1 3 = true then
                                        some (.inr p23.1, p23.2)
                                      else none)
                                  else none
                                else none) (fun p24 =>
                                if zthr p24.2 p24.1 3 = true then
                                  some (.inr p24.1, p24.2)
                                else none)
                            else none) (fun p25 =>
                            if zthr p25.2 p25.1 3 = true then
                              some (.inr p25.1, p25.2)
                            else none)
                        else none
                      else none) (fun p26 =>
                      if zthr p26.2 p26.1 3 = true then
                        some (.inr p26.1, p26.2)
                      else none)
                  else none) (fun p27 =>
                  if zthr p27.2 p27.1 3 = true then
                    some (.inr p27.1, p27.2)
                  else none)
              else none
            else none
          else none
        else
          (znO p3.2 44 9).bind fun p28 =>
          if zis G p28.2 p28.1 45 = true then
            (hX43_init G p28.1 43 0 x1 p28.2).bind fun p29 =>
            if zis G p29.2 o0 41 = true then
              zcase (hX4_operand G o0 1 p29.2) (fun p30 =>
                if zis G p30.2 p28.1 45 = true then
                  (hX43_add G p28.1 p30.1 p30.2).bind fun p31 =>
                  if zis G p31.2 o0 41 = true then
                    zcase (hX4_need G o0 23 p31.2) (fun p32 =>
                      some (.inl (p28.1), p32.2)) (fun p33 =>
                      if zthr p33.2 p33.1 3 = true then
                        some (.inr p33.1, p33.2)
                      else none)
                  else none
                else none) (fun p34 =>
                if zthr p34.2 p34.1 3 = true then
                  some (.inr p34.1, p34.2)
                else none)
            else none
          else none
      else none
    else
      (znO p2.2 44 9).bind fun p35 =>
      if zis G p35.2 p35.1 45 = true then
        (hX43_init G p35.1 44 0 x1 p35.2).bind fun p36 =>
        if zis G p36.2 o0 41 = true then
          zcase (hX4_condition G o0 p36.2) (fun p37 =>
            if zis G p37.2 p35.1 45 = true then
              (hX43_add G p35.1 p37.1 p37.2).bind fun p38 =>
              some (.inl (p35.1), p38.2)
            else none) (fun p39 =>
            if zthr p39.2 p39.1 3 = true then
              some (.inr p39.1, p39.2)
            else none)
        else none
      else none
  else none
/-! MainframeHouse$Parser.both(LMainframeHouse$Parser$Node;Z)LMainframeHouse$Parser$Node; -/
def hX4_both_55 (G : xQ) (FX4_both : (Option Nat) → (Option Nat) → Int32 → zS → zF ((Option Nat) ⊕ Nat)) (FX4_product : (Option Nat) → zS → zF ((Option Nat) ⊕ Nat)) (FX4_sum : (Option Nat) → zS → zF ((Option Nat) ⊕ Nat)) (FX4_unit : (Option Nat) → zS → zF ((Option Nat) ⊕ Nat)) (r_3 : Option Nat) (r_s0 : Option Nat) (r_s1 : Option Nat) (σ : zS) : zF ((Option Nat) ⊕ Nat) :=
  if zis G σ r_s1 45 = true then
    (hX43_add G r_s1 r_s0 σ).bind fun p1 =>
    some (.inl (r_3), p1.2)
  else none
def hX4_both_r (G : xQ) (FX4_both : (Option Nat) → (Option Nat) → Int32 → zS → zF ((Option Nat) ⊕ Nat)) (FX4_product : (Option Nat) → zS → zF ((Option Nat) ⊕ Nat)) (FX4_sum : (Option Nat) → zS → zF ((Option Nat) ⊕ Nat)) (FX4_unit : (Option Nat) → zS → zF ((Option Nat) ⊕ Nat)) (o0 : Option Nat) (o1 : Option Nat) (i2 : Int32) (σ : zS) : zF ((Option Nat) ⊕ Nat) :=
  (znO σ 44 9).bind fun p2 =>
  (zfA p2.2 o0 40 1).bind fun r3 =>
  (zfI p2.2 o0 40 3).bind fun x4 =>
  (ziald p2.2 r3 x4).bind fun x5 =>
  (zfI p2.2 o1 44 5).bind fun x6 =>
  if zis G p2.2 p2.1 45 = true then
    (hX43_init G p2.1 55 x5 x6 p2.2).bind fun p7 =>
    (zfI p7.2 o0 40 3).bind fun x8 =>
    (zpI p7.2 o0 40 3 (x8 + (1 : Int32))).bind fun σ9 =>
    if zis G σ9 p2.1 45 = true then
      (hX43_add G p2.1 o1 σ9).bind fun p10 =>
      if i2 = 0 then
        if zis G p10.2 o0 41 = true then
          zcase (FX4_unit o0 p10.2) (fun p11 =>
            hX4_both_55 G FX4_both FX4_product FX4_sum FX4_unit p2.1 p11.1 p2.1 p11.2) (fun p12 =>
            if zthr p12.2 p12.1 3 = true then
              some (.inr p12.1, p12.2)
            else none)
        else none
      else
        if zis G p10.2 o0 41 = true then
          zcase (FX4_product o0 p10.2) (fun p13 =>
            hX4_both_55 G FX4_both FX4_product FX4_sum FX4_unit p2.1 p13.1 p2.1 p13.2) (fun p14 =>
            if zthr p14.2 p14.1 3 = true then
              some (.inr p14.1, p14.2)
            else none)
        else none
    else none
  else none
def hX4_product_31 (G : xQ) (FX4_both : (Option Nat) → (Option Nat) → Int32 → zS → zF ((Option Nat) ⊕ Nat)) (FX4_product : (Option Nat) → zS → zF ((Option Nat) ⊕ Nat)) (FX4_sum : (Option Nat) → zS → zF ((Option Nat) ⊕ Nat)) (FX4_unit : (Option Nat) → zS → zF ((Option Nat) ⊕ Nat)) (r_0 : Option Nat) (r_1 : Option Nat) (σ : zS) : zF (((Option Nat) × (Option Nat)) ⊕ ((Option Nat) ⊕ Nat)) :=
  if zis G σ r_0 41 = true then
    zcase (FX4_both r_0 r_1 0 σ) (fun p1 =>
      some (.inl (r_0, p1.1), p1.2)) (fun p2 =>
      if zthr p2.2 p2.1 3 = true then
        some (.inr (.inr p2.1), p2.2)
      else none)
  else none
def hX4_product_5b (G : xQ) (FX4_both : (Option Nat) → (Option Nat) → Int32 → zS → zF ((Option Nat) ⊕ Nat)) (FX4_product : (Option Nat) → zS → zF ((Option Nat) ⊕ Nat)) (FX4_sum : (Option Nat) → zS → zF ((Option Nat) ⊕ Nat)) (FX4_unit : (Option Nat) → zS → zF ((Option Nat) ⊕ Nat)) (r_0 : Option Nat) (r_1 : Option Nat) (σ : zS) : zF (((Option Nat) × (Option Nat)) ⊕ ((Option Nat) ⊕ Nat)) :=
  (zfI σ r_0 40 3).bind fun x3 =>
  if zis G σ r_0 41 = true then
    (hX4_isSign G r_0 x3 7 σ).bind fun p4 =>
    if ¬ p4.1 = 0 then
      hX4_product_31 G FX4_both FX4_product FX4_sum FX4_unit r_0 r_1 p4.2
    else
      (zfI p4.2 r_0 40 3).bind fun x5 =>
      if zis G p4.2 r_0 41 = true then
        (hX4_isSign G r_0 x5 8 p4.2).bind fun p6 =>
        if p6.1 = 0 then
          zinr (
            some (.inl (r_1), p6.2))
        else
          hX4_product_31 G FX4_both FX4_product FX4_sum FX4_unit r_0 r_1 p6.2
      else none
  else none
def hX4_product_5 (G : xQ) (FX4_both : (Option Nat) → (Option Nat) → Int32 → zS → zF ((Option Nat) ⊕ Nat)) (FX4_product : (Option Nat) → zS → zF ((Option Nat) ⊕ Nat)) (FX4_sum : (Option Nat) → zS → zF ((Option Nat) ⊕ Nat)) (FX4_unit : (Option Nat) → zS → zF ((Option Nat) ⊕ Nat)) (r_0 : Option Nat) (r_1 : Option Nat) (σ : zS) : zF ((Option Nat) ⊕ Nat) := zloop (fun (a : ((Option Nat) × (Option Nat))) σ => hX4_product_5b G FX4_both FX4_product FX4_sum FX4_unit a.1 a.2 σ) xLim (r_0, r_1) σ
def hX4_product_r (G : xQ) (FX4_both : (Option Nat) → (Option Nat) → Int32 → zS → zF ((Option Nat) ⊕ Nat)) (FX4_product : (Option Nat) → zS → zF ((Option Nat) ⊕ Nat)) (FX4_sum : (Option Nat) → zS → zF ((Option Nat) ⊕ Nat)) (FX4_unit : (Option Nat) → zS → zF ((Option Nat) ⊕ Nat)) (o0 : Option Nat) (σ : zS) : zF ((Option Nat) ⊕ Nat) :=
  if zis G σ o0 41 = true then
    zcase (FX4_unit o0 σ) (fun p7 =>
      hX4_product_5 G FX4_both FX4_product FX4_sum FX4_unit o0 p7.1 p7.2) (fun p8 =>
      if zthr p8.2 p8.1 3 = true then
        some (.inr p8.1, p8.2)
      else none)
  else none
def hX4_sum_30 (G : xQ) (FX4_both : (Option Nat) → (Option Nat) → Int32 → zS → zF ((Option Nat) ⊕ Nat)) (FX4_product : (Option Nat) → zS → zF ((Option Nat) ⊕ Nat)) (FX4_sum : (Option Nat) → zS → zF ((Option Nat) ⊕ Nat)) (FX4_unit : (Option Nat) → zS → zF ((Option Nat) ⊕ Nat)) (r_0 : Option Nat) (r_1 : Option Nat) (σ : zS) : zF (((Option Nat) × (Option Nat)) ⊕ ((Option Nat) ⊕ Nat)) :=
  if zis G σ r_0 41 = true then
    zcase (FX4_both r_0 r_1 1 σ) (fun p1 =>
      some (.inl (r_0, p1.1), p1.2)) (fun p2 =>
      if zthr p2.2 p2.1 3 = true then
        some (.inr (.inr p2.1), p2.2)
      else none)
  else none
def hX4_sum_5b (G : xQ) (FX4_both : (Option Nat) → (Option Nat) → Int32 → zS → zF ((Option Nat) ⊕ Nat)) (FX4_product : (Option Nat) → zS → zF ((Option Nat) ⊕ Nat)) (FX4_sum : (Option Nat) → zS → zF ((Option Nat) ⊕ Nat)) (FX4_unit : (Option Nat) → zS → zF ((Option Nat) ⊕ Nat)) (r_0 : Option Nat) (r_1 : Option Nat) (σ : zS) : zF (((Option Nat) × (Option Nat)) ⊕ ((Option Nat) ⊕ Nat)) :=
  (zfI σ r_0 40 3).bind fun x3 =>
  if zis G σ r_0 41 = true then
    (hX4_isSign G r_0 x3 5 σ).bind fun p4 =>
    if ¬ p4.1 = 0 then
      hX4_sum_30 G FX4_both FX4_product FX4_sum FX4_unit r_0 r_1 p4.2
    else
      (zfI p4.2 r_0 40 3).bind fun x5 =>
      if zis G p4.2 r_0 41 = true then
        (hX4_isSign G r_0 x5 6 p4.2).bind fun p6 =>
        if p6.1 = 0 then
          zinr (
            some (.inl (r_1), p6.2))
        else
          hX4_sum_30 G FX4_both FX4_product FX4_sum FX4_unit r_0 r_1 p6.2
      else none
  else none
def hX4_sum_5 (G : xQ) (FX4_both : (Option Nat) → (Option Nat) → Int32 → zS → zF ((Option Nat) ⊕ Nat)) (FX4_product : (Option Nat) → zS → zF ((Option Nat) ⊕ Nat)) (FX4_sum : (Option Nat) → zS → zF ((Option Nat) ⊕ Nat)) (FX4_unit : (Option Nat) → zS → zF ((Option Nat) ⊕ Nat)) (r_0 : Option Nat) (r_1 : Option Nat) (σ : zS) : zF ((Option Nat) ⊕ Nat) := zloop (fun (a : ((Option Nat) × (Option Nat))) σ => hX4_sum_5b G FX4_both FX4_product FX4_sum FX4_unit a.1 a.2 σ) xLim (r_0, r_1) σ
def hX4_sum_r (G : xQ) (FX4_both : (Option Nat) → (Option Nat) → Int32 → zS → zF ((Option Nat) ⊕ Nat)) (FX4_product : (Option Nat) → zS → zF ((Option Nat) ⊕ Nat)) (FX4_sum : (Option Nat) → zS → zF ((Option Nat) ⊕ Nat)) (FX4_unit : (Option Nat) → zS → zF ((Option Nat) ⊕ Nat)) (o0 : Option Nat) (σ : zS) : zF ((Option Nat) ⊕ Nat) :=
  if zis G σ o0 41 = true then
    zcase (FX4_product o0 σ) (fun p7 =>
      hX4_sum_5 G FX4_both FX4_product FX4_sum FX4_unit o0 p7.1 p7.2) (fun p8 =>
      if zthr p8.2 p8.1 3 = true then
        some (.inr p8.1, p8.2)
      else none)
  else none
def hX4_unit_30 (G : xQ) (FX4_both : (Option Nat) → (Option Nat) → Int32 → zS → zF ((Option Nat) ⊕ Nat)) (FX4_product : (Option Nat) → zS → zF ((Option Nat) ⊕ Nat)) (FX4_sum : (Option Nat) → zS → zF ((Option Nat) ⊕ Nat)) (FX4_unit : (Option Nat) → zS → zF ((Option Nat) ⊕ Nat)) (r_0 : Option Nat) (x_s0 : Int32) (r_s1 : Option Nat) (σ : zS) : zF ((Option Nat) ⊕ Nat) :=
  if zis G σ r_s1 41 = true then
    zcase (hX4_must G r_s1 x_s0 σ) (fun p1 =>
      if zis G p1.2 r_0 41 = true then
        zcase (hX4_operand G r_0 1 p1.2) (fun p2 =>
          some (.inl (p2.1), p2.2)) (fun p3 =>
          if zthr p3.2 p3.1 3 = true then
            some (.inr p3.1, p3.2)
          else none)
      else none) (fun p4 =>
      if zthr p4.2 p4.1 3 = true then
        some (.inr p4.1, p4.2)
      else none)
  else none
def hX4_unit_r (G : xQ) (FX4_both : (Option Nat) → (Option Nat) → Int32 → zS → zF ((Option Nat) ⊕ Nat)) (FX4_product : (Option Nat) → zS → zF ((Option Nat) ⊕ Nat)) (FX4_sum : (Option Nat) → zS → zF ((Option Nat) ⊕ Nat)) (FX4_unit : (Option Nat) → zS → zF ((Option Nat) ⊕ Nat)) (o0 : Option Nat) (σ : zS) : zF ((Option Nat) ⊕ Nat) :=
  (zfI σ o0 40 3).bind fun x5 =>
  if zis G σ o0 41 = true then
    (hX4_isSign G o0 x5 0 σ).bind fun p6 =>
    if ¬ p6.1 = 0 then
      if zis G p6.2 o0 41 = true then
        zcase (hX4_deeper G o0 p6.2) (fun p7 =>
          (zfI p7.2 o0 40 3).bind fun x8 =>
          (zpI p7.2 o0 40 3 (x8 + (1 : Int32))).bind fun σ9 =>
          if zis G σ9 o0 41 = true then
            zcase (FX4_sum o0 σ9) (fun p10 =>
              if zis G p10.2 o0 41 = true then
                zcase (hX4_close G o0 p10.2) (fun p11 =>
                  some (.inl (p10.1), p11.2)) (fun p12 =>
                  if zthr p12.2 p12.1 3 = true then
                    some (.inr p12.1, p12.2)
                  else none)
              else none) (fun p13 =>
              if zthr p13.2 p13.1 3 = true then
                some (.inr p13.1, p13.2)
              else none)
          else none) (fun p14 =>
          if zthr p14.2 p14.1 3 = true then
            some (.inr p14.1, p14.2)
          else none)
      else none
    else
      (zfI p6.2 o0 40 3).bind fun x15 =>
      if zis G p6.2 o0 41 = true then
        (hX4_isKind G o0 x15 3 p6.2).bind fun p16 =>
        if ¬ p16.1 = 0 then
          hX4_unit_30 G FX4_both FX4_product FX4_sum FX4_unit o0 0 o0 p16.2
        else
          hX4_unit_30 G FX4_both FX4_product FX4_sum FX4_unit o0 1 o0 p16.2
      else none
  else none
def rrX4_both (G : xQ) : Nat → (((Option Nat) → (Option Nat) → Int32 → zS → zF ((Option Nat) ⊕ Nat)) × ((Option Nat) → zS → zF ((Option Nat) ⊕ Nat)) × ((Option Nat) → zS → zF ((Option Nat) ⊕ Nat)) × ((Option Nat) → zS → zF ((Option Nat) ⊕ Nat)))
  | 0 => (fun _ _ _ _ => none, fun _ _ => none, fun _ _ => none, fun _ _ => none)
  | n + 1 => (hX4_both_r G (rrX4_both G n).1 (rrX4_both G n).2.1 (rrX4_both G n).2.2.1 (rrX4_both G n).2.2.2, hX4_product_r G (rrX4_both G n).1 (rrX4_both G n).2.1 (rrX4_both G n).2.2.1 (rrX4_both G n).2.2.2, hX4_sum_r G (rrX4_both G n).1 (rrX4_both G n).2.1 (rrX4_both G n).2.2.1 (rrX4_both G n).2.2.2, hX4_unit_r G (rrX4_both G n).1 (rrX4_both G n).2.1 (rrX4_both G n).2.2.1 (rrX4_both G n).2.2.2)
def hX4_both (G : xQ) (n : Nat) (r0 : Option Nat) (r1 : Option Nat) (x2 : Int32) (σ : zS) : zF ((Option Nat) ⊕ Nat) := (rrX4_both G n).1 r0 r1 x2 σ
def hX4_product (G : xQ) (n : Nat) (r0 : Option Nat) (σ : zS) : zF ((Option Nat) ⊕ Nat) := (rrX4_both G n).2.1 r0 σ
def hX4_sum (G : xQ) (n : Nat) (r0 : Option Nat) (σ : zS) : zF ((Option Nat) ⊕ Nat) := (rrX4_both G n).2.2.1 r0 σ
def hX4_unit (G : xQ) (n : Nat) (r0 : Option Nat) (σ : zS) : zF ((Option Nat) ⊕ Nat) := (rrX4_both G n).2.2.2 r0 σ
/-! MainframeHouse$Parser.product()LMainframeHouse$Parser$Node; -/
/-! MainframeHouse$Parser.sum()LMainframeHouse$Parser$Node; -/
/-! MainframeHouse$Parser.unit()LMainframeHouse$Parser$Node; -/
/-! MainframeHouse$Parser.add(LMainframeHouse$Parser$Node;)V -/
def hX4_add_98 (G : xQ) (FX4_add : (Option Nat) → (Option Nat) → zS → zF (Unit ⊕ Nat)) (FX4_branch : (Option Nat) → (Option Nat) → zS → zF (Unit ⊕ Nat)) (FX4_evaluate : (Option Nat) → (Option Nat) → zS → zF (Unit ⊕ Nat)) (FX4_list : (Option Nat) → (Option Nat) → zS → zF (Unit ⊕ Nat)) (FX4_perform : (Option Nat) → (Option Nat) → zS → zF (Unit ⊕ Nat)) (FX4_statement : (Option Nat) → (Option Nat) → zS → zF (Unit ⊕ Nat)) (r_0 : Option Nat) (r_1 : Option Nat) (σ : zS) : zF (Unit ⊕ Nat) :=
  if zis G σ r_0 41 = true then
    (hX4_scopeEnd G r_0 r_1 72 σ).bind fun p1 =>
    some (.inl (()), p1.2)
  else none
def hX4_add_78 (G : xQ) (FX4_add : (Option Nat) → (Option Nat) → zS → zF (Unit ⊕ Nat)) (FX4_branch : (Option Nat) → (Option Nat) → zS → zF (Unit ⊕ Nat)) (FX4_evaluate : (Option Nat) → (Option Nat) → zS → zF (Unit ⊕ Nat)) (FX4_list : (Option Nat) → (Option Nat) → zS → zF (Unit ⊕ Nat)) (FX4_perform : (Option Nat) → (Option Nat) → zS → zF (Unit ⊕ Nat)) (FX4_statement : (Option Nat) → (Option Nat) → zS → zF (Unit ⊕ Nat)) (r_0 : Option Nat) (r_1 : Option Nat) (σ : zS) : zF (Unit ⊕ Nat) :=
  if zis G σ r_0 41 = true then
    (hX4_meets G r_0 50 σ).bind fun p2 =>
    if p2.1 = 0 then
      hX4_add_98 G FX4_add FX4_branch FX4_evaluate FX4_list FX4_perform FX4_statement r_0 r_1 p2.2
    else
      if zis G p2.2 r_0 41 = true then
        zcase (hX4_need G r_0 51 p2.2) (fun p3 =>
          if zis G p3.2 r_0 41 = true then
            zcase (FX4_list r_0 r_1 p3.2) (fun p4 =>
              hX4_add_98 G FX4_add FX4_branch FX4_evaluate FX4_list FX4_perform FX4_statement r_0 r_1 p4.2) (fun p5 =>
              if zthr p5.2 p5.1 3 = true then
                some (.inr p5.1, p5.2)
              else none)
          else none) (fun p6 =>
          if zthr p6.2 p6.1 3 = true then
            some (.inr p6.1, p6.2)
          else none)
      else none
  else none
def hX4_add_r (G : xQ) (FX4_add : (Option Nat) → (Option Nat) → zS → zF (Unit ⊕ Nat)) (FX4_branch : (Option Nat) → (Option Nat) → zS → zF (Unit ⊕ Nat)) (FX4_evaluate : (Option Nat) → (Option Nat) → zS → zF (Unit ⊕ Nat)) (FX4_list : (Option Nat) → (Option Nat) → zS → zF (Unit ⊕ Nat)) (FX4_perform : (Option Nat) → (Option Nat) → zS → zF (Unit ⊕ Nat)) (FX4_statement : (Option Nat) → (Option Nat) → zS → zF (Unit ⊕ Nat)) (o0 : Option Nat) (o1 : Option Nat) (σ : zS) : zF (Unit ⊕ Nat) :=
  if zis G σ o0 41 = true then
    zcase (hX4_operands G o0 o1 σ) (fun p7 =>
      if zis G p7.2 o0 41 = true then
        (hX4_meets G o0 49 p7.2).bind fun p8 =>
        if p8.1 = 0 then
          if zis G p8.2 o0 41 = true then
            zcase (hX4_need G o0 48 p8.2) (fun p9 =>
              (zfA p9.2 o1 44 8).bind fun r10 =>
              (zLsize p9.2 r10).bind fun x11 =>
              if zis G p9.2 o0 41 = true then
                zcase (hX4_targets G o0 o1 p9.2) (fun p12 =>
                  (zfA p12.2 o1 44 8).bind fun r13 =>
                  (zLsize p12.2 r13).bind fun x14 =>
                  (zpI p12.2 o1 44 1 (x14 - x11)).bind fun σ15 =>
                  hX4_add_78 G FX4_add FX4_branch FX4_evaluate FX4_list FX4_perform FX4_statement o0 o1 σ15) (fun p16 =>
                  if zthr p16.2 p16.1 3 = true then
                    some (.inr p16.1, p16.2)
                  else none)
              else none) (fun p17 =>
              if zthr p17.2 p17.1 3 = true then
                some (.inr p17.1, p17.2)
              else none)
          else none
        else
          (zpI p8.2 o1 44 1 (101 : Int32)).bind fun σ18 =>
          (zfI σ18 o0 40 3).bind fun x19 =>
          if zis G σ18 o0 41 = true then
            (hX4_isKind G o0 x19 1 σ18).bind fun p20 =>
            if zis G p20.2 o0 41 = true then
              zcase (hX4_must G o0 p20.1 p20.2) (fun p21 =>
                if zis G p21.2 o0 41 = true then
                  zcase (hX4_operand G o0 1 p21.2) (fun p22 =>
                    if zis G p22.2 o1 45 = true then
                      (hX43_add G o1 p22.1 p22.2).bind fun p23 =>
                      hX4_add_78 G FX4_add FX4_branch FX4_evaluate FX4_list FX4_perform FX4_statement o0 o1 p23.2
                    else none) (fun p24 =>
                    if zthr p24.2 p24.1 3 = true then
                      some (.inr p24.1, p24.2)
                    else none)
                else none) (fun p25 =>
                if zthr p25.2 p25.1 3 = true then
                  some (.inr p25.1, p25.2)
                else none)
            else none
          else none
      else none) (fun p26 =>
      if zthr p26.2 p26.1 3 = true then
        some (.inr p26.1, p26.2)
      else none)
  else none
def hX4_branch_r (G : xQ) (FX4_add : (Option Nat) → (Option Nat) → zS → zF (Unit ⊕ Nat)) (FX4_branch : (Option Nat) → (Option Nat) → zS → zF (Unit ⊕ Nat)) (FX4_evaluate : (Option Nat) → (Option Nat) → zS → zF (Unit ⊕ Nat)) (FX4_list : (Option Nat) → (Option Nat) → zS → zF (Unit ⊕ Nat)) (FX4_perform : (Option Nat) → (Option Nat) → zS → zF (Unit ⊕ Nat)) (FX4_statement : (Option Nat) → (Option Nat) → zS → zF (Unit ⊕ Nat)) (o0 : Option Nat) (o1 : Option Nat) (σ : zS) : zF (Unit ⊕ Nat) :=
  (zfI σ o0 40 3).bind fun x1 =>
  if zis G σ o0 41 = true then
    (hX4_meets G o0 54 σ).bind fun p2 =>
    if ¬ p2.1 = 0 then
      if zis G p2.2 o0 41 = true then
        zcase (hX4_need G o0 55 p2.2) (fun p3 =>
          (znO p3.2 44 9).bind fun p4 =>
          if zis G p4.2 p4.1 45 = true then
            (hX43_init G p4.1 42 0 x1 p4.2).bind fun p5 =>
            if zis G p5.2 o1 45 = true then
              (hX43_add G o1 p4.1 p5.2).bind fun p6 =>
              some (.inl (()), p6.2)
            else none
          else none) (fun p7 =>
          if zthr p7.2 p7.1 3 = true then
            some (.inr p7.1, p7.2)
          else none)
      else none
    else
      if zis G p2.2 o0 41 = true then
        zcase (FX4_list o0 o1 p2.2) (fun p8 =>
          some (.inl (()), p8.2)) (fun p9 =>
          if zthr p9.2 p9.1 3 = true then
            some (.inr p9.1, p9.2)
          else none)
      else none
  else none
def hX4_evaluate_99 (G : xQ) (FX4_add : (Option Nat) → (Option Nat) → zS → zF (Unit ⊕ Nat)) (FX4_branch : (Option Nat) → (Option Nat) → zS → zF (Unit ⊕ Nat)) (FX4_evaluate : (Option Nat) → (Option Nat) → zS → zF (Unit ⊕ Nat)) (FX4_list : (Option Nat) → (Option Nat) → zS → zF (Unit ⊕ Nat)) (FX4_perform : (Option Nat) → (Option Nat) → zS → zF (Unit ⊕ Nat)) (FX4_statement : (Option Nat) → (Option Nat) → zS → zF (Unit ⊕ Nat)) (r_0 : Option Nat) (r_1 : Option Nat) (r_2 : Option Nat) (r_s0 : Option Nat) (r_s1 : Option Nat) (σ : zS) : zF (((Option Nat) × (Option Nat) × (Option Nat)) ⊕ (((Option Nat) × (Option Nat)) ⊕ (Unit ⊕ Nat))) :=
  if zis G σ r_s1 45 = true then
    (hX43_add G r_s1 r_s0 σ).bind fun p1 =>
    some (.inl (r_0, r_1, r_2), p1.2)
  else none
def hX4_evaluate_56b (G : xQ) (FX4_add : (Option Nat) → (Option Nat) → zS → zF (Unit ⊕ Nat)) (FX4_branch : (Option Nat) → (Option Nat) → zS → zF (Unit ⊕ Nat)) (FX4_evaluate : (Option Nat) → (Option Nat) → zS → zF (Unit ⊕ Nat)) (FX4_list : (Option Nat) → (Option Nat) → zS → zF (Unit ⊕ Nat)) (FX4_perform : (Option Nat) → (Option Nat) → zS → zF (Unit ⊕ Nat)) (FX4_statement : (Option Nat) → (Option Nat) → zS → zF (Unit ⊕ Nat)) (r_0 : Option Nat) (r_1 : Option Nat) (r_2 : Option Nat) (σ : zS) : zF (((Option Nat) × (Option Nat) × (Option Nat)) ⊕ (((Option Nat) × (Option Nat)) ⊕ (Unit ⊕ Nat))) :=
  if zis G σ r_0 41 = true then
    (hX4_meets G r_0 59 σ).bind fun p2 =>
    if p2.1 = 0 then
      zinr (
        if zis G p2.2 r_0 41 = true then
          zcase (FX4_list r_0 r_2 p2.2) (fun p3 =>
            some (.inl (r_0, r_1), p3.2)) (fun p4 =>
            if zthr p4.2 p4.1 3 = true then
              some (.inr (.inr p4.1), p4.2)
            else none)
        else none)
    else
      (zfI p2.2 r_0 40 3).bind fun x5 =>
      if zis G p2.2 r_0 41 = true then
        (hX4_meets G r_0 60 p2.2).bind fun p6 =>
        if p6.1 = 0 then
          if zis G p6.2 r_0 41 = true then
            zcase (hX4_operand G r_0 1 p6.2) (fun p7 =>
              hX4_evaluate_99 G FX4_add FX4_branch FX4_evaluate FX4_list FX4_perform FX4_statement r_0 r_1 r_2 p7.1 r_2 p7.2) (fun p8 =>
              if zthr p8.2 p8.1 3 = true then
                some (.inr (.inr (.inr p8.1)), p8.2)
              else none)
          else none
        else
          (znO p6.2 44 9).bind fun p9 =>
          if zis G p9.2 p9.1 45 = true then
            (hX43_init G p9.1 47 0 x5 p9.2).bind fun p10 =>
            hX4_evaluate_99 G FX4_add FX4_branch FX4_evaluate FX4_list FX4_perform FX4_statement r_0 r_1 r_2 p9.1 r_2 p10.2
          else none
      else none
  else none
def hX4_evaluate_56 (G : xQ) (FX4_add : (Option Nat) → (Option Nat) → zS → zF (Unit ⊕ Nat)) (FX4_branch : (Option Nat) → (Option Nat) → zS → zF (Unit ⊕ Nat)) (FX4_evaluate : (Option Nat) → (Option Nat) → zS → zF (Unit ⊕ Nat)) (FX4_list : (Option Nat) → (Option Nat) → zS → zF (Unit ⊕ Nat)) (FX4_perform : (Option Nat) → (Option Nat) → zS → zF (Unit ⊕ Nat)) (FX4_statement : (Option Nat) → (Option Nat) → zS → zF (Unit ⊕ Nat)) (r_0 : Option Nat) (r_1 : Option Nat) (r_2 : Option Nat) (σ : zS) : zF (((Option Nat) × (Option Nat)) ⊕ (Unit ⊕ Nat)) := zloop (fun (a : ((Option Nat) × (Option Nat) × (Option Nat))) σ => hX4_evaluate_56b G FX4_add FX4_branch FX4_evaluate FX4_list FX4_perform FX4_statement a.1 a.2.1 a.2.2 σ) xLim (r_0, r_1, r_2) σ
def hX4_evaluate_24b (G : xQ) (FX4_add : (Option Nat) → (Option Nat) → zS → zF (Unit ⊕ Nat)) (FX4_branch : (Option Nat) → (Option Nat) → zS → zF (Unit ⊕ Nat)) (FX4_evaluate : (Option Nat) → (Option Nat) → zS → zF (Unit ⊕ Nat)) (FX4_list : (Option Nat) → (Option Nat) → zS → zF (Unit ⊕ Nat)) (FX4_perform : (Option Nat) → (Option Nat) → zS → zF (Unit ⊕ Nat)) (FX4_statement : (Option Nat) → (Option Nat) → zS → zF (Unit ⊕ Nat)) (r_0 : Option Nat) (r_1 : Option Nat) (σ : zS) : zF (((Option Nat) × (Option Nat)) ⊕ (Unit ⊕ Nat)) :=
  (zfI σ r_0 40 3).bind fun x11 =>
  if zis G σ r_0 41 = true then
    (hX4_isWord G r_0 x11 59 σ).bind fun p12 =>
    if p12.1 = 0 then
      zinr (
        if zis G p12.2 r_0 41 = true then
          (hX4_scopeEnd G r_0 r_1 75 p12.2).bind fun p13 =>
          some (.inl (()), p13.2)
        else none)
    else
      (znO p12.2 44 9).bind fun p14 =>
      (zfI p14.2 r_0 40 3).bind fun x15 =>
      if zis G p14.2 p14.1 45 = true then
        (hX43_init G p14.1 46 0 x15 p14.2).bind fun p16 =>
        if zis G p16.2 r_1 45 = true then
          (hX43_add G r_1 p14.1 p16.2).bind fun p17 =>
          hX4_evaluate_56 G FX4_add FX4_branch FX4_evaluate FX4_list FX4_perform FX4_statement r_0 r_1 p17.1 p17.2
        else none
      else none
  else none
def hX4_evaluate_24 (G : xQ) (FX4_add : (Option Nat) → (Option Nat) → zS → zF (Unit ⊕ Nat)) (FX4_branch : (Option Nat) → (Option Nat) → zS → zF (Unit ⊕ Nat)) (FX4_evaluate : (Option Nat) → (Option Nat) → zS → zF (Unit ⊕ Nat)) (FX4_list : (Option Nat) → (Option Nat) → zS → zF (Unit ⊕ Nat)) (FX4_perform : (Option Nat) → (Option Nat) → zS → zF (Unit ⊕ Nat)) (FX4_statement : (Option Nat) → (Option Nat) → zS → zF (Unit ⊕ Nat)) (r_0 : Option Nat) (r_1 : Option Nat) (σ : zS) : zF (Unit ⊕ Nat) := zloop (fun (a : ((Option Nat) × (Option Nat))) σ => hX4_evaluate_24b G FX4_add FX4_branch FX4_evaluate FX4_list FX4_perform FX4_statement a.1 a.2 σ) xLim (r_0, r_1) σ
def hX4_evaluate_r (G : xQ) (FX4_add : (Option Nat) → (Option Nat) → zS → zF (Unit ⊕ Nat)) (FX4_branch : (Option Nat) → (Option Nat) → zS → zF (Unit ⊕ Nat)) (FX4_evaluate : (Option Nat) → (Option Nat) → zS → zF (Unit ⊕ Nat)) (FX4_list : (Option Nat) → (Option Nat) → zS → zF (Unit ⊕ Nat)) (FX4_perform : (Option Nat) → (Option Nat) → zS → zF (Unit ⊕ Nat)) (FX4_statement : (Option Nat) → (Option Nat) → zS → zF (Unit ⊕ Nat)) (o0 : Option Nat) (o1 : Option Nat) (σ : zS) : zF (Unit ⊕ Nat) :=
  if zis G σ o0 41 = true then
    zcase (hX4_operand G o0 1 σ) (fun p18 =>
      if zis G p18.2 o1 45 = true then
        (hX43_add G o1 p18.1 p18.2).bind fun p19 =>
        (zfI p19.2 o0 40 3).bind fun x20 =>
        if zis G p19.2 o0 41 = true then
          (hX4_isWord G o0 x20 59 p19.2).bind fun p21 =>
          if zis G p21.2 o0 41 = true then
            zcase (hX4_must G o0 p21.1 p21.2) (fun p22 =>
              hX4_evaluate_24 G FX4_add FX4_branch FX4_evaluate FX4_list FX4_perform FX4_statement o0 o1 p22.2) (fun p23 =>
              if zthr p23.2 p23.1 3 = true then
                some (.inr p23.1, p23.2)
              else none)
          else none
        else none
      else none) (fun p24 =>
      if zthr p24.2 p24.1 3 = true then
        some (.inr p24.1, p24.2)
      else none)
  else none
def hX4_list_31b (G : xQ) (FX4_add : (Option Nat) → (Option Nat) → zS → zF (Unit ⊕ Nat)) (FX4_branch : (Option Nat) → (Option Nat) → zS → zF (Unit ⊕ Nat)) (FX4_evaluate : (Option Nat) → (Option Nat) → zS → zF (Unit ⊕ Nat)) (FX4_list : (Option Nat) → (Option Nat) → zS → zF (Unit ⊕ Nat)) (FX4_perform : (Option Nat) → (Option Nat) → zS → zF (Unit ⊕ Nat)) (FX4_statement : (Option Nat) → (Option Nat) → zS → zF (Unit ⊕ Nat)) (r_0 : Option Nat) (r_2 : Option Nat) (σ : zS) : zF (((Option Nat) × (Option Nat)) ⊕ (Unit ⊕ Nat)) :=
  if zis G σ r_0 41 = true then
    (hX4_isStatement G r_0 σ).bind fun p1 =>
    if p1.1 = 0 then
      zinr (
        (zfI p1.2 r_0 40 4).bind fun x2 =>
        (zpI p1.2 r_0 40 4 (x2 - (1 : Int32))).bind fun σ3 =>
        some (.inl (()), σ3))
    else
      if zis G p1.2 r_0 41 = true then
        zcase (FX4_statement r_0 r_2 p1.2) (fun p4 =>
          some (.inl (r_0, r_2), p4.2)) (fun p5 =>
          if zthr p5.2 p5.1 3 = true then
            some (.inr (.inr p5.1), p5.2)
          else none)
      else none
  else none
def hX4_list_31 (G : xQ) (FX4_add : (Option Nat) → (Option Nat) → zS → zF (Unit ⊕ Nat)) (FX4_branch : (Option Nat) → (Option Nat) → zS → zF (Unit ⊕ Nat)) (FX4_evaluate : (Option Nat) → (Option Nat) → zS → zF (Unit ⊕ Nat)) (FX4_list : (Option Nat) → (Option Nat) → zS → zF (Unit ⊕ Nat)) (FX4_perform : (Option Nat) → (Option Nat) → zS → zF (Unit ⊕ Nat)) (FX4_statement : (Option Nat) → (Option Nat) → zS → zF (Unit ⊕ Nat)) (r_0 : Option Nat) (r_2 : Option Nat) (σ : zS) : zF (Unit ⊕ Nat) := zloop (fun (a : ((Option Nat) × (Option Nat))) σ => hX4_list_31b G FX4_add FX4_branch FX4_evaluate FX4_list FX4_perform FX4_statement a.1 a.2 σ) xLim (r_0, r_2) σ
def hX4_list_r (G : xQ) (FX4_add : (Option Nat) → (Option Nat) → zS → zF (Unit ⊕ Nat)) (FX4_branch : (Option Nat) → (Option Nat) → zS → zF (Unit ⊕ Nat)) (FX4_evaluate : (Option Nat) → (Option Nat) → zS → zF (Unit ⊕ Nat)) (FX4_list : (Option Nat) → (Option Nat) → zS → zF (Unit ⊕ Nat)) (FX4_perform : (Option Nat) → (Option Nat) → zS → zF (Unit ⊕ Nat)) (FX4_statement : (Option Nat) → (Option Nat) → zS → zF (Unit ⊕ Nat)) (o0 : Option Nat) (o1 : Option Nat) (σ : zS) : zF (Unit ⊕ Nat) :=
  if zis G σ o0 41 = true then
    (hX4_isStatement G o0 σ).bind fun p6 =>
    if zis G p6.2 o0 41 = true then
      zcase (hX4_must G o0 p6.1 p6.2) (fun p7 =>
        if zis G p7.2 o0 41 = true then
          zcase (hX4_deeper G o0 p7.2) (fun p8 =>
            (znO p8.2 44 9).bind fun p9 =>
            (zfI p9.2 o0 40 3).bind fun x10 =>
            if zis G p9.2 p9.1 45 = true then
              (hX43_init G p9.1 40 0 x10 p9.2).bind fun p11 =>
              if zis G p11.2 o1 45 = true then
                (hX43_add G o1 p9.1 p11.2).bind fun p12 =>
                hX4_list_31 G FX4_add FX4_branch FX4_evaluate FX4_list FX4_perform FX4_statement o0 p12.1 p12.2
              else none
            else none) (fun p13 =>
            if zthr p13.2 p13.1 3 = true then
              some (.inr p13.1, p13.2)
            else none)
        else none) (fun p14 =>
        if zthr p14.2 p14.1 3 = true then
          some (.inr p14.1, p14.2)
        else none)
    else none
  else none
def hX4_perform_94 (G : xQ) (FX4_add : (Option Nat) → (Option Nat) → zS → zF (Unit ⊕ Nat)) (FX4_branch : (Option Nat) → (Option Nat) → zS → zF (Unit ⊕ Nat)) (FX4_evaluate : (Option Nat) → (Option Nat) → zS → zF (Unit ⊕ Nat)) (FX4_list : (Option Nat) → (Option Nat) → zS → zF (Unit ⊕ Nat)) (FX4_perform : (Option Nat) → (Option Nat) → zS → zF (Unit ⊕ Nat)) (FX4_statement : (Option Nat) → (Option Nat) → zS → zF (Unit ⊕ Nat)) (r_0 : Option Nat) (r_1 : Option Nat) (σ : zS) : zF (Unit ⊕ Nat) :=
  if zis G σ r_0 41 = true then
    zcase (FX4_list r_0 r_1 σ) (fun p1 =>
      if zis G p1.2 r_0 41 = true then
        zcase (hX4_need G r_0 74 p1.2) (fun p2 =>
          (zpI p2.2 r_1 44 1 (1 : Int32)).bind fun σ3 =>
          (zpI σ3 r_1 44 2 (1 : Int32)).bind fun σ4 =>
          some (.inl (()), σ4)) (fun p5 =>
          if zthr p5.2 p5.1 3 = true then
            some (.inr p5.1, p5.2)
          else none)
      else none) (fun p6 =>
      if zthr p6.2 p6.1 3 = true then
        some (.inr p6.1, p6.2)
      else none)
  else none
def hX4_perform_78 (G : xQ) (FX4_add : (Option Nat) → (Option Nat) → zS → zF (Unit ⊕ Nat)) (FX4_branch : (Option Nat) → (Option Nat) → zS → zF (Unit ⊕ Nat)) (FX4_evaluate : (Option Nat) → (Option Nat) → zS → zF (Unit ⊕ Nat)) (FX4_list : (Option Nat) → (Option Nat) → zS → zF (Unit ⊕ Nat)) (FX4_perform : (Option Nat) → (Option Nat) → zS → zF (Unit ⊕ Nat)) (FX4_statement : (Option Nat) → (Option Nat) → zS → zF (Unit ⊕ Nat)) (r_0 : Option Nat) (r_1 : Option Nat) (σ : zS) : zF (Unit ⊕ Nat) :=
  if zis G σ r_0 41 = true then
    (hX4_isPhrase G r_0 σ).bind fun p7 =>
    if p7.1 = 0 then
      hX4_perform_94 G FX4_add FX4_branch FX4_evaluate FX4_list FX4_perform FX4_statement r_0 r_1 p7.2
    else
      if zis G p7.2 r_0 41 = true then
        zcase (hX4_phrase G r_0 p7.2) (fun p8 =>
          if zis G p8.2 r_1 45 = true then
            (hX43_add G r_1 p8.1 p8.2).bind fun p9 =>
            hX4_perform_94 G FX4_add FX4_branch FX4_evaluate FX4_list FX4_perform FX4_statement r_0 r_1 p9.2
          else none) (fun p10 =>
          if zthr p10.2 p10.1 3 = true then
            some (.inr p10.1, p10.2)
          else none)
      else none
  else none
def hX4_perform_77 (G : xQ) (FX4_add : (Option Nat) → (Option Nat) → zS → zF (Unit ⊕ Nat)) (FX4_branch : (Option Nat) → (Option Nat) → zS → zF (Unit ⊕ Nat)) (FX4_evaluate : (Option Nat) → (Option Nat) → zS → zF (Unit ⊕ Nat)) (FX4_list : (Option Nat) → (Option Nat) → zS → zF (Unit ⊕ Nat)) (FX4_perform : (Option Nat) → (Option Nat) → zS → zF (Unit ⊕ Nat)) (FX4_statement : (Option Nat) → (Option Nat) → zS → zF (Unit ⊕ Nat))  (σ : zS) : zF (Unit ⊕ Nat) :=
  some (.inl (()), σ)
def hX4_perform_61 (G : xQ) (FX4_add : (Option Nat) → (Option Nat) → zS → zF (Unit ⊕ Nat)) (FX4_branch : (Option Nat) → (Option Nat) → zS → zF (Unit ⊕ Nat)) (FX4_evaluate : (Option Nat) → (Option Nat) → zS → zF (Unit ⊕ Nat)) (FX4_list : (Option Nat) → (Option Nat) → zS → zF (Unit ⊕ Nat)) (FX4_perform : (Option Nat) → (Option Nat) → zS → zF (Unit ⊕ Nat)) (FX4_statement : (Option Nat) → (Option Nat) → zS → zF (Unit ⊕ Nat)) (r_0 : Option Nat) (r_1 : Option Nat) (σ : zS) : zF (Unit ⊕ Nat) :=
  if zis G σ r_0 41 = true then
    (hX4_isPhrase G r_0 σ).bind fun p11 =>
    if p11.1 = 0 then
      hX4_perform_77 G FX4_add FX4_branch FX4_evaluate FX4_list FX4_perform FX4_statement  p11.2
    else
      if zis G p11.2 r_0 41 = true then
        zcase (hX4_phrase G r_0 p11.2) (fun p12 =>
          if zis G p12.2 r_1 45 = true then
            (hX43_add G r_1 p12.1 p12.2).bind fun p13 =>
            hX4_perform_77 G FX4_add FX4_branch FX4_evaluate FX4_list FX4_perform FX4_statement  p13.2
          else none) (fun p14 =>
          if zthr p14.2 p14.1 3 = true then
            some (.inr p14.1, p14.2)
          else none)
      else none
  else none
def hX4_perform_r (G : xQ) (FX4_add : (Option Nat) → (Option Nat) → zS → zF (Unit ⊕ Nat)) (FX4_branch : (Option Nat) → (Option Nat) → zS → zF (Unit ⊕ Nat)) (FX4_evaluate : (Option Nat) → (Option Nat) → zS → zF (Unit ⊕ Nat)) (FX4_list : (Option Nat) → (Option Nat) → zS → zF (Unit ⊕ Nat)) (FX4_perform : (Option Nat) → (Option Nat) → zS → zF (Unit ⊕ Nat)) (FX4_statement : (Option Nat) → (Option Nat) → zS → zF (Unit ⊕ Nat)) (o0 : Option Nat) (o1 : Option Nat) (σ : zS) : zF (Unit ⊕ Nat) :=
  (zfI σ o0 40 3).bind fun x15 =>
  if zis G σ o0 41 = true then
    (hX4_isKind G o0 x15 1 σ).bind fun p16 =>
    if p16.1 = 0 then
      hX4_perform_78 G FX4_add FX4_branch FX4_evaluate FX4_list FX4_perform FX4_statement o0 o1 p16.2
    else
      if zis G p16.2 o0 41 = true then
        (hX4_isPhrase G o0 p16.2).bind fun p17 =>
        if ¬ p17.1 = 0 then
          hX4_perform_78 G FX4_add FX4_branch FX4_evaluate FX4_list FX4_perform FX4_statement o0 o1 p17.2
        else
          if zis G p17.2 o0 41 = true then
            zcase (hX4_operand G o0 1 p17.2) (fun p18 =>
              if zis G p18.2 o1 45 = true then
                (hX43_add G o1 p18.1 p18.2).bind fun p19 =>
                if zis G p19.2 o0 41 = true then
                  (hX4_meets G o0 21 p19.2).bind fun p20 =>
                  if p20.1 = 0 then
                    hX4_perform_61 G FX4_add FX4_branch FX4_evaluate FX4_list FX4_perform FX4_statement o0 o1 p20.2
                  else
                    (zfI p20.2 o0 40 3).bind fun x21 =>
                    if zis G p20.2 o0 41 = true then
                      (hX4_isKind G o0 x21 1 p20.2).bind fun p22 =>
                      if zis G p22.2 o0 41 = true then
                        zcase (hX4_must G o0 p22.1 p22.2) (fun p23 =>
                          if zis G p23.2 o0 41 = true then
                            zcase (hX4_operand G o0 1 p23.2) (fun p24 =>
                              if zis G p24.2 o1 45 = true then
                                (hX43_add G o1 p24.1 p24.2).bind fun p25 =>
                                hX4_perform_61 G FX4_add FX4_branch FX4_evaluate FX4_list FX4_perform FX4_statement o0 o1 p25.2
                              else none) (fun p26 =>
                              if zthr p26.2 p26.1 3 = true then
                                some (.inr p26.1, p26.2)
                              else none)
                          else none) (fun p27 =>
                          if zthr p27.2 p27.1 3 = true then
                            some (.inr p27.1, p27.2)
                          else none)
                      else none
                    else none
                else none
              else none) (fun p28 =>
              if zthr p28.2 p28.1 3 = true then
                some (.inr p28.1, p28.2)
              else none)
          else none
      else none
  else none
def hX4_statement_446 (G : xQ) (FX4_add : (Option Nat) → (Option Nat) → zS → zF (Unit ⊕ Nat)) (FX4_branch : (Option Nat) → (Option Nat) → zS → zF (Unit ⊕ Nat)) (FX4_evaluate : (Option Nat) → (Option Nat) → zS → zF (Unit ⊕ Nat)) (FX4_list : (Option Nat) → (Option Nat) → zS → zF (Unit ⊕ Nat)) (FX4_perform : (Option Nat) → (Option Nat) → zS → zF (Unit ⊕ Nat)) (FX4_statement : (Option Nat) → (Option Nat) → zS → zF (Unit ⊕ Nat))  (σ : zS) : zF (Unit ⊕ Nat) :=
  some (.inl (()), σ)
def hX4_statement_349 (G : xQ) (FX4_add : (Option Nat) → (Option Nat) → zS → zF (Unit ⊕ Nat)) (FX4_branch : (Option Nat) → (Option Nat) → zS → zF (Unit ⊕ Nat)) (FX4_evaluate : (Option Nat) → (Option Nat) → zS → zF (Unit ⊕ Nat)) (FX4_list : (Option Nat) → (Option Nat) → zS → zF (Unit ⊕ Nat)) (FX4_perform : (Option Nat) → (Option Nat) → zS → zF (Unit ⊕ Nat)) (FX4_statement : (Option Nat) → (Option Nat) → zS → zF (Unit ⊕ Nat)) (r_0 : Option Nat) (r_3 : Option Nat) (σ : zS) : zF (Unit ⊕ Nat) :=
  if zis G σ r_0 41 = true then
    (hX4_scopeEnd G r_0 r_3 77 σ).bind fun p1 =>
    hX4_statement_446 G FX4_add FX4_branch FX4_evaluate FX4_list FX4_perform FX4_statement  p1.2
  else none
def hX4_statement_335 (G : xQ) (FX4_add : (Option Nat) → (Option Nat) → zS → zF (Unit ⊕ Nat)) (FX4_branch : (Option Nat) → (Option Nat) → zS → zF (Unit ⊕ Nat)) (FX4_evaluate : (Option Nat) → (Option Nat) → zS → zF (Unit ⊕ Nat)) (FX4_list : (Option Nat) → (Option Nat) → zS → zF (Unit ⊕ Nat)) (FX4_perform : (Option Nat) → (Option Nat) → zS → zF (Unit ⊕ Nat)) (FX4_statement : (Option Nat) → (Option Nat) → zS → zF (Unit ⊕ Nat)) (r_0 : Option Nat) (r_3 : Option Nat) (σ : zS) : zF (Unit ⊕ Nat) :=
  if zis G σ r_0 41 = true then
    (hX4_meets G r_0 62 σ).bind fun p2 =>
    if p2.1 = 0 then
      hX4_statement_349 G FX4_add FX4_branch FX4_evaluate FX4_list FX4_perform FX4_statement r_0 r_3 p2.2
    else
      if zis G p2.2 r_0 41 = true then
        zcase (FX4_list r_0 r_3 p2.2) (fun p3 =>
          hX4_statement_349 G FX4_add FX4_branch FX4_evaluate FX4_list FX4_perform FX4_statement r_0 r_3 p3.2) (fun p4 =>
          if zthr p4.2 p4.1 3 = true then
            some (.inr p4.1, p4.2)
          else none)
      else none
  else none
def hX4_statement_306 (G : xQ) (FX4_add : (Option Nat) → (Option Nat) → zS → zF (Unit ⊕ Nat)) (FX4_branch : (Option Nat) → (Option Nat) → zS → zF (Unit ⊕ Nat)) (FX4_evaluate : (Option Nat) → (Option Nat) → zS → zF (Unit ⊕ Nat)) (FX4_list : (Option Nat) → (Option Nat) → zS → zF (Unit ⊕ Nat)) (FX4_perform : (Option Nat) → (Option Nat) → zS → zF (Unit ⊕ Nat)) (FX4_statement : (Option Nat) → (Option Nat) → zS → zF (Unit ⊕ Nat)) (r_0 : Option Nat) (r_3 : Option Nat) (x_s0 : Int32) (r_s1 : Option Nat) (σ : zS) : zF (Unit ⊕ Nat) :=
  if zis G σ r_s1 41 = true then
    zcase (hX4_must G r_s1 x_s0 σ) (fun p5 =>
      if zis G p5.2 r_0 41 = true then
        zcase (hX4_operand G r_0 1 p5.2) (fun p6 =>
          if zis G p6.2 r_3 45 = true then
            (hX43_add G r_3 p6.1 p6.2).bind fun p7 =>
            if zis G p7.2 r_0 41 = true then
              (hX4_meets G r_0 31 p7.2).bind fun p8 =>
              if p8.1 = 0 then
                hX4_statement_335 G FX4_add FX4_branch FX4_evaluate FX4_list FX4_perform FX4_statement r_0 r_3 p8.2
              else
                if zis G p8.2 r_0 41 = true then
                  zcase (hX4_names G r_0 r_3 21 p8.2) (fun p9 =>
                    hX4_statement_335 G FX4_add FX4_branch FX4_evaluate FX4_list FX4_perform FX4_statement r_0 r_3 p9.2) (fun p10 =>
                    if zthr p10.2 p10.1 3 = true then
                      some (.inr p10.1, p10.2)
                    else none)
                else none
            else none
          else none) (fun p11 =>
          if zthr p11.2 p11.1 3 = true then
            some (.inr p11.1, p11.2)
          else none)
      else none) (fun p12 =>
      if zthr p12.2 p12.1 3 = true then
        some (.inr p12.1, p12.2)
      else none)
  else none
def hX4_statement_278 (G : xQ) (FX4_add : (Option Nat) → (Option Nat) → zS → zF (Unit ⊕ Nat)) (FX4_branch : (Option Nat) → (Option Nat) → zS → zF (Unit ⊕ Nat)) (FX4_evaluate : (Option Nat) → (Option Nat) → zS → zF (Unit ⊕ Nat)) (FX4_list : (Option Nat) → (Option Nat) → zS → zF (Unit ⊕ Nat)) (FX4_perform : (Option Nat) → (Option Nat) → zS → zF (Unit ⊕ Nat)) (FX4_statement : (Option Nat) → (Option Nat) → zS → zF (Unit ⊕ Nat)) (r_0 : Option Nat) (r_3 : Option Nat) (σ : zS) : zF (Unit ⊕ Nat) :=
  if zis G σ r_0 41 = true then
    (hX4_scopeEnd G r_0 r_3 76 σ).bind fun p13 =>
    hX4_statement_446 G FX4_add FX4_branch FX4_evaluate FX4_list FX4_perform FX4_statement  p13.2
  else none
def hX4_statement_223 (G : xQ) (FX4_add : (Option Nat) → (Option Nat) → zS → zF (Unit ⊕ Nat)) (FX4_branch : (Option Nat) → (Option Nat) → zS → zF (Unit ⊕ Nat)) (FX4_evaluate : (Option Nat) → (Option Nat) → zS → zF (Unit ⊕ Nat)) (FX4_list : (Option Nat) → (Option Nat) → zS → zF (Unit ⊕ Nat)) (FX4_perform : (Option Nat) → (Option Nat) → zS → zF (Unit ⊕ Nat)) (FX4_statement : (Option Nat) → (Option Nat) → zS → zF (Unit ⊕ Nat)) (r_0 : Option Nat) (r_3 : Option Nat) (σ : zS) : zF (Unit ⊕ Nat) :=
  if zis G σ r_0 41 = true then
    (hX4_scopeEnd G r_0 r_3 73 σ).bind fun p14 =>
    hX4_statement_446 G FX4_add FX4_branch FX4_evaluate FX4_list FX4_perform FX4_statement  p14.2
  else none
def hX4_statement_43 (G : xQ) (FX4_add : (Option Nat) → (Option Nat) → zS → zF (Unit ⊕ Nat)) (FX4_branch : (Option Nat) → (Option Nat) → zS → zF (Unit ⊕ Nat)) (FX4_evaluate : (Option Nat) → (Option Nat) → zS → zF (Unit ⊕ Nat)) (FX4_list : (Option Nat) → (Option Nat) → zS → zF (Unit ⊕ Nat)) (FX4_perform : (Option Nat) → (Option Nat) → zS → zF (Unit ⊕ Nat)) (FX4_statement : (Option Nat) → (Option Nat) → zS → zF (Unit ⊕ Nat)) (r_0 : Option Nat) (x_2 : Int32) (x_s0 : Int32) (r_s1 : Option Nat) (r_s2 : Option Nat) (r_s3 : Option Nat) (σ : zS) : zF (Unit ⊕ Nat) :=
  (zfI σ r_0 40 3).bind fun x15 =>
  if zis G σ r_s1 45 = true then
    (hX43_init G r_s1 x_s0 0 x15 σ).bind fun p16 =>
    if zis G p16.2 r_s3 45 = true then
      (hX43_add G r_s3 r_s2 p16.2).bind fun p17 =>
      (zfI p17.2 r_0 40 3).bind fun x18 =>
      (zpI p17.2 r_0 40 3 (x18 + (1 : Int32))).bind fun σ19 =>
      if x_2 < 29 ∨ 47 < x_2 then
        hX4_statement_446 G FX4_add FX4_branch FX4_evaluate FX4_list FX4_perform FX4_statement  σ19
      else if x_2 = 29 then
        if zis G σ19 r_0 41 = true then
          zcase (hX4_operands G r_0 p17.1 σ19) (fun p20 =>
            hX4_statement_446 G FX4_add FX4_branch FX4_evaluate FX4_list FX4_perform FX4_statement  p20.2) (fun p21 =>
            if zthr p21.2 p21.1 3 = true then
              some (.inr p21.1, p21.2)
            else none)
        else none
      else if x_2 = 30 then
        hX4_statement_446 G FX4_add FX4_branch FX4_evaluate FX4_list FX4_perform FX4_statement  σ19
      else if x_2 = 31 then
        hX4_statement_446 G FX4_add FX4_branch FX4_evaluate FX4_list FX4_perform FX4_statement  σ19
      else if x_2 = 32 then
        hX4_statement_446 G FX4_add FX4_branch FX4_evaluate FX4_list FX4_perform FX4_statement  σ19
      else if x_2 = 33 then
        hX4_statement_446 G FX4_add FX4_branch FX4_evaluate FX4_list FX4_perform FX4_statement  σ19
      else if x_2 = 34 then
        hX4_statement_446 G FX4_add FX4_branch FX4_evaluate FX4_list FX4_perform FX4_statement  σ19
      else if x_2 = 35 then
        hX4_statement_446 G FX4_add FX4_branch FX4_evaluate FX4_list FX4_perform FX4_statement  σ19
      else if x_2 = 36 then
        if zis G σ19 r_0 41 = true then
          zcase (hX4_operand G r_0 1 σ19) (fun p22 =>
            if zis G p22.2 p17.1 45 = true then
              (hX43_add G p17.1 p22.1 p22.2).bind fun p23 =>
              if zis G p23.2 r_0 41 = true then
                zcase (hX4_need G r_0 48 p23.2) (fun p24 =>
                  if zis G p24.2 r_0 41 = true then
                    zcase (hX4_targets G r_0 p17.1 p24.2) (fun p25 =>
                      hX4_statement_446 G FX4_add FX4_branch FX4_evaluate FX4_list FX4_perform FX4_statement  p25.2) (fun p26 =>
                      if zthr p26.2 p26.1 3 = true then
                        some (.inr p26.1, p26.2)
                      else none)
                  else none) (fun p27 =>
                  if zthr p27.2 p27.1 3 = true then
                    some (.inr p27.1, p27.2)
                  else none)
              else none
            else none) (fun p28 =>
            if zthr p28.2 p28.1 3 = true then
              some (.inr p28.1, p28.2)
            else none)
        else none
      else if x_2 = 37 then
        if zis G σ19 r_0 41 = true then
          zcase (FX4_add r_0 p17.1 σ19) (fun p29 =>
            hX4_statement_446 G FX4_add FX4_branch FX4_evaluate FX4_list FX4_perform FX4_statement  p29.2) (fun p30 =>
            if zthr p30.2 p30.1 3 = true then
              some (.inr p30.1, p30.2)
            else none)
        else none
      else if x_2 = 38 then
        if zis G σ19 r_0 41 = true then
          zcase (hX4_condition G r_0 σ19) (fun p31 =>
            if zis G p31.2 p17.1 45 = true then
              (hX43_add G p17.1 p31.1 p31.2).bind fun p32 =>
              if zis G p32.2 r_0 41 = true then
                (hX4_meets G r_0 52 p32.2).bind fun p33 =>
                if zis G p33.2 r_0 41 = true then
                  zcase (FX4_branch r_0 p17.1 p33.2) (fun p34 =>
                    if zis G p34.2 r_0 41 = true then
                      (hX4_meets G r_0 53 p34.2).bind fun p35 =>
                      if p35.1 = 0 then
                        hX4_statement_223 G FX4_add FX4_branch FX4_evaluate FX4_list FX4_perform FX4_statement r_0 p17.1 p35.2
                      else
                        if zis G p35.2 r_0 41 = true then
                          zcase (FX4_branch r_0 p17.1 p35.2) (fun p36 =>
                            hX4_statement_223 G FX4_add FX4_branch FX4_evaluate FX4_list FX4_perform FX4_statement r_0 p17.1 p36.2) (fun p37 =>
                            if zthr p37.2 p37.1 3 = true then
                              some (.inr p37.1, p37.2)
                            else none)
                        else none
                    else none) (fun p38 =>
                    if zthr p38.2 p38.1 3 = true then
                      some (.inr p38.1, p38.2)
                    else none)
                else none
              else none
            else none) (fun p39 =>
            if zthr p39.2 p39.1 3 = true then
              some (.inr p39.1, p39.2)
            else none)
        else none
      else if x_2 = 39 then
        if zis G σ19 r_0 41 = true then
          zcase (FX4_perform r_0 p17.1 σ19) (fun p40 =>
            hX4_statement_446 G FX4_add FX4_branch FX4_evaluate FX4_list FX4_perform FX4_statement  p40.2) (fun p41 =>
            if zthr p41.2 p41.1 3 = true then
              some (.inr p41.1, p41.2)
            else none)
        else none
      else if x_2 = 40 then
        if zis G σ19 r_0 41 = true then
          zcase (FX4_evaluate r_0 p17.1 σ19) (fun p42 =>
            hX4_statement_446 G FX4_add FX4_branch FX4_evaluate FX4_list FX4_perform FX4_statement  p42.2) (fun p43 =>
            if zthr p43.2 p43.1 3 = true then
              some (.inr p43.1, p43.2)
            else none)
        else none
      else if x_2 = 41 then
        if zis G σ19 r_0 41 = true then
          zcase (hX4_take G r_0 1 σ19) (fun p44 =>
            (zpI p44.2 p17.1 44 1 p44.1).bind fun σ45 =>
            if zis G σ45 r_0 41 = true then
              (hX4_meets G r_0 61 σ45).bind fun p46 =>
              if p46.1 = 0 then
                hX4_statement_278 G FX4_add FX4_branch FX4_evaluate FX4_list FX4_perform FX4_statement r_0 p17.1 p46.2
              else
                if zis G p46.2 r_0 41 = true then
                  zcase (hX4_need G r_0 33 p46.2) (fun p47 =>
                    if zis G p47.2 r_0 41 = true then
                      zcase (FX4_list r_0 p17.1 p47.2) (fun p48 =>
                        hX4_statement_278 G FX4_add FX4_branch FX4_evaluate FX4_list FX4_perform FX4_statement r_0 p17.1 p48.2) (fun p49 =>
                        if zthr p49.2 p49.1 3 = true then
                          some (.inr p49.1, p49.2)
                        else none)
                    else none) (fun p50 =>
                    if zthr p50.2 p50.1 3 = true then
                      some (.inr p50.1, p50.2)
                    else none)
                else none
            else none) (fun p51 =>
            if zthr p51.2 p51.1 3 = true then
              some (.inr p51.1, p51.2)
            else none)
        else none
      else if x_2 = 42 then
        (zfI σ19 r_0 40 3).bind fun x52 =>
        if zis G σ19 r_0 41 = true then
          (hX4_isKind G r_0 x52 2 σ19).bind fun p53 =>
          if ¬ p53.1 = 0 then
            hX4_statement_306 G FX4_add FX4_branch FX4_evaluate FX4_list FX4_perform FX4_statement r_0 p17.1 0 r_0 p53.2
          else
            hX4_statement_306 G FX4_add FX4_branch FX4_evaluate FX4_list FX4_perform FX4_statement r_0 p17.1 1 r_0 p53.2
        else none
      else if x_2 = 43 then
        if zis G σ19 r_0 41 = true then
          (hX4_meets G r_0 48 σ19).bind fun p54 =>
          if zis G p54.2 r_0 41 = true then
            zcase (hX4_take G r_0 1 p54.2) (fun p55 =>
              (zpI p55.2 p17.1 44 1 p55.1).bind fun σ56 =>
              hX4_statement_446 G FX4_add FX4_branch FX4_evaluate FX4_list FX4_perform FX4_statement  σ56) (fun p57 =>
              if zthr p57.2 p57.1 3 = true then
                some (.inr p57.1, p57.2)
              else none)
          else none
        else none
      else if x_2 = 44 then
        if zis G σ19 r_0 41 = true then
          zcase (hX4_need G r_0 63 σ19) (fun p58 =>
            hX4_statement_446 G FX4_add FX4_branch FX4_evaluate FX4_list FX4_perform FX4_statement  p58.2) (fun p59 =>
            if zthr p59.2 p59.1 3 = true then
              some (.inr p59.1, p59.2)
            else none)
        else none
      else if x_2 = 45 then
        hX4_statement_446 G FX4_add FX4_branch FX4_evaluate FX4_list FX4_perform FX4_statement  σ19
      else if x_2 = 46 then
        hX4_statement_446 G FX4_add FX4_branch FX4_evaluate FX4_list FX4_perform FX4_statement  σ19
      else if x_2 = 47 then
        if zis G σ19 r_0 41 = true then
          zcase (hX4_take G r_0 1 σ19) (fun p60 =>
            (zpI p60.2 p17.1 44 1 p60.1).bind fun σ61 =>
            (zfI σ61 r_0 40 3).bind fun x62 =>
            if zis G σ61 r_0 41 = true then
              (hX4_isSign G r_0 x62 2 σ61).bind fun p63 =>
              if zis G p63.2 r_0 41 = true then
                zcase (hX4_must G r_0 p63.1 p63.2) (fun p64 =>
                  (zfI p64.2 r_0 40 3).bind fun x65 =>
                  (zpI p64.2 r_0 40 3 (x65 + (1 : Int32))).bind fun σ66 =>
                  if zis G σ66 r_0 41 = true then
                    zcase (hX4_sum G xRec r_0 σ66) (fun p67 =>
                      if zis G p67.2 p17.1 45 = true then
                        (hX43_add G p17.1 p67.1 p67.2).bind fun p68 =>
                        if zis G p68.2 r_0 41 = true then
                          (hX4_scopeEnd G r_0 p17.1 78 p68.2).bind fun p69 =>
                          hX4_statement_446 G FX4_add FX4_branch FX4_evaluate FX4_list FX4_perform FX4_statement  p69.2
                        else none
                      else none) (fun p70 =>
                      if zthr p70.2 p70.1 3 = true then
                        some (.inr p70.1, p70.2)
                      else none)
                  else none) (fun p71 =>
                  if zthr p71.2 p71.1 3 = true then
                    some (.inr p71.1, p71.2)
                  else none)
              else none
            else none) (fun p72 =>
            if zthr p72.2 p72.1 3 = true then
              some (.inr p72.1, p72.2)
            else none)
        else none
      else none
    else none
  else none
def hX4_statement_r (G : xQ) (FX4_add : (Option Nat) → (Option Nat) → zS → zF (Unit ⊕ Nat)) (FX4_branch : (Option Nat) → (Option Nat) → zS → zF (Unit ⊕ Nat)) (FX4_evaluate : (Option Nat) → (Option Nat) → zS → zF (Unit ⊕ Nat)) (FX4_list : (Option Nat) → (Option Nat) → zS → zF (Unit ⊕ Nat)) (FX4_perform : (Option Nat) → (Option Nat) → zS → zF (Unit ⊕ Nat)) (FX4_statement : (Option Nat) → (Option Nat) → zS → zF (Unit ⊕ Nat)) (o0 : Option Nat) (o1 : Option Nat) (σ : zS) : zF (Unit ⊕ Nat) :=
  (zfA σ o0 40 1).bind fun r73 =>
  (zfI σ o0 40 3).bind fun x74 =>
  (ziald σ r73 x74).bind fun x75 =>
  (znO σ 44 9).bind fun p76 =>
  if ¬ x75 = (29 : Int32) then
    if x75 ≤ (42 : Int32) then
      hX4_statement_43 G FX4_add FX4_branch FX4_evaluate FX4_list FX4_perform FX4_statement o0 x75 (x75 - (10 : Int32)) p76.1 p76.1 o1 p76.2
    else
      hX4_statement_43 G FX4_add FX4_branch FX4_evaluate FX4_list FX4_perform FX4_statement o0 x75 (x75 - (9 : Int32)) p76.1 p76.1 o1 p76.2
  else
    hX4_statement_43 G FX4_add FX4_branch FX4_evaluate FX4_list FX4_perform FX4_statement o0 x75 33 p76.1 p76.1 o1 p76.2
def rrX4_add (G : xQ) : Nat → (((Option Nat) → (Option Nat) → zS → zF (Unit ⊕ Nat)) × ((Option Nat) → (Option Nat) → zS → zF (Unit ⊕ Nat)) × ((Option Nat) → (Option Nat) → zS → zF (Unit ⊕ Nat)) × ((Option Nat) → (Option Nat) → zS → zF (Unit ⊕ Nat)) × ((Option Nat) → (Option Nat) → zS → zF (Unit ⊕ Nat)) × ((Option Nat) → (Option Nat) → zS → zF (Unit ⊕ Nat)))
  | 0 => (fun _ _ _ => none, fun _ _ _ => none, fun _ _ _ => none, fun _ _ _ => none, fun _ _ _ => none, fun _ _ _ => none)
  | n + 1 => (hX4_add_r G (rrX4_add G n).1 (rrX4_add G n).2.1 (rrX4_add G n).2.2.1 (rrX4_add G n).2.2.2.1 (rrX4_add G n).2.2.2.2.1 (rrX4_add G n).2.2.2.2.2, hX4_branch_r G (rrX4_add G n).1 (rrX4_add G n).2.1 (rrX4_add G n).2.2.1 (rrX4_add G n).2.2.2.1 (rrX4_add G n).2.2.2.2.1 (rrX4_add G n).2.2.2.2.2, hX4_evaluate_r G (rrX4_add G n).1 (rrX4_add G n).2.1 (rrX4_add G n).2.2.1 (rrX4_add G n).2.2.2.1 (rrX4_add G n).2.2.2.2.1 (rrX4_add G n).2.2.2.2.2, hX4_list_r G (rrX4_add G n).1 (rrX4_add G n).2.1 (rrX4_add G n).2.2.1 (rrX4_add G n).2.2.2.1 (rrX4_add G n).2.2.2.2.1 (rrX4_add G n).2.2.2.2.2, hX4_perform_r G (rrX4_add G n).1 (rrX4_add G n).2.1 (rrX4_add G n).2.2.1 (rrX4_add G n).2.2.2.1 (rrX4_add G n).2.2.2.2.1 (rrX4_add G n).2.2.2.2.2, hX4_statement_r G (rrX4_add G n).1 (rrX4_add G n).2.1 (rrX4_add G n).2.2.1 (rrX4_add G n).2.2.2.1 (rrX4_add G n).2.2.2.2.1 (rrX4_add G n).2.2.2.2.2)
def hX4_add (G : xQ) (n : Nat) (r0 : Option Nat) (r1 : Option Nat) (σ : zS) : zF (Unit ⊕ Nat) := (rrX4_add G n).1 r0 r1 σ
def hX4_branch (G : xQ) (n : Nat) (r0 : Option Nat) (r1 : Option Nat) (σ : zS) : zF (Unit ⊕ Nat) := (rrX4_add G n).2.1 r0 r1 σ
def hX4_evaluate (G : xQ) (n : Nat) (r0 : Option Nat) (r1 : Option Nat) (σ : zS) : zF (Unit ⊕ Nat) := (rrX4_add G n).2.2.1 r0 r1 σ
def hX4_list (G : xQ) (n : Nat) (r0 : Option Nat) (r1 : Option Nat) (σ : zS) : zF (Unit ⊕ Nat) := (rrX4_add G n).2.2.2.1 r0 r1 σ
def hX4_perform (G : xQ) (n : Nat) (r0 : Option Nat) (r1 : Option Nat) (σ : zS) : zF (Unit ⊕ Nat) := (rrX4_add G n).2.2.2.2.1 r0 r1 σ
def hX4_statement (G : xQ) (n : Nat) (r0 : Option Nat) (r1 : Option Nat) (σ : zS) : zF (Unit ⊕ Nat) := (rrX4_add G n).2.2.2.2.2 r0 r1 σ
/-! MainframeHouse$Parser.branch(LMainframeHouse$Parser$Node;)V -/
/-! MainframeHouse$Parser.evaluate(LMainframeHouse$Parser$Node;)V -/
/-! MainframeHouse$Parser.list(LMainframeHouse$Parser$Node;)V -/
/-! MainframeHouse$Parser.perform(LMainframeHouse$Parser$Node;)V -/
/-! MainframeHouse$Parser.statement(LMainframeHouse$Parser$Node;)V -/
/-! MainframeHouse$Parser.sentence()V -/
def hX4_sentence_53b (G : xQ) (r_0 : Option Nat) (r_1 : Option Nat) (r_2 : Option Nat) (σ : zS) : zF (((Option Nat) × (Option Nat) × (Option Nat)) ⊕ (Unit ⊕ Nat)) :=
  if zis G σ r_0 41 = true then
    (hX4_isStatement G r_0 σ).bind fun p1 =>
    if p1.1 = 0 then
      zinr (
        if zis G p1.2 r_0 41 = true then
          zcase (hX4_period G r_0 p1.2) (fun p2 =>
            if zis G p2.2 r_1 44 = true then
              (hX42_sentences G r_1 p2.2).bind fun p3 =>
              if zis G p3.2 p3.1 45 = true then
                (hX43_add G p3.1 r_2 p3.2).bind fun p4 =>
                if zis G p4.2 r_1 44 = true then
                  (hX42_goOn G r_1 p4.2).bind fun p5 =>
                  some (.inl (()), p5.2)
                else none
              else none
            else none) (fun p6 =>
            if zthr p6.2 p6.1 3 = true then
              some (.inr p6.1, p6.2)
            else none)
        else none)
    else
      if zis G p1.2 r_0 41 = true then
        zcase (hX4_statement G xRec r_0 r_2 p1.2) (fun p7 =>
          some (.inl (r_0, r_1, r_2), p7.2)) (fun p8 =>
          if zthr p8.2 p8.1 3 = true then
            some (.inr (.inr p8.1), p8.2)
          else none)
      else none
  else none
def hX4_sentence_53 (G : xQ) (r_0 : Option Nat) (r_1 : Option Nat) (r_2 : Option Nat) (σ : zS) : zF (Unit ⊕ Nat) := zloop (fun (a : ((Option Nat) × (Option Nat) × (Option Nat))) σ => hX4_sentence_53b G a.1 a.2.1 a.2.2 σ) xLim (r_0, r_1, r_2) σ
def hX4_sentence_35 (G : xQ) (r_0 : Option Nat) (r_1 : Option Nat) (x_s0 : Int32) (r_s1 : Option Nat) (σ : zS) : zF (Unit ⊕ Nat) :=
  if zis G σ r_s1 41 = true then
    zcase (hX4_must G r_s1 x_s0 σ) (fun p9 =>
      (znO p9.2 44 9).bind fun p10 =>
      (zfI p10.2 r_0 40 3).bind fun x11 =>
      if zis G p10.2 p10.1 45 = true then
        (hX43_init G p10.1 25 0 x11 p10.2).bind fun p12 =>
        hX4_sentence_53 G r_0 r_1 p10.1 p12.2
      else none) (fun p13 =>
      if zthr p13.2 p13.1 3 = true then
        some (.inr p13.1, p13.2)
      else none)
  else none
def hX4_sentence_30 (G : xQ) (r_0 : Option Nat) (r_1 : Option Nat) (r_s0 : Option Nat) (σ : zS) : zF (Unit ⊕ Nat) :=
  hX4_sentence_35 G r_0 r_1 1 r_s0 σ
def hX4_sentence (G : xQ) (o0 : Option Nat) (σ : zS) : zF (Unit ⊕ Nat) :=
  (zfA σ o0 40 11).bind fun r14 =>
  if zis G σ o0 41 = true then
    zcase (hX4_state G o0 8 11 σ) (fun p15 =>
      (zfI p15.2 r14 43 3).bind fun x16 =>
      if ¬ x16 = (9 : Int32) then
        hX4_sentence_30 G o0 r14 o0 p15.2
      else
        (zfA p15.2 r14 43 10).bind fun r17 =>
        if r17 = none then
          hX4_sentence_35 G o0 r14 0 o0 p15.2
        else
          hX4_sentence_30 G o0 r14 o0 p15.2) (fun p18 =>
      if zthr p18.2 p18.1 3 = true then
        some (.inr p18.1, p18.2)
      else none)
  else none
/-! MainframeHouse$Parser.clause()V -/
def hX4_clause_114 (G : xQ)  (σ : zS) : zF (Unit ⊕ Nat) :=
  some (.inl (()), σ)
def hX4_clause_111 (G : xQ) (x_s0 : Int32) (r_s1 : Option Nat) (σ : zS) : zF (Unit ⊕ Nat) :=
  if zis G σ r_s1 41 = true then
    zcase (hX4_header G r_s1 x_s0 σ) (fun p1 =>
      hX4_clause_114 G  p1.2) (fun p2 =>
      if zthr p2.2 p2.1 3 = true then
        some (.inr p2.1, p2.2)
      else none)
  else none
def hX4_clause_30 (G : xQ) (r_0 : Option Nat) (x_s0 : Int32) (r_s1 : Option Nat) (σ : zS) : zF (Unit ⊕ Nat) :=
  if zis G σ r_s1 41 = true then
    zcase (hX4_must G r_s1 x_s0 σ) (fun p3 =>
      (zfI p3.2 r_0 40 3).bind fun x4 =>
      if zis G p3.2 r_0 41 = true then
        (hX4_isKind G r_0 x4 2 p3.2).bind fun p5 =>
        if p5.1 = 0 then
          (zfI p5.2 r_0 40 3).bind fun x6 =>
          if zis G p5.2 r_0 41 = true then
            (hX4_isKind G r_0 x6 1 p5.2).bind fun p7 =>
            if p7.1 = 0 then
              if zis G p7.2 r_0 41 = true then
                (hX4_isStatement G r_0 p7.2).bind fun p8 =>
                if p8.1 = 0 then
                  (zfI p8.2 r_0 40 3).bind fun x9 =>
                  if zis G p8.2 r_0 41 = true then
                    (hX4_isKind G r_0 x9 0 p8.2).bind fun p10 =>
                    if p10.1 = 0 then
                      hX4_clause_111 G ((-1)) r_0 p10.2
                    else
                      (zfA p10.2 r_0 40 1).bind fun r11 =>
                      (zfI p10.2 r_0 40 3).bind fun x12 =>
                      (ziald p10.2 r11 x12).bind fun x13 =>
                      hX4_clause_111 G x13 r_0 p10.2
                  else none
                else
                  if zis G p8.2 r_0 41 = true then
                    zcase (hX4_sentence G r_0 p8.2) (fun p14 =>
                      hX4_clause_114 G  p14.2) (fun p15 =>
                      if zthr p15.2 p15.1 3 = true then
                        some (.inr p15.1, p15.2)
                      else none)
                  else none
              else none
            else
              if zis G p7.2 r_0 41 = true then
                zcase (hX4_named G r_0 p7.2) (fun p16 =>
                  hX4_clause_114 G  p16.2) (fun p17 =>
                  if zthr p17.2 p17.1 3 = true then
                    some (.inr p17.1, p17.2)
                  else none)
              else none
          else none
        else
          if zis G p5.2 r_0 41 = true then
            zcase (hX4_item G r_0 p5.2) (fun p18 =>
              hX4_clause_114 G  p18.2) (fun p19 =>
              if zthr p19.2 p19.1 3 = true then
                some (.inr p19.1, p19.2)
              else none)
          else none
      else none) (fun p20 =>
      if zthr p20.2 p20.1 3 = true then
        some (.inr p20.1, p20.2)
      else none)
  else none
def hX4_clause (G : xQ) (o0 : Option Nat) (σ : zS) : zF (Unit ⊕ Nat) :=
  (zfI σ o0 40 3).bind fun x21 =>
  if zis G σ o0 41 = true then
    (hX4_isWord G o0 x21 0 σ).bind fun p22 =>
    if p22.1 = 0 then
      (zfA p22.2 o0 40 11).bind fun r23 =>
      if r23 = none then
        hX4_clause_30 G o0 0 o0 p22.2
      else
        hX4_clause_30 G o0 1 o0 p22.2
    else
      if zis G p22.2 o0 41 = true then
        zcase (hX4_begin G o0 p22.2) (fun p24 =>
          some (.inl (()), p24.2)) (fun p25 =>
          if zthr p25.2 p25.1 3 = true then
            some (.inr p25.1, p25.2)
          else none)
      else none
  else none
/-! MainframeHouse$Parser.reads()Z -/
def hX4_reads_11 (G : xQ) (r_s0 : Option Nat) (σ : zS) : zF Int32 :=
  some (0, σ)
def hX4_reads (G : xQ) (o0 : Option Nat) (σ : zS) : zF Int32 :=
  (zpI σ o0 40 4 (0 : Int32)).bind fun σ1 =>
  if zis G σ1 o0 41 = true then
    zcase (hX4_clause G o0 σ1) (fun p2 =>
      some (1, p2.2)) (fun p3 =>
      if zthr p3.2 p3.1 3 = true then
        hX4_reads_11 G ((some p3.1)) p3.2
      else none)
  else none
/-! MainframeHouse$Parser.parse()I -/
def hX4_parse_192 (G : xQ) (r_0 : Option Nat) (σ : zS) : zF (Int32 ⊕ Nat) :=
  (zpI σ r_0 40 2 (0 : Int32)).bind fun σ1 =>
  (zfI σ1 r_0 40 7).bind fun x2 =>
  if x2 ≤ 0 then
    if zis G σ1 r_0 41 = true then
      (hX4_number G r_0 σ1).bind fun p3 =>
      (zfA p3.2 r_0 40 12).bind fun r4 =>
      (zLsize p3.2 r4).bind fun x5 =>
      some (.inl (x5), p3.2)
    else none
  else
    (zfA σ1 r_0 40 12).bind fun r6 =>
    (zLclear σ1 r6).bind fun p7 =>
    (znX p7.2 3 6).bind fun p8 =>
    (zXi p8.2 p8.1).bind fun p9 =>
    (p8.1).bind fun q10 =>
    if zthr p9.2 q10 3 = true then
      some (.inr q10, p9.2)
    else none
def hX4_parse_178 (G : xQ) (r_0 : Option Nat) (x_s0 : Int32) (σ : zS) : zF (Int32 ⊕ Nat) :=
  if ¬ x_s0 = 0 then
    hX4_parse_192 G r_0 σ
  else
    (zfI σ r_0 40 2).bind fun x11 =>
    if zis G σ r_0 41 = true then
      (hX4_note G r_0 1 x11 σ).bind fun p12 =>
      hX4_parse_192 G r_0 p12.2
    else none
def hX4_parse_177 (G : xQ) (r_0 : Option Nat) (σ : zS) : zF (Int32 ⊕ Nat) :=
  hX4_parse_178 G r_0 0 σ
def hX4_parse_173 (G : xQ) (r_0 : Option Nat) (σ : zS) : zF (Int32 ⊕ Nat) :=
  hX4_parse_178 G r_0 1 σ
def hX4_parse_138 (G : xQ) (r_0 : Option Nat) (σ : zS) : zF (Int32 ⊕ Nat) :=
  (zfA σ r_0 40 11).bind fun r13 =>
  if r13 = none then
    hX4_parse_173 G r_0 σ
  else
    (zfI σ r_0 40 8).bind fun x14 =>
    if ¬ x14 = (1 : Int32) then
      hX4_parse_177 G r_0 σ
    else
      (zfA σ r_0 40 11).bind fun r15 =>
      if zis G σ r15 44 = true then
        (hX42_canEnd G r15 σ).bind fun p16 =>
        if p16.1 = 0 then
          hX4_parse_177 G r_0 p16.2
        else
          (zfA p16.2 r_0 40 11).bind fun r17 =>
          (zfI p16.2 r17 43 2).bind fun x18 =>
          if ¬ x18 = 0 then
            hX4_parse_177 G r_0 p16.2
          else
            hX4_parse_173 G r_0 p16.2
      else none
def hX4_parse_125 (G : xQ) (r_0 : Option Nat) (σ : zS) : zF (((Option Nat)) ⊕ (Int32 ⊕ Nat)) :=
  (zfI σ r_0 40 3).bind fun x19 =>
  (zpI σ r_0 40 3 (x19 + (1 : Int32))).bind fun σ20 =>
  some (.inl (r_0), σ20)
def hX4_parse_88b (G : xQ) (r_0 : Option Nat) (σ : zS) : zF (((Option Nat)) ⊕ (((Option Nat)) ⊕ (Int32 ⊕ Nat))) :=
  (zfI σ r_0 40 3).bind fun x21 =>
  (zfI σ r_0 40 2).bind fun x22 =>
  if x22 ≤ x21 then
    zinr (hX4_parse_125 G r_0 σ)
  else
    (zfA σ r_0 40 0).bind fun r23 =>
    (zfI σ r_0 40 3).bind fun x24 =>
    (ziald σ r23 x24).bind fun x25 =>
    if x25 = (4 : Int32) then
      zinr (hX4_parse_125 G r_0 σ)
    else
      (zfI σ r_0 40 3).bind fun x26 =>
      (zpI σ r_0 40 3 (x26 + (1 : Int32))).bind fun σ27 =>
      some (.inl (r_0), σ27)
def hX4_parse_88 (G : xQ) (r_0 : Option Nat) (σ : zS) : zF (((Option Nat)) ⊕ (Int32 ⊕ Nat)) := zloop (fun (a : ((Option Nat))) σ => hX4_parse_88b G a σ) xLim (r_0) σ
def hX4_parse_41b (G : xQ) (r_0 : Option Nat) (σ : zS) : zF (((Option Nat)) ⊕ (Int32 ⊕ Nat)) :=
  (zfI σ r_0 40 3).bind fun x28 =>
  (zfI σ r_0 40 2).bind fun x29 =>
  if x29 ≤ x28 then
    zinr (hX4_parse_138 G r_0 σ)
  else
    (zfI σ r_0 40 7).bind fun x30 =>
    if (20 : Int32) ≤ x30 then
      zinr (hX4_parse_138 G r_0 σ)
    else
      if zis G σ r_0 41 = true then
        (hX4_reads G r_0 σ).bind fun p31 =>
        if ¬ p31.1 = 0 then
          some (.inl (r_0), p31.2)
        else
          (zfI p31.2 r_0 40 6).bind fun x32 =>
          (zfI p31.2 r_0 40 5).bind fun x33 =>
          if zis G p31.2 r_0 41 = true then
            (hX4_note G r_0 x32 x33 p31.2).bind fun p34 =>
            (zfI p34.2 r_0 40 5).bind fun x35 =>
            (zpI p34.2 r_0 40 3 x35).bind fun σ36 =>
            hX4_parse_88 G r_0 σ36
          else none
      else none
def hX4_parse_41 (G : xQ) (r_0 : Option Nat) (σ : zS) : zF (Int32 ⊕ Nat) := zloop (fun (a : ((Option Nat))) σ => hX4_parse_41b G a σ) xLim (r_0) σ
def hX4_parse (G : xQ) (o0 : Option Nat) (σ : zS) : zF (Int32 ⊕ Nat) :=
  (zfA σ o0 40 12).bind fun r37 =>
  (zLclear σ r37).bind fun p38 =>
  (zfA p38.2 o0 40 13).bind fun r39 =>
  (zLclear p38.2 r39).bind fun p40 =>
  (zfA p40.2 o0 40 14).bind fun r41 =>
  (zLclear p40.2 r41).bind fun p42 =>
  (zpA p42.2 o0 40 11 none).bind fun σ43 =>
  (zpI σ43 o0 40 8 (0 : Int32)).bind fun σ44 =>
  (zpI σ44 o0 40 3 (0 : Int32)).bind fun σ45 =>
  (zpI σ45 o0 40 7 (0 : Int32)).bind fun σ46 =>
  hX4_parse_41 G o0 σ46
