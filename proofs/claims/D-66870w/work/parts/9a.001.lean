/-! THE PURE LAYER: MainframeHouseModel$Parser: its methods as functions of what the object shows (written by gen/lift.py). -/
def gX26_forget (s : zM) : gF Unit :=
  xlet (us s 1 (0 : Int32)) fun s1 =>
  some ((), s1)
def gX26_in_15 (x_s0 : Int32) (s : zM) : gF Int32 :=
  if narrow .boolean (.int x_s0) = .int x_s0 then
    some (x_s0, s)
  else
    none
def gX26_in_14 (s : zM) : gF Int32 :=
  gX26_in_15 0 s
def gX26_in (i0 : Int32) (i1 : Int32) (i2 : Int32) (s : zM) : gF Int32 :=
  if i0 < i1 then
    gX26_in_14 s
  else
    if i2 < i0 then
      gX26_in_14 s
    else
      gX26_in_15 1 s
def gX26_make (i1 : Int32) (i2 : Int32) (i3 : Int32) (s : zM) : gF Int32 :=
  xlet (ls s 8) fun x1 =>
  xlet (ls s 8) fun x2 =>
  xlet (us s 8 (x2 + (1 : Int32))) fun s3 =>
  (gst s3 9 8000 x1 i1).bind fun s5 =>
  (gst s5 10 8000 x1 i2).bind fun s7 =>
  (gst s7 11 8000 x1 i3).bind fun s9 =>
  (gst s9 12 8000 x1 (0 : Int32)).bind fun s11 =>
  (gst s11 13 8000 x1 (0 : Int32)).bind fun s13 =>
  (gst s13 14 8000 x1 (0 : Int32)).bind fun s15 =>
  (gst s15 15 8000 x1 (0 : Int32)).bind fun s17 =>
  (gst s17 16 8000 x1 (0 : Int32)).bind fun s19 =>
  some (x1, s19)
def gX26_within_27 (x_2 : Int32) (s : zM) : gF Int32 :=
  some (x_2, s)
def gX26_within_7b (x_1 : Int32) (x_2 : Int32) (s : zM) : gF ((Int32 × Int32) ⊕ Int32) :=
  if x_2 < 0 then
    ginr (
      gX26_within_27 x_2 s)
  else
    (gld s 39 64 x_2).bind fun x2 =>
    if x2 < x_1 then
      ginr (
        gX26_within_27 x_2 s)
    else
      some (.inl (x_1, x_2 + (- 1)), s)
def gX26_within_7 (x_1 : Int32) (x_2 : Int32) (s : zM) : gF Int32 :=
  gloop (fun (a : (Int32 × Int32)) s => gX26_within_7b a.1 a.2 s) xLim (x_1, x_2) s
def gX26_within (i1 : Int32) (s : zM) : gF Int32 :=
  xlet (ls s 37) fun x3 =>
  xlet (x3 - (1 : Int32)) fun x4 =>
  gX26_within_7 i1 x4 s
def gX26_note (i1 : Int32) (i2 : Int32) (s : zM) : gF Unit :=
  xlet (ls s 5) fun x1 =>
  if ¬ x1 = (20 : Int32) then
    xlet (ls s 5) fun x3 =>
    (gst s 6 20 x3 i1).bind fun s4 =>
    xlet (ls s4 5) fun x6 =>
    (gst s4 7 20 x6 i2).bind fun s7 =>
    xlet (ls s7 5) fun x8 =>
    xlet (us s7 5 (x8 + (1 : Int32))) fun s9 =>
    some ((), s9)
  else
    some ((), s)
def gX26_isKind_23 (x_s0 : Int32) (s : zM) : gF Int32 :=
  if narrow .boolean (.int x_s0) = .int x_s0 then
    some (x_s0, s)
  else
    none
def gX26_isKind_22 (s : zM) : gF Int32 :=
  gX26_isKind_23 0 s
def gX26_isKind (i1 : Int32) (i2 : Int32) (s : zM) : gF Int32 :=
  xlet (ls s 4) fun x1 =>
  if x1 ≤ i1 then
    gX26_isKind_22 s
  else
    (gld s 2 1500 i1).bind fun x3 =>
    if ¬ x3 = i2 then
      gX26_isKind_22 s
    else
      gX26_isKind_23 1 s
def gX26_isWord_24 (x_s0 : Int32) (s : zM) : gF Int32 :=
  if narrow .boolean (.int x_s0) = .int x_s0 then
    some (x_s0, s)
  else
    none
def gX26_isWord_23 (s : zM) : gF Int32 :=
  gX26_isWord_24 0 s
def gX26_isWord (i1 : Int32) (i2 : Int32) (s : zM) : gF Int32 :=
  (gX26_isKind i1 0 s).bind fun p1 =>
  if p1.1 = 0 then
    gX26_isWord_23 p1.2
  else
    (gld p1.2 3 1500 i1).bind fun x3 =>
    if ¬ x3 = i2 then
      gX26_isWord_23 p1.2
    else
      gX26_isWord_24 1 p1.2
def gX26_meets_19 (s : zM) : gF Int32 :=
  some (0, s)
def gX26_meets (i1 : Int32) (s : zM) : gF Int32 :=
  xlet (ls s 43) fun x1 =>
  if ¬ x1 = 0 then
    gX26_meets_19 s
  else
    xlet (ls s 41) fun x2 =>
    (gX26_isWord x2 i1 s).bind fun p3 =>
    if ¬ p3.1 = 0 then
      xlet (ls p3.2 41) fun x4 =>
      xlet (us p3.2 41 (x4 + (1 : Int32))) fun s5 =>
      some (1, s5)
    else
      gX26_meets_19 p3.2
def gX26_passed_22 (x_s0 : Int32) (s : zM) : gF Int32 :=
  some (x_s0, s)
def gX26_passed (s : zM) : gF Int32 :=
  xlet (ls s 41) fun x1 =>
  if x1 ≤ 0 then
    gX26_passed_22 0 s
  else
    xlet (ls s 41) fun x3 =>
    (gld s 3 1500 (x3 - (1 : Int32))).bind fun x4 =>
    gX26_passed_22 x4 s
def gX26_attach_45 (x_1 : Int32) (x_2 : Int32) (s : zM) : gF Unit :=
  (gst s 14 8000 x_1 x_2).bind fun s2 =>
  some ((), s2)
def gX26_attach (i1 : Int32) (i2 : Int32) (s : zM) : gF Unit :=
  (gst s 16 8000 i2 i1).bind fun s4 =>
  (gst s4 15 8000 i2 (0 : Int32)).bind fun s6 =>
  (gld s6 13 8000 i1).bind fun x8 =>
  if ¬ x8 = 0 then
    (gld s6 14 8000 i1).bind fun x11 =>
    (gst s6 15 8000 x11 i2).bind fun s12 =>
    gX26_attach_45 i1 i2 s12
  else
    (gst s6 13 8000 i1 i2).bind fun s14 =>
    gX26_attach_45 i1 i2 s14
def gX26_isOperand_32 (x_s0 : Int32) (s : zM) : gF Int32 :=
  if narrow .boolean (.int x_s0) = .int x_s0 then
    some (x_s0, s)
  else
    none
def gX26_isOperand_27 (s : zM) : gF Int32 :=
  gX26_isOperand_32 1 s
def gX26_isOperand (i1 : Int32) (s : zM) : gF Int32 :=
  (gX26_isKind i1 1 s).bind fun p1 =>
  if ¬ p1.1 = 0 then
    gX26_isOperand_27 p1.2
  else
    (gX26_isKind i1 2 p1.2).bind fun p2 =>
    if ¬ p2.1 = 0 then
      gX26_isOperand_27 p2.2
    else
      (gX26_isKind i1 3 p2.2).bind fun p3 =>
      if p3.1 = 0 then
        gX26_isOperand_32 0 p3.2
      else
        gX26_isOperand_27 p3.2
def gX26_here (s : zM) : gF Int32 :=
  xlet (ls s 26) fun x2 =>
  (gld s 29 11 (x2 - (1 : Int32))).bind fun x3 =>
  some (x3, s)
def gX26_to (i1 : Int32) (s : zM) : gF Unit :=
  xlet (ls s 26) fun x2 =>
  (gst s 27 11 (x2 - (1 : Int32)) i1).bind fun s3 =>
  some ((), s3)
def gX26_begins_41 (x_s0 : Int32) (s : zM) : gF Int32 :=
  if narrow .boolean (.int x_s0) = .int x_s0 then
    some (x_s0, s)
  else
    none
def gX26_begins_40 (s : zM) : gF Int32 :=
  gX26_begins_41 0 s
def gX26_begins_36 (s : zM) : gF Int32 :=
  gX26_begins_41 1 s
def gX26_begins (i1 : Int32) (s : zM) : gF Int32 :=
  (gX26_isKind i1 0 s).bind fun p1 =>
  if p1.1 = 0 then
    gX26_begins_40 p1.2
  else
    (gld p1.2 3 1500 i1).bind fun x3 =>
    (gX26_in x3 36 47 p1.2).bind fun p4 =>
    if ¬ p4.1 = 0 then
      gX26_begins_36 p4.2
    else
      (gld p4.2 3 1500 i1).bind fun x6 =>
      if ¬ x6 = (29 : Int32) then
        gX26_begins_40 p4.2
      else
        gX26_begins_36 p4.2
def gX26_pile (i1 : Int32) (i2 : Int32) (s : zM) : gF Unit :=
  xlet (ls s 45) fun x2 =>
  (gst s 46 128 x2 i1).bind fun s3 =>
  xlet (ls s3 45) fun x5 =>
  (gst s3 47 128 x5 i2).bind fun s6 =>
  xlet (ls s6 45) fun x8 =>
  (gst s6 48 128 x8 (0 : Int32)).bind fun s9 =>
  xlet (ls s9 45) fun x10 =>
  xlet (us s9 45 (x10 + (1 : Int32))) fun s11 =>
  some ((), s11)
def gX26_childrenOf_9b (x_2 : Int32) (x_3 : Int32) (s : zM) : gF ((Int32 × Int32) ⊕ Int32) :=
  if x_3 ≤ 0 then
    ginr (
      some (x_2, s))
  else
    (gld s 15 8000 x_3).bind fun x2 =>
    some (.inl (x_2 + 1, x2), s)
def gX26_childrenOf_9 (x_2 : Int32) (x_3 : Int32) (s : zM) : gF Int32 :=
  gloop (fun (a : (Int32 × Int32)) s => gX26_childrenOf_9b a.1 a.2 s) xLim (x_2, x_3) s
def gX26_childrenOf (i1 : Int32) (s : zM) : gF Int32 :=
  (gld s 13 8000 i1).bind fun x4 =>
  gX26_childrenOf_9 0 x4 s
def gX26_joint (s : zM) : gF Unit :=
  xlet (ls s 57) fun x2 =>
  (gst s 61 64 x2 (0 : Int32)).bind fun s3 =>
  xlet (ls s3 57) fun x5 =>
  (gst s3 64 64 x5 (0 : Int32)).bind fun s6 =>
  xlet (ls s6 57) fun x7 =>
  xlet (us s6 57 (x7 + (1 : Int32))) fun s8 =>
  xlet (us s8 55 (0 : Int32)) fun s9 =>
  some ((), s9)
def gX26_isComparing_53 (x_s0 : Int32) (s : zM) : gF Int32 :=
  if narrow .boolean (.int x_s0) = .int x_s0 then
    some (x_s0, s)
  else
    none
def gX26_isComparing_52 (s : zM) : gF Int32 :=
  gX26_isComparing_53 0 s
def gX26_isComparing_48 (s : zM) : gF Int32 :=
  gX26_isComparing_53 1 s
def gX26_isComparing_23 (x_1 : Int32) (s : zM) : gF Int32 :=
  (gX26_isKind x_1 0 s).bind fun p1 =>
  if p1.1 = 0 then
    gX26_isComparing_52 p1.2
  else
    (gld p1.2 3 1500 x_1).bind fun x3 =>
    (gX26_in x3 68 70 p1.2).bind fun p4 =>
    if p4.1 = 0 then
      gX26_isComparing_52 p4.2
    else
      gX26_isComparing_48 p4.2
def gX26_isComparing (i1 : Int32) (s : zM) : gF Int32 :=
  (gX26_isKind i1 5 s).bind fun p5 =>
  if p5.1 = 0 then
    gX26_isComparing_23 i1 p5.2
  else
    (gld p5.2 3 1500 i1).bind fun x7 =>
    (gX26_in x7 2 4 p5.2).bind fun p8 =>
    if ¬ p8.1 = 0 then
      gX26_isComparing_48 p8.2
    else
      gX26_isComparing_23 i1 p8.2
def gX26_isSign_24 (x_s0 : Int32) (s : zM) : gF Int32 :=
  if narrow .boolean (.int x_s0) = .int x_s0 then
    some (x_s0, s)
  else
    none
def gX26_isSign_23 (s : zM) : gF Int32 :=
  gX26_isSign_24 0 s
def gX26_isSign (i1 : Int32) (i2 : Int32) (s : zM) : gF Int32 :=
  (gX26_isKind i1 5 s).bind fun p1 =>
  if p1.1 = 0 then
    gX26_isSign_23 p1.2
  else
    (gld p1.2 3 1500 i1).bind fun x3 =>
    if ¬ x3 = i2 then
      gX26_isSign_23 p1.2
    else
      gX26_isSign_24 1 p1.2
def gX26_isBehind_55 (x_s0 : Int32) (s : zM) : gF Int32 :=
  if narrow .boolean (.int x_s0) = .int x_s0 then
    some (x_s0, s)
  else
    none
def gX26_isBehind_50 (s : zM) : gF Int32 :=
  gX26_isBehind_55 1 s
def gX26_isBehind_39 (s : zM) : gF Int32 :=
  xlet (ls s 41) fun x1 =>
  (gX26_isComparing x1 s).bind fun p2 =>
  if p2.1 = 0 then
    gX26_isBehind_55 0 p2.2
  else
    gX26_isBehind_50 p2.2
def gX26_isBehind (s : zM) : gF Int32 :=
  xlet (ls s 41) fun x3 =>
  (gX26_isWord x3 67 s).bind fun p4 =>
  if ¬ p4.1 = 0 then
    gX26_isBehind_50 p4.2
  else
    xlet (ls p4.2 41) fun x5 =>
    (gX26_isWord x5 64 p4.2).bind fun p6 =>
    if p6.1 = 0 then
      gX26_isBehind_39 p6.2
    else
      xlet (ls p6.2 41) fun x7 =>
      (gX26_isComparing (x7 + (1 : Int32)) p6.2).bind fun p8 =>
      if ¬ p8.1 = 0 then
        gX26_isBehind_50 p8.2
      else
        gX26_isBehind_39 p8.2
def gX26_whole_28b (x_4 : Int32) (x_5 : Int32) (x_6 : Int32) (x_7 : Int32) (s : zM) : gF ((Int32 × Int32 × Int32 × Int32) ⊕ Int32) :=
  if x_4 ≤ x_7 then
    ginr (
      some (x_5, s))
  else
    (gld s 15 8000 x_6).bind fun x2 =>
    (gX26_attach x_5 x_6 s).bind fun p3 =>
    some (.inl (x_4, x_5, x2, x_7 + 1), p3.2)
def gX26_whole_28 (x_4 : Int32) (x_5 : Int32) (x_6 : Int32) (x_7 : Int32) (s : zM) : gF Int32 :=
  gloop (fun (a : (Int32 × Int32 × Int32 × Int32)) s => gX26_whole_28b a.1 a.2.1 a.2.2.1 a.2.2.2 s) xLim (x_4, x_5, x_6, x_7) s
def gX26_whole (i1 : Int32) (i2 : Int32) (i3 : Int32) (i4 : Int32) (s : zM) : gF Int32 :=
  if ¬ i4 = (1 : Int32) then
    (gld s 11 8000 i2).bind fun x5 =>
    (gX26_make i1 0 x5 s).bind fun p6 =>
    gX26_whole_28 i4 p6.1 i2 0 p6.2
  else
    some (i2, s)
def gX26_isTimes_44 (x_s0 : Int32) (s : zM) : gF Int32 :=
  if narrow .boolean (.int x_s0) = .int x_s0 then
    some (x_s0, s)
  else
    none
def gX26_isTimes_43 (s : zM) : gF Int32 :=
  gX26_isTimes_44 0 s
def gX26_isTimes_39 (s : zM) : gF Int32 :=
  gX26_isTimes_44 1 s
def gX26_isTimes (s : zM) : gF Int32 :=
  xlet (ls s 41) fun x1 =>
  (gX26_isKind x1 2 s).bind fun p2 =>
  if ¬ p2.1 = 0 then
    gX26_isTimes_39 p2.2
  else
    xlet (ls p2.2 41) fun x3 =>
    (gX26_isKind x3 1 p2.2).bind fun p4 =>
    if p4.1 = 0 then
      gX26_isTimes_43 p4.2
    else
      xlet (ls p4.2 41) fun x5 =>
      (gX26_isWord (x5 + (1 : Int32)) 23 p4.2).bind fun p6 =>
      if p6.1 = 0 then
        gX26_isTimes_43 p6.2
      else
        gX26_isTimes_39 p6.2
def gX26_context (s : zM) : gF Unit :=
  xlet (ls s 49) fun x2 =>
  (gst s 51 64 x2 (0 : Int32)).bind fun s3 =>
  xlet (ls s3 49) fun x5 =>
  (gst s3 53 64 x5 (0 : Int32)).bind fun s6 =>
  xlet (ls s6 49) fun x7 =>
  xlet (us s6 49 (x7 + (1 : Int32))) fun s8 =>
  some ((), s8)
def gX26_joined (i1 : Int32) (i2 : Int32) (i3 : Int32) (s : zM) : gF Int32 :=
  if ¬ i2 = 0 then
    (gld s 11 8000 i1).bind fun x2 =>
    (gX26_make 55 i2 x2 s).bind fun p3 =>
    (gX26_attach p3.1 i1 p3.2).bind fun p4 =>
    (gX26_attach p3.1 i3 p4.2).bind fun p5 =>
    some (p3.1, p5.2)
  else
    some (i3, s)
def gX26_numberAll_117 (x_1 : Int32) (x_2 : Int32) (x_3 : Int32) (s : zM) : gF ((Int32 × Int32 × Int32) ⊕ Unit) :=
  (gld s 15 8000 x_2).bind fun x2 =>
  some (.inl (x_1, x2, x_3), s)
def gX26_numberAll_85b (x_1 : Int32) (x_2 : Int32) (x_3 : Int32) (s : zM) : gF ((Int32 × Int32 × Int32) ⊕ ((Int32 × Int32 × Int32) ⊕ Unit)) :=
  (gld s 15 8000 x_2).bind fun x4 =>
  if ¬ x4 = 0 then
    ginr (
      gX26_numberAll_117 x_1 x_2 x_3 s)
  else
    (gld s 16 8000 x_2).bind fun x6 =>
    if x6 = x_1 then
      ginr (
        gX26_numberAll_117 x_1 x_2 x_3 s)
    else
      (gld s 16 8000 x_2).bind fun x8 =>
      some (.inl (x_1, x8, x_3 + (- 1)), s)
def gX26_numberAll_85 (x_1 : Int32) (x_2 : Int32) (x_3 : Int32) (s : zM) : gF ((Int32 × Int32 × Int32) ⊕ Unit) :=
  gloop (fun (a : (Int32 × Int32 × Int32)) s => gX26_numberAll_85b a.1 a.2.1 a.2.2 s) xLim (x_1, x_2, x_3) s
def gX26_numberAll_60 (x_1 : Int32) (x_2 : Int32) (x_3 : Int32) (x_s0 : Int32) (s : zM) : gF ((Int32 × Int32 × Int32) ⊕ Unit) :=
  xlet (us s 21 x_s0) fun s9 =>
  (gld s9 13 8000 x_2).bind fun x11 =>
  if x11 ≤ 0 then
    gX26_numberAll_85 x_1 x_2 x_3 s9
  else
    (gld s9 13 8000 x_2).bind fun x13 =>
    some (.inl (x_1, x13, x_3 + 1), s9)
def gX26_numberAll_9b (x_1 : Int32) (x_2 : Int32) (x_3 : Int32) (s : zM) : gF ((Int32 × Int32 × Int32) ⊕ Unit) :=
  if x_2 ≤ 0 then
    ginr (
      some ((), s))
  else
    xlet (ls s 19) fun x15 =>
    (gst s 17 8000 x_2 x15).bind fun s16 =>
    xlet (ls s16 19) fun x18 =>
    (gst s16 18 8000 x18 x_2).bind fun s19 =>
    xlet (ls s19 19) fun x20 =>
    xlet (us s19 19 (x20 + (1 : Int32))) fun s21 =>
    xlet (ls s21 21) fun x22 =>
    if x_3 ≤ x22 then
      xlet (ls s21 21) fun x23 =>
      gX26_numberAll_60 x_1 x_2 x_3 x23 s21
    else
      gX26_numberAll_60 x_1 x_2 x_3 x_3 s21
def gX26_numberAll_9 (x_1 : Int32) (x_2 : Int32) (x_3 : Int32) (s : zM) : gF Unit :=
  gloop (fun (a : (Int32 × Int32 × Int32)) s => gX26_numberAll_9b a.1 a.2.1 a.2.2 s) xLim (x_1, x_2, x_3) s
def gX26_numberAll (i1 : Int32) (s : zM) : gF Unit :=
  (gld s 13 8000 i1).bind fun x25 =>
  gX26_numberAll_9 i1 x25 1 s
def gX26_faults (s : zM) : gF Int32 :=
  xlet (us s 0 (0 : Int32)) fun s1 =>
  xlet (ls s1 5) fun x2 =>
  some (x2, s1)
def gX26_fault_47 (x_s0 : Int32) (s : zM) : gF Int32 :=
  some (x_s0, s)
def gX26_fault_17 (s : zM) : gF Int32 :=
  some ((- 1), s)
def gX26_fault (i1 : Int32) (i2 : Int32) (s : zM) : gF Int32 :=
  xlet (us s 0 (0 : Int32)) fun s1 =>
  if i1 < 0 then
    gX26_fault_17 s1
  else
    xlet (ls s1 5) fun x2 =>
    if i1 < x2 then
      if ¬ i2 = 0 then
        if ¬ i2 = (1 : Int32) then
          gX26_fault_47 ((- 1)) s1
        else
          (gld s1 7 20 i1).bind fun x4 =>
          gX26_fault_47 x4 s1
      else
        (gld s1 6 20 i1).bind fun x6 =>
        gX26_fault_47 x6 s1
    else
      gX26_fault_17 s1
def gX26_division_90 (x_s0 : Int32) (s : zM) : gF Int32 :=
  some (x_s0, s)
def gX26_division_75 (x_s0 : Int32) (s : zM) : gF Int32 :=
  if x_s0 ≤ 0 then
    gX26_division_90 ((- 1)) s
  else
    (gld s 17 8000 x_s0).bind fun x2 =>
    gX26_division_90 x2 s
def gX26_division_26 (s : zM) : gF Int32 :=
  some ((- 1), s)
def gX26_division (i1 : Int32) (i2 : Int32) (s : zM) : gF Int32 :=
  xlet (us s 0 (0 : Int32)) fun s3 =>
  if i1 < 0 then
    gX26_division_26 s3
  else
    xlet (ls s3 20) fun x4 =>
    if x4 ≤ i1 then
      gX26_division_26 s3
    else
      (gX26_in i2 0 3 s3).bind fun p5 =>
      if ¬ p5.1 = 0 then
        if ¬ i2 = 0 then
          if ¬ i2 = (1 : Int32) then
            if ¬ i2 = (2 : Int32) then
              (gld p5.2 25 600 i1).bind fun x7 =>
              gX26_division_75 x7 p5.2
            else
              (gld p5.2 24 600 i1).bind fun x9 =>
              gX26_division_75 x9 p5.2
          else
            (gld p5.2 23 600 i1).bind fun x11 =>
            gX26_division_75 x11 p5.2
        else
          (gld p5.2 22 600 i1).bind fun x13 =>
          gX26_division_75 x13 p5.2
      else
        gX26_division_26 p5.2
def gX26_count_41 (x_s0 : Int32) (s : zM) : gF Int32 :=
  some (x_s0, s)
def gX26_count (i1 : Int32) (s : zM) : gF Int32 :=
  xlet (us s 0 (0 : Int32)) fun s1 =>
  if ¬ i1 = 0 then
    if ¬ i1 = (1 : Int32) then
      if ¬ i1 = (2 : Int32) then
        gX26_count_41 ((- 1)) s1
      else
        xlet (ls s1 20) fun x2 =>
        gX26_count_41 x2 s1
    else
      xlet (ls s1 19) fun x3 =>
      gX26_count_41 x3 s1
  else
    xlet (ls s1 1) fun x4 =>
    gX26_count_41 x4 s1
def gX26_hasValue_118 (x_s0 : Int32) (s : zM) : gF Int32 :=
  if narrow .boolean (.int x_s0) = .int x_s0 then
    some (x_s0, s)
  else
    none
def gX26_hasValue_113 (s : zM) : gF Int32 :=
  gX26_hasValue_118 1 s
def gX26_hasValue (i0 : Int32) (s : zM) : gF Int32 :=
  if i0 = (1 : Int32) then
    gX26_hasValue_113 s
  else
    if i0 = (2 : Int32) then
      gX26_hasValue_113 s
    else
      (gX26_in i0 4 6 s).bind fun p1 =>
      if ¬ p1.1 = 0 then
        gX26_hasValue_113 p1.2
      else
        if i0 = (11 : Int32) then
          gX26_hasValue_113 p1.2
        else
          (gX26_in i0 12 13 p1.2).bind fun p2 =>
          if ¬ p2.1 = 0 then
            gX26_hasValue_113 p2.2
          else
            (gX26_in i0 15 19 p2.2).bind fun p3 =>
            if ¬ p3.1 = 0 then
              gX26_hasValue_113 p3.2
            else
              if i0 = (21 : Int32) then
                gX26_hasValue_113 p3.2
              else
                if i0 = (23 : Int32) then
                  gX26_hasValue_113 p3.2
                else
                  if i0 = (24 : Int32) then
                    gX26_hasValue_113 p3.2
                  else
                    if i0 = (27 : Int32) then
                      gX26_hasValue_113 p3.2
                    else
                      if i0 = (29 : Int32) then
                        gX26_hasValue_113 p3.2
                      else
                        if i0 = (31 : Int32) then
                          gX26_hasValue_113 p3.2
                        else
                          if i0 = (34 : Int32) then
                            gX26_hasValue_113 p3.2
                          else
                            if i0 = (38 : Int32) then
                              gX26_hasValue_113 p3.2
                            else
                              if i0 = (41 : Int32) then
                                gX26_hasValue_113 p3.2
                              else
                                (gX26_in i0 53 55 p3.2).bind fun p4 =>
                                if p4.1 = 0 then
                                  gX26_hasValue_118 0 p4.2
                                else
                                  gX26_hasValue_113 p4.2
def gX26_word_66 (x_1 : Int32) (x_2 : Int32) (s : zM) : gF Int32 :=
  xlet (ls s 1) fun x1 =>
  if ¬ x1 = (1500 : Int32) then
    xlet (ls s 1) fun x3 =>
    (gst s 2 1500 x3 x_1).bind fun s4 =>
    xlet (ls s4 1) fun x6 =>
    (gst s4 3 1500 x6 x_2).bind fun s7 =>
    xlet (ls s7 1) fun x8 =>
    xlet (us s7 1 (x8 + (1 : Int32))) fun s9 =>
    xlet (ls s9 1) fun x10 =>
    some (x10, s9)
  else
    some ((- 1), s)
def gX26_word_48 (x_1 : Int32) (x_2 : Int32) (x_s0 : Int32) (s : zM) : gF Int32 :=
  if x_1 = (4 : Int32) then
    gX26_word_66 x_1 x_2 s
  else
    (gX26_in x_2 0 x_s0 s).bind fun p11 =>
    if ¬ p11.1 = 0 then
      gX26_word_66 x_1 x_2 p11.2
    else
      some ((- 4), p11.2)
def gX26_word (i1 : Int32) (i2 : Int32) (s : zM) : gF Int32 :=
  xlet (us s 0 (0 : Int32)) fun s12 =>
  (gX26_in i1 0 5 s12).bind fun p13 =>
  if ¬ p13.1 = 0 then
    if ¬ i1 = 0 then
      if ¬ i1 = (2 : Int32) then
        if ¬ i1 = (5 : Int32) then
          gX26_word_48 i1 i2 99 p13.2
        else
          gX26_word_48 i1 i2 8 p13.2
      else
        gX26_word_48 i1 i2 99999 p13.2
    else
      gX26_word_48 i1 i2 78 p13.2
  else
    some ((- 4), p13.2)
def gX26_fail_29 (x_s0 : Int32) (s : zM) : gF Int32 :=
  xlet (us s 42 x_s0) fun s1 =>
  (gpN s1 43 .boolean 1).bind fun s2 =>
  some (0, s2)
def gX26_fail_13 (x_2 : Int32) (s : zM) : gF Int32 :=
  xlet (ls s 43) fun x3 =>
  if x3 = 0 then
    gX26_fail_29 x_2 s
  else
    xlet (ls s 42) fun x4 =>
    gX26_fail_29 x4 s
def gX26_fail (i1 : Int32) (i2 : Int32) (s : zM) : gF Int32 :=
  xlet (ls s 43) fun x5 =>
  if ¬ x5 = 0 then
    gX26_fail_13 i2 s
  else
    (gX26_note i1 i2 s).bind fun p6 =>
    gX26_fail_13 i2 p6.2
def gX26_mustBe_19 (s : zM) : gF Int32 :=
  xlet (ls s 41) fun x1 =>
  (gX26_fail 1 x1 s).bind fun p2 =>
  if narrow .boolean (.int p2.1) = .int p2.1 then
    some (p2.1, p2.2)
  else
    none
def gX26_mustBe (i1 : Int32) (s : zM) : gF Int32 :=
  xlet (ls s 43) fun x3 =>
  if ¬ x3 = 0 then
    gX26_mustBe_19 s
  else
    xlet (ls s 41) fun x4 =>
    (gX26_isKind x4 i1 s).bind fun p5 =>
    if ¬ p5.1 = 0 then
      xlet (ls p5.2 41) fun x6 =>
      xlet (us p5.2 41 (x6 + (1 : Int32))) fun s7 =>
      some (1, s7)
    else
      gX26_mustBe_19 p5.2
def gX26_child (i1 : Int32) (i2 : Int32) (i3 : Int32) (i4 : Int32) (s : zM) : gF Unit :=
  (gX26_make i2 i3 i4 s).bind fun p1 =>
  (gX26_attach i1 p1.1 p1.2).bind fun p2 =>
  some ((), p2.2)
def gX26_operand_18 (s : zM) : gF Int32 :=
  xlet (ls s 41) fun x1 =>
  (gX26_fail 1 x1 s).bind fun p2 =>
  some (0, p2.2)
def gX26_operand (s : zM) : gF Int32 :=
  xlet (ls s 43) fun x3 =>
  if ¬ x3 = 0 then
    gX26_operand_18 s
  else
    xlet (ls s 41) fun x4 =>
    (gX26_isOperand x4 s).bind fun p5 =>
    if ¬ p5.1 = 0 then
      xlet (ls p5.2 41) fun x6 =>
      xlet (us p5.2 41 (x6 + (1 : Int32))) fun s7 =>
      xlet (ls s7 41) fun x9 =>
      (gld s7 2 1500 (x9 - (1 : Int32))).bind fun x10 =>
      xlet (ls s7 41) fun x12 =>
      (gld s7 3 1500 (x12 - (1 : Int32))).bind fun x13 =>
      xlet (ls s7 41) fun x14 =>
      (gX26_make 41 (((100000 : Int32) * x10) + x13) (x14 - (1 : Int32)) s7).bind fun p15 =>
      some (p15.1, p15.2)
    else
      gX26_operand_18 p5.2
def gX26_names_66 (x_1 : Int32) (x_2 : Int32) (x_3 : Int32) (x_s0 : Int32) (x_s1 : Int32) (s : zM) : gF ((Int32 × Int32 × Int32) ⊕ Unit) :=
  xlet (us s 41 (x_s1 + x_s0)) fun s1 =>
  some (.inl (x_1, x_2, x_3), s1)
def gX26_names_33 (x_1 : Int32) (x_2 : Int32) (x_s0 : Int32) (x_s1 : Int32) (x_s2 : Int32) (s : zM) : gF ((Int32 × Int32 × Int32) ⊕ Unit) :=
  xlet (ls s 41) fun x2 =>
  (gX26_child x_s2 x_s1 x_s0 (x2 - (1 : Int32)) s).bind fun p3 =>
  xlet (ls p3.2 41) fun x4 =>
  (gX26_isKind x4 1 p3.2).bind fun p5 =>
  xlet (ls p5.2 41) fun x6 =>
  if p5.1 = 0 then
    gX26_names_66 x_1 x_2 p5.1 0 x6 p5.2
  else
    gX26_names_66 x_1 x_2 p5.1 1 x6 p5.2
def gX26_names_6b (x_1 : Int32) (x_2 : Int32) (x_3 : Int32) (s : zM) : gF ((Int32 × Int32 × Int32) ⊕ Unit) :=
  if x_3 = 0 then
    ginr (
      some ((), s))
  else
    if ¬ x_2 = (41 : Int32) then
      (gX26_passed s).bind fun p7 =>
      gX26_names_33 x_1 x_2 p7.1 x_2 x_1 p7.2
    else
      (gX26_passed s).bind fun p8 =>
      gX26_names_33 x_1 x_2 ((100000 : Int32) + p8.1) x_2 x_1 p8.2
def gX26_names_6 (x_1 : Int32) (x_2 : Int32) (x_3 : Int32) (s : zM) : gF Unit :=
  gloop (fun (a : (Int32 × Int32 × Int32)) s => gX26_names_6b a.1 a.2.1 a.2.2 s) xLim (x_1, x_2, x_3) s
def gX26_names (i1 : Int32) (i2 : Int32) (s : zM) : gF Unit :=
  (gX26_mustBe 1 s).bind fun p9 =>
  gX26_names_6 i1 i2 p9.1 p9.2
def gX26_named_216 (s : zM) : gF Unit :=
  some ((), s)
def gX26_named_201 (x_1 : Int32) (x_s0 : Int32) (s : zM) : gF Unit :=
  xlet (us s 36 x_s0) fun s1 =>
  if x_1 = (9 : Int32) then
    gX26_named_216 s1
  else
    (gX26_to 11 s1).bind fun p2 =>
    gX26_named_216 p2.2
def gX26_named_187 (x_1 : Int32) (x_3 : Int32) (x_4 : Int32) (x_s0 : Int32) (s : zM) : gF Unit :=
  xlet (us s 35 x_s0) fun s3 =>
  if x_3 = 0 then
    gX26_named_201 x_1 x_4 s3
  else
    gX26_named_201 x_1 0 s3
def gX26_named_173 (x_1 : Int32) (x_3 : Int32) (x_4 : Int32) (s : zM) : gF Unit :=
  if x_3 = 0 then
    xlet (ls s 35) fun x4 =>
    gX26_named_187 x_1 x_3 x_4 x4 s
  else
    gX26_named_187 x_1 x_3 x_4 x_4 s
def gX26_named_168 (x_1 : Int32) (x_3 : Int32) (x_4 : Int32) (x_s0 : Int32) (s : zM) : gF Unit :=
  (gX26_attach x_s0 x_4 s).bind fun p5 =>
  gX26_named_173 x_1 x_3 x_4 p5.2
def gX26_named_136 (x_1 : Int32) (x_3 : Int32) (x_4 : Int32) (x_s0 : Int32) (s : zM) : gF Unit :=
  (gX26_attach x_s0 x_4 s).bind fun p6 =>
  gX26_named_173 x_1 x_3 x_4 p6.2
def gX26_named_97 (x_1 : Int32) (x_2 : Int32) (x_3 : Int32) (x_s0 : Int32) (s : zM) : gF Unit :=
  (gld s 3 1500 x_2).bind fun x8 =>
  (gX26_make x_s0 x8 x_2 s).bind fun p9 =>
  if x_3 = 0 then
    xlet (ls p9.2 35) fun x10 =>
    if x10 ≤ 0 then
      (gX26_here p9.2).bind fun p12 =>
      (gld p12.2 25 600 p12.1).bind fun x13 =>
      gX26_named_168 x_1 x_3 p9.1 x13 p12.2
    else
      xlet (ls p9.2 35) fun x14 =>
      gX26_named_168 x_1 x_3 p9.1 x14 p9.2
  else
    if ¬ x_1 = (9 : Int32) then
      (gX26_here p9.2).bind fun p16 =>
      (gld p16.2 25 600 p16.1).bind fun x17 =>
      gX26_named_136 x_1 x_3 p9.1 x17 p16.2
    else
      xlet (ls p9.2 34) fun x18 =>
      gX26_named_136 x_1 x_3 p9.1 x18 p9.2
def gX26_named_85 (x_1 : Int32) (x_2 : Int32) (x_3 : Int32) (s : zM) : gF Unit :=
  if x_3 = 0 then
    gX26_named_97 x_1 x_2 x_3 24 s
  else
    gX26_named_97 x_1 x_2 x_3 23 s
def gX26_named_62 (x_1 : Int32) (x_2 : Int32) (x_3 : Int32) (s : zM) : gF Unit :=
  xlet (ls s 41) fun x19 =>
  xlet (us s 41 (x19 + (2 : Int32))) fun s20 =>
  if x_3 = 0 then
    gX26_named_85 x_1 x_2 x_3 s20
  else
    (gX26_mustBe 4 s20).bind fun p21 =>
    if ¬ p21.1 = 0 then
      gX26_named_85 x_1 x_2 x_3 p21.2
    else
      some ((), p21.2)
def gX26_named_49 (s : zM) : gF Unit :=
  xlet (ls s 41) fun x22 =>
  (gX26_fail 1 (x22 + (1 : Int32)) s).bind fun p23 =>
  some ((), p23.2)
def gX26_named (i1 : Int32) (s : zM) : gF Unit :=
  xlet (ls s 41) fun x24 =>
  xlet (ls s 41) fun x25 =>
  (gX26_isWord (x25 + (1 : Int32)) 16 s).bind fun p26 =>
  if ¬ p26.1 = 0 then
    gX26_named_62 i1 x24 p26.1 p26.2
  else
    xlet (ls p26.2 41) fun x27 =>
    (gX26_isKind (x27 + (1 : Int32)) 4 p26.2).bind fun p28 =>
    if p28.1 = 0 then
      gX26_named_49 p28.2
    else
      if ¬ i1 = (9 : Int32) then
        gX26_named_62 i1 x24 p26.1 p28.2
      else
        xlet (ls p28.2 35) fun x29 =>
        if 0 < x29 then
          gX26_named_62 i1 x24 p26.1 p28.2
        else
          gX26_named_49 p28.2
def gX26_must_25 (x_s0 : Int32) (s : zM) : gF Int32 :=
  if narrow .boolean (.int x_s0) = .int x_s0 then
    some (x_s0, s)
  else
    none
def gX26_must_20 (s : zM) : gF Int32 :=
  gX26_must_25 1 s
def gX26_must (i1 : Int32) (s : zM) : gF Int32 :=
  (gX26_meets i1 s).bind fun p1 =>
  if ¬ p1.1 = 0 then
    gX26_must_20 p1.2
  else
    xlet (ls p1.2 41) fun x2 =>
    (gX26_fail 1 x2 p1.2).bind fun p3 =>
    if p3.1 = 0 then
      gX26_must_25 0 p3.2
    else
      gX26_must_20 p3.2
def gX26_list (i1 : Int32) (s : zM) : gF Unit :=
  xlet (ls s 43) fun x1 =>
  if x1 = 0 then
    xlet (ls s 41) fun x2 =>
    (gX26_begins x2 s).bind fun p3 =>
    if ¬ p3.1 = 0 then
      xlet (ls p3.2 44) fun x4 =>
      if ¬ x4 = (40 : Int32) then
        xlet (ls p3.2 44) fun x5 =>
        xlet (us p3.2 44 (x5 + (1 : Int32))) fun s6 =>
        xlet (ls s6 41) fun x7 =>
        (gX26_make 40 0 x7 s6).bind fun p8 =>
        (gX26_attach i1 p8.1 p8.2).bind fun p9 =>
        (gX26_pile 0 p8.1 p9.2).bind fun p10 =>
        some ((), p10.2)
      else
        xlet (ls p3.2 41) fun x11 =>
        (gX26_fail 3 x11 p3.2).bind fun p12 =>
        some ((), p12.2)
    else
      xlet (ls p3.2 41) fun x13 =>
      (gX26_fail 1 x13 p3.2).bind fun p14 =>
      some ((), p14.2)
  else
    some ((), s)
def gX26_deeper (i1 : Int32) (s : zM) : gF Unit :=
  xlet (ls s 44) fun x1 =>
  if ¬ x1 = (40 : Int32) then
    xlet (ls s 44) fun x2 =>
    xlet (us s 44 (x2 + (1 : Int32))) fun s3 =>
    xlet (ls s3 54) fun x5 =>
    (gst s3 58 64 x5 i1).bind fun s6 =>
    xlet (ls s6 54) fun x7 =>
    xlet (us s6 54 (x7 + (1 : Int32))) fun s8 =>
    xlet (ls s8 41) fun x9 =>
    xlet (us s8 41 (x9 + (1 : Int32))) fun s10 =>
    some ((), s10)
  else
    xlet (ls s 41) fun x11 =>
    (gX26_fail 3 x11 s).bind fun p12 =>
    some ((), p12.2)
def gX26_closeAnds_77 (x_1 : Int32) (x_2 : Int32) (s : zM) : gF Unit :=
  (gst s 63 64 x_1 x_2).bind fun s2 =>
  (gld s2 64 64 x_1).bind fun x4 =>
  (gst s2 64 64 x_1 (x4 + (1 : Int32))).bind fun s5 =>
  some ((), s5)
def gX26_closeAnds (s : zM) : gF Unit :=
  xlet (ls s 57) fun x6 =>
  xlet (x6 - (1 : Int32)) fun x7 =>
  (gld s 59 64 x7).bind fun x9 =>
  (gld s 60 64 x7).bind fun x11 =>
  (gld s 61 64 x7).bind fun x13 =>
  (gX26_whole 51 x9 x11 x13 s).bind fun p14 =>
  (gst p14.2 61 64 x7 (0 : Int32)).bind fun s16 =>
  (gst s16 15 8000 p14.1 (0 : Int32)).bind fun s18 =>
  (gld s18 64 64 x7).bind fun x20 =>
  if ¬ x20 = 0 then
    (gld s18 63 64 x7).bind fun x23 =>
    (gst s18 15 8000 x23 p14.1).bind fun s24 =>
    gX26_closeAnds_77 x7 p14.1 s24
  else
    (gst s18 62 64 x7 p14.1).bind fun s26 =>
    gX26_closeAnds_77 x7 p14.1 s26
def gX26_behindUnit_82 (x_3 : Int32) (x_s0 : Int32) (s : zM) : gF ((Int32) ⊕ Int32) :=
  if x_s0 ≤ (6 : Int32) then
    (gld s 50 64 x_3).bind fun x3 =>
    (gld s 51 64 x_3).bind fun x5 =>
    (gld s 52 64 x_3).bind fun x7 =>
    (gX26_joined x3 x5 x7 s).bind fun p8 =>
    (gst p8.2 50 64 x_3 p8.1).bind fun s9 =>
    (gst s9 51 64 x_3 x_s0).bind fun s11 =>
    if x_s0 ≤ 0 then
      if ¬ x_3 = 0 then
        xlet (ls s11 41) fun x12 =>
        (gX26_isSign x12 1 s11).bind fun p13 =>
        if ¬ p13.1 = 0 then
          xlet (ls p13.2 41) fun x14 =>
          xlet (us p13.2 41 (x14 + (1 : Int32))) fun s15 =>
          (gld s15 50 64 x_3).bind fun x17 =>
          xlet (ls s15 49) fun x18 =>
          xlet (us s15 49 (x18 - (1 : Int32))) fun s19 =>
          xlet (ls s19 44) fun x20 =>
          xlet (us s19 44 (x20 - (1 : Int32))) fun s21 =>
          some (.inl (x17), s21)
        else
          ginr (
            xlet (ls p13.2 41) fun x22 =>
            (gX26_fail 1 x22 p13.2).bind fun p23 =>
            some (0, p23.2))
      else
        ginr (
          (gld s11 50 64 (0 : Int32)).bind fun x25 =>
          some (x25, s11))
    else
      ginr (
        xlet (ls s11 41) fun x26 =>
        xlet (us s11 41 (x26 + (1 : Int32))) fun s27 =>
        some (0, s27))
  else
    ginr (
      (gst s 53 64 x_3 x_s0).bind fun s29 =>
      xlet (ls s29 41) fun x30 =>
      xlet (us s29 41 (x30 + (1 : Int32))) fun s31 =>
      some (0, s31))
def gX26_behindUnit_81 (x_3 : Int32) (s : zM) : gF ((Int32) ⊕ Int32) :=
  gX26_behindUnit_82 x_3 0 s
def gX26_behindUnit_2b (x_2 : Int32) (s : zM) : gF ((Int32) ⊕ Int32) :=
  xlet (ls s 49) fun x32 =>
  xlet (x32 - (1 : Int32)) fun x33 =>
  (gld s 52 64 x33).bind fun x36 =>
  (gld s 53 64 x33).bind fun x38 =>
  (gX26_joined x36 x38 x_2 s).bind fun p39 =>
  (gst p39.2 52 64 x33 p39.1).bind fun s40 =>
  (gst s40 53 64 x33 (0 : Int32)).bind fun s42 =>
  xlet (ls s42 41) fun x43 =>
  (gX26_isKind x43 5 s42).bind fun p44 =>
  if p44.1 = 0 then
    gX26_behindUnit_81 x33 p44.2
  else
    xlet (ls p44.2 41) fun x46 =>
    (gld p44.2 3 1500 x46).bind fun x47 =>
    (gX26_in x47 5 8 p44.2).bind fun p48 =>
    if p48.1 = 0 then
      gX26_behindUnit_81 x33 p48.2
    else
      xlet (ls p48.2 41) fun x50 =>
      (gld p48.2 3 1500 x50).bind fun x51 =>
      gX26_behindUnit_82 x33 x51 p48.2
def gX26_behindUnit_2 (x_2 : Int32) (s : zM) : gF Int32 :=
  gloop (fun (a : (Int32)) s => gX26_behindUnit_2b a s) xLim (x_2) s
def gX26_behindUnit (i1 : Int32) (s : zM) : gF Int32 :=
  gX26_behindUnit_2 i1 s
def gX26_identified_172 (x_4 : Int32) (s : zM) : gF Unit :=
  xlet (ls s 20) fun x2 =>
  (gst s 22 600 x2 x_4).bind fun s3 =>
  xlet (ls s3 20) fun x5 =>
  (gst s3 23 600 x5 (0 : Int32)).bind fun s6 =>
  xlet (ls s6 20) fun x8 =>
  (gst s6 24 600 x8 (0 : Int32)).bind fun s9 =>
  xlet (ls s9 20) fun x11 =>
  (gst s9 25 600 x11 (0 : Int32)).bind fun s12 =>
  xlet (ls s12 26) fun x14 =>
  (gst s12 27 11 x14 (0 : Int32)).bind fun s15 =>
  xlet (ls s15 26) fun x17 =>
  xlet (ls s15 20) fun x18 =>
  (gst s15 29 11 x17 x18).bind fun s19 =>
  xlet (ls s19 26) fun x21 =>
  (gst s19 30 11 x21 (vp_nar .boolean (0 : Int32))).bind fun s22 =>
  xlet (ls s22 26) fun x24 =>
  (gst s22 31 11 x24 (vp_nar .boolean (0 : Int32))).bind fun s25 =>
  xlet (ls s25 26) fun x26 =>
  xlet (us s25 26 (x26 + (1 : Int32))) fun s27 =>
  xlet (ls s27 20) fun x28 =>
  xlet (us s27 20 (x28 + (1 : Int32))) fun s29 =>
  some ((), s29)
def gX26_identified_142 (x_4 : Int32) (x_s0 : Int32) (s : zM) : gF Unit :=
  (gX26_attach x_s0 x_4 s).bind fun p30 =>
  xlet (ls p30.2 26) fun x31 =>
  if x31 ≤ 0 then
    gX26_identified_172 x_4 p30.2
  else
    (gX26_to 12 p30.2).bind fun p32 =>
    xlet (ls p32.2 26) fun x34 =>
    (gst p32.2 31 11 (x34 - (1 : Int32)) (vp_nar .boolean (1 : Int32))).bind fun s35 =>
    gX26_identified_172 x_4 s35
def gX26_identified_111 (s : zM) : gF Unit :=
  some ((), s)
def gX26_identified_71 (x_s0 : Int32) (s : zM) : gF Unit :=
  xlet (ls s 41) fun x36 =>
  (gX26_fail x_s0 x36 s).bind fun p37 =>
  some ((), p37.2)
def gX26_identified_61 (x_2 : Int32) (s : zM) : gF Unit :=
  if x_2 = 0 then
    gX26_identified_71 1 s
  else
    gX26_identified_71 3 s
def gX26_identified_47 (x_s0 : Int32) (s : zM) : gF Unit :=
  if x_s0 = 0 then
    gX26_identified_61 x_s0 s
  else
    xlet (ls s 26) fun x38 =>
    if ¬ x38 = (10 : Int32) then
      xlet (ls s 41) fun x39 =>
      xlet (ls s 41) fun x40 =>
      xlet (us s 41 (x40 + (1 : Int32))) fun s41 =>
      (gX26_must 1 s41).bind fun p42 =>
      if p42.1 = 0 then
        gX26_identified_111 p42.2
      else
        (gX26_mustBe 4 p42.2).bind fun p43 =>
        if ¬ p43.1 = 0 then
          (gX26_make 1 0 x39 p43.2).bind fun p44 =>
          xlet (ls p44.2 26) fun x45 =>
          if ¬ x45 = 0 then
            (gX26_here p44.2).bind fun p47 =>
            (gld p47.2 22 600 p47.1).bind fun x48 =>
            gX26_identified_142 p44.1 x48 p47.2
          else
            gX26_identified_142 p44.1 0 p44.2
        else
          gX26_identified_111 p43.2
    else
      gX26_identified_61 x_s0 s
def gX26_identified_46 (s : zM) : gF Unit :=
  gX26_identified_47 0 s
def gX26_identified_42 (s : zM) : gF Unit :=
  gX26_identified_47 1 s
def gX26_identified (i1 : Int32) (s : zM) : gF Unit :=
  xlet (ls s 26) fun x49 =>
  if x49 = 0 then
    gX26_identified_42 s
  else
    xlet (ls s 26) fun x51 =>
    (gld s 30 11 (x51 - (1 : Int32))).bind fun x52 =>
    if ¬ x52 = 0 then
      gX26_identified_46 s
    else
      (gX26_in i1 1 8 s).bind fun p53 =>
      if ¬ p53.1 = 0 then
        gX26_identified_42 p53.2
      else
        (gX26_in i1 10 12 p53.2).bind fun p54 =>
        if p54.1 = 0 then
          gX26_identified_46 p54.2
        else
          gX26_identified_42 p54.2
def gX26_unitNamed_45 (x_1 : Int32) (x_2 : Int32) (x_s0 : Int32) (x_s1 : Int32) (s : zM) : gF Unit :=
  (gst s 9 8000 x_s1 x_s0).bind fun s1 =>
  (gX26_here s1).bind fun p4 =>
  (gld p4.2 22 600 p4.1).bind fun x5 =>
  (gst p4.2 10 8000 x5 x_2).bind fun s6 =>
  xlet (ls s6 26) fun x8 =>
  (gst s6 28 11 (x8 - (1 : Int32)) x_2).bind fun s9 =>
  xlet (ls s9 26) fun x11 =>
  (gst s9 30 11 (x11 - (1 : Int32)) (vp_nar .boolean x_1)).bind fun s12 =>
  (gX26_to 1 s12).bind fun p13 =>
  some ((), p13.2)
def gX26_unitNamed (i1 : Int32) (s : zM) : gF Unit :=
  (gX26_mustBe 1 s).bind fun p14 =>
  if ¬ p14.1 = 0 then
    (gX26_passed p14.2).bind fun p15 =>
    (gX26_mustBe 4 p15.2).bind fun p16 =>
    if ¬ p16.1 = 0 then
      (gX26_here p16.2).bind fun p19 =>
      (gld p19.2 22 600 p19.1).bind fun x20 =>
      if i1 = 0 then
        gX26_unitNamed_45 i1 p15.1 1 x20 p19.2
      else
        gX26_unitNamed_45 i1 p15.1 2 x20 p19.2
    else
      some ((), p16.2)
  else
    some ((), p14.2)
def gX26_described (i1 : Int32) (s : zM) : gF Unit :=
  (gX26_mustBe 1 s).bind fun p1 =>
  if ¬ p1.1 = 0 then
    (gX26_passed p1.2).bind fun p2 =>
    (gX26_make 11 p2.1 i1 p2.2).bind fun p3 =>
    (gX26_mustBe 4 p3.2).bind fun p4 =>
    if ¬ p4.1 = 0 then
      xlet (ls p4.2 32) fun x5 =>
      (gX26_attach x5 p3.1 p4.2).bind fun p6 =>
      xlet (us p6.2 33 p3.1) fun s7 =>
      xlet (us s7 37 (0 : Int32)) fun s8 =>
      xlet (us s8 38 (0 : Int32)) fun s9 =>
      (gX26_to 5 s9).bind fun p10 =>
      some ((), p10.2)
    else
      some ((), p4.2)
  else
    some ((), p1.2)
def gX26_begun_34 (x_2 : Int32) (s : zM) : gF Unit :=
  (gX26_mustBe 4 s).bind fun p1 =>
  if ¬ p1.1 = 0 then
    (gX26_here p1.2).bind fun p3 =>
    (gld p3.2 22 600 p3.1).bind fun x4 =>
    (gX26_attach x4 x_2 p3.2).bind fun p5 =>
    (gX26_here p5.2).bind fun p7 =>
    (gst p7.2 25 600 p7.1 x_2).bind fun s8 =>
    xlet (us s8 35 (0 : Int32)) fun s9 =>
    xlet (us s9 36 (0 : Int32)) fun s10 =>
    xlet (us s10 34 (0 : Int32)) fun s11 =>
    (gX26_to 8 s11).bind fun p12 =>
    some ((), p12.2)
  else
    some ((), p1.2)
def gX26_begun (i1 : Int32) (s : zM) : gF Unit :=
  (gX26_must 1 s).bind fun p13 =>
  if ¬ p13.1 = 0 then
    (gX26_make 20 0 i1 p13.2).bind fun p14 =>
    (gX26_meets 31 p14.2).bind fun p15 =>
    if p15.1 = 0 then
      gX26_begun_34 p14.1 p15.2
    else
      (gX26_names p14.1 21 p15.2).bind fun p16 =>
      gX26_begun_34 p14.1 p16.2
  else
    some ((), p13.2)
def gX26_ended_169 (s : zM) : gF Unit :=
  xlet (ls s 26) fun x1 =>
  xlet (us s 26 (x1 - (1 : Int32))) fun s2 =>
  some ((), s2)
def gX26_ended_78 (x_2 : Int32) (s : zM) : gF Unit :=
  xlet (ls s 41) fun x3 =>
  xlet (us s 41 (x3 + (1 : Int32))) fun s4 =>
  if ¬ x_2 = 0 then
    (gX26_mustBe 1 s4).bind fun p5 =>
    if ¬ p5.1 = 0 then
      xlet (ls p5.2 41) fun x6 =>
      xlet (x6 - (1 : Int32)) fun x7 =>
      (gX26_mustBe 4 p5.2).bind fun p8 =>
      if ¬ p8.1 = 0 then
        (gld p8.2 3 1500 x7).bind fun x10 =>
        xlet (ls p8.2 26) fun x12 =>
        (gld p8.2 28 11 (x12 - (1 : Int32))).bind fun x13 =>
        if x10 = x13 then
          gX26_ended_169 p8.2
        else
          (gX26_note 2 x7 p8.2).bind fun p14 =>
          gX26_ended_169 p14.2
      else
        some ((), p8.2)
    else
      some ((), p5.2)
  else
    (gX26_mustBe 4 s4).bind fun p15 =>
    if ¬ p15.1 = 0 then
      xlet (us p15.2 35 (0 : Int32)) fun s16 =>
      xlet (us s16 36 (0 : Int32)) fun s17 =>
      (gX26_to 10 s17).bind fun p18 =>
      some ((), p18.2)
    else
      some ((), p15.2)
def gX26_ended_67 (s : zM) : gF Unit :=
  xlet (ls s 41) fun x19 =>
  (gX26_fail 1 x19 s).bind fun p20 =>
  some ((), p20.2)
def gX26_ended_43 (x_1 : Int32) (x_s0 : Int32) (s : zM) : gF Unit :=
  if ¬ x_s0 = 0 then
    gX26_ended_78 x_s0 s
  else
    if ¬ x_1 = (9 : Int32) then
      gX26_ended_67 s
    else
      xlet (ls s 41) fun x21 =>
      (gX26_isWord x21 32 s).bind fun p22 =>
      if ¬ p22.1 = 0 then
        gX26_ended_78 x_s0 p22.2
      else
        gX26_ended_67 p22.2
def gX26_ended_42 (x_1 : Int32) (s : zM) : gF Unit :=
  gX26_ended_43 x_1 0 s
def gX26_ended_32 (x_1 : Int32) (x_s0 : Int32) (x_s1 : Int32) (s : zM) : gF Unit :=
  (gX26_isWord x_s1 x_s0 s).bind fun p23 =>
  if p23.1 = 0 then
    gX26_ended_42 x_1 p23.2
  else
    gX26_ended_43 x_1 1 p23.2
def gX26_ended (i1 : Int32) (s : zM) : gF Unit :=
  if i1 = (9 : Int32) then
    gX26_ended_42 i1 s
  else
    xlet (ls s 41) fun x24 =>
    xlet (ls s 26) fun x26 =>
    (gld s 30 11 (x26 - (1 : Int32))).bind fun x27 =>
    if x27 = 0 then
      gX26_ended_32 i1 34 x24 s
    else
      gX26_ended_32 i1 35 x24 s
def gX26_division2_232 (x_s0 : Int32) (s : zM) : gF Unit :=
  (gX26_to x_s0 s).bind fun p1 =>
  some ((), p1.2)
def gX26_division2_179 (x_1 : Int32) (s : zM) : gF Unit :=
  xlet (us s 37 (0 : Int32)) fun s2 =>
  xlet (us s2 38 (0 : Int32)) fun s3 =>
  if ¬ x_1 = (4 : Int32) then
    if ¬ x_1 = (12 : Int32) then
      if ¬ x_1 = (13 : Int32) then
        if ¬ x_1 = (14 : Int32) then
          gX26_division2_232 7 s3
        else
          gX26_division2_232 6 s3
      else
        gX26_division2_232 4 s3
    else
      gX26_division2_232 3 s3
  else
    gX26_division2_232 2 s3
def gX26_division2_169 (x_1 : Int32) (x_3 : Int32) (x_4 : Int32) (s : zM) : gF Unit :=
  if ¬ x_3 = 0 then
    gX26_division2_179 x_1 s
  else
    xlet (us s 33 x_4) fun s4 =>
    gX26_division2_179 x_1 s4
def gX26_division2_157 (x_1 : Int32) (x_3 : Int32) (x_4 : Int32) (s : zM) : gF Unit :=
  if ¬ x_1 = (13 : Int32) then
    gX26_division2_169 x_1 x_3 x_4 s
  else
    xlet (us s 32 x_4) fun s5 =>
    gX26_division2_169 x_1 x_3 x_4 s5
def gX26_division2_142 (x_1 : Int32) (x_3 : Int32) (x_4 : Int32) (x_5 : Int32) (s : zM) : gF Unit :=
  if ¬ x_1 = (12 : Int32) then
    gX26_division2_157 x_1 x_3 x_4 s
  else
    (gst s 24 600 x_5 x_4).bind fun s7 =>
    gX26_division2_157 x_1 x_3 x_4 s7
def gX26_division2_123 (x_1 : Int32) (x_3 : Int32) (x_4 : Int32) (x_5 : Int32) (x_s0 : Int32) (s : zM) : gF Unit :=
  (gX26_attach x_s0 x_4 s).bind fun p8 =>
  if ¬ x_1 = (4 : Int32) then
    gX26_division2_142 x_1 x_3 x_4 x_5 p8.2
  else
    (gst p8.2 23 600 x_5 x_4).bind fun s10 =>
    gX26_division2_142 x_1 x_3 x_4 x_5 s10
def gX26_division2_88 (x_1 : Int32) (x_2 : Int32) (x_3 : Int32) (x_s0 : Int32) (s : zM) : gF Unit :=
  (gX26_make x_s0 0 x_2 s).bind fun p11 =>
  (gX26_here p11.2).bind fun p12 =>
  if x_3 = 0 then
    (gld p12.2 24 600 p12.1).bind fun x14 =>
    gX26_division2_123 x_1 x_3 p11.1 p12.1 x14 p12.2
  else
    (gld p12.2 22 600 p12.1).bind fun x16 =>
    gX26_division2_123 x_1 x_3 p11.1 p12.1 x16 p12.2
def gX26_division2_42 (s : zM) : gF Unit :=
  some ((), s)
def gX26_division2_28 (x_1 : Int32) (x_2 : Int32) (x_3 : Int32) (x_s0 : Int32) (s : zM) : gF Unit :=
  (gX26_must x_s0 s).bind fun p17 =>
  if p17.1 = 0 then
    gX26_division2_42 p17.2
  else
    (gX26_mustBe 4 p17.2).bind fun p18 =>
    if ¬ p18.1 = 0 then
      if ¬ x_1 = (4 : Int32) then
        if ¬ x_1 = (12 : Int32) then
          if ¬ x_1 = (13 : Int32) then
            if ¬ x_1 = (14 : Int32) then
              gX26_division2_88 x_1 x_2 x_3 10 p18.2
            else
              gX26_division2_88 x_1 x_2 x_3 9 p18.2
          else
            gX26_division2_88 x_1 x_2 x_3 8 p18.2
        else
          gX26_division2_88 x_1 x_2 x_3 7 p18.2
      else
        gX26_division2_88 x_1 x_2 x_3 3 p18.2
    else
      gX26_division2_42 p18.2
def gX26_division2_16 (x_1 : Int32) (x_2 : Int32) (x_s0 : Int32) (s : zM) : gF Unit :=
  if x_s0 = 0 then
    gX26_division2_28 x_1 x_2 x_s0 16 s
  else
    gX26_division2_28 x_1 x_2 x_s0 1 s
def gX26_division2_11 (x_1 : Int32) (x_2 : Int32) (s : zM) : gF Unit :=
  gX26_division2_16 x_1 x_2 1 s
def gX26_division2 (i1 : Int32) (i2 : Int32) (s : zM) : gF Unit :=
  if i1 = (4 : Int32) then
    gX26_division2_11 i1 i2 s
  else
    if ¬ i1 = (12 : Int32) then
      gX26_division2_16 i1 i2 0 s
    else
      gX26_division2_11 i1 i2 s
def gX26_node_203 (x_s0 : Int32) (s : zM) : gF Int32 :=
  some (x_s0, s)
def gX26_node_159 (x_s0 : Int32) (s : zM) : gF Int32 :=
  some (x_s0, s)
def gX26_node_112b (x_5 : Int32) (x_6 : Int32) (s : zM) : gF ((Int32 × Int32) ⊕ Int32) :=
  if x_6 ≤ 0 then
    ginr (
      some (x_5, s))
  else
    (gld s 15 8000 x_6).bind fun x2 =>
    some (.inl (x_5 + 1, x2), s)
def gX26_node_112 (x_5 : Int32) (x_6 : Int32) (s : zM) : gF Int32 :=
  gloop (fun (a : (Int32 × Int32)) s => gX26_node_112b a.1 a.2 s) xLim (x_5, x_6) s
def gX26_node_93 (x_s0 : Int32) (s : zM) : gF Int32 :=
  some (x_s0, s)
def gX26_node_17 (s : zM) : gF Int32 :=
  some ((- 1), s)
def gX26_node (i1 : Int32) (i2 : Int32) (s : zM) : gF Int32 :=
  xlet (us s 0 (0 : Int32)) fun s3 =>
  if i1 < 0 then
    gX26_node_17 s3
  else
    xlet (ls s3 19) fun x4 =>
    if i1 < x4 then
      (gld s3 18 8000 i1).bind fun x6 =>
      (gld s3 9 8000 x6).bind fun x8 =>
      if i2 < 0 ∨ 5 < i2 then
        some ((- 1), s3)
      else
        if i2 = 0 then
          some (x8, s3)
        else
          if i2 = 1 then
            (gX26_hasValue x8 s3).bind fun p9 =>
            if p9.1 = 0 then
              gX26_node_93 0 p9.2
            else
              (gld p9.2 10 8000 x6).bind fun x11 =>
              gX26_node_93 x11 p9.2
          else
            if i2 = 2 then
              (gld s3 11 8000 x6).bind fun x13 =>
              some (x13, s3)
            else
              if i2 = 3 then
                (gld s3 13 8000 x6).bind fun x15 =>
                gX26_node_112 0 x15 s3
              else
                if i2 = 4 then
                  (gld s3 16 8000 x6).bind fun x17 =>
                  if ¬ x17 = 0 then
                    (gld s3 16 8000 x6).bind fun x20 =>
                    (gld s3 17 8000 x20).bind fun x21 =>
                    gX26_node_159 x21 s3
                  else
                    gX26_node_159 ((- 1)) s3
                else
                  if i2 = 5 then
                    if ¬ x8 = (53 : Int32) then
                      (gX26_in x8 26 38 s3).bind fun p22 =>
                      if p22.1 = 0 then
                        gX26_node_203 ((- 1)) p22.2
                      else
                        (gld p22.2 12 8000 x6).bind fun x24 =>
                        gX26_node_203 x24 p22.2
                    else
                      (gld s3 12 8000 x6).bind fun x27 =>
                      (gld s3 17 8000 x27).bind fun x28 =>
                      gX26_node_203 x28 s3
                  else
                    none
    else
      gX26_node_17 s3
def gX26_operandOf_15 (s : zM) : gF Unit :=
  some ((), s)
def gX26_operandOf (i1 : Int32) (s : zM) : gF Unit :=
  (gX26_operand s).bind fun p1 =>
  if p1.1 ≤ 0 then
    gX26_operandOf_15 p1.2
  else
    (gX26_attach i1 p1.1 p1.2).bind fun p2 =>
    gX26_operandOf_15 p2.2
def gX26_occurs_93 (s : zM) : gF Unit :=
  some ((), s)
def gX26_occurs_69 (x_3 : Int32) (s : zM) : gF Unit :=
  (gX26_meets 10 s).bind fun p1 =>
  if p1.1 = 0 then
    gX26_occurs_93 p1.2
  else
    (gX26_meets 25 p1.2).bind fun p2 =>
    (gX26_names x_3 17 p2.2).bind fun p3 =>
    gX26_occurs_93 p3.2
def gX26_occurs (i1 : Int32) (i2 : Int32) (s : zM) : gF Unit :=
  (gX26_mustBe 2 s).bind fun p4 =>
  if ¬ p4.1 = 0 then
    (gX26_passed p4.2).bind fun p5 =>
    (gX26_make 15 p5.1 i2 p5.2).bind fun p6 =>
    (gX26_attach i1 p6.1 p6.2).bind fun p7 =>
    (gX26_meets 23 p7.2).bind fun p8 =>
    (gX26_meets 24 p8.2).bind fun p9 =>
    if p9.1 = 0 then
      gX26_occurs_69 p6.1 p9.2
    else
      (gX26_mustBe 1 p9.2).bind fun p10 =>
      if p10.1 = 0 then
        gX26_occurs_69 p6.1 p10.2
      else
        (gX26_passed p10.2).bind fun p11 =>
        xlet (ls p11.2 41) fun x12 =>
        (gX26_child p6.1 16 p11.1 (x12 - (1 : Int32)) p11.2).bind fun p13 =>
        gX26_occurs_69 p6.1 p13.2
  else
    some ((), p4.2)
def gX26_scope_34 (x_s0 : Int32) (x_s1 : Int32) (s : zM) : gF Unit :=
  (gst s 12 8000 x_s1 x_s0).bind fun s1 =>
  xlet (ls s1 45) fun x2 =>
  xlet (us s1 45 (x2 - (1 : Int32))) fun s3 =>
  some ((), s3)
def gX26_scope_17 (x_1 : Int32) (x_s0 : Int32) (s : zM) : gF Unit :=
  if x_s0 = 0 then
    gX26_scope_34 0 x_1 s
  else
    gX26_scope_34 1 x_1 s
def gX26_scope (i1 : Int32) (i2 : Int32) (i3 : Int32) (s : zM) : gF Unit :=
  if i3 = 0 then
    (gX26_meets i2 s).bind fun p5 =>
    gX26_scope_17 i1 p5.1 p5.2
  else
    (gX26_must i2 s).bind fun p6 =>
    gX26_scope_17 i1 p6.1 p6.2
def gX26_branch_82 (s : zM) : gF Unit :=
  some ((), s)
def gX26_branch_28 (x_2 : Int32) (s : zM) : gF Unit :=
  xlet (ls s 41) fun x1 =>
  xlet (ls s 41) fun x2 =>
  (gX26_isWord x2 54 s).bind fun p3 =>
  if ¬ p3.1 = 0 then
    xlet (ls p3.2 41) fun x4 =>
    xlet (us p3.2 41 (x4 + (1 : Int32))) fun s5 =>
    (gX26_must 55 s5).bind fun p6 =>
    if p6.1 = 0 then
      gX26_branch_82 p6.2
    else
      (gX26_child x_2 42 0 x1 p6.2).bind fun p7 =>
      gX26_branch_82 p7.2
  else
    (gX26_list x_2 p3.2).bind fun p8 =>
    some ((), p8.2)
def gX26_branch_19 (x_2 : Int32) (s : zM) : gF Unit :=
  (gX26_scope x_2 73 0 s).bind fun p9 =>
  some ((), p9.2)
def gX26_branch (i1 : Int32) (i2 : Int32) (i3 : Int32) (s : zM) : gF Unit :=
  if i3 = (2 : Int32) then
    gX26_branch_19 i2 s
  else
    if ¬ i3 = (1 : Int32) then
      gX26_branch_28 i2 s
    else
      (gX26_meets 53 s).bind fun p10 =>
      if ¬ p10.1 = 0 then
        gX26_branch_28 i2 p10.2
      else
        gX26_branch_19 i2 p10.2
def gX26_whens_42b (x_4 : Int32) (s : zM) : gF ((Int32) ⊕ Unit) :=
  (gX26_meets 59 s).bind fun p1 =>
  if p1.1 = 0 then
    ginr (
      (gX26_list x_4 p1.2).bind fun p2 =>
      some ((), p2.2))
  else
    xlet (ls p1.2 41) fun x3 =>
    (gX26_isWord x3 60 p1.2).bind fun p4 =>
    if p4.1 = 0 then
      (gX26_operandOf x_4 p4.2).bind fun p5 =>
      some (.inl (x_4), p5.2)
    else
      xlet (ls p4.2 41) fun x6 =>
      (gX26_child x_4 47 0 x6 p4.2).bind fun p7 =>
      xlet (ls p7.2 41) fun x8 =>
      xlet (us p7.2 41 (x8 + (1 : Int32))) fun s9 =>
      some (.inl (x_4), s9)
def gX26_whens_42 (x_4 : Int32) (s : zM) : gF Unit :=
  gloop (fun (a : (Int32)) s => gX26_whens_42b a s) xLim (x_4) s
def gX26_whens (i1 : Int32) (i2 : Int32) (i3 : Int32) (s : zM) : gF Unit :=
  xlet (ls s 41) fun x10 =>
  (gX26_isWord x10 59 s).bind fun p11 =>
  if ¬ p11.1 = 0 then
    xlet (ls p11.2 41) fun x12 =>
    (gX26_make 46 0 x12 p11.2).bind fun p13 =>
    (gX26_attach i2 p13.1 p13.2).bind fun p14 =>
    gX26_whens_42 p13.1 p14.2
  else
    (gX26_scope i2 75 0 p11.2).bind fun p15 =>
    some ((), p15.2)
def gX26_add_114 (x_1 : Int32) (s : zM) : gF Unit :=
  (gX26_pile 37 x_1 s).bind fun p1 =>
  some ((), p1.2)
def gX26_add_31 (x_1 : Int32) (s : zM) : gF Unit :=
  (gX26_childrenOf x_1 s).bind fun p2 =>
  (gX26_meets 48 p2.2).bind fun p3 =>
  if p3.1 = 0 then
    (gX26_must 49 p3.2).bind fun p4 =>
    if p4.1 = 0 then
      gX26_add_114 x_1 p4.2
    else
      (gst p4.2 10 8000 x_1 (101 : Int32)).bind fun s6 =>
      (gX26_mustBe 1 s6).bind fun p7 =>
      if p7.1 = 0 then
        gX26_add_114 x_1 p7.2
      else
        (gX26_passed p7.2).bind fun p8 =>
        xlet (ls p8.2 41) fun x9 =>
        (gX26_child x_1 41 ((100000 : Int32) + p8.1) (x9 - (1 : Int32)) p8.2).bind fun p10 =>
        gX26_add_114 x_1 p10.2
  else
    (gX26_names x_1 41 p3.2).bind fun p11 =>
    (gX26_childrenOf x_1 p11.2).bind fun p13 =>
    (gst p13.2 10 8000 x_1 (p13.1 - p2.1)).bind fun s14 =>
    gX26_add_114 x_1 s14
def gX26_add_5b (x_1 : Int32) (s : zM) : gF ((Int32) ⊕ Unit) :=
  xlet (ls s 43) fun x15 =>
  if ¬ x15 = 0 then
    ginr (
      gX26_add_31 x_1 s)
  else
    xlet (ls s 41) fun x16 =>
    (gX26_isOperand x16 s).bind fun p17 =>
    if p17.1 = 0 then
      ginr (
        gX26_add_31 x_1 p17.2)
    else
      (gX26_operandOf x_1 p17.2).bind fun p18 =>
      some (.inl (x_1), p18.2)
def gX26_add_5 (x_1 : Int32) (s : zM) : gF Unit :=
  gloop (fun (a : (Int32)) s => gX26_add_5b a s) xLim (x_1) s
def gX26_add (i1 : Int32) (s : zM) : gF Unit :=
  (gX26_operandOf i1 s).bind fun p19 =>
  gX26_add_5 i1 p19.2
def gX26_compare_153 (x_1 : Int32) (x_3 : Int32) (x_6 : Int32) (s : zM) : gF Unit :=
  xlet (us s 56 (x_6 + x_3)) fun s1 =>
  xlet (ls s1 56) fun x3 =>
  (gst s1 10 8000 x_1 x3).bind fun s4 =>
  (gX26_operandOf x_1 s4).bind fun p5 =>
  some ((), p5.2)
def gX26_compare_149 (x_1 : Int32) (x_3 : Int32) (x_6 : Int32) (x_s0 : Int32) (s : zM) : gF Unit :=
  (gX26_meets x_s0 s).bind fun p6 =>
  gX26_compare_153 x_1 x_3 x_6 p6.2
def gX26_compare_127 (x_1 : Int32) (x_3 : Int32) (x_4 : Int32) (x_5 : Int32) (x_s0 : Int32) (s : zM) : gF Unit :=
  if ¬ x_4 = 0 then
    gX26_compare_153 x_1 x_3 x_s0 s
  else
    if ¬ x_5 = (68 : Int32) then
      gX26_compare_149 x_1 x_3 x_s0 71 s
    else
      gX26_compare_149 x_1 x_3 x_s0 48 s
def gX26_compare_69 (x_1 : Int32) (x_3 : Int32) (x_s0 : Int32) (s : zM) : gF Unit :=
  xlet (ls s 41) fun x8 =>
  (gld s 3 1500 x8).bind fun x9 =>
  xlet (ls s 41) fun x10 =>
  xlet (us s 41 (x10 + (1 : Int32))) fun s11 =>
  if x_s0 = 0 then
    if ¬ x9 = (68 : Int32) then
      if ¬ x9 = (69 : Int32) then
        gX26_compare_127 x_1 x_3 x_s0 x9 1 s11
      else
        gX26_compare_127 x_1 x_3 x_s0 x9 2 s11
    else
      gX26_compare_127 x_1 x_3 x_s0 x9 0 s11
  else
    gX26_compare_127 x_1 x_3 x_s0 x9 (x9 - (2 : Int32)) s11
def gX26_compare_40 (s : zM) : gF Unit :=
  xlet (ls s 41) fun x12 =>
  (gX26_fail 1 x12 s).bind fun p13 =>
  some ((), p13.2)
def gX26_compare_21 (x_1 : Int32) (x_s0 : Int32) (s : zM) : gF Unit :=
  xlet (ls s 43) fun x14 =>
  if ¬ x14 = 0 then
    gX26_compare_40 s
  else
    xlet (ls s 41) fun x15 =>
    (gX26_isComparing x15 s).bind fun p16 =>
    if ¬ p16.1 = 0 then
      xlet (ls p16.2 41) fun x18 =>
      (gld p16.2 2 1500 x18).bind fun x19 =>
      if ¬ x19 = (5 : Int32) then
        gX26_compare_69 x_1 x_s0 0 p16.2
      else
        gX26_compare_69 x_1 x_s0 1 p16.2
    else
      gX26_compare_40 p16.2
def gX26_compare (i1 : Int32) (s : zM) : gF Unit :=
  (gX26_meets 67 s).bind fun p20 =>
  (gX26_meets 64 p20.2).bind fun p21 =>
  if p21.1 = 0 then
    gX26_compare_21 i1 0 p21.2
  else
    gX26_compare_21 i1 3 p21.2
def gX26_behindFactor_117 (x_2 : Int32) (x_3 : Int32) (s : zM) : gF ((Int32) ⊕ Int32) :=
  (gst s 60 64 x_3 x_2).bind fun s2 =>
  (gld s2 61 64 x_3).bind fun x4 =>
  (gst s2 61 64 x_3 (x4 + (1 : Int32))).bind fun s5 =>
  (gX26_meets 65 s5).bind fun p6 =>
  if p6.1 = 0 then
    (gX26_closeAnds p6.2).bind fun p7 =>
    (gX26_meets 66 p7.2).bind fun p8 =>
    if p8.1 = 0 then
      (gld p8.2 62 64 x_3).bind fun x10 =>
      (gld p8.2 63 64 x_3).bind fun x12 =>
      (gld p8.2 64 64 x_3).bind fun x14 =>
      (gX26_whole 50 x10 x12 x14 p8.2).bind fun p15 =>
      xlet (ls p15.2 54) fun x16 =>
      if ¬ x16 = 0 then
        xlet (ls p15.2 41) fun x17 =>
        (gX26_isSign x17 1 p15.2).bind fun p18 =>
        if ¬ p18.1 = 0 then
          xlet (ls p18.2 41) fun x19 =>
          xlet (us p18.2 41 (x19 + (1 : Int32))) fun s20 =>
          xlet (ls s20 54) fun x21 =>
          xlet (us s20 54 (x21 - (1 : Int32))) fun s22 =>
          xlet (ls s22 44) fun x23 =>
          xlet (us s22 44 (x23 - (1 : Int32))) fun s24 =>
          xlet (ls s24 57) fun x25 =>
          xlet (us s24 57 (x25 - (1 : Int32))) fun s26 =>
          xlet (us s26 55 (0 : Int32)) fun s27 =>
          some (.inl (p15.1), s27)
        else
          ginr (
            xlet (ls p18.2 41) fun x28 =>
            (gX26_fail 1 x28 p18.2).bind fun p29 =>
            some (0, p29.2))
      else
        ginr (
          some (p15.1, p15.2))
    else
      ginr (
        some (0, p8.2))
  else
    ginr (
      some (0, p6.2))
def gX26_behindFactor_72 (x_2 : Int32) (s : zM) : gF ((Int32) ⊕ Int32) :=
  xlet (ls s 57) fun x30 =>
  xlet (x30 - (1 : Int32)) fun x31 =>
  (gst s 15 8000 x_2 (0 : Int32)).bind fun s33 =>
  (gld s33 61 64 x31).bind fun x35 =>
  if ¬ x35 = 0 then
    (gld s33 60 64 x31).bind fun x38 =>
    (gst s33 15 8000 x38 x_2).bind fun s39 =>
    gX26_behindFactor_117 x_2 x31 s39
  else
    (gst s33 59 64 x31 x_2).bind fun s41 =>
    gX26_behindFactor_117 x_2 x31 s41
def gX26_behindFactor_2b (x_2 : Int32) (s : zM) : gF ((Int32) ⊕ Int32) :=
  xlet (ls s 54) fun x42 =>
  if x42 ≤ 0 then
    gX26_behindFactor_72 x_2 s
  else
    xlet (ls s 54) fun x44 =>
    (gld s 58 64 (x44 - (1 : Int32))).bind fun x45 =>
    if x45 = (- 1 : Int32) then
      gX26_behindFactor_72 x_2 s
    else
      xlet (ls s 54) fun x46 =>
      xlet (us s 54 (x46 - (1 : Int32))) fun s47 =>
      xlet (ls s47 44) fun x48 =>
      xlet (us s47 44 (x48 - (1 : Int32))) fun s49 =>
      xlet (ls s49 54) fun x51 =>
      (gld s49 58 64 x51).bind fun x52 =>
      (gX26_make 52 0 x52 s49).bind fun p53 =>
      (gX26_attach p53.1 x_2 p53.2).bind fun p54 =>
      some (.inl (p53.1), p54.2)
def gX26_behindFactor_2 (x_2 : Int32) (s : zM) : gF Int32 :=
  gloop (fun (a : (Int32)) s => gX26_behindFactor_2b a s) xLim (x_2) s
def gX26_behindFactor (i1 : Int32) (s : zM) : gF Int32 :=
  gX26_behindFactor_2 i1 s
def gX26_call_65 (x_1 : Int32) (s : zM) : gF Unit :=
  (gX26_pile 42 x_1 s).bind fun p1 =>
  some ((), p1.2)
def gX26_call_49 (x_1 : Int32) (s : zM) : gF Unit :=
  (gX26_meets 31 s).bind fun p2 =>
  if p2.1 = 0 then
    gX26_call_65 x_1 p2.2
  else
    (gX26_names x_1 21 p2.2).bind fun p3 =>
    gX26_call_65 x_1 p3.2
def gX26_call_44 (x_1 : Int32) (s : zM) : gF Unit :=
  (gX26_operandOf x_1 s).bind fun p4 =>
  gX26_call_49 x_1 p4.2
def gX26_call (i1 : Int32) (s : zM) : gF Unit :=
  xlet (ls s 43) fun x5 =>
  if ¬ x5 = 0 then
    gX26_call_44 i1 s
  else
    xlet (ls s 41) fun x6 =>
    (gX26_isKind x6 1 s).bind fun p7 =>
    if ¬ p7.1 = 0 then
      gX26_call_44 i1 p7.2
    else
      xlet (ls p7.2 41) fun x8 =>
      (gX26_isKind x8 3 p7.2).bind fun p9 =>
      if ¬ p9.1 = 0 then
        gX26_call_44 i1 p9.2
      else
        xlet (ls p9.2 41) fun x10 =>
        (gX26_fail 1 x10 p9.2).bind fun p11 =>
        gX26_call_49 i1 p11.2
def gX26_sum_129 (x_1 : Int32) (s : zM) : gF Int32 :=
  some (x_1, s)
def gX26_sum_117 (s : zM) : gF ((Int32) ⊕ Int32) :=
  (gX26_operand s).bind fun p1 =>
  (gX26_behindUnit p1.1 p1.2).bind fun p2 =>
  some (.inl (p2.1), p2.2)
def gX26_sum_53 (x_1 : Int32) (s : zM) : gF ((Int32) ⊕ Int32) :=
  xlet (ls s 44) fun x3 =>
  xlet (us s 44 (x3 + (1 : Int32))) fun s4 =>
  xlet (ls s4 41) fun x5 =>
  xlet (us s4 41 (x5 + (1 : Int32))) fun s6 =>
  (gX26_context s6).bind fun p7 =>
  some (.inl (x_1), p7.2)
def gX26_sum_11b (x_1 : Int32) (s : zM) : gF ((Int32) ⊕ Int32) :=
  if ¬ x_1 = 0 then
    ginr (
      gX26_sum_129 x_1 s)
  else
    xlet (ls s 43) fun x8 =>
    if ¬ x8 = 0 then
      ginr (
        gX26_sum_129 x_1 s)
    else
      xlet (ls s 41) fun x9 =>
      (gX26_isSign x9 0 s).bind fun p10 =>
      if p10.1 = 0 then
        xlet (ls p10.2 41) fun x11 =>
        (gX26_isKind x11 1 p10.2).bind fun p12 =>
        if ¬ p12.1 = 0 then
          gX26_sum_117 p12.2
        else
          xlet (ls p12.2 41) fun x13 =>
          (gX26_isKind x13 2 p12.2).bind fun p14 =>
          if ¬ p14.1 = 0 then
            gX26_sum_117 p14.2
          else
            xlet (ls p14.2 41) fun x15 =>
            (gX26_fail 1 x15 p14.2).bind fun p16 =>
            some (.inl (x_1), p16.2)
      else
        xlet (ls p10.2 44) fun x17 =>
        if ¬ x17 = (40 : Int32) then
          gX26_sum_53 x_1 p10.2
        else
          xlet (ls p10.2 41) fun x18 =>
          (gX26_fail 3 x18 p10.2).bind fun p19 =>
          gX26_sum_53 x_1 p19.2
def gX26_sum_11 (x_1 : Int32) (s : zM) : gF Int32 :=
  gloop (fun (a : (Int32)) s => gX26_sum_11b a s) xLim (x_1) s
def gX26_sum (s : zM) : gF Int32 :=
  xlet (us s 49 (0 : Int32)) fun s20 =>
  (gX26_context s20).bind fun p21 =>
  gX26_sum_11 0 p21.2
def gX26_select_255 (s : zM) : gF Unit :=
  some ((), s)
def gX26_select_233 (x_2 : Int32) (s : zM) : gF Unit :=
  (gX26_mustBe 4 s).bind fun p1 =>
  if p1.1 = 0 then
    gX26_select_255 p1.2
  else
    (gX26_here p1.2).bind fun p3 =>
    (gld p3.2 23 600 p3.1).bind fun x4 =>
    (gX26_attach x4 x_2 p3.2).bind fun p5 =>
    gX26_select_255 p5.2
def gX26_select_190 (x_2 : Int32) (s : zM) : gF Unit :=
  xlet (ls s 41) fun x6 =>
  (gX26_meets 11 s).bind fun p7 =>
  if p7.1 = 0 then
    gX26_select_233 x_2 p7.2
  else
    (gX26_meets 67 p7.2).bind fun p8 =>
    (gX26_mustBe 1 p8.2).bind fun p9 =>
    if p9.1 = 0 then
      gX26_select_233 x_2 p9.2
    else
      (gX26_passed p9.2).bind fun p10 =>
      (gX26_child x_2 6 p10.1 x6 p10.2).bind fun p11 =>
      gX26_select_233 x_2 p11.2
def gX26_select_162 (x_2 : Int32) (x_5 : Int32) (s : zM) : gF Unit :=
  if x_5 = 0 then
    xlet (ls s 41) fun x12 =>
    (gX26_fail 1 x12 s).bind fun p13 =>
    gX26_select_190 x_2 p13.2
  else
    xlet (ls s 41) fun x14 =>
    xlet (us s 41 (x14 + (1 : Int32))) fun s15 =>
    gX26_select_190 x_2 s15
def gX26_select_135 (x_2 : Int32) (x_4 : Int32) (x_s0 : Int32) (s : zM) : gF Unit :=
  if x_s0 = 0 then
    gX26_select_162 x_2 x_s0 s
  else
    xlet (ls s 41) fun x17 =>
    (gld s 3 1500 x17).bind fun x18 =>
    (gX26_child x_2 5 (x18 - (8 : Int32)) x_4 s).bind fun p19 =>
    gX26_select_162 x_2 x_s0 p19.2
def gX26_select_134 (x_2 : Int32) (x_4 : Int32) (s : zM) : gF Unit :=
  gX26_select_135 x_2 x_4 0 s
def gX26_select_72 (x_2 : Int32) (s : zM) : gF Unit :=
  (gX26_operandOf x_2 s).bind fun p20 =>
  xlet (ls p20.2 41) fun x21 =>
  (gX26_meets 7 p20.2).bind fun p22 =>
  if p22.1 = 0 then
    gX26_select_190 x_2 p22.2
  else
    (gX26_meets 67 p22.2).bind fun p23 =>
    xlet (ls p23.2 41) fun x24 =>
    (gX26_isKind x24 0 p23.2).bind fun p25 =>
    if p25.1 = 0 then
      gX26_select_134 x_2 x21 p25.2
    else
      xlet (ls p25.2 41) fun x27 =>
      (gld p25.2 3 1500 x27).bind fun x28 =>
      (gX26_in x28 8 10 p25.2).bind fun p29 =>
      if p29.1 = 0 then
        gX26_select_134 x_2 x21 p29.2
      else
        gX26_select_135 x_2 x21 1 p29.2
def gX26_select (i1 : Int32) (s : zM) : gF Unit :=
  (gX26_mustBe 1 s).bind fun p30 =>
  if ¬ p30.1 = 0 then
    (gX26_passed p30.2).bind fun p31 =>
    (gX26_make 4 p31.1 i1 p31.2).bind fun p32 =>
    (gX26_must 6 p32.2).bind fun p33 =>
    if ¬ p33.1 = 0 then
      (gX26_meets 48 p33.2).bind fun p34 =>
      xlet (ls p34.2 41) fun x35 =>
      (gX26_isKind x35 1 p34.2).bind fun p36 =>
      if ¬ p36.1 = 0 then
        gX26_select_72 p32.1 p36.2
      else
        xlet (ls p36.2 41) fun x37 =>
        (gX26_isKind x37 3 p36.2).bind fun p38 =>
        if ¬ p38.1 = 0 then
          gX26_select_72 p32.1 p38.2
        else
          xlet (ls p38.2 41) fun x39 =>
          (gX26_fail 1 x39 p38.2).bind fun p40 =>
          some ((), p40.2)
    else
      some ((), p33.2)
  else
    some ((), p30.2)
def gX26_literal_42 (s : zM) : gF Unit :=
  some ((), s)
def gX26_literal_37 (x_1 : Int32) (s : zM) : gF Unit :=
  (gX26_operandOf x_1 s).bind fun p1 =>
  gX26_literal_42 p1.2
def gX26_literal (i1 : Int32) (s : zM) : gF Unit :=
  xlet (ls s 41) fun x2 =>
  (gX26_isKind x2 2 s).bind fun p3 =>
  if ¬ p3.1 = 0 then
    gX26_literal_37 i1 p3.2
  else
    xlet (ls p3.2 41) fun x4 =>
    (gX26_isKind x4 3 p3.2).bind fun p5 =>
    if ¬ p5.1 = 0 then
      gX26_literal_37 i1 p5.2
    else
      xlet (ls p5.2 41) fun x6 =>
      (gX26_fail 1 x6 p5.2).bind fun p7 =>
      gX26_literal_42 p7.2
def gX26_asked_53 (s : zM) : gF Unit :=
  some ((), s)
def gX26_asked_41 (x_1 : Int32) (x_s0 : Int32) (s : zM) : gF Unit :=
  if x_s0 = 0 then
    gX26_asked_53 s
  else
    (gX26_list x_1 s).bind fun p1 =>
    gX26_asked_53 p1.2
def gX26_asked_36 (x_1 : Int32) (s : zM) : gF Unit :=
  gX26_asked_41 x_1 1 s
def gX26_asked_12 (x_1 : Int32) (x_5 : Int32) (s : zM) : gF Unit :=
  (gX26_scope x_1 x_5 0 s).bind fun p2 =>
  some ((), p2.2)
def gX26_asked (i1 : Int32) (i2 : Int32) (i3 : Int32) (i4 : Int32) (i5 : Int32) (s : zM) : gF Unit :=
  if 0 < i2 then
    gX26_asked_12 i1 i5 s
  else
    (gX26_meets i3 s).bind fun p3 =>
    if ¬ p3.1 = 0 then
      if i4 = (- 1 : Int32) then
        gX26_asked_36 i1 p3.2
      else
        (gX26_must i4 p3.2).bind fun p4 =>
        if p4.1 = 0 then
          gX26_asked_41 i1 0 p4.2
        else
          gX26_asked_36 i1 p4.2
    else
      gX26_asked_12 i1 i5 p3.2
def gX26_factor_36 (s : zM) : gF Int32 :=
  xlet (ls s 41) fun x1 =>
  (gX26_isSign x1 0 s).bind fun p2 =>
  if p2.1 = 0 then
    (gX26_isBehind p2.2).bind fun p3 =>
    if p3.1 = 0 then
      (gX26_operand p3.2).bind fun p4 =>
      xlet (ls p4.2 43) fun x5 =>
      if x5 = 0 then
        (gX26_isBehind p4.2).bind fun p6 =>
        if p6.1 = 0 then
          xlet (ls p6.2 55) fun x7 =>
          if x7 ≤ 0 then
            xlet (ls p6.2 41) fun x8 =>
            (gX26_isKind (x8 - (1 : Int32)) 1 p6.2).bind fun p9 =>
            if ¬ p9.1 = 0 then
              (gst p9.2 9 8000 p4.1 (54 : Int32)).bind fun s11 =>
              (gX26_passed s11).bind fun p13 =>
              (gst p13.2 10 8000 p4.1 p13.1).bind fun s14 =>
              some (p4.1, s14)
            else
              xlet (ls p9.2 41) fun x15 =>
              (gX26_fail 1 x15 p9.2).bind fun p16 =>
              some (0, p16.2)
          else
            xlet (ls p6.2 56) fun x17 =>
            (gld p6.2 11 8000 p4.1).bind fun x19 =>
            (gX26_make 53 x17 x19 p6.2).bind fun p20 =>
            xlet (ls p20.2 55) fun x22 =>
            (gst p20.2 12 8000 p20.1 x22).bind fun s23 =>
            (gX26_attach p20.1 p4.1 s23).bind fun p24 =>
            some (p20.1, p24.2)
        else
          (gld p6.2 11 8000 p4.1).bind fun x26 =>
          (gX26_make 53 0 x26 p6.2).bind fun p27 =>
          (gX26_attach p27.1 p4.1 p27.2).bind fun p28 =>
          (gst p28.2 12 8000 p27.1 p4.1).bind fun s30 =>
          xlet (us s30 55 p4.1) fun s31 =>
          (gX26_compare p27.1 s31).bind fun p32 =>
          some (p27.1, p32.2)
      else
        some (0, p4.2)
    else
      xlet (ls p3.2 55) fun x33 =>
      if ¬ x33 = 0 then
        xlet (ls p3.2 41) fun x34 =>
        (gX26_make 53 0 x34 p3.2).bind fun p35 =>
        xlet (ls p35.2 55) fun x37 =>
        (gst p35.2 12 8000 p35.1 x37).bind fun s38 =>
        (gX26_compare p35.1 s38).bind fun p39 =>
        some (p35.1, p39.2)
      else
        xlet (ls p3.2 41) fun x40 =>
        (gX26_fail 1 x40 p3.2).bind fun p41 =>
        some (0, p41.2)
  else
    (gX26_deeper ((- 1)) p2.2).bind fun p42 =>
    (gX26_joint p42.2).bind fun p43 =>
    some (0, p43.2)
def gX26_factor (s : zM) : gF Int32 :=
  xlet (ls s 41) fun x44 =>
  (gX26_isWord x44 64 s).bind fun p45 =>
  if p45.1 = 0 then
    gX26_factor_36 p45.2
  else
    xlet (ls p45.2 41) fun x46 =>
    (gX26_isComparing (x46 + (1 : Int32)) p45.2).bind fun p47 =>
    if ¬ p47.1 = 0 then
      gX26_factor_36 p47.2
    else
      xlet (ls p47.2 41) fun x48 =>
      (gX26_deeper x48 p47.2).bind fun p49 =>
      some (0, p49.2)
def gX26_compute_90 (x_s0 : Int32) (x_s1 : Int32) (s : zM) : gF Unit :=
  (gst s 12 8000 x_s1 x_s0).bind fun s1 =>
  some ((), s1)
def gX26_compute (i1 : Int32) (s : zM) : gF Unit :=
  (gX26_mustBe 1 s).bind fun p2 =>
  if ¬ p2.1 = 0 then
    (gX26_passed p2.2).bind fun p4 =>
    (gst p4.2 10 8000 i1 p4.1).bind fun s5 =>
    xlet (ls s5 41) fun x6 =>
    (gX26_isSign x6 2 s5).bind fun p7 =>
    if ¬ p7.1 = 0 then
      xlet (ls p7.2 41) fun x8 =>
      xlet (us p7.2 41 (x8 + (1 : Int32))) fun s9 =>
      (gX26_sum s9).bind fun p10 =>
      xlet (ls p10.2 43) fun x11 =>
      if x11 = 0 then
        (gX26_attach i1 p10.1 p10.2).bind fun p12 =>
        (gX26_meets 78 p12.2).bind fun p14 =>
        if p14.1 = 0 then
          gX26_compute_90 0 i1 p14.2
        else
          gX26_compute_90 1 i1 p14.2
      else
        some ((), p10.2)
    else
      xlet (ls p7.2 41) fun x15 =>
      (gX26_fail 1 x15 p7.2).bind fun p16 =>
      some ((), p16.2)
  else
    some ((), p2.2)
def gX26_described2_320 (s : zM) : gF Unit :=
  some ((), s)
def gX26_described2_313 (x_2 : Int32) (s : zM) : gF Unit :=
  (gX26_fail 1 x_2 s).bind fun p1 =>
  gX26_described2_320 p1.2
def gX26_described2_282 (x_6 : Int32) (s : zM) : gF Unit :=
  if x_6 = 0 then
    xlet (ls s 41) fun x2 =>
    (gX26_fail 1 x2 s).bind fun p3 =>
    gX26_described2_320 p3.2
  else
    xlet (ls s 41) fun x4 =>
    xlet (us s 41 (x4 + (1 : Int32))) fun s5 =>
    gX26_described2_320 s5
def gX26_described2_255 (x_1 : Int32) (x_2 : Int32) (x_s0 : Int32) (s : zM) : gF Unit :=
  if x_s0 = 0 then
    gX26_described2_282 x_s0 s
  else
    xlet (ls s 41) fun x7 =>
    (gld s 3 1500 x7).bind fun x8 =>
    (gX26_child x_1 19 (x8 - (28 : Int32)) x_2 s).bind fun p9 =>
    gX26_described2_282 x_s0 p9.2
def gX26_described2_250 (x_1 : Int32) (x_2 : Int32) (s : zM) : gF Unit :=
  gX26_described2_255 x_1 x_2 1 s
def gX26_described2_73 (x_1 : Int32) (x_2 : Int32) (x_3 : Int32) (x_s0 : Int32) (s : zM) : gF Unit :=
  if x_3 < 19 ∨ 27 < x_3 then
    gX26_described2_313 x_2 s
  else
    if x_3 = 19 then
      (gX26_mustBe 3 s).bind fun p10 =>
      if p10.1 = 0 then
        gX26_described2_320 p10.2
      else
        (gX26_passed p10.2).bind fun p11 =>
        (gX26_child x_1 13 p11.1 x_2 p11.2).bind fun p12 =>
        gX26_described2_320 p12.2
    else
      if x_3 = 20 then
        (gX26_make 14 0 x_2 s).bind fun p13 =>
        (gX26_attach x_1 p13.1 p13.2).bind fun p14 =>
        (gX26_literal p13.1 p14.2).bind fun p15 =>
        (gX26_meets 21 p15.2).bind fun p16 =>
        if p16.1 = 0 then
          gX26_described2_320 p16.2
        else
          (gX26_literal p13.1 p16.2).bind fun p17 =>
          gX26_described2_320 p17.2
      else
        if x_3 = 21 then
          gX26_described2_313 x_2 s
        else
          if x_3 = 22 then
            (gX26_occurs x_1 x_2 s).bind fun p18 =>
            gX26_described2_320 p18.2
          else
            if x_3 = 23 then
              gX26_described2_313 x_2 s
            else
              if x_3 = 24 then
                gX26_described2_313 x_2 s
              else
                if x_3 = 25 then
                  gX26_described2_313 x_2 s
                else
                  if x_3 = 26 then
                    (gX26_mustBe 1 s).bind fun p19 =>
                    if p19.1 = 0 then
                      gX26_described2_320 p19.2
                    else
                      (gX26_passed p19.2).bind fun p20 =>
                      (gX26_child x_1 18 p20.1 x_2 p20.2).bind fun p21 =>
                      gX26_described2_320 p21.2
                  else
                    if x_3 = 27 then
                      xlet (ls s 41) fun x22 =>
                      (gX26_isWord x22 28 s).bind fun p23 =>
                      if ¬ p23.1 = 0 then
                        gX26_described2_250 x_1 x_2 p23.2
                      else
                        xlet (ls p23.2 41) fun x24 =>
                        (gX26_isWord x24 29 p23.2).bind fun p25 =>
                        if p25.1 = 0 then
                          gX26_described2_255 x_1 x_2 0 p25.2
                        else
                          gX26_described2_250 x_1 x_2 p25.2
                    else
                      none
def gX26_described2_72 (x_1 : Int32) (x_2 : Int32) (x_3 : Int32) (s : zM) : gF Unit :=
  gX26_described2_73 x_1 x_2 x_3 0 s
def gX26_described2_59 (x_1 : Int32) (x_2 : Int32) (x_3 : Int32) (s : zM) : gF Unit :=
  (gX26_meets 67 s).bind fun p26 =>
  if p26.1 = 0 then
    gX26_described2_72 x_1 x_2 x_3 p26.2
  else
    gX26_described2_73 x_1 x_2 x_3 1 p26.2
def gX26_described2_30 (x_1 : Int32) (x_2 : Int32) (x_s0 : Int32) (s : zM) : gF Unit :=
  xlet (ls s 41) fun x27 =>
  xlet (us s 41 (x27 + (1 : Int32))) fun s28 =>
  if x_s0 = (19 : Int32) then
    gX26_described2_59 x_1 x_2 x_s0 s28
  else
    if x_s0 = (20 : Int32) then
      gX26_described2_59 x_1 x_2 x_s0 s28
    else
      if ¬ x_s0 = (27 : Int32) then
        gX26_described2_72 x_1 x_2 x_s0 s28
      else
        gX26_described2_59 x_1 x_2 x_s0 s28
def gX26_described2 (i1 : Int32) (s : zM) : gF Unit :=
  xlet (ls s 41) fun x29 =>
  xlet (ls s 41) fun x30 =>
  (gX26_isKind x30 0 s).bind fun p31 =>
  if p31.1 = 0 then
    gX26_described2_30 i1 x29 ((- 1)) p31.2
  else
    xlet (ls p31.2 41) fun x33 =>
    (gld p31.2 3 1500 x33).bind fun x34 =>
    gX26_described2_30 i1 x29 x34 p31.2
def gX26_goOn_144 (s : zM) : gF Unit :=
  some ((), s)
def gX26_goOn_137 (x_1 : Int32) (x_2 : Int32) (x_3 : Int32) (s : zM) : gF Unit :=
  (gX26_whens x_1 x_2 x_3 s).bind fun p1 =>
  gX26_goOn_144 p1.2
def gX26_goOn (i1 : Int32) (i2 : Int32) (s : zM) : gF Unit :=
  (gld s 48 128 i1).bind fun x3 =>
  (gst s 48 128 i1 (x3 + (1 : Int32))).bind fun s5 =>
  (gld s5 46 128 i1).bind fun x7 =>
  if x7 < 37 ∨ 42 < x7 then
    gX26_goOn_137 i1 i2 x3 s5
  else
    if x7 = 37 then
      (gX26_asked i2 x3 50 51 72 s5).bind fun p8 =>
      gX26_goOn_144 p8.2
    else
      if x7 = 38 then
        (gX26_branch i1 i2 x3 s5).bind fun p9 =>
        gX26_goOn_144 p9.2
      else
        if x7 = 39 then
          if ¬ x3 = 0 then
            (gX26_scope i2 74 1 s5).bind fun p10 =>
            gX26_goOn_144 p10.2
          else
            (gX26_list i2 s5).bind fun p11 =>
            gX26_goOn_144 p11.2
        else
          if x7 = 40 then
            gX26_goOn_137 i1 i2 x3 s5
          else
            if x7 = 41 then
              (gX26_asked i2 x3 61 33 76 s5).bind fun p12 =>
              gX26_goOn_144 p12.2
            else
              if x7 = 42 then
                (gX26_asked i2 x3 62 ((- 1)) 77 s5).bind fun p13 =>
                gX26_goOn_144 p13.2
              else
                none
def gX26_condition_52 (x_1 : Int32) (s : zM) : gF Int32 :=
  some (x_1, s)
def gX26_condition_49 (x_1 : Int32) (s : zM) : gF ((Int32) ⊕ Int32) :=
  some (.inl (x_1), s)
def gX26_condition_16b (x_1 : Int32) (s : zM) : gF ((Int32) ⊕ Int32) :=
  if ¬ x_1 = 0 then
    ginr (
      gX26_condition_52 x_1 s)
  else
    xlet (ls s 43) fun x1 =>
    if ¬ x1 = 0 then
      ginr (
        gX26_condition_52 x_1 s)
    else
      (gX26_factor s).bind fun p2 =>
      if p2.1 ≤ 0 then
        gX26_condition_49 x_1 p2.2
      else
        xlet (ls p2.2 43) fun x3 =>
        if ¬ x3 = 0 then
          gX26_condition_49 x_1 p2.2
        else
          (gX26_behindFactor p2.1 p2.2).bind fun p4 =>
          gX26_condition_49 p4.1 p4.2
def gX26_condition_16 (x_1 : Int32) (s : zM) : gF Int32 :=
  gloop (fun (a : (Int32)) s => gX26_condition_16b a s) xLim (x_1) s
def gX26_condition (s : zM) : gF Int32 :=
  xlet (us s 54 (0 : Int32)) fun s5 =>
  xlet (us s5 57 (0 : Int32)) fun s6 =>
  (gX26_joint s6).bind fun p7 =>
  gX26_condition_16 0 p7.2
def gX26_item_300 (x_2 : Int32) (x_5 : Int32) (x_s0 : Int32) (s : zM) : gF Unit :=
  (gX26_attach x_s0 x_5 s).bind fun p1 =>
  xlet (ls p1.2 37) fun x3 =>
  (gst p1.2 39 64 x3 x_2).bind fun s4 =>
  xlet (ls s4 37) fun x6 =>
  (gst s4 40 64 x6 x_5).bind fun s7 =>
  xlet (ls s7 37) fun x8 =>
  xlet (us s7 37 (x8 + (1 : Int32))) fun s9 =>
  xlet (us s9 38 x_5) fun s10 =>
  some ((), s10)
def gX26_item_274 (x_2 : Int32) (x_3 : Int32) (x_5 : Int32) (x_s0 : Int32) (s : zM) : gF Unit :=
  xlet (us s 37 x_s0) fun s11 =>
  if x_3 = 0 then
    xlet (ls s11 37) fun x13 =>
    (gld s11 40 64 (x13 - (1 : Int32))).bind fun x14 =>
    gX26_item_300 x_2 x_5 x14 s11
  else
    xlet (ls s11 33) fun x15 =>
    gX26_item_300 x_2 x_5 x15 s11
def gX26_item_223 (x_2 : Int32) (x_3 : Int32) (x_5 : Int32) (s : zM) : gF Unit :=
  xlet (ls s 43) fun x16 =>
  if x16 = 0 then
    xlet (ls s 41) fun x17 =>
    xlet (us s 41 (x17 + (1 : Int32))) fun s18 =>
    if ¬ x_2 = (88 : Int32) then
      if x_3 = 0 then
        (gX26_within x_2 s18).bind fun p19 =>
        gX26_item_274 x_2 x_3 x_5 (p19.1 + (1 : Int32)) p19.2
      else
        gX26_item_274 x_2 x_3 x_5 0 s18
    else
      xlet (ls s18 38) fun x20 =>
      (gX26_attach x20 x_5 s18).bind fun p21 =>
      some ((), p21.2)
  else
    some ((), s)
def gX26_item_207 (x_2 : Int32) (x_3 : Int32) (x_5 : Int32) (x_s0 : Int32) (s : zM) : gF ((Int32 × Int32 × Int32 × Int32) ⊕ Unit) :=
  if x_s0 = 0 then
    some (.inl (x_2, x_3, x_5, x_s0), s)
  else
    (gX26_described2 x_5 s).bind fun p22 =>
    some (.inl (x_2, x_3, x_5, x_s0), p22.2)
def gX26_item_178b (x_2 : Int32) (x_3 : Int32) (x_5 : Int32) (x_6 : Int32) (s : zM) : gF ((Int32 × Int32 × Int32 × Int32) ⊕ Unit) :=
  if x_6 = 0 then
    ginr (
      gX26_item_223 x_2 x_3 x_5 s)
  else
    xlet (ls s 43) fun x23 =>
    if ¬ x23 = 0 then
      ginr (
        gX26_item_223 x_2 x_3 x_5 s)
    else
      xlet (ls s 41) fun x24 =>
      (gX26_isKind x24 4 s).bind fun p25 =>
      if ¬ p25.1 = 0 then
        gX26_item_207 x_2 x_3 x_5 0 p25.2
      else
        gX26_item_207 x_2 x_3 x_5 1 p25.2
def gX26_item_178 (x_2 : Int32) (x_3 : Int32) (x_5 : Int32) (x_6 : Int32) (s : zM) : gF Unit :=
  gloop (fun (a : (Int32 × Int32 × Int32 × Int32)) s => gX26_item_178b a.1 a.2.1 a.2.2.1 a.2.2.2 s) xLim (x_2, x_3, x_5, x_6) s
def gX26_item_158 (x_1 : Int32) (x_2 : Int32) (x_3 : Int32) (x_4 : Int32) (s : zM) : gF Unit :=
  (gX26_make 12 (((1000 : Int32) * x_2) + x_4) x_1 s).bind fun p26 =>
  gX26_item_178 x_2 x_3 p26.1 1 p26.2
def gX26_item_115 (x_1 : Int32) (x_2 : Int32) (x_3 : Int32) (x_s0 : Int32) (s : zM) : gF Unit :=
  if x_s0 ≤ 0 then
    xlet (ls s 41) fun x27 =>
    (gX26_isWord x27 18 s).bind fun p28 =>
    if p28.1 = 0 then
      gX26_item_158 x_1 x_2 x_3 x_s0 p28.2
    else
      xlet (ls p28.2 41) fun x29 =>
      xlet (us p28.2 41 (x29 + (1 : Int32))) fun s30 =>
      gX26_item_158 x_1 x_2 x_3 x_s0 s30
  else
    xlet (ls s 41) fun x31 =>
    xlet (us s 41 (x31 + (1 : Int32))) fun s32 =>
    gX26_item_158 x_1 x_2 x_3 x_s0 s32
def gX26_item_78 (x_1 : Int32) (x_2 : Int32) (x_3 : Int32) (s : zM) : gF Unit :=
  xlet (ls s 41) fun x33 =>
  xlet (us s 41 (x33 + (1 : Int32))) fun s34 =>
  xlet (ls s34 41) fun x35 =>
  (gX26_isKind x35 1 s34).bind fun p36 =>
  if p36.1 = 0 then
    gX26_item_115 x_1 x_2 x_3 0 p36.2
  else
    xlet (ls p36.2 41) fun x38 =>
    (gld p36.2 3 1500 x38).bind fun x39 =>
    gX26_item_115 x_1 x_2 x_3 (x39 + (1 : Int32)) p36.2
def gX26_item_67 (s : zM) : gF Unit :=
  xlet (ls s 41) fun x40 =>
  (gX26_fail 1 x40 s).bind fun p41 =>
  some ((), p41.2)
def gX26_item_49 (x_1 : Int32) (x_2 : Int32) (x_3 : Int32) (s : zM) : gF Unit :=
  (gX26_in x_2 2 49 s).bind fun p42 =>
  if p42.1 = 0 then
    gX26_item_67 p42.2
  else
    (gX26_within x_2 p42.2).bind fun p43 =>
    if 0 ≤ p43.1 then
      gX26_item_78 x_1 x_2 x_3 p43.2
    else
      gX26_item_67 p43.2
def gX26_item_31 (x_1 : Int32) (x_2 : Int32) (x_s0 : Int32) (s : zM) : gF Unit :=
  if ¬ x_s0 = 0 then
    gX26_item_78 x_1 x_2 x_s0 s
  else
    if ¬ x_2 = (88 : Int32) then
      gX26_item_49 x_1 x_2 x_s0 s
    else
      xlet (ls s 38) fun x44 =>
      if 0 < x44 then
        gX26_item_78 x_1 x_2 x_s0 s
      else
        gX26_item_49 x_1 x_2 x_s0 s
def gX26_item_26 (x_1 : Int32) (x_2 : Int32) (s : zM) : gF Unit :=
  gX26_item_31 x_1 x_2 1 s
def gX26_item (s : zM) : gF Unit :=
  xlet (ls s 41) fun x45 =>
  xlet (ls s 41) fun x47 =>
  (gld s 3 1500 x47).bind fun x48 =>
  if x48 = (1 : Int32) then
    gX26_item_26 x45 x48 s
  else
    if ¬ x48 = (77 : Int32) then
      gX26_item_31 x45 x48 0 s
    else
      gX26_item_26 x45 x48 s
def gX26_conditionOf_26 (s : zM) : gF Unit :=
  some ((), s)
def gX26_conditionOf (i1 : Int32) (s : zM) : gF Unit :=
  xlet (ls s 43) fun x1 =>
  if x1 = 0 then
    (gX26_condition s).bind fun p2 =>
    xlet (ls p2.2 43) fun x3 =>
    if ¬ x3 = 0 then
      gX26_conditionOf_26 p2.2
    else
      (gX26_attach i1 p2.1 p2.2).bind fun p4 =>
      gX26_conditionOf_26 p4.2
  else
    some ((), s)
def gX26_phrase_177 (s : zM) : gF Unit :=
  some ((), s)
def gX26_phrase_163 (x_3 : Int32) (s : zM) : gF Unit :=
  (gX26_must 56 s).bind fun p1 =>
  if p1.1 = 0 then
    gX26_phrase_177 p1.2
  else
    (gX26_conditionOf x_3 p1.2).bind fun p2 =>
    gX26_phrase_177 p2.2
def gX26_phrase_149 (x_3 : Int32) (s : zM) : gF Unit :=
  (gX26_must 25 s).bind fun p3 =>
  if p3.1 = 0 then
    gX26_phrase_163 x_3 p3.2
  else
    (gX26_operandOf x_3 p3.2).bind fun p4 =>
    gX26_phrase_163 x_3 p4.2
def gX26_phrase_135 (x_3 : Int32) (s : zM) : gF Unit :=
  (gX26_must 58 s).bind fun p5 =>
  if p5.1 = 0 then
    gX26_phrase_149 x_3 p5.2
  else
    (gX26_operandOf x_3 p5.2).bind fun p6 =>
    gX26_phrase_149 x_3 p6.2
def gX26_phrase (i1 : Int32) (s : zM) : gF Unit :=
  xlet (ls s 43) fun x7 =>
  if x7 = 0 then
    xlet (ls s 41) fun x8 =>
    (gX26_isTimes s).bind fun p9 =>
    if p9.1 = 0 then
      (gX26_meets 56 p9.2).bind fun p10 =>
      if p10.1 = 0 then
        (gX26_meets 57 p10.2).bind fun p11 =>
        if p11.1 = 0 then
          gX26_phrase_177 p11.2
        else
          (gX26_make 45 0 x8 p11.2).bind fun p12 =>
          (gX26_attach i1 p12.1 p12.2).bind fun p13 =>
          (gX26_mustBe 1 p13.2).bind fun p14 =>
          if p14.1 = 0 then
            gX26_phrase_135 p12.1 p14.2
          else
            (gX26_passed p14.2).bind fun p15 =>
            xlet (ls p15.2 41) fun x16 =>
            (gX26_child p12.1 41 ((100000 : Int32) + p15.1) (x16 - (1 : Int32)) p15.2).bind fun p17 =>
            gX26_phrase_135 p12.1 p17.2
      else
        (gX26_make 44 0 x8 p10.2).bind fun p18 =>
        (gX26_attach i1 p18.1 p18.2).bind fun p19 =>
        (gX26_conditionOf p18.1 p19.2).bind fun p20 =>
        gX26_phrase_177 p20.2
    else
      (gX26_make 43 0 x8 p9.2).bind fun p21 =>
      (gX26_attach i1 p21.1 p21.2).bind fun p22 =>
      (gX26_operandOf p21.1 p22.2).bind fun p23 =>
      (gX26_must 23 p23.2).bind fun p24 =>
      gX26_phrase_177 p24.2
  else
    some ((), s)
def gX26_perform_79 (x_1 : Int32) (x_2 : Int32) (s : zM) : gF Unit :=
  (gX26_phrase x_1 s).bind fun p1 =>
  if x_2 = 0 then
    (gst p1.2 10 8000 x_1 (1 : Int32)).bind fun s3 =>
    (gX26_pile 39 x_1 s3).bind fun p4 =>
    some ((), p4.2)
  else
    some ((), p1.2)
def gX26_perform_32 (x_1 : Int32) (x_s0 : Int32) (s : zM) : gF Unit :=
  if x_s0 = 0 then
    gX26_perform_79 x_1 x_s0 s
  else
    (gX26_operandOf x_1 s).bind fun p5 =>
    (gX26_meets 21 p5.2).bind fun p6 =>
    if p6.1 = 0 then
      gX26_perform_79 x_1 x_s0 p6.2
    else
      (gX26_mustBe 1 p6.2).bind fun p7 =>
      if p7.1 = 0 then
        gX26_perform_79 x_1 x_s0 p7.2
      else
        (gX26_passed p7.2).bind fun p8 =>
        xlet (ls p8.2 41) fun x9 =>
        (gX26_child x_1 41 ((100000 : Int32) + p8.1) (x9 - (1 : Int32)) p8.2).bind fun p10 =>
        gX26_perform_79 x_1 x_s0 p10.2
def gX26_perform_31 (x_1 : Int32) (s : zM) : gF Unit :=
  gX26_perform_32 x_1 0 s
def gX26_perform (i1 : Int32) (s : zM) : gF Unit :=
  xlet (ls s 41) fun x11 =>
  (gX26_isKind x11 1 s).bind fun p12 =>
  if p12.1 = 0 then
    gX26_perform_31 i1 p12.2
  else
    xlet (ls p12.2 41) fun x13 =>
    (gX26_isWord (x13 + (1 : Int32)) 23 p12.2).bind fun p14 =>
    if ¬ p14.1 = 0 then
      gX26_perform_31 i1 p14.2
    else
      gX26_perform_32 i1 1 p14.2
def gX26_statement_521 (s : zM) : gF Unit :=
  some ((), s)
def gX26_statement_444b (x_4 : Int32) (s : zM) : gF ((Int32) ⊕ Unit) :=
  xlet (ls s 43) fun x1 =>
  if ¬ x1 = 0 then
    ginr (
      gX26_statement_521 s)
  else
    xlet (ls s 41) fun x2 =>
    (gX26_isOperand x2 s).bind fun p3 =>
    if p3.1 = 0 then
      ginr (
        gX26_statement_521 p3.2)
    else
      (gX26_operandOf x_4 p3.2).bind fun p4 =>
      some (.inl (x_4), p4.2)
def gX26_statement_444 (x_4 : Int32) (s : zM) : gF Unit :=
  gloop (fun (a : (Int32)) s => gX26_statement_444b a s) xLim (x_4) s
def gX26_statement_419 (x_3 : Int32) (x_4 : Int32) (s : zM) : gF Unit :=
  (gX26_pile x_3 x_4 s).bind fun p5 =>
  gX26_statement_521 p5.2
def gX26_statement_390 (x_3 : Int32) (x_4 : Int32) (s : zM) : gF Unit :=
  (gX26_pile x_3 x_4 s).bind fun p6 =>
  gX26_statement_521 p6.2
def gX26_statement_335 (x_3 : Int32) (x_4 : Int32) (s : zM) : gF Unit :=
  (gX26_pile x_3 x_4 s).bind fun p7 =>
  gX26_statement_521 p7.2
def gX26_statement_160 (x_1 : Int32) (x_2 : Int32) (x_3 : Int32) (x_s0 : Int32) (s : zM) : gF Unit :=
  (gX26_make x_s0 0 x_2 s).bind fun p8 =>
  (gX26_attach x_1 p8.1 p8.2).bind fun p9 =>
  if x_3 < 29 ∨ 47 < x_3 then
    gX26_statement_521 p9.2
  else
    if x_3 = 29 then
      (gX26_operandOf p8.1 p9.2).bind fun p10 =>
      gX26_statement_444 p8.1 p10.2
    else
      if x_3 = 30 then
        gX26_statement_521 p9.2
      else
        if x_3 = 31 then
          gX26_statement_521 p9.2
        else
          if x_3 = 32 then
            gX26_statement_521 p9.2
          else
            if x_3 = 33 then
              gX26_statement_521 p9.2
            else
              if x_3 = 34 then
                gX26_statement_521 p9.2
              else
                if x_3 = 35 then
                  gX26_statement_521 p9.2
                else
                  if x_3 = 36 then
                    (gX26_operandOf p8.1 p9.2).bind fun p11 =>
                    (gX26_must 48 p11.2).bind fun p12 =>
                    if p12.1 = 0 then
                      gX26_statement_521 p12.2
                    else
                      (gX26_names p8.1 41 p12.2).bind fun p13 =>
                      gX26_statement_521 p13.2
                  else
                    if x_3 = 37 then
                      (gX26_add p8.1 p9.2).bind fun p14 =>
                      gX26_statement_521 p14.2
                    else
                      if x_3 = 38 then
                        (gX26_conditionOf p8.1 p9.2).bind fun p15 =>
                        xlet (ls p15.2 43) fun x16 =>
                        if ¬ x16 = 0 then
                          gX26_statement_335 x_3 p8.1 p15.2
                        else
                          xlet (ls p15.2 41) fun x17 =>
                          (gX26_isWord x17 52 p15.2).bind fun p18 =>
                          if p18.1 = 0 then
                            gX26_statement_335 x_3 p8.1 p18.2
                          else
                            xlet (ls p18.2 41) fun x19 =>
                            xlet (us p18.2 41 (x19 + (1 : Int32))) fun s20 =>
                            gX26_statement_335 x_3 p8.1 s20
                      else
                        if x_3 = 39 then
                          (gX26_perform p8.1 p9.2).bind fun p21 =>
                          gX26_statement_521 p21.2
                        else
                          if x_3 = 40 then
                            (gX26_operandOf p8.1 p9.2).bind fun p22 =>
                            xlet (ls p22.2 43) fun x23 =>
                            if ¬ x23 = 0 then
                              gX26_statement_390 x_3 p8.1 p22.2
                            else
                              xlet (ls p22.2 41) fun x24 =>
                              (gX26_isWord x24 59 p22.2).bind fun p25 =>
                              if ¬ p25.1 = 0 then
                                gX26_statement_390 x_3 p8.1 p25.2
                              else
                                xlet (ls p25.2 41) fun x26 =>
                                (gX26_fail 1 x26 p25.2).bind fun p27 =>
                                gX26_statement_390 x_3 p8.1 p27.2
                          else
                            if x_3 = 41 then
                              (gX26_mustBe 1 p9.2).bind fun p28 =>
                              if p28.1 = 0 then
                                gX26_statement_419 x_3 p8.1 p28.2
                              else
                                (gX26_passed p28.2).bind fun p30 =>
                                (gst p30.2 10 8000 p8.1 p30.1).bind fun s31 =>
                                gX26_statement_419 x_3 p8.1 s31
                            else
                              if x_3 = 42 then
                                (gX26_call p8.1 p9.2).bind fun p32 =>
                                gX26_statement_521 p32.2
                              else
                                if x_3 = 43 then
                                  (gX26_meets 48 p9.2).bind fun p33 =>
                                  (gX26_mustBe 1 p33.2).bind fun p34 =>
                                  if p34.1 = 0 then
                                    gX26_statement_521 p34.2
                                  else
                                    (gX26_passed p34.2).bind fun p36 =>
                                    (gst p36.2 10 8000 p8.1 p36.1).bind fun s37 =>
                                    gX26_statement_521 s37
                                else
                                  if x_3 = 44 then
                                    (gX26_must 63 p9.2).bind fun p38 =>
                                    gX26_statement_521 p38.2
                                  else
                                    if x_3 = 45 then
                                      gX26_statement_521 p9.2
                                    else
                                      if x_3 = 46 then
                                        gX26_statement_521 p9.2
                                      else
                                        if x_3 = 47 then
                                          (gX26_compute p8.1 p9.2).bind fun p39 =>
                                          gX26_statement_521 p39.2
                                        else
                                          none
def gX26_statement (i1 : Int32) (s : zM) : gF Unit :=
  xlet (ls s 41) fun x40 =>
  xlet (ls s 41) fun x42 =>
  (gld s 3 1500 x42).bind fun x43 =>
  xlet (ls s 41) fun x44 =>
  xlet (us s 41 (x44 + (1 : Int32))) fun s45 =>
  if ¬ x43 = (36 : Int32) then
    if ¬ x43 = (37 : Int32) then
      if ¬ x43 = (38 : Int32) then
        if ¬ x43 = (39 : Int32) then
          if ¬ x43 = (40 : Int32) then
            if ¬ x43 = (41 : Int32) then
              if ¬ x43 = (42 : Int32) then
                if ¬ x43 = (29 : Int32) then
                  if ¬ x43 = (43 : Int32) then
                    if ¬ x43 = (44 : Int32) then
                      if ¬ x43 = (45 : Int32) then
                        if ¬ x43 = (46 : Int32) then
                          gX26_statement_160 i1 x40 x43 38 s45
                        else
                          gX26_statement_160 i1 x40 x43 37 s45
                      else
                        gX26_statement_160 i1 x40 x43 36 s45
                    else
                      gX26_statement_160 i1 x40 x43 35 s45
                  else
                    gX26_statement_160 i1 x40 x43 34 s45
                else
                  gX26_statement_160 i1 x40 x43 33 s45
              else
                gX26_statement_160 i1 x40 x43 32 s45
            else
              gX26_statement_160 i1 x40 x43 31 s45
          else
            gX26_statement_160 i1 x40 x43 30 s45
        else
          gX26_statement_160 i1 x40 x43 29 s45
      else
        gX26_statement_160 i1 x40 x43 28 s45
    else
      gX26_statement_160 i1 x40 x43 27 s45
  else
    gX26_statement_160 i1 x40 x43 26 s45
def gX26_statements_136 (s : zM) : gF Unit :=
  some ((), s)
def gX26_statements_133 (s : zM) : gF (Unit ⊕ Unit) :=
  some (.inl (()), s)
def gX26_statements_16b (s : zM) : gF (Unit ⊕ Unit) :=
  xlet (ls s 45) fun x1 =>
  if x1 ≤ 0 then
    ginr (
      gX26_statements_136 s)
  else
    xlet (ls s 43) fun x2 =>
    if ¬ x2 = 0 then
      ginr (
        gX26_statements_136 s)
    else
      xlet (ls s 45) fun x3 =>
      xlet (x3 - (1 : Int32)) fun x4 =>
      (gld s 46 128 x4).bind fun x6 =>
      if x6 = 0 then
        xlet (ls s 41) fun x7 =>
        (gX26_begins x7 s).bind fun p8 =>
        if p8.1 = 0 then
          (gld p8.2 48 128 x4).bind fun x10 =>
          if ¬ x10 = 0 then
            xlet (ls p8.2 45) fun x11 =>
            xlet (us p8.2 45 (x11 - (1 : Int32))) fun s12 =>
            xlet (ls s12 44) fun x13 =>
            xlet (us s12 44 (x13 - (1 : Int32))) fun s14 =>
            gX26_statements_133 s14
          else
            xlet (ls p8.2 41) fun x15 =>
            (gX26_fail 1 x15 p8.2).bind fun p16 =>
            gX26_statements_133 p16.2
        else
          (gst p8.2 48 128 x4 (1 : Int32)).bind fun s18 =>
          (gld s18 47 128 x4).bind fun x20 =>
          (gX26_statement x20 s18).bind fun p21 =>
          gX26_statements_133 p21.2
      else
        (gld s 47 128 x4).bind fun x23 =>
        (gX26_goOn x4 x23 s).bind fun p24 =>
        gX26_statements_133 p24.2
def gX26_statements_16 (s : zM) : gF Unit :=
  gloop (fun (a : Unit) s => gX26_statements_16b s) xLim () s
def gX26_statements (i1 : Int32) (s : zM) : gF Unit :=
  xlet (us s 45 (0 : Int32)) fun s25 =>
  xlet (us s25 44 (0 : Int32)) fun s26 =>
  (gX26_pile 0 i1 s26).bind fun p27 =>
  gX26_statements_16 p27.2
def gX26_sentence_80 (s : zM) : gF Unit :=
  some ((), s)
def gX26_sentence_64 (x_1 : Int32) (x_2 : Int32) (x_s0 : Int32) (s : zM) : gF Unit :=
  (gX26_attach x_s0 x_2 s).bind fun p1 =>
  if x_1 = (9 : Int32) then
    gX26_sentence_80 p1.2
  else
    (gX26_to 11 p1.2).bind fun p2 =>
    gX26_sentence_80 p2.2
def gX26_sentence (i1 : Int32) (s : zM) : gF Unit :=
  xlet (ls s 41) fun x3 =>
  (gX26_make 25 0 x3 s).bind fun p4 =>
  (gX26_statements p4.1 p4.2).bind fun p5 =>
  (gX26_mustBe 4 p5.2).bind fun p6 =>
  if ¬ p6.1 = 0 then
    xlet (ls p6.2 36) fun x7 =>
    if x7 ≤ 0 then
      xlet (ls p6.2 35) fun x8 =>
      if x8 ≤ 0 then
        (gX26_here p6.2).bind fun p10 =>
        (gld p10.2 25 600 p10.1).bind fun x11 =>
        gX26_sentence_64 i1 p4.1 x11 p10.2
      else
        xlet (ls p6.2 35) fun x12 =>
        gX26_sentence_64 i1 p4.1 x12 p6.2
    else
      xlet (ls p6.2 36) fun x13 =>
      gX26_sentence_64 i1 p4.1 x13 p6.2
  else
    some ((), p6.2)
def gX26_reserved_446 (s : zM) : gF Unit :=
  some ((), s)
def gX26_reserved_355 (x_s0 : Int32) (s : zM) : gF Unit :=
  (gX26_unitNamed x_s0 s).bind fun p1 =>
  gX26_reserved_446 p1.2
def gX26_reserved_344 (x_2 : Int32) (s : zM) : gF Unit :=
  if ¬ x_2 = (3 : Int32) then
    gX26_reserved_355 0 s
  else
    gX26_reserved_355 1 s
def gX26_reserved_247 (x_1 : Int32) (x_2 : Int32) (x_3 : Int32) (x_4 : Int32) (s : zM) : gF Unit :=
  if x_4 = 0 then
    if ¬ x_2 = 0 then
      xlet (ls s 41) fun x2 =>
      xlet (us s 41 (x2 + (1 : Int32))) fun s3 =>
      if xnone #[ (2 , 65) , (3 , 65) , (5 , 82) , (17 , 90) , (30 , 98) , (32 , 106) , (33 , 153) ] x_2 = true then
        (gX26_division2 x_2 x_3 s3).bind fun p4 =>
        gX26_reserved_446 p4.2
      else
        if x_2 = 2 then
          gX26_reserved_344 x_2 s3
        else
          if x_2 = 3 then
            gX26_reserved_344 x_2 s3
          else
            if x_2 = 5 then
              (gX26_select x_3 s3).bind fun p5 =>
              gX26_reserved_446 p5.2
            else
              if x_2 = 17 then
                (gX26_described x_3 s3).bind fun p6 =>
                gX26_reserved_446 p6.2
              else
                if x_2 = 30 then
                  (gX26_begun x_3 s3).bind fun p7 =>
                  gX26_reserved_446 p7.2
                else
                  if x_2 = 32 then
                    (gX26_mustBe 4 s3).bind fun p8 =>
                    if ¬ p8.1 = 0 then
                      (gX26_make 22 0 x_3 p8.2).bind fun p9 =>
                      xlet (us p9.2 34 p9.1) fun s10 =>
                      (gX26_here s10).bind fun p12 =>
                      (gld p12.2 25 600 p12.1).bind fun x13 =>
                      xlet (ls p12.2 34) fun x14 =>
                      (gX26_attach x13 x14 p12.2).bind fun p15 =>
                      (gX26_to 9 p15.2).bind fun p16 =>
                      gX26_reserved_446 p16.2
                    else
                      some ((), p8.2)
                  else
                    if x_2 = 33 then
                      (gX26_ended x_1 s3).bind fun p17 =>
                      gX26_reserved_446 p17.2
                    else
                      none
    else
      (gX26_identified x_1 s).bind fun p18 =>
      some ((), p18.2)
  else
    (gX26_sentence x_1 s).bind fun p19 =>
    some ((), p19.2)
def gX26_reserved_224 (x_1 : Int32) (x_2 : Int32) (x_3 : Int32) (x_4 : Int32) (x_s0 : Int32) (s : zM) : gF Unit :=
  if ¬ x_s0 = 0 then
    gX26_reserved_247 x_1 x_2 x_3 x_4 s
  else
    if ¬ x_4 = 0 then
      gX26_reserved_247 x_1 x_2 x_3 x_4 s
    else
      xlet (ls s 41) fun x20 =>
      (gX26_fail 1 x20 s).bind fun p21 =>
      some ((), p21.2)
def gX26_reserved_223 (x_1 : Int32) (x_2 : Int32) (x_3 : Int32) (x_4 : Int32) (s : zM) : gF Unit :=
  gX26_reserved_224 x_1 x_2 x_3 x_4 0 s
def gX26_reserved_219 (x_1 : Int32) (x_2 : Int32) (x_3 : Int32) (x_4 : Int32) (s : zM) : gF Unit :=
  gX26_reserved_224 x_1 x_2 x_3 x_4 1 s
def gX26_reserved_209 (x_1 : Int32) (x_2 : Int32) (x_3 : Int32) (x_4 : Int32) (s : zM) : gF Unit :=
  if ¬ x_2 = (33 : Int32) then
    gX26_reserved_223 x_1 x_2 x_3 x_4 s
  else
    if x_1 ≤ 0 then
      gX26_reserved_223 x_1 x_2 x_3 x_4 s
    else
      gX26_reserved_219 x_1 x_2 x_3 x_4 s
def gX26_reserved_197 (x_1 : Int32) (x_2 : Int32) (x_3 : Int32) (x_4 : Int32) (s : zM) : gF Unit :=
  if ¬ x_2 = (32 : Int32) then
    gX26_reserved_209 x_1 x_2 x_3 x_4 s
  else
    if x_1 = (8 : Int32) then
      gX26_reserved_219 x_1 x_2 x_3 x_4 s
    else
      gX26_reserved_209 x_1 x_2 x_3 x_4 s
def gX26_reserved_181 (x_1 : Int32) (x_2 : Int32) (x_3 : Int32) (x_4 : Int32) (s : zM) : gF Unit :=
  if ¬ x_2 = (30 : Int32) then
    gX26_reserved_197 x_1 x_2 x_3 x_4 s
  else
    (gX26_in x_1 1 7 s).bind fun p22 =>
    if ¬ p22.1 = 0 then
      gX26_reserved_219 x_1 x_2 x_3 x_4 p22.2
    else
      gX26_reserved_197 x_1 x_2 x_3 x_4 p22.2
def gX26_reserved_165 (x_1 : Int32) (x_2 : Int32) (x_3 : Int32) (x_4 : Int32) (s : zM) : gF Unit :=
  if ¬ x_2 = (15 : Int32) then
    gX26_reserved_181 x_1 x_2 x_3 x_4 s
  else
    (gX26_in x_1 3 6 s).bind fun p23 =>
    if ¬ p23.1 = 0 then
      gX26_reserved_219 x_1 x_2 x_3 x_4 p23.2
    else
      gX26_reserved_181 x_1 x_2 x_3 x_4 p23.2
def gX26_reserved_150 (x_1 : Int32) (x_2 : Int32) (x_3 : Int32) (x_4 : Int32) (s : zM) : gF Unit :=
  if ¬ x_2 = (14 : Int32) then
    gX26_reserved_165 x_1 x_2 x_3 x_4 s
  else
    (gX26_in x_1 3 5 s).bind fun p24 =>
    if ¬ p24.1 = 0 then
      gX26_reserved_219 x_1 x_2 x_3 x_4 p24.2
    else
      gX26_reserved_165 x_1 x_2 x_3 x_4 p24.2
def gX26_reserved_128 (x_1 : Int32) (x_2 : Int32) (x_3 : Int32) (x_4 : Int32) (x_s0 : Int32) (s : zM) : gF Unit :=
  if ¬ x_s0 = 0 then
    gX26_reserved_219 x_1 x_2 x_3 x_4 s
  else
    if ¬ x_2 = (17 : Int32) then
      gX26_reserved_150 x_1 x_2 x_3 x_4 s
    else
      (gX26_in x_1 4 5 s).bind fun p25 =>
      if ¬ p25.1 = 0 then
        gX26_reserved_219 x_1 x_2 x_3 x_4 p25.2
      else
        gX26_reserved_150 x_1 x_2 x_3 x_4 p25.2
def gX26_reserved_127 (x_1 : Int32) (x_2 : Int32) (x_3 : Int32) (x_4 : Int32) (s : zM) : gF Unit :=
  gX26_reserved_128 x_1 x_2 x_3 x_4 0 s
def gX26_reserved_123 (x_1 : Int32) (x_2 : Int32) (x_3 : Int32) (x_4 : Int32) (s : zM) : gF Unit :=
  gX26_reserved_128 x_1 x_2 x_3 x_4 1 s
def gX26_reserved_112 (x_1 : Int32) (x_2 : Int32) (x_3 : Int32) (x_4 : Int32) (s : zM) : gF Unit :=
  if ¬ x_2 = (13 : Int32) then
    gX26_reserved_127 x_1 x_2 x_3 x_4 s
  else
    if ¬ x_1 = (3 : Int32) then
      gX26_reserved_127 x_1 x_2 x_3 x_4 s
    else
      gX26_reserved_123 x_1 x_2 x_3 x_4 s
def gX26_reserved_97 (x_1 : Int32) (x_2 : Int32) (x_3 : Int32) (x_4 : Int32) (s : zM) : gF Unit :=
  if ¬ x_2 = (12 : Int32) then
    gX26_reserved_112 x_1 x_2 x_3 x_4 s
  else
    (gX26_in x_1 1 2 s).bind fun p26 =>
    if ¬ p26.1 = 0 then
      gX26_reserved_123 x_1 x_2 x_3 x_4 p26.2
    else
      gX26_reserved_112 x_1 x_2 x_3 x_4 p26.2
def gX26_reserved_87 (x_1 : Int32) (x_2 : Int32) (x_3 : Int32) (x_4 : Int32) (s : zM) : gF Unit :=
  if ¬ x_2 = (5 : Int32) then
    gX26_reserved_97 x_1 x_2 x_3 x_4 s
  else
    if x_1 = (2 : Int32) then
      gX26_reserved_123 x_1 x_2 x_3 x_4 s
    else
      gX26_reserved_97 x_1 x_2 x_3 x_4 s
def gX26_reserved_77 (x_1 : Int32) (x_2 : Int32) (x_3 : Int32) (x_4 : Int32) (s : zM) : gF Unit :=
  if ¬ x_2 = (4 : Int32) then
    gX26_reserved_87 x_1 x_2 x_3 x_4 s
  else
    if x_1 = (1 : Int32) then
      gX26_reserved_123 x_1 x_2 x_3 x_4 s
    else
      gX26_reserved_87 x_1 x_2 x_3 x_4 s
def gX26_reserved_60 (x_1 : Int32) (x_2 : Int32) (x_3 : Int32) (x_4 : Int32) (s : zM) : gF Unit :=
  if ¬ x_2 = (3 : Int32) then
    gX26_reserved_77 x_1 x_2 x_3 x_4 s
  else
    if ¬ x_1 = 0 then
      gX26_reserved_77 x_1 x_2 x_3 x_4 s
    else
      xlet (ls s 26) fun x27 =>
      if x27 = (1 : Int32) then
        gX26_reserved_123 x_1 x_2 x_3 x_4 s
      else
        gX26_reserved_77 x_1 x_2 x_3 x_4 s
def gX26_reserved_45 (x_1 : Int32) (x_2 : Int32) (x_3 : Int32) (x_s0 : Int32) (s : zM) : gF Unit :=
  if x_2 = 0 then
    gX26_reserved_123 x_1 x_2 x_3 x_s0 s
  else
    if ¬ x_2 = (2 : Int32) then
      gX26_reserved_60 x_1 x_2 x_3 x_s0 s
    else
      if x_1 = 0 then
        gX26_reserved_123 x_1 x_2 x_3 x_s0 s
      else
        gX26_reserved_60 x_1 x_2 x_3 x_s0 s
def gX26_reserved_44 (x_1 : Int32) (x_2 : Int32) (x_3 : Int32) (s : zM) : gF Unit :=
  gX26_reserved_45 x_1 x_2 x_3 0 s
def gX26_reserved_40 (x_1 : Int32) (x_2 : Int32) (x_3 : Int32) (s : zM) : gF Unit :=
  gX26_reserved_45 x_1 x_2 x_3 1 s
def gX26_reserved (i1 : Int32) (i2 : Int32) (s : zM) : gF Unit :=
  xlet (ls s 41) fun x28 =>
  xlet (ls s 41) fun x29 =>
  (gX26_begins x29 s).bind fun p30 =>
  if p30.1 = 0 then
    gX26_reserved_44 i1 i2 x28 p30.2
  else
    (gX26_in i1 8 11 p30.2).bind fun p31 =>
    if p31.1 = 0 then
      gX26_reserved_44 i1 i2 x28 p31.2
    else
      if ¬ i1 = (9 : Int32) then
        gX26_reserved_40 i1 i2 x28 p31.2
      else
        xlet (ls p31.2 35) fun x32 =>
        if x32 ≤ 0 then
          gX26_reserved_44 i1 i2 x28 p31.2
        else
          gX26_reserved_40 i1 i2 x28 p31.2
def gX26_clause_124 (s : zM) : gF Unit :=
  some ((), s)
def gX26_clause_85 (x_1 : Int32) (s : zM) : gF Unit :=
  xlet (ls s 41) fun x2 =>
  (gld s 2 1500 x2).bind fun x3 =>
  if x3 = 0 then
    xlet (ls s 41) fun x5 =>
    (gld s 3 1500 x5).bind fun x6 =>
    (gX26_reserved x_1 x6 s).bind fun p7 =>
    gX26_clause_124 p7.2
  else
    xlet (ls s 41) fun x8 =>
    (gX26_fail 1 x8 s).bind fun p9 =>
    gX26_clause_124 p9.2
def gX26_clause_53 (x_1 : Int32) (s : zM) : gF Unit :=
  xlet (ls s 41) fun x11 =>
  (gld s 2 1500 x11).bind fun x12 =>
  if ¬ x12 = (1 : Int32) then
    gX26_clause_85 x_1 s
  else
    (gX26_in x_1 8 11 s).bind fun p13 =>
    if p13.1 = 0 then
      gX26_clause_85 x_1 p13.2
    else
      (gX26_named x_1 p13.2).bind fun p14 =>
      gX26_clause_124 p14.2
def gX26_clause_22 (x_s0 : Int32) (s : zM) : gF Unit :=
  xlet (ls s 41) fun x16 =>
  (gld s 2 1500 x16).bind fun x17 =>
  if ¬ x17 = (2 : Int32) then
    gX26_clause_53 x_s0 s
  else
    (gX26_in x_s0 5 7 s).bind fun p18 =>
    if p18.1 = 0 then
      gX26_clause_53 x_s0 p18.2
    else
      (gX26_item p18.2).bind fun p19 =>
      gX26_clause_124 p19.2
def gX26_clause (s : zM) : gF Unit :=
  xlet (ls s 26) fun x20 =>
  if ¬ x20 = 0 then
    xlet (ls s 26) fun x22 =>
    (gld s 27 11 (x22 - (1 : Int32))).bind fun x23 =>
    gX26_clause_22 x23 s
  else
    gX26_clause_22 ((- 1)) s
def gX26_parse_238 (x_1 : Int32) (x_s0 : Int32) (s : zM) : gF Int32 :=
  xlet (us s 0 x_s0) fun s1 =>
  xlet (ls s1 5) fun x2 =>
  if x2 ≤ 0 then
    (gX26_numberAll x_1 s1).bind fun p3 =>
    xlet (ls p3.2 20) fun x4 =>
    some (x4, p3.2)
  else
    xlet (us s1 20 (0 : Int32)) fun s5 =>
    some (0, s5)
def gX26_parse_225 (x_1 : Int32) (s : zM) : gF Int32 :=
  xlet (ls s 5) fun x6 =>
  if x6 ≤ 0 then
    gX26_parse_238 x_1 0 s
  else
    gX26_parse_238 x_1 1 s
def gX26_parse_195 (x_1 : Int32) (x_s0 : Int32) (s : zM) : gF Int32 :=
  xlet (ls s 5) fun x7 =>
  if (20 : Int32) ≤ x7 then
    gX26_parse_225 x_1 s
  else
    xlet (ls s 26) fun x8 =>
    if x8 ≤ 0 then
      gX26_parse_225 x_1 s
    else
      if ¬ x_s0 = 0 then
        gX26_parse_225 x_1 s
      else
        xlet (ls s 4) fun x9 =>
        (gX26_note 1 x9 s).bind fun p10 =>
        gX26_parse_225 x_1 p10.2
def gX26_parse_194 (x_1 : Int32) (s : zM) : gF Int32 :=
  gX26_parse_195 x_1 0 s
def gX26_parse_153 (x_1 : Int32) (s : zM) : gF Int32 :=
  xlet (ls s 26) fun x11 =>
  if ¬ x11 = (1 : Int32) then
    gX26_parse_194 x_1 s
  else
    (gld s 27 11 (0 : Int32)).bind fun x13 =>
    if x13 = 0 then
      gX26_parse_194 x_1 s
    else
      (gld s 27 11 (0 : Int32)).bind fun x15 =>
      if x15 = (9 : Int32) then
        gX26_parse_194 x_1 s
      else
        (gld s 31 11 (0 : Int32)).bind fun x17 =>
        if ¬ x17 = 0 then
          gX26_parse_194 x_1 s
        else
          gX26_parse_195 x_1 1 s
def gX26_parse_140 (x_1 : Int32) (s : zM) : gF ((Int32) ⊕ Int32) :=
  xlet (ls s 41) fun x18 =>
  xlet (us s 41 (x18 + (1 : Int32))) fun s19 =>
  some (.inl (x_1), s19)
def gX26_parse_103b (x_1 : Int32) (s : zM) : gF ((Int32) ⊕ ((Int32) ⊕ Int32)) :=
  xlet (ls s 41) fun x20 =>
  xlet (ls s 4) fun x21 =>
  if x21 ≤ x20 then
    ginr (
      gX26_parse_140 x_1 s)
  else
    xlet (ls s 41) fun x23 =>
    (gld s 2 1500 x23).bind fun x24 =>
    if x24 = (4 : Int32) then
      ginr (
        gX26_parse_140 x_1 s)
    else
      xlet (ls s 41) fun x25 =>
      xlet (us s 41 (x25 + (1 : Int32))) fun s26 =>
      some (.inl (x_1), s26)
def gX26_parse_103 (x_1 : Int32) (s : zM) : gF ((Int32) ⊕ Int32) :=
  gloop (fun (a : (Int32)) s => gX26_parse_103b a s) xLim (x_1) s
def gX26_parse_56b (x_1 : Int32) (s : zM) : gF ((Int32) ⊕ Int32) :=
  xlet (ls s 41) fun x27 =>
  xlet (ls s 4) fun x28 =>
  if x28 ≤ x27 then
    ginr (
      gX26_parse_153 x_1 s)
  else
    xlet (ls s 5) fun x29 =>
    if (20 : Int32) ≤ x29 then
      ginr (
        gX26_parse_153 x_1 s)
    else
      (gpN s 43 .boolean 0).bind fun s30 =>
      (gX26_clause s30).bind fun p31 =>
      xlet (ls p31.2 43) fun x32 =>
      if ¬ x32 = 0 then
        xlet (ls p31.2 42) fun x33 =>
        xlet (us p31.2 41 x33) fun s34 =>
        gX26_parse_103 x_1 s34
      else
        some (.inl (x_1), p31.2)
def gX26_parse_56 (x_1 : Int32) (s : zM) : gF Int32 :=
  gloop (fun (a : (Int32)) s => gX26_parse_56b a s) xLim (x_1) s
def gX26_parse (s : zM) : gF Int32 :=
  xlet (ls s 1) fun x35 =>
  xlet (us s 4 x35) fun s36 =>
  xlet (us s36 1 (0 : Int32)) fun s37 =>
  xlet (us s37 41 (0 : Int32)) fun s38 =>
  xlet (us s38 5 (0 : Int32)) fun s39 =>
  xlet (us s39 8 (0 : Int32)) fun s40 =>
  xlet (us s40 20 (0 : Int32)) fun s41 =>
  xlet (us s41 26 (0 : Int32)) fun s42 =>
  xlet (us s42 19 (0 : Int32)) fun s43 =>
  xlet (us s43 21 (0 : Int32)) fun s44 =>
  (gX26_make 0 0 0 s44).bind fun p45 =>
  gX26_parse_56 p45.1 p45.2
