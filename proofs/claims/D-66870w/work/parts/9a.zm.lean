/-! THE PURE LAYER: the parser: both sides between clauses. -/
/-- what the parser holds beside nodes: rows of faults, lists, units, the open ones, what the innermost open unit is at -/
abbrev pD : Type := (Nat) × (Nat) × (Nat) × (Nat) × (List Nat) × (Nat) × (Nat → Nat) × (Nat → Nat) × (Nat → Nat) × (Nat → Nat) × (Nat → Nat) × (Nat) × (Nat → Nat) × (Nat → Nat) × (Nat → Nat) × (Nat → Nat) × (Nat → Nat) × (Nat) × (Nat) × (Nat) × (Nat) × (Nat) × (Nat) × (List Nat) × (Nat) × (Nat) × (zS)
def pD.fa (x : pD) : Nat := x.1
def pD.fb (x : pD) : Nat := x.2.1
def pD.lu (x : pD) : Nat := x.2.2.1
def pD.lr (x : pD) : Nat := x.2.2.2.1
def pD.rt (x : pD) : List Nat := x.2.2.2.2.1
def pD.nu (x : pD) : Nat := x.2.2.2.2.2.1
def pD.un (x : pD) : Nat → Nat := x.2.2.2.2.2.2.1
def pD.ou (x : pD) : Nat → Nat := x.2.2.2.2.2.2.2.1
def pD.en (x : pD) : Nat → Nat := x.2.2.2.2.2.2.2.2.1
def pD.da (x : pD) : Nat → Nat := x.2.2.2.2.2.2.2.2.2.1
def pD.pr (x : pD) : Nat → Nat := x.2.2.2.2.2.2.2.2.2.2.1
def pD.dp (x : pD) : Nat := x.2.2.2.2.2.2.2.2.2.2.2.1
def pD.os (x : pD) : Nat → Nat := x.2.2.2.2.2.2.2.2.2.2.2.2.1
def pD.st (x : pD) : Nat → Nat := x.2.2.2.2.2.2.2.2.2.2.2.2.2.1
def pD.nm (x : pD) : Nat → Nat := x.2.2.2.2.2.2.2.2.2.2.2.2.2.2.1
def pD.fu (x : pD) : Nat → Nat := x.2.2.2.2.2.2.2.2.2.2.2.2.2.2.2.1
def pD.hd (x : pD) : Nat → Nat := x.2.2.2.2.2.2.2.2.2.2.2.2.2.2.2.2.1
def pD.fi (x : pD) : Nat := x.2.2.2.2.2.2.2.2.2.2.2.2.2.2.2.2.2.1
def pD.ho (x : pD) : Nat := x.2.2.2.2.2.2.2.2.2.2.2.2.2.2.2.2.2.2.1
def pD.de (x : pD) : Nat := x.2.2.2.2.2.2.2.2.2.2.2.2.2.2.2.2.2.2.2.1
def pD.se (x : pD) : Nat := x.2.2.2.2.2.2.2.2.2.2.2.2.2.2.2.2.2.2.2.2.1
def pD.pa (x : pD) : Nat := x.2.2.2.2.2.2.2.2.2.2.2.2.2.2.2.2.2.2.2.2.2.1
def pD.lt (x : pD) : Nat := x.2.2.2.2.2.2.2.2.2.2.2.2.2.2.2.2.2.2.2.2.2.2.1
def pD.it (x : pD) : List Nat := x.2.2.2.2.2.2.2.2.2.2.2.2.2.2.2.2.2.2.2.2.2.2.2.1
def pD.z0 (x : pD) : Nat := x.2.2.2.2.2.2.2.2.2.2.2.2.2.2.2.2.2.2.2.2.2.2.2.2.1
def pD.w0 (x : pD) : Nat := x.2.2.2.2.2.2.2.2.2.2.2.2.2.2.2.2.2.2.2.2.2.2.2.2.2.1
def pD.a0 (x : pD) : zS := x.2.2.2.2.2.2.2.2.2.2.2.2.2.2.2.2.2.2.2.2.2.2.2.2.2.2
theorem pD.fa_mk {x0 : Nat} {x1 : Nat} {x2 : Nat} {x3 : Nat} {x4 : List Nat} {x5 : Nat} {x6 : Nat → Nat} {x7 : Nat → Nat} {x8 : Nat → Nat} {x9 : Nat → Nat} {x10 : Nat → Nat} {x11 : Nat} {x12 : Nat → Nat} {x13 : Nat → Nat} {x14 : Nat → Nat} {x15 : Nat → Nat} {x16 : Nat → Nat} {x17 : Nat} {x18 : Nat} {x19 : Nat} {x20 : Nat} {x21 : Nat} {x22 : Nat} {x23 : List Nat} {x24 : Nat} {x25 : Nat} {x26 : zS} : pD.fa (x0, x1, x2, x3, x4, x5, x6, x7, x8, x9, x10, x11, x12, x13, x14, x15, x16, x17, x18, x19, x20, x21, x22, x23, x24, x25, x26) = x0 := rfl
theorem pD.fb_mk {x0 : Nat} {x1 : Nat} {x2 : Nat} {x3 : Nat} {x4 : List Nat} {x5 : Nat} {x6 : Nat → Nat} {x7 : Nat → Nat} {x8 : Nat → Nat} {x9 : Nat → Nat} {x10 : Nat → Nat} {x11 : Nat} {x12 : Nat → Nat} {x13 : Nat → Nat} {x14 : Nat → Nat} {x15 : Nat → Nat} {x16 : Nat → Nat} {x17 : Nat} {x18 : Nat} {x19 : Nat} {x20 : Nat} {x21 : Nat} {x22 : Nat} {x23 : List Nat} {x24 : Nat} {x25 : Nat} {x26 : zS} : pD.fb (x0, x1, x2, x3, x4, x5, x6, x7, x8, x9, x10, x11, x12, x13, x14, x15, x16, x17, x18, x19, x20, x21, x22, x23, x24, x25, x26) = x1 := rfl
theorem pD.lu_mk {x0 : Nat} {x1 : Nat} {x2 : Nat} {x3 : Nat} {x4 : List Nat} {x5 : Nat} {x6 : Nat → Nat} {x7 : Nat → Nat} {x8 : Nat → Nat} {x9 : Nat → Nat} {x10 : Nat → Nat} {x11 : Nat} {x12 : Nat → Nat} {x13 : Nat → Nat} {x14 : Nat → Nat} {x15 : Nat → Nat} {x16 : Nat → Nat} {x17 : Nat} {x18 : Nat} {x19 : Nat} {x20 : Nat} {x21 : Nat} {x22 : Nat} {x23 : List Nat} {x24 : Nat} {x25 : Nat} {x26 : zS} : pD.lu (x0, x1, x2, x3, x4, x5, x6, x7, x8, x9, x10, x11, x12, x13, x14, x15, x16, x17, x18, x19, x20, x21, x22, x23, x24, x25, x26) = x2 := rfl
theorem pD.lr_mk {x0 : Nat} {x1 : Nat} {x2 : Nat} {x3 : Nat} {x4 : List Nat} {x5 : Nat} {x6 : Nat → Nat} {x7 : Nat → Nat} {x8 : Nat → Nat} {x9 : Nat → Nat} {x10 : Nat → Nat} {x11 : Nat} {x12 : Nat → Nat} {x13 : Nat → Nat} {x14 : Nat → Nat} {x15 : Nat → Nat} {x16 : Nat → Nat} {x17 : Nat} {x18 : Nat} {x19 : Nat} {x20 : Nat} {x21 : Nat} {x22 : Nat} {x23 : List Nat} {x24 : Nat} {x25 : Nat} {x26 : zS} : pD.lr (x0, x1, x2, x3, x4, x5, x6, x7, x8, x9, x10, x11, x12, x13, x14, x15, x16, x17, x18, x19, x20, x21, x22, x23, x24, x25, x26) = x3 := rfl
theorem pD.rt_mk {x0 : Nat} {x1 : Nat} {x2 : Nat} {x3 : Nat} {x4 : List Nat} {x5 : Nat} {x6 : Nat → Nat} {x7 : Nat → Nat} {x8 : Nat → Nat} {x9 : Nat → Nat} {x10 : Nat → Nat} {x11 : Nat} {x12 : Nat → Nat} {x13 : Nat → Nat} {x14 : Nat → Nat} {x15 : Nat → Nat} {x16 : Nat → Nat} {x17 : Nat} {x18 : Nat} {x19 : Nat} {x20 : Nat} {x21 : Nat} {x22 : Nat} {x23 : List Nat} {x24 : Nat} {x25 : Nat} {x26 : zS} : pD.rt (x0, x1, x2, x3, x4, x5, x6, x7, x8, x9, x10, x11, x12, x13, x14, x15, x16, x17, x18, x19, x20, x21, x22, x23, x24, x25, x26) = x4 := rfl
theorem pD.nu_mk {x0 : Nat} {x1 : Nat} {x2 : Nat} {x3 : Nat} {x4 : List Nat} {x5 : Nat} {x6 : Nat → Nat} {x7 : Nat → Nat} {x8 : Nat → Nat} {x9 : Nat → Nat} {x10 : Nat → Nat} {x11 : Nat} {x12 : Nat → Nat} {x13 : Nat → Nat} {x14 : Nat → Nat} {x15 : Nat → Nat} {x16 : Nat → Nat} {x17 : Nat} {x18 : Nat} {x19 : Nat} {x20 : Nat} {x21 : Nat} {x22 : Nat} {x23 : List Nat} {x24 : Nat} {x25 : Nat} {x26 : zS} : pD.nu (x0, x1, x2, x3, x4, x5, x6, x7, x8, x9, x10, x11, x12, x13, x14, x15, x16, x17, x18, x19, x20, x21, x22, x23, x24, x25, x26) = x5 := rfl
theorem pD.un_mk {x0 : Nat} {x1 : Nat} {x2 : Nat} {x3 : Nat} {x4 : List Nat} {x5 : Nat} {x6 : Nat → Nat} {x7 : Nat → Nat} {x8 : Nat → Nat} {x9 : Nat → Nat} {x10 : Nat → Nat} {x11 : Nat} {x12 : Nat → Nat} {x13 : Nat → Nat} {x14 : Nat → Nat} {x15 : Nat → Nat} {x16 : Nat → Nat} {x17 : Nat} {x18 : Nat} {x19 : Nat} {x20 : Nat} {x21 : Nat} {x22 : Nat} {x23 : List Nat} {x24 : Nat} {x25 : Nat} {x26 : zS} : pD.un (x0, x1, x2, x3, x4, x5, x6, x7, x8, x9, x10, x11, x12, x13, x14, x15, x16, x17, x18, x19, x20, x21, x22, x23, x24, x25, x26) = x6 := rfl
theorem pD.ou_mk {x0 : Nat} {x1 : Nat} {x2 : Nat} {x3 : Nat} {x4 : List Nat} {x5 : Nat} {x6 : Nat → Nat} {x7 : Nat → Nat} {x8 : Nat → Nat} {x9 : Nat → Nat} {x10 : Nat → Nat} {x11 : Nat} {x12 : Nat → Nat} {x13 : Nat → Nat} {x14 : Nat → Nat} {x15 : Nat → Nat} {x16 : Nat → Nat} {x17 : Nat} {x18 : Nat} {x19 : Nat} {x20 : Nat} {x21 : Nat} {x22 : Nat} {x23 : List Nat} {x24 : Nat} {x25 : Nat} {x26 : zS} : pD.ou (x0, x1, x2, x3, x4, x5, x6, x7, x8, x9, x10, x11, x12, x13, x14, x15, x16, x17, x18, x19, x20, x21, x22, x23, x24, x25, x26) = x7 := rfl
theorem pD.en_mk {x0 : Nat} {x1 : Nat} {x2 : Nat} {x3 : Nat} {x4 : List Nat} {x5 : Nat} {x6 : Nat → Nat} {x7 : Nat → Nat} {x8 : Nat → Nat} {x9 : Nat → Nat} {x10 : Nat → Nat} {x11 : Nat} {x12 : Nat → Nat} {x13 : Nat → Nat} {x14 : Nat → Nat} {x15 : Nat → Nat} {x16 : Nat → Nat} {x17 : Nat} {x18 : Nat} {x19 : Nat} {x20 : Nat} {x21 : Nat} {x22 : Nat} {x23 : List Nat} {x24 : Nat} {x25 : Nat} {x26 : zS} : pD.en (x0, x1, x2, x3, x4, x5, x6, x7, x8, x9, x10, x11, x12, x13, x14, x15, x16, x17, x18, x19, x20, x21, x22, x23, x24, x25, x26) = x8 := rfl
theorem pD.da_mk {x0 : Nat} {x1 : Nat} {x2 : Nat} {x3 : Nat} {x4 : List Nat} {x5 : Nat} {x6 : Nat → Nat} {x7 : Nat → Nat} {x8 : Nat → Nat} {x9 : Nat → Nat} {x10 : Nat → Nat} {x11 : Nat} {x12 : Nat → Nat} {x13 : Nat → Nat} {x14 : Nat → Nat} {x15 : Nat → Nat} {x16 : Nat → Nat} {x17 : Nat} {x18 : Nat} {x19 : Nat} {x20 : Nat} {x21 : Nat} {x22 : Nat} {x23 : List Nat} {x24 : Nat} {x25 : Nat} {x26 : zS} : pD.da (x0, x1, x2, x3, x4, x5, x6, x7, x8, x9, x10, x11, x12, x13, x14, x15, x16, x17, x18, x19, x20, x21, x22, x23, x24, x25, x26) = x9 := rfl
theorem pD.pr_mk {x0 : Nat} {x1 : Nat} {x2 : Nat} {x3 : Nat} {x4 : List Nat} {x5 : Nat} {x6 : Nat → Nat} {x7 : Nat → Nat} {x8 : Nat → Nat} {x9 : Nat → Nat} {x10 : Nat → Nat} {x11 : Nat} {x12 : Nat → Nat} {x13 : Nat → Nat} {x14 : Nat → Nat} {x15 : Nat → Nat} {x16 : Nat → Nat} {x17 : Nat} {x18 : Nat} {x19 : Nat} {x20 : Nat} {x21 : Nat} {x22 : Nat} {x23 : List Nat} {x24 : Nat} {x25 : Nat} {x26 : zS} : pD.pr (x0, x1, x2, x3, x4, x5, x6, x7, x8, x9, x10, x11, x12, x13, x14, x15, x16, x17, x18, x19, x20, x21, x22, x23, x24, x25, x26) = x10 := rfl
theorem pD.dp_mk {x0 : Nat} {x1 : Nat} {x2 : Nat} {x3 : Nat} {x4 : List Nat} {x5 : Nat} {x6 : Nat → Nat} {x7 : Nat → Nat} {x8 : Nat → Nat} {x9 : Nat → Nat} {x10 : Nat → Nat} {x11 : Nat} {x12 : Nat → Nat} {x13 : Nat → Nat} {x14 : Nat → Nat} {x15 : Nat → Nat} {x16 : Nat → Nat} {x17 : Nat} {x18 : Nat} {x19 : Nat} {x20 : Nat} {x21 : Nat} {x22 : Nat} {x23 : List Nat} {x24 : Nat} {x25 : Nat} {x26 : zS} : pD.dp (x0, x1, x2, x3, x4, x5, x6, x7, x8, x9, x10, x11, x12, x13, x14, x15, x16, x17, x18, x19, x20, x21, x22, x23, x24, x25, x26) = x11 := rfl
theorem pD.os_mk {x0 : Nat} {x1 : Nat} {x2 : Nat} {x3 : Nat} {x4 : List Nat} {x5 : Nat} {x6 : Nat → Nat} {x7 : Nat → Nat} {x8 : Nat → Nat} {x9 : Nat → Nat} {x10 : Nat → Nat} {x11 : Nat} {x12 : Nat → Nat} {x13 : Nat → Nat} {x14 : Nat → Nat} {x15 : Nat → Nat} {x16 : Nat → Nat} {x17 : Nat} {x18 : Nat} {x19 : Nat} {x20 : Nat} {x21 : Nat} {x22 : Nat} {x23 : List Nat} {x24 : Nat} {x25 : Nat} {x26 : zS} : pD.os (x0, x1, x2, x3, x4, x5, x6, x7, x8, x9, x10, x11, x12, x13, x14, x15, x16, x17, x18, x19, x20, x21, x22, x23, x24, x25, x26) = x12 := rfl
theorem pD.st_mk {x0 : Nat} {x1 : Nat} {x2 : Nat} {x3 : Nat} {x4 : List Nat} {x5 : Nat} {x6 : Nat → Nat} {x7 : Nat → Nat} {x8 : Nat → Nat} {x9 : Nat → Nat} {x10 : Nat → Nat} {x11 : Nat} {x12 : Nat → Nat} {x13 : Nat → Nat} {x14 : Nat → Nat} {x15 : Nat → Nat} {x16 : Nat → Nat} {x17 : Nat} {x18 : Nat} {x19 : Nat} {x20 : Nat} {x21 : Nat} {x22 : Nat} {x23 : List Nat} {x24 : Nat} {x25 : Nat} {x26 : zS} : pD.st (x0, x1, x2, x3, x4, x5, x6, x7, x8, x9, x10, x11, x12, x13, x14, x15, x16, x17, x18, x19, x20, x21, x22, x23, x24, x25, x26) = x13 := rfl
theorem pD.nm_mk {x0 : Nat} {x1 : Nat} {x2 : Nat} {x3 : Nat} {x4 : List Nat} {x5 : Nat} {x6 : Nat → Nat} {x7 : Nat → Nat} {x8 : Nat → Nat} {x9 : Nat → Nat} {x10 : Nat → Nat} {x11 : Nat} {x12 : Nat → Nat} {x13 : Nat → Nat} {x14 : Nat → Nat} {x15 : Nat → Nat} {x16 : Nat → Nat} {x17 : Nat} {x18 : Nat} {x19 : Nat} {x20 : Nat} {x21 : Nat} {x22 : Nat} {x23 : List Nat} {x24 : Nat} {x25 : Nat} {x26 : zS} : pD.nm (x0, x1, x2, x3, x4, x5, x6, x7, x8, x9, x10, x11, x12, x13, x14, x15, x16, x17, x18, x19, x20, x21, x22, x23, x24, x25, x26) = x14 := rfl
theorem pD.fu_mk {x0 : Nat} {x1 : Nat} {x2 : Nat} {x3 : Nat} {x4 : List Nat} {x5 : Nat} {x6 : Nat → Nat} {x7 : Nat → Nat} {x8 : Nat → Nat} {x9 : Nat → Nat} {x10 : Nat → Nat} {x11 : Nat} {x12 : Nat → Nat} {x13 : Nat → Nat} {x14 : Nat → Nat} {x15 : Nat → Nat} {x16 : Nat → Nat} {x17 : Nat} {x18 : Nat} {x19 : Nat} {x20 : Nat} {x21 : Nat} {x22 : Nat} {x23 : List Nat} {x24 : Nat} {x25 : Nat} {x26 : zS} : pD.fu (x0, x1, x2, x3, x4, x5, x6, x7, x8, x9, x10, x11, x12, x13, x14, x15, x16, x17, x18, x19, x20, x21, x22, x23, x24, x25, x26) = x15 := rfl
theorem pD.hd_mk {x0 : Nat} {x1 : Nat} {x2 : Nat} {x3 : Nat} {x4 : List Nat} {x5 : Nat} {x6 : Nat → Nat} {x7 : Nat → Nat} {x8 : Nat → Nat} {x9 : Nat → Nat} {x10 : Nat → Nat} {x11 : Nat} {x12 : Nat → Nat} {x13 : Nat → Nat} {x14 : Nat → Nat} {x15 : Nat → Nat} {x16 : Nat → Nat} {x17 : Nat} {x18 : Nat} {x19 : Nat} {x20 : Nat} {x21 : Nat} {x22 : Nat} {x23 : List Nat} {x24 : Nat} {x25 : Nat} {x26 : zS} : pD.hd (x0, x1, x2, x3, x4, x5, x6, x7, x8, x9, x10, x11, x12, x13, x14, x15, x16, x17, x18, x19, x20, x21, x22, x23, x24, x25, x26) = x16 := rfl
theorem pD.fi_mk {x0 : Nat} {x1 : Nat} {x2 : Nat} {x3 : Nat} {x4 : List Nat} {x5 : Nat} {x6 : Nat → Nat} {x7 : Nat → Nat} {x8 : Nat → Nat} {x9 : Nat → Nat} {x10 : Nat → Nat} {x11 : Nat} {x12 : Nat → Nat} {x13 : Nat → Nat} {x14 : Nat → Nat} {x15 : Nat → Nat} {x16 : Nat → Nat} {x17 : Nat} {x18 : Nat} {x19 : Nat} {x20 : Nat} {x21 : Nat} {x22 : Nat} {x23 : List Nat} {x24 : Nat} {x25 : Nat} {x26 : zS} : pD.fi (x0, x1, x2, x3, x4, x5, x6, x7, x8, x9, x10, x11, x12, x13, x14, x15, x16, x17, x18, x19, x20, x21, x22, x23, x24, x25, x26) = x17 := rfl
theorem pD.ho_mk {x0 : Nat} {x1 : Nat} {x2 : Nat} {x3 : Nat} {x4 : List Nat} {x5 : Nat} {x6 : Nat → Nat} {x7 : Nat → Nat} {x8 : Nat → Nat} {x9 : Nat → Nat} {x10 : Nat → Nat} {x11 : Nat} {x12 : Nat → Nat} {x13 : Nat → Nat} {x14 : Nat → Nat} {x15 : Nat → Nat} {x16 : Nat → Nat} {x17 : Nat} {x18 : Nat} {x19 : Nat} {x20 : Nat} {x21 : Nat} {x22 : Nat} {x23 : List Nat} {x24 : Nat} {x25 : Nat} {x26 : zS} : pD.ho (x0, x1, x2, x3, x4, x5, x6, x7, x8, x9, x10, x11, x12, x13, x14, x15, x16, x17, x18, x19, x20, x21, x22, x23, x24, x25, x26) = x18 := rfl
theorem pD.de_mk {x0 : Nat} {x1 : Nat} {x2 : Nat} {x3 : Nat} {x4 : List Nat} {x5 : Nat} {x6 : Nat → Nat} {x7 : Nat → Nat} {x8 : Nat → Nat} {x9 : Nat → Nat} {x10 : Nat → Nat} {x11 : Nat} {x12 : Nat → Nat} {x13 : Nat → Nat} {x14 : Nat → Nat} {x15 : Nat → Nat} {x16 : Nat → Nat} {x17 : Nat} {x18 : Nat} {x19 : Nat} {x20 : Nat} {x21 : Nat} {x22 : Nat} {x23 : List Nat} {x24 : Nat} {x25 : Nat} {x26 : zS} : pD.de (x0, x1, x2, x3, x4, x5, x6, x7, x8, x9, x10, x11, x12, x13, x14, x15, x16, x17, x18, x19, x20, x21, x22, x23, x24, x25, x26) = x19 := rfl
theorem pD.se_mk {x0 : Nat} {x1 : Nat} {x2 : Nat} {x3 : Nat} {x4 : List Nat} {x5 : Nat} {x6 : Nat → Nat} {x7 : Nat → Nat} {x8 : Nat → Nat} {x9 : Nat → Nat} {x10 : Nat → Nat} {x11 : Nat} {x12 : Nat → Nat} {x13 : Nat → Nat} {x14 : Nat → Nat} {x15 : Nat → Nat} {x16 : Nat → Nat} {x17 : Nat} {x18 : Nat} {x19 : Nat} {x20 : Nat} {x21 : Nat} {x22 : Nat} {x23 : List Nat} {x24 : Nat} {x25 : Nat} {x26 : zS} : pD.se (x0, x1, x2, x3, x4, x5, x6, x7, x8, x9, x10, x11, x12, x13, x14, x15, x16, x17, x18, x19, x20, x21, x22, x23, x24, x25, x26) = x20 := rfl
theorem pD.pa_mk {x0 : Nat} {x1 : Nat} {x2 : Nat} {x3 : Nat} {x4 : List Nat} {x5 : Nat} {x6 : Nat → Nat} {x7 : Nat → Nat} {x8 : Nat → Nat} {x9 : Nat → Nat} {x10 : Nat → Nat} {x11 : Nat} {x12 : Nat → Nat} {x13 : Nat → Nat} {x14 : Nat → Nat} {x15 : Nat → Nat} {x16 : Nat → Nat} {x17 : Nat} {x18 : Nat} {x19 : Nat} {x20 : Nat} {x21 : Nat} {x22 : Nat} {x23 : List Nat} {x24 : Nat} {x25 : Nat} {x26 : zS} : pD.pa (x0, x1, x2, x3, x4, x5, x6, x7, x8, x9, x10, x11, x12, x13, x14, x15, x16, x17, x18, x19, x20, x21, x22, x23, x24, x25, x26) = x21 := rfl
theorem pD.lt_mk {x0 : Nat} {x1 : Nat} {x2 : Nat} {x3 : Nat} {x4 : List Nat} {x5 : Nat} {x6 : Nat → Nat} {x7 : Nat → Nat} {x8 : Nat → Nat} {x9 : Nat → Nat} {x10 : Nat → Nat} {x11 : Nat} {x12 : Nat → Nat} {x13 : Nat → Nat} {x14 : Nat → Nat} {x15 : Nat → Nat} {x16 : Nat → Nat} {x17 : Nat} {x18 : Nat} {x19 : Nat} {x20 : Nat} {x21 : Nat} {x22 : Nat} {x23 : List Nat} {x24 : Nat} {x25 : Nat} {x26 : zS} : pD.lt (x0, x1, x2, x3, x4, x5, x6, x7, x8, x9, x10, x11, x12, x13, x14, x15, x16, x17, x18, x19, x20, x21, x22, x23, x24, x25, x26) = x22 := rfl
theorem pD.it_mk {x0 : Nat} {x1 : Nat} {x2 : Nat} {x3 : Nat} {x4 : List Nat} {x5 : Nat} {x6 : Nat → Nat} {x7 : Nat → Nat} {x8 : Nat → Nat} {x9 : Nat → Nat} {x10 : Nat → Nat} {x11 : Nat} {x12 : Nat → Nat} {x13 : Nat → Nat} {x14 : Nat → Nat} {x15 : Nat → Nat} {x16 : Nat → Nat} {x17 : Nat} {x18 : Nat} {x19 : Nat} {x20 : Nat} {x21 : Nat} {x22 : Nat} {x23 : List Nat} {x24 : Nat} {x25 : Nat} {x26 : zS} : pD.it (x0, x1, x2, x3, x4, x5, x6, x7, x8, x9, x10, x11, x12, x13, x14, x15, x16, x17, x18, x19, x20, x21, x22, x23, x24, x25, x26) = x23 := rfl
theorem pD.z0_mk {x0 : Nat} {x1 : Nat} {x2 : Nat} {x3 : Nat} {x4 : List Nat} {x5 : Nat} {x6 : Nat → Nat} {x7 : Nat → Nat} {x8 : Nat → Nat} {x9 : Nat → Nat} {x10 : Nat → Nat} {x11 : Nat} {x12 : Nat → Nat} {x13 : Nat → Nat} {x14 : Nat → Nat} {x15 : Nat → Nat} {x16 : Nat → Nat} {x17 : Nat} {x18 : Nat} {x19 : Nat} {x20 : Nat} {x21 : Nat} {x22 : Nat} {x23 : List Nat} {x24 : Nat} {x25 : Nat} {x26 : zS} : pD.z0 (x0, x1, x2, x3, x4, x5, x6, x7, x8, x9, x10, x11, x12, x13, x14, x15, x16, x17, x18, x19, x20, x21, x22, x23, x24, x25, x26) = x24 := rfl
theorem pD.w0_mk {x0 : Nat} {x1 : Nat} {x2 : Nat} {x3 : Nat} {x4 : List Nat} {x5 : Nat} {x6 : Nat → Nat} {x7 : Nat → Nat} {x8 : Nat → Nat} {x9 : Nat → Nat} {x10 : Nat → Nat} {x11 : Nat} {x12 : Nat → Nat} {x13 : Nat → Nat} {x14 : Nat → Nat} {x15 : Nat → Nat} {x16 : Nat → Nat} {x17 : Nat} {x18 : Nat} {x19 : Nat} {x20 : Nat} {x21 : Nat} {x22 : Nat} {x23 : List Nat} {x24 : Nat} {x25 : Nat} {x26 : zS} : pD.w0 (x0, x1, x2, x3, x4, x5, x6, x7, x8, x9, x10, x11, x12, x13, x14, x15, x16, x17, x18, x19, x20, x21, x22, x23, x24, x25, x26) = x25 := rfl
theorem pD.a0_mk {x0 : Nat} {x1 : Nat} {x2 : Nat} {x3 : Nat} {x4 : List Nat} {x5 : Nat} {x6 : Nat → Nat} {x7 : Nat → Nat} {x8 : Nat → Nat} {x9 : Nat → Nat} {x10 : Nat → Nat} {x11 : Nat} {x12 : Nat → Nat} {x13 : Nat → Nat} {x14 : Nat → Nat} {x15 : Nat → Nat} {x16 : Nat → Nat} {x17 : Nat} {x18 : Nat} {x19 : Nat} {x20 : Nat} {x21 : Nat} {x22 : Nat} {x23 : List Nat} {x24 : Nat} {x25 : Nat} {x26 : zS} : pD.a0 (x0, x1, x2, x3, x4, x5, x6, x7, x8, x9, x10, x11, x12, x13, x14, x15, x16, x17, x18, x19, x20, x21, x22, x23, x24, x25, x26) = x26 := rfl
/-- a node or none -/
def pN (g : pG) (t : Nat) : Option Nat := if t = 0 then none else some (g.oa t)
/-- words, places, faults -/
def pV0 (c : pC) (D : pD) (B at' N F : Nat) (α : zS) (s : zM) : Prop := (c.n ≤ 505) ∧ (∀ i, i < c.n → c.ks i ≤ 5) ∧ (∀ i, i < c.n → c.vs i ≤ 99999) ∧ (∀ i, i < c.n → c.ks i = 1 → c.vs i < 900) ∧ (c.p ≤ B) ∧ (c.ka ≤ B) ∧ (c.va ≤ B) ∧ (B < zn α) ∧ (pxW c α) ∧ (mWd c s) ∧ (zI α 40 3 c.p = nI at') ∧ (ls s 41 = nI at') ∧ (at' ≤ c.n + 1) ∧ (ls s 8 = nI N) ∧ (1 ≤ N) ∧ (N ≤ 10 * at' + 1 + 70 * F) ∧ (zI α 40 7 c.p = nI F) ∧ (ls s 5 = nI F) ∧ (F ≤ 20) ∧ (zA α 40 9 c.p = some D.fa) ∧ (zA α 40 10 c.p = some D.fb) ∧ (zkd α D.fa = 1001) ∧ (zkd α D.fb = 1001) ∧ (zln α D.fa = 20) ∧ (zln α D.fb = 20) ∧ (D.fa ≤ B) ∧ (D.fb ≤ B) ∧ (D.fa ≠ D.fb ∧ D.fa ≠ c.ka ∧ D.fa ≠ c.va ∧ D.fb ≠ c.ka ∧ D.fb ≠ c.va) ∧ (∀ i, i < F → zaI α D.fa i = la s 6 i) ∧ (∀ i, i < F → zaI α D.fb i = la s 7 i) ∧ (zc α ≤ D.z0 + 40 * at' + 250 * F) ∧ (zw α ≤ D.w0 + 200 * at' + 1100 * F) ∧ (∀ q, q ≤ B → q ≠ c.p → q ≠ D.fa → q ≠ D.fb → q ≠ D.lu → q ≠ D.lr → α.2 q = D.a0.2 q) ∧ (zA α 40 14 c.p = zA D.a0 40 14 c.p) ∧ (ls s 19 = nI 0) ∧ (ls s 1 = nI 0)
theorem pV0.n {c : pC} {D : pD} {B at' N F : Nat} {α : zS} {s : zM} (h : pV0 c D B at' N F α s) : c.n ≤ 505 := by
  unfold pV0 at h
  exact h.1
theorem pV0.ks {c : pC} {D : pD} {B at' N F : Nat} {α : zS} {s : zM} (h : pV0 c D B at' N F α s) : ∀ i, i < c.n → c.ks i ≤ 5 := by
  unfold pV0 at h
  exact h.2.1
theorem pV0.vs {c : pC} {D : pD} {B at' N F : Nat} {α : zS} {s : zM} (h : pV0 c D B at' N F α s) : ∀ i, i < c.n → c.vs i ≤ 99999 := by
  unfold pV0 at h
  exact h.2.2.1
theorem pV0.nm {c : pC} {D : pD} {B at' N F : Nat} {α : zS} {s : zM} (h : pV0 c D B at' N F α s) : ∀ i, i < c.n → c.ks i = 1 → c.vs i < 900 := by
  unfold pV0 at h
  exact h.2.2.2.1
theorem pV0.p {c : pC} {D : pD} {B at' N F : Nat} {α : zS} {s : zM} (h : pV0 c D B at' N F α s) : c.p ≤ B := by
  unfold pV0 at h
  exact h.2.2.2.2.1
theorem pV0.ka {c : pC} {D : pD} {B at' N F : Nat} {α : zS} {s : zM} (h : pV0 c D B at' N F α s) : c.ka ≤ B := by
  unfold pV0 at h
  exact h.2.2.2.2.2.1
theorem pV0.va {c : pC} {D : pD} {B at' N F : Nat} {α : zS} {s : zM} (h : pV0 c D B at' N F α s) : c.va ≤ B := by
  unfold pV0 at h
  exact h.2.2.2.2.2.2.1
theorem pV0.B1 {c : pC} {D : pD} {B at' N F : Nat} {α : zS} {s : zM} (h : pV0 c D B at' N F α s) : B < zn α := by
  unfold pV0 at h
  exact h.2.2.2.2.2.2.2.1
theorem pV0.x {c : pC} {D : pD} {B at' N F : Nat} {α : zS} {s : zM} (h : pV0 c D B at' N F α s) : pxW c α := by
  unfold pV0 at h
  exact h.2.2.2.2.2.2.2.2.1
theorem pV0.m {c : pC} {D : pD} {B at' N F : Nat} {α : zS} {s : zM} (h : pV0 c D B at' N F α s) : mWd c s := by
  unfold pV0 at h
  exact h.2.2.2.2.2.2.2.2.2.1
theorem pV0.ax {c : pC} {D : pD} {B at' N F : Nat} {α : zS} {s : zM} (h : pV0 c D B at' N F α s) : zI α 40 3 c.p = nI at' := by
  unfold pV0 at h
  exact h.2.2.2.2.2.2.2.2.2.2.1
theorem pV0.am {c : pC} {D : pD} {B at' N F : Nat} {α : zS} {s : zM} (h : pV0 c D B at' N F α s) : ls s 41 = nI at' := by
  unfold pV0 at h
  exact h.2.2.2.2.2.2.2.2.2.2.2.1
theorem pV0.al {c : pC} {D : pD} {B at' N F : Nat} {α : zS} {s : zM} (h : pV0 c D B at' N F α s) : at' ≤ c.n + 1 := by
  unfold pV0 at h
  exact h.2.2.2.2.2.2.2.2.2.2.2.2.1
theorem pV0.Nm {c : pC} {D : pD} {B at' N F : Nat} {α : zS} {s : zM} (h : pV0 c D B at' N F α s) : ls s 8 = nI N := by
  unfold pV0 at h
  exact h.2.2.2.2.2.2.2.2.2.2.2.2.2.1
theorem pV0.N1 {c : pC} {D : pD} {B at' N F : Nat} {α : zS} {s : zM} (h : pV0 c D B at' N F α s) : 1 ≤ N := by
  unfold pV0 at h
  exact h.2.2.2.2.2.2.2.2.2.2.2.2.2.2.1
theorem pV0.N0 {c : pC} {D : pD} {B at' N F : Nat} {α : zS} {s : zM} (h : pV0 c D B at' N F α s) : N ≤ 10 * at' + 1 + 70 * F := by
  unfold pV0 at h
  exact h.2.2.2.2.2.2.2.2.2.2.2.2.2.2.2.1
theorem pV0.fx {c : pC} {D : pD} {B at' N F : Nat} {α : zS} {s : zM} (h : pV0 c D B at' N F α s) : zI α 40 7 c.p = nI F := by
  unfold pV0 at h
  exact h.2.2.2.2.2.2.2.2.2.2.2.2.2.2.2.2.1
theorem pV0.fm {c : pC} {D : pD} {B at' N F : Nat} {α : zS} {s : zM} (h : pV0 c D B at' N F α s) : ls s 5 = nI F := by
  unfold pV0 at h
  exact h.2.2.2.2.2.2.2.2.2.2.2.2.2.2.2.2.2.1
theorem pV0.f20 {c : pC} {D : pD} {B at' N F : Nat} {α : zS} {s : zM} (h : pV0 c D B at' N F α s) : F ≤ 20 := by
  unfold pV0 at h
  exact h.2.2.2.2.2.2.2.2.2.2.2.2.2.2.2.2.2.2.1
theorem pV0.fa {c : pC} {D : pD} {B at' N F : Nat} {α : zS} {s : zM} (h : pV0 c D B at' N F α s) : zA α 40 9 c.p = some D.fa := by
  unfold pV0 at h
  exact h.2.2.2.2.2.2.2.2.2.2.2.2.2.2.2.2.2.2.2.1
theorem pV0.fb {c : pC} {D : pD} {B at' N F : Nat} {α : zS} {s : zM} (h : pV0 c D B at' N F α s) : zA α 40 10 c.p = some D.fb := by
  unfold pV0 at h
  exact h.2.2.2.2.2.2.2.2.2.2.2.2.2.2.2.2.2.2.2.2.1
theorem pV0.ak {c : pC} {D : pD} {B at' N F : Nat} {α : zS} {s : zM} (h : pV0 c D B at' N F α s) : zkd α D.fa = 1001 := by
  unfold pV0 at h
  exact h.2.2.2.2.2.2.2.2.2.2.2.2.2.2.2.2.2.2.2.2.2.1
theorem pV0.bk {c : pC} {D : pD} {B at' N F : Nat} {α : zS} {s : zM} (h : pV0 c D B at' N F α s) : zkd α D.fb = 1001 := by
  unfold pV0 at h
  exact h.2.2.2.2.2.2.2.2.2.2.2.2.2.2.2.2.2.2.2.2.2.2.1
theorem pV0.an {c : pC} {D : pD} {B at' N F : Nat} {α : zS} {s : zM} (h : pV0 c D B at' N F α s) : zln α D.fa = 20 := by
  unfold pV0 at h
  exact h.2.2.2.2.2.2.2.2.2.2.2.2.2.2.2.2.2.2.2.2.2.2.2.1
theorem pV0.bn {c : pC} {D : pD} {B at' N F : Nat} {α : zS} {s : zM} (h : pV0 c D B at' N F α s) : zln α D.fb = 20 := by
  unfold pV0 at h
  exact h.2.2.2.2.2.2.2.2.2.2.2.2.2.2.2.2.2.2.2.2.2.2.2.2.1
theorem pV0.aB {c : pC} {D : pD} {B at' N F : Nat} {α : zS} {s : zM} (h : pV0 c D B at' N F α s) : D.fa ≤ B := by
  unfold pV0 at h
  exact h.2.2.2.2.2.2.2.2.2.2.2.2.2.2.2.2.2.2.2.2.2.2.2.2.2.1
theorem pV0.bB {c : pC} {D : pD} {B at' N F : Nat} {α : zS} {s : zM} (h : pV0 c D B at' N F α s) : D.fb ≤ B := by
  unfold pV0 at h
  exact h.2.2.2.2.2.2.2.2.2.2.2.2.2.2.2.2.2.2.2.2.2.2.2.2.2.2.1
theorem pV0.ne {c : pC} {D : pD} {B at' N F : Nat} {α : zS} {s : zM} (h : pV0 c D B at' N F α s) : D.fa ≠ D.fb ∧ D.fa ≠ c.ka ∧ D.fa ≠ c.va ∧ D.fb ≠ c.ka ∧ D.fb ≠ c.va := by
  unfold pV0 at h
  exact h.2.2.2.2.2.2.2.2.2.2.2.2.2.2.2.2.2.2.2.2.2.2.2.2.2.2.2.1
theorem pV0.ra {c : pC} {D : pD} {B at' N F : Nat} {α : zS} {s : zM} (h : pV0 c D B at' N F α s) : ∀ i, i < F → zaI α D.fa i = la s 6 i := by
  unfold pV0 at h
  exact h.2.2.2.2.2.2.2.2.2.2.2.2.2.2.2.2.2.2.2.2.2.2.2.2.2.2.2.2.1
theorem pV0.rb {c : pC} {D : pD} {B at' N F : Nat} {α : zS} {s : zM} (h : pV0 c D B at' N F α s) : ∀ i, i < F → zaI α D.fb i = la s 7 i := by
  unfold pV0 at h
  exact h.2.2.2.2.2.2.2.2.2.2.2.2.2.2.2.2.2.2.2.2.2.2.2.2.2.2.2.2.2.1
theorem pV0.zb {c : pC} {D : pD} {B at' N F : Nat} {α : zS} {s : zM} (h : pV0 c D B at' N F α s) : zc α ≤ D.z0 + 40 * at' + 250 * F := by
  unfold pV0 at h
  exact h.2.2.2.2.2.2.2.2.2.2.2.2.2.2.2.2.2.2.2.2.2.2.2.2.2.2.2.2.2.2.1
theorem pV0.wb {c : pC} {D : pD} {B at' N F : Nat} {α : zS} {s : zM} (h : pV0 c D B at' N F α s) : zw α ≤ D.w0 + 200 * at' + 1100 * F := by
  unfold pV0 at h
  exact h.2.2.2.2.2.2.2.2.2.2.2.2.2.2.2.2.2.2.2.2.2.2.2.2.2.2.2.2.2.2.2.1
theorem pV0.fr {c : pC} {D : pD} {B at' N F : Nat} {α : zS} {s : zM} (h : pV0 c D B at' N F α s) : ∀ q, q ≤ B → q ≠ c.p → q ≠ D.fa → q ≠ D.fb → q ≠ D.lu → q ≠ D.lr → α.2 q = D.a0.2 q := by
  unfold pV0 at h
  exact h.2.2.2.2.2.2.2.2.2.2.2.2.2.2.2.2.2.2.2.2.2.2.2.2.2.2.2.2.2.2.2.2.1
theorem pV0.fe {c : pC} {D : pD} {B at' N F : Nat} {α : zS} {s : zM} (h : pV0 c D B at' N F α s) : zA α 40 14 c.p = zA D.a0 40 14 c.p := by
  unfold pV0 at h
  exact h.2.2.2.2.2.2.2.2.2.2.2.2.2.2.2.2.2.2.2.2.2.2.2.2.2.2.2.2.2.2.2.2.2.1
theorem pV0.t19 {c : pC} {D : pD} {B at' N F : Nat} {α : zS} {s : zM} (h : pV0 c D B at' N F α s) : ls s 19 = nI 0 := by
  unfold pV0 at h
  exact h.2.2.2.2.2.2.2.2.2.2.2.2.2.2.2.2.2.2.2.2.2.2.2.2.2.2.2.2.2.2.2.2.2.2.1
theorem pV0.t1 {c : pC} {D : pD} {B at' N F : Nat} {α : zS} {s : zM} (h : pV0 c D B at' N F α s) : ls s 1 = nI 0 := by
  unfold pV0 at h
  exact h.2.2.2.2.2.2.2.2.2.2.2.2.2.2.2.2.2.2.2.2.2.2.2.2.2.2.2.2.2.2.2.2.2.2.2
theorem pV0.mk {c : pC} {D : pD} {B at' N F : Nat} {α : zS} {s : zM} (x0 : c.n ≤ 505) (x1 : ∀ i, i < c.n → c.ks i ≤ 5) (x2 : ∀ i, i < c.n → c.vs i ≤ 99999) (x3 : ∀ i, i < c.n → c.ks i = 1 → c.vs i < 900) (x4 : c.p ≤ B) (x5 : c.ka ≤ B) (x6 : c.va ≤ B) (x7 : B < zn α) (x8 : pxW c α) (x9 : mWd c s) (x10 : zI α 40 3 c.p = nI at') (x11 : ls s 41 = nI at') (x12 : at' ≤ c.n + 1) (x13 : ls s 8 = nI N) (x14 : 1 ≤ N) (x15 : N ≤ 10 * at' + 1 + 70 * F) (x16 : zI α 40 7 c.p = nI F) (x17 : ls s 5 = nI F) (x18 : F ≤ 20) (x19 : zA α 40 9 c.p = some D.fa) (x20 : zA α 40 10 c.p = some D.fb) (x21 : zkd α D.fa = 1001) (x22 : zkd α D.fb = 1001) (x23 : zln α D.fa = 20) (x24 : zln α D.fb = 20) (x25 : D.fa ≤ B) (x26 : D.fb ≤ B) (x27 : D.fa ≠ D.fb ∧ D.fa ≠ c.ka ∧ D.fa ≠ c.va ∧ D.fb ≠ c.ka ∧ D.fb ≠ c.va) (x28 : ∀ i, i < F → zaI α D.fa i = la s 6 i) (x29 : ∀ i, i < F → zaI α D.fb i = la s 7 i) (x30 : zc α ≤ D.z0 + 40 * at' + 250 * F) (x31 : zw α ≤ D.w0 + 200 * at' + 1100 * F) (x32 : ∀ q, q ≤ B → q ≠ c.p → q ≠ D.fa → q ≠ D.fb → q ≠ D.lu → q ≠ D.lr → α.2 q = D.a0.2 q) (x33 : zA α 40 14 c.p = zA D.a0 40 14 c.p) (x34 : ls s 19 = nI 0) (x35 : ls s 1 = nI 0) : pV0 c D B at' N F α s := by
  unfold pV0
  exact ⟨x0, x1, x2, x3, x4, x5, x6, x7, x8, x9, x10, x11, x12, x13, x14, x15, x16, x17, x18, x19, x20, x21, x22, x23, x24, x25, x26, x27, x28, x29, x30, x31, x32, x33, x34, x35⟩
/-- a unit -/
def uOk (D : pD) (L : Nat → Prop) (B : Nat) (g : pG) (α : zS) (s : zM) (k : Nat) : Prop := (B < D.ou k) ∧ (D.ou k + 1 < zn α) ∧ (zkd α (D.ou k) = 44) ∧ (zA α 43 13 (D.ou k) = some (D.ou k + 1)) ∧ (zkd α (D.ou k + 1) = 3) ∧ (zA α 43 1 (D.ou k) = some (g.oa (D.un k))) ∧ (zA α 43 4 (D.ou k) = pN g (D.en k)) ∧ (zA α 43 5 (D.ou k) = pN g (D.da k)) ∧ (zA α 43 8 (D.ou k) = pN g (D.pr k)) ∧ (la s 22 k = nI (D.un k)) ∧ (la s 23 k = nI (D.en k)) ∧ (la s 24 k = nI (D.da k)) ∧ (la s 25 k = nI (D.pr k)) ∧ (L (D.un k)) ∧ (D.en k = 0 ∨ L (D.en k)) ∧ (D.da k = 0 ∨ L (D.da k)) ∧ (D.pr k = 0 ∨ L (D.pr k))
theorem uOk.lo {D : pD} {L : Nat → Prop} {B : Nat} {g : pG} {α : zS} {s : zM} {k : Nat} (h : uOk D L B g α s k) : B < D.ou k := by
  unfold uOk at h
  exact h.1
theorem uOk.hi {D : pD} {L : Nat → Prop} {B : Nat} {g : pG} {α : zS} {s : zM} {k : Nat} (h : uOk D L B g α s k) : D.ou k + 1 < zn α := by
  unfold uOk at h
  exact h.2.1
theorem uOk.kn {D : pD} {L : Nat → Prop} {B : Nat} {g : pG} {α : zS} {s : zM} {k : Nat} (h : uOk D L B g α s k) : zkd α (D.ou k) = 44 := by
  unfold uOk at h
  exact h.2.2.1
theorem uOk.fl {D : pD} {L : Nat → Prop} {B : Nat} {g : pG} {α : zS} {s : zM} {k : Nat} (h : uOk D L B g α s k) : zA α 43 13 (D.ou k) = some (D.ou k + 1) := by
  unfold uOk at h
  exact h.2.2.2.1
theorem uOk.kl {D : pD} {L : Nat → Prop} {B : Nat} {g : pG} {α : zS} {s : zM} {k : Nat} (h : uOk D L B g α s k) : zkd α (D.ou k + 1) = 3 := by
  unfold uOk at h
  exact h.2.2.2.2.1
theorem uOk.xu {D : pD} {L : Nat → Prop} {B : Nat} {g : pG} {α : zS} {s : zM} {k : Nat} (h : uOk D L B g α s k) : zA α 43 1 (D.ou k) = some (g.oa (D.un k)) := by
  unfold uOk at h
  exact h.2.2.2.2.2.1
theorem uOk.xe {D : pD} {L : Nat → Prop} {B : Nat} {g : pG} {α : zS} {s : zM} {k : Nat} (h : uOk D L B g α s k) : zA α 43 4 (D.ou k) = pN g (D.en k) := by
  unfold uOk at h
  exact h.2.2.2.2.2.2.1
theorem uOk.xd {D : pD} {L : Nat → Prop} {B : Nat} {g : pG} {α : zS} {s : zM} {k : Nat} (h : uOk D L B g α s k) : zA α 43 5 (D.ou k) = pN g (D.da k) := by
  unfold uOk at h
  exact h.2.2.2.2.2.2.2.1
theorem uOk.xp {D : pD} {L : Nat → Prop} {B : Nat} {g : pG} {α : zS} {s : zM} {k : Nat} (h : uOk D L B g α s k) : zA α 43 8 (D.ou k) = pN g (D.pr k) := by
  unfold uOk at h
  exact h.2.2.2.2.2.2.2.2.1
theorem uOk.mu {D : pD} {L : Nat → Prop} {B : Nat} {g : pG} {α : zS} {s : zM} {k : Nat} (h : uOk D L B g α s k) : la s 22 k = nI (D.un k) := by
  unfold uOk at h
  exact h.2.2.2.2.2.2.2.2.2.1
theorem uOk.me {D : pD} {L : Nat → Prop} {B : Nat} {g : pG} {α : zS} {s : zM} {k : Nat} (h : uOk D L B g α s k) : la s 23 k = nI (D.en k) := by
  unfold uOk at h
  exact h.2.2.2.2.2.2.2.2.2.2.1
theorem uOk.md {D : pD} {L : Nat → Prop} {B : Nat} {g : pG} {α : zS} {s : zM} {k : Nat} (h : uOk D L B g α s k) : la s 24 k = nI (D.da k) := by
  unfold uOk at h
  exact h.2.2.2.2.2.2.2.2.2.2.2.1
theorem uOk.mp {D : pD} {L : Nat → Prop} {B : Nat} {g : pG} {α : zS} {s : zM} {k : Nat} (h : uOk D L B g α s k) : la s 25 k = nI (D.pr k) := by
  unfold uOk at h
  exact h.2.2.2.2.2.2.2.2.2.2.2.2.1
theorem uOk.lu {D : pD} {L : Nat → Prop} {B : Nat} {g : pG} {α : zS} {s : zM} {k : Nat} (h : uOk D L B g α s k) : L (D.un k) := by
  unfold uOk at h
  exact h.2.2.2.2.2.2.2.2.2.2.2.2.2.1
theorem uOk.le {D : pD} {L : Nat → Prop} {B : Nat} {g : pG} {α : zS} {s : zM} {k : Nat} (h : uOk D L B g α s k) : D.en k = 0 ∨ L (D.en k) := by
  unfold uOk at h
  exact h.2.2.2.2.2.2.2.2.2.2.2.2.2.2.1
theorem uOk.ld {D : pD} {L : Nat → Prop} {B : Nat} {g : pG} {α : zS} {s : zM} {k : Nat} (h : uOk D L B g α s k) : D.da k = 0 ∨ L (D.da k) := by
  unfold uOk at h
  exact h.2.2.2.2.2.2.2.2.2.2.2.2.2.2.2.1
theorem uOk.lp {D : pD} {L : Nat → Prop} {B : Nat} {g : pG} {α : zS} {s : zM} {k : Nat} (h : uOk D L B g α s k) : D.pr k = 0 ∨ L (D.pr k) := by
  unfold uOk at h
  exact h.2.2.2.2.2.2.2.2.2.2.2.2.2.2.2.2
theorem uOk.mk {D : pD} {L : Nat → Prop} {B : Nat} {g : pG} {α : zS} {s : zM} {k : Nat} (x0 : B < D.ou k) (x1 : D.ou k + 1 < zn α) (x2 : zkd α (D.ou k) = 44) (x3 : zA α 43 13 (D.ou k) = some (D.ou k + 1)) (x4 : zkd α (D.ou k + 1) = 3) (x5 : zA α 43 1 (D.ou k) = some (g.oa (D.un k))) (x6 : zA α 43 4 (D.ou k) = pN g (D.en k)) (x7 : zA α 43 5 (D.ou k) = pN g (D.da k)) (x8 : zA α 43 8 (D.ou k) = pN g (D.pr k)) (x9 : la s 22 k = nI (D.un k)) (x10 : la s 23 k = nI (D.en k)) (x11 : la s 24 k = nI (D.da k)) (x12 : la s 25 k = nI (D.pr k)) (x13 : L (D.un k)) (x14 : D.en k = 0 ∨ L (D.en k)) (x15 : D.da k = 0 ∨ L (D.da k)) (x16 : D.pr k = 0 ∨ L (D.pr k)) : uOk D L B g α s k := by
  unfold uOk
  exact ⟨x0, x1, x2, x3, x4, x5, x6, x7, x8, x9, x10, x11, x12, x13, x14, x15, x16⟩
/-- an open unit -/
def oOk (D : pD) (g : pG) (α : zS) (s : zM) (i : Nat) : Prop := (D.os i < D.nu) ∧ (zA α 43 0 (D.ou (D.os i)) = if i = 0 then none else some (D.ou (D.os (i - 1)))) ∧ (zI α 43 2 (D.ou (D.os i)) = nI (D.hd i)) ∧ (zI α 43 3 (D.ou (D.os i)) = nI (D.st i)) ∧ (la s 27 i = nI (D.st i)) ∧ (la s 29 i = nI (D.os i)) ∧ (la s 30 i = nI (D.fu i)) ∧ (la s 31 i = nI (D.hd i)) ∧ (D.st i ≠ 0 → la s 28 i = nI (D.nm i)) ∧ (la s 9 (D.un (D.os i)) = nI (1 + D.fu i)) ∧ (D.st i ≠ 0 → la s 10 (D.un (D.os i)) = nI (D.nm i)) ∧ (D.st i ≤ 12) ∧ (D.fu i ≤ 1) ∧ (D.hd i ≤ 1) ∧ (D.nm i ≤ 99999) ∧ (g.r (D.un (D.os i)) = 10000000 * (12 - i))
theorem oOk.u {D : pD} {g : pG} {α : zS} {s : zM} {i : Nat} (h : oOk D g α s i) : D.os i < D.nu := by
  unfold oOk at h
  exact h.1
theorem oOk.up {D : pD} {g : pG} {α : zS} {s : zM} {i : Nat} (h : oOk D g α s i) : zA α 43 0 (D.ou (D.os i)) = if i = 0 then none else some (D.ou (D.os (i - 1))) := by
  unfold oOk at h
  exact h.2.1
theorem oOk.xh {D : pD} {g : pG} {α : zS} {s : zM} {i : Nat} (h : oOk D g α s i) : zI α 43 2 (D.ou (D.os i)) = nI (D.hd i) := by
  unfold oOk at h
  exact h.2.2.1
theorem oOk.xs {D : pD} {g : pG} {α : zS} {s : zM} {i : Nat} (h : oOk D g α s i) : zI α 43 3 (D.ou (D.os i)) = nI (D.st i) := by
  unfold oOk at h
  exact h.2.2.2.1
theorem oOk.ms {D : pD} {g : pG} {α : zS} {s : zM} {i : Nat} (h : oOk D g α s i) : la s 27 i = nI (D.st i) := by
  unfold oOk at h
  exact h.2.2.2.2.1
theorem oOk.mo {D : pD} {g : pG} {α : zS} {s : zM} {i : Nat} (h : oOk D g α s i) : la s 29 i = nI (D.os i) := by
  unfold oOk at h
  exact h.2.2.2.2.2.1
theorem oOk.mf {D : pD} {g : pG} {α : zS} {s : zM} {i : Nat} (h : oOk D g α s i) : la s 30 i = nI (D.fu i) := by
  unfold oOk at h
  exact h.2.2.2.2.2.2.1
theorem oOk.mh {D : pD} {g : pG} {α : zS} {s : zM} {i : Nat} (h : oOk D g α s i) : la s 31 i = nI (D.hd i) := by
  unfold oOk at h
  exact h.2.2.2.2.2.2.2.1
theorem oOk.mn {D : pD} {g : pG} {α : zS} {s : zM} {i : Nat} (h : oOk D g α s i) : D.st i ≠ 0 → la s 28 i = nI (D.nm i) := by
  unfold oOk at h
  exact h.2.2.2.2.2.2.2.2.1
theorem oOk.kd {D : pD} {g : pG} {α : zS} {s : zM} {i : Nat} (h : oOk D g α s i) : la s 9 (D.un (D.os i)) = nI (1 + D.fu i) := by
  unfold oOk at h
  exact h.2.2.2.2.2.2.2.2.2.1
theorem oOk.vl {D : pD} {g : pG} {α : zS} {s : zM} {i : Nat} (h : oOk D g α s i) : D.st i ≠ 0 → la s 10 (D.un (D.os i)) = nI (D.nm i) := by
  unfold oOk at h
  exact h.2.2.2.2.2.2.2.2.2.2.1
theorem oOk.s12 {D : pD} {g : pG} {α : zS} {s : zM} {i : Nat} (h : oOk D g α s i) : D.st i ≤ 12 := by
  unfold oOk at h
  exact h.2.2.2.2.2.2.2.2.2.2.2.1
theorem oOk.f1 {D : pD} {g : pG} {α : zS} {s : zM} {i : Nat} (h : oOk D g α s i) : D.fu i ≤ 1 := by
  unfold oOk at h
  exact h.2.2.2.2.2.2.2.2.2.2.2.2.1
theorem oOk.h1 {D : pD} {g : pG} {α : zS} {s : zM} {i : Nat} (h : oOk D g α s i) : D.hd i ≤ 1 := by
  unfold oOk at h
  exact h.2.2.2.2.2.2.2.2.2.2.2.2.2.1
theorem oOk.nb {D : pD} {g : pG} {α : zS} {s : zM} {i : Nat} (h : oOk D g α s i) : D.nm i ≤ 99999 := by
  unfold oOk at h
  exact h.2.2.2.2.2.2.2.2.2.2.2.2.2.2.1
theorem oOk.rk {D : pD} {g : pG} {α : zS} {s : zM} {i : Nat} (h : oOk D g α s i) : g.r (D.un (D.os i)) = 10000000 * (12 - i) := by
  unfold oOk at h
  exact h.2.2.2.2.2.2.2.2.2.2.2.2.2.2.2
theorem oOk.mk {D : pD} {g : pG} {α : zS} {s : zM} {i : Nat} (x0 : D.os i < D.nu) (x1 : zA α 43 0 (D.ou (D.os i)) = if i = 0 then none else some (D.ou (D.os (i - 1)))) (x2 : zI α 43 2 (D.ou (D.os i)) = nI (D.hd i)) (x3 : zI α 43 3 (D.ou (D.os i)) = nI (D.st i)) (x4 : la s 27 i = nI (D.st i)) (x5 : la s 29 i = nI (D.os i)) (x6 : la s 30 i = nI (D.fu i)) (x7 : la s 31 i = nI (D.hd i)) (x8 : D.st i ≠ 0 → la s 28 i = nI (D.nm i)) (x9 : la s 9 (D.un (D.os i)) = nI (1 + D.fu i)) (x10 : D.st i ≠ 0 → la s 10 (D.un (D.os i)) = nI (D.nm i)) (x11 : D.st i ≤ 12) (x12 : D.fu i ≤ 1) (x13 : D.hd i ≤ 1) (x14 : D.nm i ≤ 99999) (x15 : g.r (D.un (D.os i)) = 10000000 * (12 - i)) : oOk D g α s i := by
  unfold oOk
  exact ⟨x0, x1, x2, x3, x4, x5, x6, x7, x8, x9, x10, x11, x12, x13, x14, x15⟩
/-- what the innermost open unit (X's cell q, at state S) is at -/
def iOk (D : pD) (L : Nat → Prop) (g : pG) (α : zS) (s : zM) (q k S : Nat) : Prop := (2 ≤ S → S ≤ 2 → D.en k ≠ 0 ∧ g.r (D.en k) = 9000000) ∧ (3 ≤ S → S ≤ 7 → D.da k ≠ 0 ∧ g.r (D.da k) = 9000000) ∧ (8 ≤ S → S ≤ 11 → D.pr k ≠ 0 ∧ g.r (D.pr k) = 9000000) ∧ (4 ≤ S → S ≤ 5 → L D.fi ∧ zA α 43 6 q = some (g.oa D.fi) ∧ ls s 32 = nI D.fi ∧ g.r D.fi = 8000000) ∧ (5 ≤ S → S ≤ 7 → L D.ho ∧ zA α 43 7 q = some (g.oa D.ho) ∧ ls s 33 = nI D.ho ∧ 7000000 ≤ g.r D.ho) ∧ (5 ≤ S → S ≤ 7 → zA α 43 12 q = pN g D.lt ∧ ls s 38 = nI D.lt ∧ (D.lt = 0 ∨ (L D.lt ∧ 1000000 ≤ g.r D.lt))) ∧ (5 ≤ S → S ≤ 7 → ls s 37 = nI D.it.length ∧ zL α (q + 1) = D.it.map (fun u => some (g.oa u)) ∧ ∀ i, i < D.it.length → L (D.it.getD i 0) ∧ la s 40 i = nI (D.it.getD i 0) ∧ g.r (D.it.getD i 0) = 6000000 - 10000 * i ∧ ∃ v w, (v ≤ 49 ∨ v = 77 ∧ D.it.length = 1) ∧ i < v ∧ w < 1000 ∧ la s 39 i = nI v ∧ la s 10 (D.it.getD i 0) = nI (1000 * v + w) ∧ ∀ j, i < j → j < D.it.length → ∃ v', la s 39 j = nI v' ∧ v < v' ∧ v' < 100) ∧ (S = 9 → L D.de ∧ zA α 43 9 q = some (g.oa D.de) ∧ ls s 34 = nI D.de ∧ g.r D.de = 5000000) ∧ (8 ≤ S → S ≤ 11 → zA α 43 10 q = pN g D.se ∧ ls s 35 = nI D.se ∧ (D.se = 0 ∨ (L D.se ∧ g.r D.se = 4000000))) ∧ (8 ≤ S → S ≤ 11 → zA α 43 11 q = pN g D.pa ∧ ls s 36 = nI D.pa ∧ (D.pa = 0 ∨ (L D.pa ∧ g.r D.pa = 3000000))) ∧ (S < 8 → zA α 43 10 q = none ∧ zA α 43 11 q = none)
theorem iOk.en {D : pD} {L : Nat → Prop} {g : pG} {α : zS} {s : zM} {q k S : Nat} (h : iOk D L g α s q k S) : 2 ≤ S → S ≤ 2 → D.en k ≠ 0 ∧ g.r (D.en k) = 9000000 := by
  unfold iOk at h
  exact h.1
theorem iOk.da {D : pD} {L : Nat → Prop} {g : pG} {α : zS} {s : zM} {q k S : Nat} (h : iOk D L g α s q k S) : 3 ≤ S → S ≤ 7 → D.da k ≠ 0 ∧ g.r (D.da k) = 9000000 := by
  unfold iOk at h
  exact h.2.1
theorem iOk.pr {D : pD} {L : Nat → Prop} {g : pG} {α : zS} {s : zM} {q k S : Nat} (h : iOk D L g α s q k S) : 8 ≤ S → S ≤ 11 → D.pr k ≠ 0 ∧ g.r (D.pr k) = 9000000 := by
  unfold iOk at h
  exact h.2.2.1
theorem iOk.fi {D : pD} {L : Nat → Prop} {g : pG} {α : zS} {s : zM} {q k S : Nat} (h : iOk D L g α s q k S) : 4 ≤ S → S ≤ 5 → L D.fi ∧ zA α 43 6 q = some (g.oa D.fi) ∧ ls s 32 = nI D.fi ∧ g.r D.fi = 8000000 := by
  unfold iOk at h
  exact h.2.2.2.1
theorem iOk.ho {D : pD} {L : Nat → Prop} {g : pG} {α : zS} {s : zM} {q k S : Nat} (h : iOk D L g α s q k S) : 5 ≤ S → S ≤ 7 → L D.ho ∧ zA α 43 7 q = some (g.oa D.ho) ∧ ls s 33 = nI D.ho ∧ 7000000 ≤ g.r D.ho := by
  unfold iOk at h
  exact h.2.2.2.2.1
theorem iOk.lt {D : pD} {L : Nat → Prop} {g : pG} {α : zS} {s : zM} {q k S : Nat} (h : iOk D L g α s q k S) : 5 ≤ S → S ≤ 7 → zA α 43 12 q = pN g D.lt ∧ ls s 38 = nI D.lt ∧ (D.lt = 0 ∨ (L D.lt ∧ 1000000 ≤ g.r D.lt)) := by
  unfold iOk at h
  exact h.2.2.2.2.2.1
theorem iOk.it {D : pD} {L : Nat → Prop} {g : pG} {α : zS} {s : zM} {q k S : Nat} (h : iOk D L g α s q k S) : 5 ≤ S → S ≤ 7 → ls s 37 = nI D.it.length ∧ zL α (q + 1) = D.it.map (fun u => some (g.oa u)) ∧ ∀ i, i < D.it.length → L (D.it.getD i 0) ∧ la s 40 i = nI (D.it.getD i 0) ∧ g.r (D.it.getD i 0) = 6000000 - 10000 * i ∧ ∃ v w, (v ≤ 49 ∨ v = 77 ∧ D.it.length = 1) ∧ i < v ∧ w < 1000 ∧ la s 39 i = nI v ∧ la s 10 (D.it.getD i 0) = nI (1000 * v + w) ∧ ∀ j, i < j → j < D.it.length → ∃ v', la s 39 j = nI v' ∧ v < v' ∧ v' < 100 := by
  unfold iOk at h
  exact h.2.2.2.2.2.2.1
theorem iOk.de {D : pD} {L : Nat → Prop} {g : pG} {α : zS} {s : zM} {q k S : Nat} (h : iOk D L g α s q k S) : S = 9 → L D.de ∧ zA α 43 9 q = some (g.oa D.de) ∧ ls s 34 = nI D.de ∧ g.r D.de = 5000000 := by
  unfold iOk at h
  exact h.2.2.2.2.2.2.2.1
theorem iOk.se {D : pD} {L : Nat → Prop} {g : pG} {α : zS} {s : zM} {q k S : Nat} (h : iOk D L g α s q k S) : 8 ≤ S → S ≤ 11 → zA α 43 10 q = pN g D.se ∧ ls s 35 = nI D.se ∧ (D.se = 0 ∨ (L D.se ∧ g.r D.se = 4000000)) := by
  unfold iOk at h
  exact h.2.2.2.2.2.2.2.2.1
theorem iOk.pa {D : pD} {L : Nat → Prop} {g : pG} {α : zS} {s : zM} {q k S : Nat} (h : iOk D L g α s q k S) : 8 ≤ S → S ≤ 11 → zA α 43 11 q = pN g D.pa ∧ ls s 36 = nI D.pa ∧ (D.pa = 0 ∨ (L D.pa ∧ g.r D.pa = 3000000)) := by
  unfold iOk at h
  exact h.2.2.2.2.2.2.2.2.2.1
theorem iOk.s8 {D : pD} {L : Nat → Prop} {g : pG} {α : zS} {s : zM} {q k S : Nat} (h : iOk D L g α s q k S) : S < 8 → zA α 43 10 q = none ∧ zA α 43 11 q = none := by
  unfold iOk at h
  exact h.2.2.2.2.2.2.2.2.2.2
theorem iOk.mk {D : pD} {L : Nat → Prop} {g : pG} {α : zS} {s : zM} {q k S : Nat} (x0 : 2 ≤ S → S ≤ 2 → D.en k ≠ 0 ∧ g.r (D.en k) = 9000000) (x1 : 3 ≤ S → S ≤ 7 → D.da k ≠ 0 ∧ g.r (D.da k) = 9000000) (x2 : 8 ≤ S → S ≤ 11 → D.pr k ≠ 0 ∧ g.r (D.pr k) = 9000000) (x3 : 4 ≤ S → S ≤ 5 → L D.fi ∧ zA α 43 6 q = some (g.oa D.fi) ∧ ls s 32 = nI D.fi ∧ g.r D.fi = 8000000) (x4 : 5 ≤ S → S ≤ 7 → L D.ho ∧ zA α 43 7 q = some (g.oa D.ho) ∧ ls s 33 = nI D.ho ∧ 7000000 ≤ g.r D.ho) (x5 : 5 ≤ S → S ≤ 7 → zA α 43 12 q = pN g D.lt ∧ ls s 38 = nI D.lt ∧ (D.lt = 0 ∨ (L D.lt ∧ 1000000 ≤ g.r D.lt))) (x6 : 5 ≤ S → S ≤ 7 → ls s 37 = nI D.it.length ∧ zL α (q + 1) = D.it.map (fun u => some (g.oa u)) ∧ ∀ i, i < D.it.length → L (D.it.getD i 0) ∧ la s 40 i = nI (D.it.getD i 0) ∧ g.r (D.it.getD i 0) = 6000000 - 10000 * i ∧ ∃ v w, (v ≤ 49 ∨ v = 77 ∧ D.it.length = 1) ∧ i < v ∧ w < 1000 ∧ la s 39 i = nI v ∧ la s 10 (D.it.getD i 0) = nI (1000 * v + w) ∧ ∀ j, i < j → j < D.it.length → ∃ v', la s 39 j = nI v' ∧ v < v' ∧ v' < 100) (x7 : S = 9 → L D.de ∧ zA α 43 9 q = some (g.oa D.de) ∧ ls s 34 = nI D.de ∧ g.r D.de = 5000000) (x8 : 8 ≤ S → S ≤ 11 → zA α 43 10 q = pN g D.se ∧ ls s 35 = nI D.se ∧ (D.se = 0 ∨ (L D.se ∧ g.r D.se = 4000000))) (x9 : 8 ≤ S → S ≤ 11 → zA α 43 11 q = pN g D.pa ∧ ls s 36 = nI D.pa ∧ (D.pa = 0 ∨ (L D.pa ∧ g.r D.pa = 3000000))) (x10 : S < 8 → zA α 43 10 q = none ∧ zA α 43 11 q = none) : iOk D L g α s q k S := by
  unfold iOk
  exact ⟨x0, x1, x2, x3, x4, x5, x6, x7, x8, x9, x10⟩
/-- both sides between clauses -/
def pV (c : pC) (D : pD) (L : Nat → Prop) (B at' N F : Nat) (g : pG) (α : zS) (s : zM) : Prop := (pV0 c D B at' N F α s) ∧ (gW L N B g α s) ∧ (zA α 40 11 c.p = if D.dp = 0 then none else some (D.ou (D.os (D.dp - 1)))) ∧ (zI α 40 8 c.p = nI D.dp) ∧ (ls s 26 = nI D.dp) ∧ (D.dp ≤ 10) ∧ (ls s 20 = nI D.nu) ∧ (3 * D.nu ≤ at') ∧ (zA α 40 12 c.p = some D.lu) ∧ (zA α 40 13 c.p = some D.lr) ∧ (zkd α D.lu = 3) ∧ (zkd α D.lr = 3) ∧ (D.lu ≤ B) ∧ (D.lr ≤ B) ∧ (D.lu ≠ D.lr) ∧ (zL α D.lu = (List.range D.nu).map fun k => some (D.ou k)) ∧ (zL α D.lr = D.rt.map fun u => some (g.oa u)) ∧ (la s 13 0 = nI (D.rt.headD 0)) ∧ (la s 14 0 = nI (D.rt.getLastD 0)) ∧ (pCh (la s 15) D.rt) ∧ (∀ u, u ∈ D.rt → L u ∧ zA α 44 6 (g.oa u) = none ∧ la s 16 u = nI 0) ∧ (D.rt.Nodup) ∧ (∀ k, k < D.nu → uOk D L B g α s k) ∧ (∀ j k, j < D.nu → k < D.nu → D.ou j = D.ou k → j = k) ∧ (∀ i, i < D.dp → oOk D g α s i) ∧ (∀ i j, i < D.dp → j < D.dp → D.os i = D.os j → i = j) ∧ (∀ j, j + 1 < D.dp → D.st j = 12) ∧ (D.dp ≠ 0 → iOk D L g α s (D.ou (D.os (D.dp - 1))) (D.os (D.dp - 1)) (D.st (D.dp - 1)))
theorem pV.o {c : pC} {D : pD} {L : Nat → Prop} {B at' N F : Nat} {g : pG} {α : zS} {s : zM} (h : pV c D L B at' N F g α s) : pV0 c D B at' N F α s := by
  unfold pV at h
  exact h.1
theorem pV.g {c : pC} {D : pD} {L : Nat → Prop} {B at' N F : Nat} {g : pG} {α : zS} {s : zM} (h : pV c D L B at' N F g α s) : gW L N B g α s := by
  unfold pV at h
  exact h.2.1
theorem pV.cu {c : pC} {D : pD} {L : Nat → Prop} {B at' N F : Nat} {g : pG} {α : zS} {s : zM} (h : pV c D L B at' N F g α s) : zA α 40 11 c.p = if D.dp = 0 then none else some (D.ou (D.os (D.dp - 1))) := by
  unfold pV at h
  exact h.2.2.1
theorem pV.dx {c : pC} {D : pD} {L : Nat → Prop} {B at' N F : Nat} {g : pG} {α : zS} {s : zM} (h : pV c D L B at' N F g α s) : zI α 40 8 c.p = nI D.dp := by
  unfold pV at h
  exact h.2.2.2.1
theorem pV.dm {c : pC} {D : pD} {L : Nat → Prop} {B at' N F : Nat} {g : pG} {α : zS} {s : zM} (h : pV c D L B at' N F g α s) : ls s 26 = nI D.dp := by
  unfold pV at h
  exact h.2.2.2.2.1
theorem pV.d10 {c : pC} {D : pD} {L : Nat → Prop} {B at' N F : Nat} {g : pG} {α : zS} {s : zM} (h : pV c D L B at' N F g α s) : D.dp ≤ 10 := by
  unfold pV at h
  exact h.2.2.2.2.2.1
theorem pV.nm {c : pC} {D : pD} {L : Nat → Prop} {B at' N F : Nat} {g : pG} {α : zS} {s : zM} (h : pV c D L B at' N F g α s) : ls s 20 = nI D.nu := by
  unfold pV at h
  exact h.2.2.2.2.2.2.1
theorem pV.nb {c : pC} {D : pD} {L : Nat → Prop} {B at' N F : Nat} {g : pG} {α : zS} {s : zM} (h : pV c D L B at' N F g α s) : 3 * D.nu ≤ at' := by
  unfold pV at h
  exact h.2.2.2.2.2.2.2.1
theorem pV.lu {c : pC} {D : pD} {L : Nat → Prop} {B at' N F : Nat} {g : pG} {α : zS} {s : zM} (h : pV c D L B at' N F g α s) : zA α 40 12 c.p = some D.lu := by
  unfold pV at h
  exact h.2.2.2.2.2.2.2.2.1
theorem pV.lr {c : pC} {D : pD} {L : Nat → Prop} {B at' N F : Nat} {g : pG} {α : zS} {s : zM} (h : pV c D L B at' N F g α s) : zA α 40 13 c.p = some D.lr := by
  unfold pV at h
  exact h.2.2.2.2.2.2.2.2.2.1
theorem pV.uk {c : pC} {D : pD} {L : Nat → Prop} {B at' N F : Nat} {g : pG} {α : zS} {s : zM} (h : pV c D L B at' N F g α s) : zkd α D.lu = 3 := by
  unfold pV at h
  exact h.2.2.2.2.2.2.2.2.2.2.1
theorem pV.rk {c : pC} {D : pD} {L : Nat → Prop} {B at' N F : Nat} {g : pG} {α : zS} {s : zM} (h : pV c D L B at' N F g α s) : zkd α D.lr = 3 := by
  unfold pV at h
  exact h.2.2.2.2.2.2.2.2.2.2.2.1
theorem pV.uB {c : pC} {D : pD} {L : Nat → Prop} {B at' N F : Nat} {g : pG} {α : zS} {s : zM} (h : pV c D L B at' N F g α s) : D.lu ≤ B := by
  unfold pV at h
  exact h.2.2.2.2.2.2.2.2.2.2.2.2.1
theorem pV.rB {c : pC} {D : pD} {L : Nat → Prop} {B at' N F : Nat} {g : pG} {α : zS} {s : zM} (h : pV c D L B at' N F g α s) : D.lr ≤ B := by
  unfold pV at h
  exact h.2.2.2.2.2.2.2.2.2.2.2.2.2.1
theorem pV.ne {c : pC} {D : pD} {L : Nat → Prop} {B at' N F : Nat} {g : pG} {α : zS} {s : zM} (h : pV c D L B at' N F g α s) : D.lu ≠ D.lr := by
  unfold pV at h
  exact h.2.2.2.2.2.2.2.2.2.2.2.2.2.2.1
theorem pV.ul {c : pC} {D : pD} {L : Nat → Prop} {B at' N F : Nat} {g : pG} {α : zS} {s : zM} (h : pV c D L B at' N F g α s) : zL α D.lu = (List.range D.nu).map fun k => some (D.ou k) := by
  unfold pV at h
  exact h.2.2.2.2.2.2.2.2.2.2.2.2.2.2.2.1
theorem pV.rl {c : pC} {D : pD} {L : Nat → Prop} {B at' N F : Nat} {g : pG} {α : zS} {s : zM} (h : pV c D L B at' N F g α s) : zL α D.lr = D.rt.map fun u => some (g.oa u) := by
  unfold pV at h
  exact h.2.2.2.2.2.2.2.2.2.2.2.2.2.2.2.2.1
theorem pV.rh {c : pC} {D : pD} {L : Nat → Prop} {B at' N F : Nat} {g : pG} {α : zS} {s : zM} (h : pV c D L B at' N F g α s) : la s 13 0 = nI (D.rt.headD 0) := by
  unfold pV at h
  exact h.2.2.2.2.2.2.2.2.2.2.2.2.2.2.2.2.2.1
theorem pV.rz {c : pC} {D : pD} {L : Nat → Prop} {B at' N F : Nat} {g : pG} {α : zS} {s : zM} (h : pV c D L B at' N F g α s) : la s 14 0 = nI (D.rt.getLastD 0) := by
  unfold pV at h
  exact h.2.2.2.2.2.2.2.2.2.2.2.2.2.2.2.2.2.2.1
theorem pV.rx {c : pC} {D : pD} {L : Nat → Prop} {B at' N F : Nat} {g : pG} {α : zS} {s : zM} (h : pV c D L B at' N F g α s) : pCh (la s 15) D.rt := by
  unfold pV at h
  exact h.2.2.2.2.2.2.2.2.2.2.2.2.2.2.2.2.2.2.2.1
theorem pV.rm {c : pC} {D : pD} {L : Nat → Prop} {B at' N F : Nat} {g : pG} {α : zS} {s : zM} (h : pV c D L B at' N F g α s) : ∀ u, u ∈ D.rt → L u ∧ zA α 44 6 (g.oa u) = none ∧ la s 16 u = nI 0 := by
  unfold pV at h
  exact h.2.2.2.2.2.2.2.2.2.2.2.2.2.2.2.2.2.2.2.2.1
theorem pV.rd {c : pC} {D : pD} {L : Nat → Prop} {B at' N F : Nat} {g : pG} {α : zS} {s : zM} (h : pV c D L B at' N F g α s) : D.rt.Nodup := by
  unfold pV at h
  exact h.2.2.2.2.2.2.2.2.2.2.2.2.2.2.2.2.2.2.2.2.2.1
theorem pV.u {c : pC} {D : pD} {L : Nat → Prop} {B at' N F : Nat} {g : pG} {α : zS} {s : zM} (h : pV c D L B at' N F g α s) : ∀ k, k < D.nu → uOk D L B g α s k := by
  unfold pV at h
  exact h.2.2.2.2.2.2.2.2.2.2.2.2.2.2.2.2.2.2.2.2.2.2.1
theorem pV.ui {c : pC} {D : pD} {L : Nat → Prop} {B at' N F : Nat} {g : pG} {α : zS} {s : zM} (h : pV c D L B at' N F g α s) : ∀ j k, j < D.nu → k < D.nu → D.ou j = D.ou k → j = k := by
  unfold pV at h
  exact h.2.2.2.2.2.2.2.2.2.2.2.2.2.2.2.2.2.2.2.2.2.2.2.1
theorem pV.op {c : pC} {D : pD} {L : Nat → Prop} {B at' N F : Nat} {g : pG} {α : zS} {s : zM} (h : pV c D L B at' N F g α s) : ∀ i, i < D.dp → oOk D g α s i := by
  unfold pV at h
  exact h.2.2.2.2.2.2.2.2.2.2.2.2.2.2.2.2.2.2.2.2.2.2.2.2.1
theorem pV.oi {c : pC} {D : pD} {L : Nat → Prop} {B at' N F : Nat} {g : pG} {α : zS} {s : zM} (h : pV c D L B at' N F g α s) : ∀ i j, i < D.dp → j < D.dp → D.os i = D.os j → i = j := by
  unfold pV at h
  exact h.2.2.2.2.2.2.2.2.2.2.2.2.2.2.2.2.2.2.2.2.2.2.2.2.2.1
theorem pV.o12 {c : pC} {D : pD} {L : Nat → Prop} {B at' N F : Nat} {g : pG} {α : zS} {s : zM} (h : pV c D L B at' N F g α s) : ∀ j, j + 1 < D.dp → D.st j = 12 := by
  unfold pV at h
  exact h.2.2.2.2.2.2.2.2.2.2.2.2.2.2.2.2.2.2.2.2.2.2.2.2.2.2.1
theorem pV.inn {c : pC} {D : pD} {L : Nat → Prop} {B at' N F : Nat} {g : pG} {α : zS} {s : zM} (h : pV c D L B at' N F g α s) : D.dp ≠ 0 → iOk D L g α s (D.ou (D.os (D.dp - 1))) (D.os (D.dp - 1)) (D.st (D.dp - 1)) := by
  unfold pV at h
  exact h.2.2.2.2.2.2.2.2.2.2.2.2.2.2.2.2.2.2.2.2.2.2.2.2.2.2.2
theorem pV.mk {c : pC} {D : pD} {L : Nat → Prop} {B at' N F : Nat} {g : pG} {α : zS} {s : zM} (x0 : pV0 c D B at' N F α s) (x1 : gW L N B g α s) (x2 : zA α 40 11 c.p = if D.dp = 0 then none else some (D.ou (D.os (D.dp - 1)))) (x3 : zI α 40 8 c.p = nI D.dp) (x4 : ls s 26 = nI D.dp) (x5 : D.dp ≤ 10) (x6 : ls s 20 = nI D.nu) (x7 : 3 * D.nu ≤ at') (x8 : zA α 40 12 c.p = some D.lu) (x9 : zA α 40 13 c.p = some D.lr) (x10 : zkd α D.lu = 3) (x11 : zkd α D.lr = 3) (x12 : D.lu ≤ B) (x13 : D.lr ≤ B) (x14 : D.lu ≠ D.lr) (x15 : zL α D.lu = (List.range D.nu).map fun k => some (D.ou k)) (x16 : zL α D.lr = D.rt.map fun u => some (g.oa u)) (x17 : la s 13 0 = nI (D.rt.headD 0)) (x18 : la s 14 0 = nI (D.rt.getLastD 0)) (x19 : pCh (la s 15) D.rt) (x20 : ∀ u, u ∈ D.rt → L u ∧ zA α 44 6 (g.oa u) = none ∧ la s 16 u = nI 0) (x21 : D.rt.Nodup) (x22 : ∀ k, k < D.nu → uOk D L B g α s k) (x23 : ∀ j k, j < D.nu → k < D.nu → D.ou j = D.ou k → j = k) (x24 : ∀ i, i < D.dp → oOk D g α s i) (x25 : ∀ i j, i < D.dp → j < D.dp → D.os i = D.os j → i = j) (x26 : ∀ j, j + 1 < D.dp → D.st j = 12) (x27 : D.dp ≠ 0 → iOk D L g α s (D.ou (D.os (D.dp - 1))) (D.os (D.dp - 1)) (D.st (D.dp - 1))) : pV c D L B at' N F g α s := by
  unfold pV
  exact ⟨x0, x1, x2, x3, x4, x5, x6, x7, x8, x9, x10, x11, x12, x13, x14, x15, x16, x17, x18, x19, x20, x21, x22, x23, x24, x25, x26, x27⟩
/-- the words c of a clause that starts at these states -/
def pC.on (c : pC) (α : zS) (s : zM) (N at' lv : Nat) : pC := (c.p, c.ka, c.va, c.n, c.ks, c.vs, α, s, N, at', lv)
def pG0 : pG := (fun _ => 0, fun _ => [], fun _ => 0)
section PAZM
variable {L : Nat → Prop} {c : pC} {D : pD} {G : xQ} {α β : zS} {s s' : zM} {B at' N N' F p t to u x k lv : Nat} {g g' : pG} {v : Int32}
theorem pN_0 {g : pG} : pN g 0 = none := rfl
theorem pN_s {g : pG} (h : t ≠ 0) : pN g t = some (g.oa t) := if_neg h
/-- a clause starts -/
theorem pV0.start (h : pV0 c D B at' N F α s) (ha : at' < c.n) (hF : F < 20) (hm : ∀ k, ls s' k ≠ ls s k → 42 ≤ k) (hm' : ∀ k, la s' k = la s k) (h43 : ls s' 43 = nI 0) (hv : lv = 1 → ls s' 44 = nI 0) : pR (c.on (zwI α 40 4 c.p (nI 0)) s' N at' lv) at' 0 N N 0 pG0 (zwI α 40 4 c.p (nI 0)) s' := by
  have e : ∀ k, k < 42 → ls s' k = ls s k := fun k hk => Decidable.byContradiction fun z => by have := hm k z; omega
  have hx : pxW c (zwI α 40 4 c.p (nI 0)) := by
    have x := h.x
    refine pxW.mk (by rw [zkd_zwI]; exact x.kp) (by rw [zA_zwI]; exact x.fk) (by rw [zA_zwI]; exact x.fv) ?_ (by rw [zkd_zwI]; exact x.kk) (by rw [zkd_zwI]; exact x.kv) (by rw [zln_zwI]; exact x.lk) (by rw [zln_zwI]; exact x.lv) (fun i hi => by rw [zaI_zwI]; exact x.rk i hi) (fun i hi => by rw [zaI_zwI]; exact x.rv i hi)
    rw [zI_zwI, if_neg (by omega)]; exact x.fn
  have hmw : mWd c s' := mWd.mk (by rw [e 4 (by decide)]; exact h.m.fn) (fun i hi => by rw [hm']; exact h.m.rk i hi) (fun i hi => by rw [hm']; exact h.m.rv i hi)
  have B1 := h.B1
  have p := h.p
  have ka := h.ka
  have va := h.va
  have N0 := h.N0
  have N1 := h.N1
  have hk : pOk (c.on (zwI α 40 4 c.p (nI 0)) s' N at' lv) := pOk.mk h.n h.ks h.vs (show c.p < zn α by omega) (show c.ka < zn α by omega) (show c.va < zn α by omega) hx hmw h.N1 (show N ≤ 10 * at' + 1401 by omega) (by
    show ls s' 8 = nI N
    rw [e 8 (by decide)]; exact h.Nm) ⟨F, by
    show ls s' 5 = nI F
    rw [e 5 (by decide)]; exact h.fm, hF⟩
  refine pR.mk hk (xKp.mk (Nat.le_refl _) (fun _ _ _ => rfl) rfl (fun _ _ => rfl) (fun _ _ => rfl)) (mKp.mk (fun _ _ => rfl) (fun _ _ _ _ _ => rfl) (fun _ _ => rfl)) ?_ ?_ ?_ hv h43 ?_ (show at' ≤ c.n by omega) (Nat.le_refl _) (by decide) (Nat.le_refl _) (Nat.le_refl _) (Nat.le_refl _) (Nat.le_refl _) (by omega) (pgO.mk (fun t t1 t2 => absurd t1 (by show ¬ N ≤ t; omega)) (fun t u t1 t2 => absurd t1 (by show ¬ N ≤ t; omega)))
  · show zI (zwI α 40 4 c.p (nI 0)) 40 3 c.p = nI at'
    rw [zI_zwI, if_neg (by omega)]; exact h.ax
  · show zI (zwI α 40 4 c.p (nI 0)) 40 4 c.p = nI 0
    rw [zI_zwI, if_pos ⟨rfl, rfl, rfl⟩]
  · rw [e 41 (by decide)]; exact h.am
  · rw [e 8 (by decide)]; exact h.Nm
theorem on_pB (h : k ≤ 60) (hv : k ≤ 4 ∨ lv = 1) : pB (c.on α s N at' lv) N at' k := by
  show N + k + 10 * at' ≤ N + 10 * at' + 60 ∧ (k ≤ 4 ∨ lv = 1)
  omega
end PAZM
