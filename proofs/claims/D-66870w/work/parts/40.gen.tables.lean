/-! the tables of this claim: classes, methods -/
set_option maxRecDepth 100000
def xT0 : u_T := fun _ => ("", "", "", false)
def xCL : List vw_C := [(RJ10, TJ10, 1), (RJ17, TJ17, 5), (RJ2, TJ2, 3), (RJ20, TJ20, 6), (RJ22, TJ22, 6), (RJ24, TJ24, 4), (RJ4, TJ4, 4), (RJ5, TJ5, 4), (RX1, TX1, 38), (RX10, TX10, 4), (RX11, TX11, 5), (RX12, TX12, 9), (RX14, TX14, 2), (RX15, xT0, 0), (RX16, TX16, 2), (RX17, TX17, 1), (RX18, xT0, 0), (RX19, TX19, 1), (RX2, TX2, 13), (RX20, TX20, 2), (RX21, TX21, 3), (RX22, TX22, 3), (RX23, TX23, 8), (RX24, TX24, 72), (RX25, TX25, 41), (RX26, TX26, 65), (RX27, TX27, 24), (RX28, TX28, 36), (RX29, TX29, 23), (RX3, TX3, 4), (RX30, TX30, 88), (RX31, TX31, 33), (RX32, TX32, 25), (RX33, TX33, 12), (RX34, TX34, 6), (RX35, TX35, 21), (RX36, TX36, 21), (RX37, TX37, 12), (RX38, TX38, 4), (RX39, TX39, 3), (RX4, TX4, 17), (RX40, TX40, 10), (RX41, TX41, 3), (RX42, TX42, 14), (RX43, TX43, 9), (RX44, TX44, 10), (RX45, TX45, 4), (RX46, TX46, 10), (RX47, TX47, 15), (RX48, TX48, 4), (RX49, TX49, 4), (RX5, TX5, 5), (RX50, TX50, 7), (RX52, TX52, 24), (RX53, TX53, 3), (RX54, TX54, 19), (RX55, TX55, 17), (RX56, TX56, 6), (RX57, TX57, 7), (RX58, TX58, 2), (RX59, TX59, 3), (RX6, TX6, 50), (RX60, TX60, 3), (RX61, TX61, 4), (RX62, TX62, 4), (RX63, TX63, 13), (RX64, TX64, 8), (RX65, TX65, 16), (RX66, TX66, 4), (RX67, TX67, 11), (RX68, TX68, 7), (RX69, TX69, 10), (RX7, TX7, 4), (RX70, TX70, 11), (RX71, TX71, 4), (RX72, TX72, 17), (RX73, TX73, 19), (RX74, TX74, 1), (RX75, TX75, 4), (RX76, TX76, 3), (RX77, TX77, 4), (RX78, TX78, 15), (RX79, TX79, 5), (RX80, TX80, 18), (RX81, TX81, 10), (RX82, TX82, 7), (RX83, TX83, 4), (RX84, TX84, 11), (RX85, TX85, 3), (RX9, TX9, 9), (RX51, xT0, 0), (RX8, xT0, 0), ("MainframeHouse$Queue$State", xT0, 0), ("MainframeHouse$Spool$State", xT0, 0), (RJ23, xT0, 0)]
def xTL : List FieldType := [.int, .boolean, .byte, .char, .short, .long, (.object "java/lang/Object"), (.array .int), (.object "MainframeHouse$Pictures$Run"), (.object "MainframeHouse$JobControl$Parameter"), (.object "java/lang/String"), (.object "MainframeHouse$Layout$Usage"), (.object "MainframeHouse$Steps$DataSet"), (.object "MainframeHouse$Queue$Cls"), (.object "MainframeHouse$Queue$Rule"), (.object "MainframeHouse$Room"), (.object "MainframeHouse$Instance"), (.object "MainframeHouseModel$Signs"), (.object "MainframeHouseModel$Step"), (.object "MainframeHouseModel$Dd"), (.object "MainframeHouseModel$Item"), (.object "MainframeHouseModel$Run"), (.object "MainframeHouseModel$Frame")]
theorem tl_0 : (.int : FieldType) ∈ xTL := List.mem_of_getElem? (i := 0) rfl
theorem tl_1 : (.boolean : FieldType) ∈ xTL := List.mem_of_getElem? (i := 1) rfl
theorem tl_2 : (.byte : FieldType) ∈ xTL := List.mem_of_getElem? (i := 2) rfl
theorem tl_3 : (.char : FieldType) ∈ xTL := List.mem_of_getElem? (i := 3) rfl
theorem tl_4 : (.short : FieldType) ∈ xTL := List.mem_of_getElem? (i := 4) rfl
theorem tl_5 : (.long : FieldType) ∈ xTL := List.mem_of_getElem? (i := 5) rfl
theorem tl_6 : ((.object "java/lang/Object") : FieldType) ∈ xTL := List.mem_of_getElem? (i := 6) rfl
theorem tl_7 : ((.array .int) : FieldType) ∈ xTL := List.mem_of_getElem? (i := 7) rfl
theorem tl_8 : ((.object "MainframeHouse$Pictures$Run") : FieldType) ∈ xTL := List.mem_of_getElem? (i := 8) rfl
theorem tl_9 : ((.object "MainframeHouse$JobControl$Parameter") : FieldType) ∈ xTL := List.mem_of_getElem? (i := 9) rfl
theorem tl_10 : ((.object "java/lang/String") : FieldType) ∈ xTL := List.mem_of_getElem? (i := 10) rfl
theorem tl_11 : ((.object "MainframeHouse$Layout$Usage") : FieldType) ∈ xTL := List.mem_of_getElem? (i := 11) rfl
theorem tl_12 : ((.object "MainframeHouse$Steps$DataSet") : FieldType) ∈ xTL := List.mem_of_getElem? (i := 12) rfl
theorem tl_13 : ((.object "MainframeHouse$Queue$Cls") : FieldType) ∈ xTL := List.mem_of_getElem? (i := 13) rfl
theorem tl_14 : ((.object "MainframeHouse$Queue$Rule") : FieldType) ∈ xTL := List.mem_of_getElem? (i := 14) rfl
theorem tl_15 : ((.object "MainframeHouse$Room") : FieldType) ∈ xTL := List.mem_of_getElem? (i := 15) rfl
theorem tl_16 : ((.object "MainframeHouse$Instance") : FieldType) ∈ xTL := List.mem_of_getElem? (i := 16) rfl
theorem tl_17 : ((.object "MainframeHouseModel$Signs") : FieldType) ∈ xTL := List.mem_of_getElem? (i := 17) rfl
theorem tl_18 : ((.object "MainframeHouseModel$Step") : FieldType) ∈ xTL := List.mem_of_getElem? (i := 18) rfl
theorem tl_19 : ((.object "MainframeHouseModel$Dd") : FieldType) ∈ xTL := List.mem_of_getElem? (i := 19) rfl
theorem tl_20 : ((.object "MainframeHouseModel$Item") : FieldType) ∈ xTL := List.mem_of_getElem? (i := 20) rfl
theorem tl_21 : ((.object "MainframeHouseModel$Run") : FieldType) ∈ xTL := List.mem_of_getElem? (i := 21) rfl
theorem tl_22 : ((.object "MainframeHouseModel$Frame") : FieldType) ∈ xTL := List.mem_of_getElem? (i := 22) rfl
abbrev xQ : Type := Launch × xG × (String → Nat → Option Value) × (String → Nat → Option Value) × (String → Nat → Nat → Option Value) × (String → Option Nat)
abbrev xK (G : xQ) : xC := (G.1, G.2.1, xCL, xTL, G.2.2.1, G.2.2.2.1, G.2.2.2.2.1, G.2.2.2.2.2)
abbrev ty_0 : Nat → FieldType := tyJ10
abbrev ty_1 : Nat → FieldType := tyJ17
abbrev ty_2 : Nat → FieldType := tyJ2
abbrev ty_3 : Nat → FieldType := tyJ20
abbrev ty_4 : Nat → FieldType := tyJ22
abbrev ty_5 : Nat → FieldType := tyJ24
abbrev ty_6 : Nat → FieldType := tyJ4
abbrev ty_7 : Nat → FieldType := tyJ5
abbrev ty_8 : Nat → FieldType := tyX1
abbrev ty_9 : Nat → FieldType := tyX10
abbrev ty_10 : Nat → FieldType := tyX11
abbrev ty_11 : Nat → FieldType := tyX12
abbrev ty_12 : Nat → FieldType := tyX14
abbrev ty_13 : Nat → FieldType := fun _ => .int
abbrev ty_14 : Nat → FieldType := tyX16
abbrev ty_15 : Nat → FieldType := tyX17
abbrev ty_16 : Nat → FieldType := fun _ => .int
abbrev ty_17 : Nat → FieldType := tyX19
abbrev ty_18 : Nat → FieldType := tyX2
abbrev ty_19 : Nat → FieldType := tyX20
abbrev ty_20 : Nat → FieldType := tyX21
abbrev ty_21 : Nat → FieldType := tyX22
abbrev ty_22 : Nat → FieldType := tyX23
abbrev ty_23 : Nat → FieldType := tyX24
abbrev ty_24 : Nat → FieldType := tyX25
abbrev ty_25 : Nat → FieldType := tyX26
abbrev ty_26 : Nat → FieldType := tyX27
abbrev ty_27 : Nat → FieldType := tyX28
abbrev ty_28 : Nat → FieldType := tyX29
abbrev ty_29 : Nat → FieldType := tyX3
abbrev ty_30 : Nat → FieldType := tyX30
abbrev ty_31 : Nat → FieldType := tyX31
abbrev ty_32 : Nat → FieldType := tyX32
abbrev ty_33 : Nat → FieldType := tyX33
abbrev ty_34 : Nat → FieldType := tyX34
abbrev ty_35 : Nat → FieldType := tyX35
abbrev ty_36 : Nat → FieldType := tyX36
abbrev ty_37 : Nat → FieldType := tyX37
abbrev ty_38 : Nat → FieldType := tyX38
abbrev ty_39 : Nat → FieldType := tyX39
abbrev ty_40 : Nat → FieldType := tyX4
abbrev ty_41 : Nat → FieldType := tyX40
abbrev ty_42 : Nat → FieldType := tyX41
abbrev ty_43 : Nat → FieldType := tyX42
abbrev ty_44 : Nat → FieldType := tyX43
abbrev ty_45 : Nat → FieldType := tyX44
abbrev ty_46 : Nat → FieldType := tyX45
abbrev ty_47 : Nat → FieldType := tyX46
abbrev ty_48 : Nat → FieldType := tyX47
abbrev ty_49 : Nat → FieldType := tyX48
abbrev ty_50 : Nat → FieldType := tyX49
abbrev ty_51 : Nat → FieldType := tyX5
abbrev ty_52 : Nat → FieldType := tyX50
abbrev ty_53 : Nat → FieldType := tyX52
abbrev ty_54 : Nat → FieldType := tyX53
abbrev ty_55 : Nat → FieldType := tyX54
abbrev ty_56 : Nat → FieldType := tyX55
abbrev ty_57 : Nat → FieldType := tyX56
abbrev ty_58 : Nat → FieldType := tyX57
abbrev ty_59 : Nat → FieldType := tyX58
abbrev ty_60 : Nat → FieldType := tyX59
abbrev ty_61 : Nat → FieldType := tyX6
abbrev ty_62 : Nat → FieldType := tyX60
abbrev ty_63 : Nat → FieldType := tyX61
abbrev ty_64 : Nat → FieldType := tyX62
abbrev ty_65 : Nat → FieldType := tyX63
abbrev ty_66 : Nat → FieldType := tyX64
abbrev ty_67 : Nat → FieldType := tyX65
abbrev ty_68 : Nat → FieldType := tyX66
abbrev ty_69 : Nat → FieldType := tyX67
abbrev ty_70 : Nat → FieldType := tyX68
abbrev ty_71 : Nat → FieldType := tyX69
abbrev ty_72 : Nat → FieldType := tyX7
abbrev ty_73 : Nat → FieldType := tyX70
abbrev ty_74 : Nat → FieldType := tyX71
abbrev ty_75 : Nat → FieldType := tyX72
abbrev ty_76 : Nat → FieldType := tyX73
abbrev ty_77 : Nat → FieldType := tyX74
abbrev ty_78 : Nat → FieldType := tyX75
abbrev ty_79 : Nat → FieldType := tyX76
abbrev ty_80 : Nat → FieldType := tyX77
abbrev ty_81 : Nat → FieldType := tyX78
abbrev ty_82 : Nat → FieldType := tyX79
abbrev ty_83 : Nat → FieldType := tyX80
abbrev ty_84 : Nat → FieldType := tyX81
abbrev ty_85 : Nat → FieldType := tyX82
abbrev ty_86 : Nat → FieldType := tyX83
abbrev ty_87 : Nat → FieldType := tyX84
abbrev ty_88 : Nat → FieldType := tyX85
abbrev ty_89 : Nat → FieldType := tyX9
abbrev ty_90 : Nat → FieldType := fun _ => .int
abbrev ty_91 : Nat → FieldType := fun _ => .int
abbrev ty_92 : Nat → FieldType := fun _ => .int
abbrev ty_93 : Nat → FieldType := fun _ => .int
abbrev ty_94 : Nat → FieldType := fun _ => .int
