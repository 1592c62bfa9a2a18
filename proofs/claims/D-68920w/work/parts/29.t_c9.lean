set_option maxRecDepth 100000
set_option maxHeartbeats 4000000
theorem q543 : (Jvm.Cond.fieldLinkNest "TypeHouse$FontTable" (82 : Nat) "TypeHouse$Font" "scaled" "[I" "TypeHouse") ∈ lw_tbl := lw_at lw_m1 118 rfl
theorem q545 : (Jvm.Cond.fieldLinkNest "TypeHouse$FontTable" (85 : Nat) "TypeHouse$Font" "starts" "[I" "TypeHouse") ∈ lw_tbl := lw_at lw_m1 120 rfl
theorem q547 : (Jvm.Cond.fieldLinkNest "TypeHouse$FontTable" (79 : Nat) "TypeHouse$Font" "counts" "[I" "TypeHouse") ∈ lw_tbl := lw_at lw_m1 122 rfl
theorem q665 : (Jvm.Cond.fieldLinkNest "TypeHouse$Press" (677 : Nat) "TypeHouse$Settings" "groupKinds" "[I" "TypeHouse") ∈ lw_tbl := lw_at lw_m2 0 rfl
theorem q1263 : (Jvm.Cond.fieldLinkNest "TypeHouse$Press" (535 : Nat) "TypeHouse$Paragraph" "size" "I" "TypeHouse") ∈ lw_tbl := lw_at lw_m4 118 rfl
theorem q1289 : (Jvm.Cond.fieldLinkNest "TypeHouse$Breaker" (173 : Nat) "TypeHouse$Measure" "firsts" "[I" "TypeHouse") ∈ lw_tbl := lw_at lw_m4 144 rfl
theorem q1343 : (Jvm.Cond.fieldLinkNest "TypeHouse$Breaker" (170 : Nat) "TypeHouse$Nodes" "places" "[I" "TypeHouse") ∈ lw_tbl := lw_at lw_m4 198 rfl
theorem q1346 : (Jvm.Cond.fieldLinkNest "TypeHouse$Breaker" (155 : Nat) "TypeHouse$Nodes" "lines" "[I" "TypeHouse") ∈ lw_tbl := lw_at lw_m4 201 rfl
theorem q1352 : (Jvm.Cond.fieldLinkNest "TypeHouse$Breaker" (167 : Nat) "TypeHouse$Nodes" "formers" "[I" "TypeHouse") ∈ lw_tbl := lw_at lw_m4 207 rfl
theorem q1357 : (Jvm.Cond.fieldLinkNest "TypeHouse$Breaker" (163 : Nat) "TypeHouse$Nodes" "size" "I" "TypeHouse") ∈ lw_tbl := lw_at lw_m4 212 rfl
theorem q1397 : (Jvm.Cond.fieldLinkNest "TypeHouse$Breaker" (151 : Nat) "TypeHouse$Pass" "nodes" "LTypeHouse$Nodes;" "TypeHouse") ∈ lw_tbl := lw_at lw_m5 12 rfl
theorem q1402 : (Jvm.Cond.fieldLinkNest "TypeHouse$Breaker" (118 : Nat) "TypeHouse$Pass" "hyphens" "Z" "TypeHouse") ∈ lw_tbl := lw_at lw_m5 17 rfl
theorem q1403 : (Jvm.Cond.fieldLinkNest "TypeHouse$Breaker" (122 : Nat) "TypeHouse$Pass" "last" "Z" "TypeHouse") ∈ lw_tbl := lw_at lw_m5 18 rfl
theorem q1404 : (Jvm.Cond.fieldLink "TypeHouse$Pass" (175 : Nat) "TypeHouse$Pass" "last" "Z") ∈ lw_all := lw_g (lw_at lw_m5 19 rfl) rfl
theorem q1405 : (Jvm.Cond.fieldLinkNest "TypeHouse$Breaker" (115 : Nat) "TypeHouse$Pass" "tolerance" "I" "TypeHouse") ∈ lw_tbl := lw_at lw_m5 20 rfl
theorem q1412 : (Jvm.Cond.fieldLink "TypeHouse$Pass" (181 : Nat) "TypeHouse$Pass" "allLooks" "I") ∈ lw_all := lw_g (lw_at lw_m5 27 rfl) rfl
theorem q1451 : (Jvm.Cond.fieldLinkNest "TypeHouse$Press" (564 : Nat) "TypeHouse$Breaker" "wide" "[I" "TypeHouse") ∈ lw_tbl := lw_at lw_m5 66 rfl
theorem q1453 : (Jvm.Cond.fieldLinkNest "TypeHouse$Press" (553 : Nat) "TypeHouse$Breaker" "around" "[I" "TypeHouse") ∈ lw_tbl := lw_at lw_m5 68 rfl
theorem q1456 : (Jvm.Cond.fieldLink "TypeHouse$Breaker" (164 : Nat) "TypeHouse$Breaker" "made" "I") ∈ lw_all := lw_g (lw_at lw_m5 71 rfl) rfl
theorem q1457 : (Jvm.Cond.fieldLinkNest "TypeHouse$Press" (542 : Nat) "TypeHouse$Breaker" "made" "I" "TypeHouse") ∈ lw_tbl := lw_at lw_m5 72 rfl
theorem q1458 : (Jvm.Cond.fieldLink "TypeHouse$Breaker" (160 : Nat) "TypeHouse$Breaker" "count" "I") ∈ lw_all := lw_g (lw_at lw_m5 73 rfl) rfl
theorem q1459 : (Jvm.Cond.fieldLinkNest "TypeHouse$Press" (539 : Nat) "TypeHouse$Breaker" "count" "I" "TypeHouse") ∈ lw_tbl := lw_at lw_m5 74 rfl
theorem q1461 : (Jvm.Cond.fieldLinkNest "TypeHouse$Press" (559 : Nat) "TypeHouse$Breaker" "ends" "[I" "TypeHouse") ∈ lw_tbl := lw_at lw_m5 76 rfl
theorem q1463 : (Jvm.Cond.fieldLinkNest "TypeHouse$Press" (561 : Nat) "TypeHouse$Breaker" "firsts" "[I" "TypeHouse") ∈ lw_tbl := lw_at lw_m5 78 rfl
theorem q2508 : (Jvm.Cond.instanceMethod ({ cls := "TypeHouse$Expander", name := "need", desc := "()I" } : Jvm.MethodName)) ∈ lw_all := lw_g (lw_at lw_m9 163 rfl) rfl
theorem q2509 : (Jvm.Cond.code ({ cls := "TypeHouse$Expander", name := "need", desc := "()I" } : Jvm.MethodName) prog_4_method_5_code (2 : Nat) (Option.some Jvm.ClassFile.FieldType.int)) ∈ lw_all := lw_g (lw_at lw_m9 164 rfl) rfl
theorem q2511 : (Jvm.Cond.static ({ cls := "TypeHouse$Expander", name := "bare", desc := "(I)I" } : Jvm.MethodName)) ∈ lw_all := lw_g (lw_at lw_m9 166 rfl) rfl
theorem q2512 : (Jvm.Cond.code ({ cls := "TypeHouse$Expander", name := "bare", desc := "(I)I" } : Jvm.MethodName) prog_4_method_7_code (1 : Nat) (Option.some Jvm.ClassFile.FieldType.int)) ∈ lw_all := lw_g (lw_at lw_m9 167 rfl) rfl
theorem q2513 : (Jvm.Cond.constant "TypeHouse$Expander" (160 : Nat) (1048575 : Int32)) ∈ lw_all := lw_g (lw_at lw_m9 168 rfl) rfl
theorem q2519 : (Jvm.Cond.static ({ cls := "TypeHouse", name := "is", desc := "(II)Z" } : Jvm.MethodName)) ∈ lw_all := lw_g (lw_at lw_m9 174 rfl) rfl
theorem q2520 : (Jvm.Cond.code ({ cls := "TypeHouse", name := "is", desc := "(II)Z" } : Jvm.MethodName) prog_1_method_6_code (2 : Nat) (Option.some Jvm.ClassFile.FieldType.boolean)) ∈ lw_all := lw_g (lw_at lw_m9 175 rfl) rfl
theorem q2521 : (Jvm.Cond.methodLink "TypeHouse" (16 : Nat) ({ cls := "TypeHouse", name := "isCharacter", desc := "(I)Z" } : Jvm.MethodName)) ∈ lw_all := lw_g (lw_at lw_m9 176 rfl) rfl
theorem q2522 : (Jvm.Cond.methodLink "TypeHouse" (20 : Nat) ({ cls := "TypeHouse", name := "category", desc := "(I)I" } : Jvm.MethodName)) ∈ lw_all := lw_g (lw_at lw_m9 177 rfl) rfl
theorem q2565 : (Jvm.Cond.instanceMethod ({ cls := "TypeHouse$Expander", name := "needExpanded", desc := "()I" } : Jvm.MethodName)) ∈ lw_all := lw_g (lw_at lw_m9 220 rfl) rfl
theorem q2566 : (Jvm.Cond.code ({ cls := "TypeHouse$Expander", name := "needExpanded", desc := "()I" } : Jvm.MethodName) prog_4_method_13_code (2 : Nat) (Option.some Jvm.ClassFile.FieldType.int)) ∈ lw_all := lw_g (lw_at lw_m9 221 rfl) rfl
theorem q2567 : (Jvm.Cond.methodLink "TypeHouse$Expander" (187 : Nat) ({ cls := "TypeHouse$Expander", name := "getExpanded", desc := "()I" } : Jvm.MethodName)) ∈ lw_all := lw_g (lw_at lw_m9 222 rfl) rfl
theorem q2570 : (Jvm.Cond.instanceMethod ({ cls := "TypeHouse$Expander", name := "primitive", desc := "(I)I" } : Jvm.MethodName)) ∈ lw_all := lw_g (lw_at lw_m9 225 rfl) rfl
theorem q2571 : (Jvm.Cond.code ({ cls := "TypeHouse$Expander", name := "primitive", desc := "(I)I" } : Jvm.MethodName) prog_4_method_10_code (2 : Nat) (Option.some Jvm.ClassFile.FieldType.int)) ∈ lw_all := lw_g (lw_at lw_m9 226 rfl) rfl
theorem q2590 : (Jvm.Cond.methodLink "TypeHouse$Expander" (225 : Nat) ({ cls := "TypeHouse$Expander", name := "number", desc := "()I" } : Jvm.MethodName)) ∈ lw_all := lw_g (lw_at lw_m10 5 rfl) rfl
theorem q2592 : (Jvm.Cond.instanceMethod ({ cls := "TypeHouse$Expander", name := "number", desc := "()I" } : Jvm.MethodName)) ∈ lw_all := lw_g (lw_at lw_m10 7 rfl) rfl
theorem q2593 : (Jvm.Cond.code ({ cls := "TypeHouse$Expander", name := "number", desc := "()I" } : Jvm.MethodName) prog_4_method_28_code (4 : Nat) (Option.some Jvm.ClassFile.FieldType.int)) ∈ lw_all := lw_g (lw_at lw_m10 8 rfl) rfl
theorem q2635 : (Jvm.Cond.instanceMethod ({ cls := "TypeHouse$Expander", name := "within", desc := "(I)I" } : Jvm.MethodName)) ∈ lw_all := lw_g (lw_at lw_m10 50 rfl) rfl
theorem q2636 : (Jvm.Cond.code ({ cls := "TypeHouse$Expander", name := "within", desc := "(I)I" } : Jvm.MethodName) prog_4_method_31_code (3 : Nat) (Option.some Jvm.ClassFile.FieldType.int)) ∈ lw_all := lw_g (lw_at lw_m10 51 rfl) rfl
theorem q2768 : (Jvm.Cond.instanceMethod ({ cls := "TypeHouse$FontTable", name := "parameter", desc := "(II)I" } : Jvm.MethodName)) ∈ lw_all := lw_g (lw_at lw_m10 183 rfl) rfl
theorem q2769 : (Jvm.Cond.selects "TypeHouse$FontTable" ({ cls := "TypeHouse$FontTable", name := "parameter", desc := "(II)I" } : Jvm.MethodName) ({ cls := "TypeHouse$FontTable", name := "parameter", desc := "(II)I" } : Jvm.MethodName)) ∈ lw_all := lw_g (lw_at lw_m10 184 rfl) rfl
theorem q2770 : (Jvm.Cond.code ({ cls := "TypeHouse$FontTable", name := "parameter", desc := "(II)I" } : Jvm.MethodName) prog_9_method_5_code (4 : Nat) (Option.some Jvm.ClassFile.FieldType.int)) ∈ lw_all := lw_g (lw_at lw_m10 185 rfl) rfl
theorem q3181 : (Jvm.Cond.methodLink "TypeHouse$Press" (680 : Nat) ({ cls := "TypeHouse$Trouble", name := "fail", desc := "(I)V" } : Jvm.MethodName)) ∈ lw_all := lw_g (lw_at lw_m12 116 rfl) rfl
theorem q3647 : (Jvm.Cond.instanceMethod ({ cls := "TypeHouse$Press", name := "actCharacter", desc := "(I)V" } : Jvm.MethodName)) ∈ lw_all := lw_g (lw_at lw_m14 102 rfl) rfl
theorem q3648 : (Jvm.Cond.code ({ cls := "TypeHouse$Press", name := "actCharacter", desc := "(I)V" } : Jvm.MethodName) prog_26_method_47_code (2 : Nat) (Option.none : Option Jvm.ClassFile.FieldType)) ∈ lw_all := lw_g (lw_at lw_m14 103 rfl) rfl
theorem q3649 : (Jvm.Cond.methodLink "TypeHouse$Press" (431 : Nat) ({ cls := "TypeHouse$Press", name := "open", desc := "(I)V" } : Jvm.MethodName)) ∈ lw_all := lw_g (lw_at lw_m14 104 rfl) rfl
theorem q3657 : (Jvm.Cond.methodLink "TypeHouse$Press" (692 : Nat) ({ cls := "TypeHouse$Press", name := "closeBox", desc := "()V" } : Jvm.MethodName)) ∈ lw_all := lw_g (lw_at lw_m14 112 rfl) rfl
theorem q3659 : (Jvm.Cond.instanceMethod ({ cls := "TypeHouse$Press", name := "closeBox", desc := "()V" } : Jvm.MethodName)) ∈ lw_all := lw_g (lw_at lw_m14 114 rfl) rfl
theorem q3660 : (Jvm.Cond.code ({ cls := "TypeHouse$Press", name := "closeBox", desc := "()V" } : Jvm.MethodName) prog_26_method_22_code (2 : Nat) (Option.none : Option Jvm.ClassFile.FieldType)) ∈ lw_all := lw_g (lw_at lw_m14 115 rfl) rfl
theorem q3661 : (Jvm.Cond.methodLink "TypeHouse$Press" (283 : Nat) ({ cls := "TypeHouse$Press", name := "endParagraph", desc := "()V" } : Jvm.MethodName)) ∈ lw_all := lw_g (lw_at lw_m14 116 rfl) rfl
theorem q3663 : (Jvm.Cond.instanceMethod ({ cls := "TypeHouse$Press", name := "endParagraph", desc := "()V" } : Jvm.MethodName)) ∈ lw_all := lw_g (lw_at lw_m14 118 rfl) rfl
theorem q3664 : (Jvm.Cond.code ({ cls := "TypeHouse$Press", name := "endParagraph", desc := "()V" } : Jvm.MethodName) prog_26_method_33_code (3 : Nat) (Option.none : Option Jvm.ClassFile.FieldType)) ∈ lw_all := lw_g (lw_at lw_m14 119 rfl) rfl
theorem q3665 : (Jvm.Cond.methodLink "TypeHouse$Press" (521 : Nat) ({ cls := "TypeHouse$Lists", name := "copy", desc := "(LTypeHouse$Lists;I)V" } : Jvm.MethodName)) ∈ lw_all := lw_g (lw_at lw_m14 120 rfl) rfl
theorem q3670 : (Jvm.Cond.methodLink "TypeHouse$Press" (441 : Nat) ({ cls := "TypeHouse$Press", name := "pop", desc := "()V" } : Jvm.MethodName)) ∈ lw_all := lw_g (lw_at lw_m14 125 rfl) rfl
theorem q3674 : (Jvm.Cond.methodLink "TypeHouse$Press" (525 : Nat) ({ cls := "TypeHouse$Breaker", name := "prepare", desc := "([I)V" } : Jvm.MethodName)) ∈ lw_all := lw_g (lw_at lw_m14 129 rfl) rfl
theorem q3689 : (Jvm.Cond.methodLink "TypeHouse$Press" (529 : Nat) ({ cls := "TypeHouse$Press", name := "takeItem", desc := "(LTypeHouse$Lists;I)V" } : Jvm.MethodName)) ∈ lw_all := lw_g (lw_at lw_m14 144 rfl) rfl
theorem q3697 : (Jvm.Cond.methodLink "TypeHouse$Press" (532 : Nat) ({ cls := "TypeHouse$Breaker", name := "areSizes", desc := "()Z" } : Jvm.MethodName)) ∈ lw_all := lw_g (lw_at lw_m14 152 rfl) rfl
theorem q3709 : (Jvm.Cond.methodLink "TypeHouse$Press" (536 : Nat) ({ cls := "TypeHouse$Breaker", name := "run", desc := "()Z" } : Jvm.MethodName)) ∈ lw_all := lw_g (lw_at lw_m14 164 rfl) rfl
theorem q3710 : (Jvm.Cond.instanceMethod ({ cls := "TypeHouse$Breaker", name := "run", desc := "()Z" } : Jvm.MethodName)) ∈ lw_all := lw_g (lw_at lw_m14 165 rfl) rfl
theorem q3711 : (Jvm.Cond.selects "TypeHouse$Breaker" ({ cls := "TypeHouse$Breaker", name := "run", desc := "()Z" } : Jvm.MethodName) ({ cls := "TypeHouse$Breaker", name := "run", desc := "()Z" } : Jvm.MethodName)) ∈ lw_all := lw_g (lw_at lw_m14 166 rfl) rfl
theorem q3712 : (Jvm.Cond.code ({ cls := "TypeHouse$Breaker", name := "run", desc := "()Z" } : Jvm.MethodName) prog_3_method_9_code (8 : Nat) (Option.some Jvm.ClassFile.FieldType.boolean)) ∈ lw_all := lw_g (lw_at lw_m14 167 rfl) rfl
theorem q3713 : (Jvm.Cond.methodLink "TypeHouse$Breaker" (137 : Nat) ({ cls := "TypeHouse$Paragraph", name := "add", desc := "(IIIII)I" } : Jvm.MethodName)) ∈ lw_all := lw_g (lw_at lw_m14 168 rfl) rfl
theorem q3714 : (Jvm.Cond.methodLink "TypeHouse$Breaker" (141 : Nat) ({ cls := "TypeHouse$Measure", name := "take", desc := "(LTypeHouse$Paragraph;)V" } : Jvm.MethodName)) ∈ lw_all := lw_g (lw_at lw_m14 169 rfl) rfl
theorem q3724 : (Jvm.Cond.methodLink "TypeHouse$Breaker" (145 : Nat) ({ cls := "TypeHouse$Breaker", name := "takeAround", desc := "()V" } : Jvm.MethodName)) ∈ lw_all := lw_g (lw_at lw_m14 179 rfl) rfl
theorem q3731 : (Jvm.Cond.methodLink "TypeHouse$Breaker" (148 : Nat) ({ cls := "TypeHouse$Breaker", name := "runAll", desc := "()I" } : Jvm.MethodName)) ∈ lw_all := lw_g (lw_at lw_m14 186 rfl) rfl
theorem q3733 : (Jvm.Cond.instanceMethod ({ cls := "TypeHouse$Breaker", name := "runAll", desc := "()I" } : Jvm.MethodName)) ∈ lw_all := lw_g (lw_at lw_m14 188 rfl) rfl
theorem q3734 : (Jvm.Cond.code ({ cls := "TypeHouse$Breaker", name := "runAll", desc := "()I" } : Jvm.MethodName) prog_3_method_8_code (2 : Nat) (Option.some Jvm.ClassFile.FieldType.int)) ∈ lw_all := lw_g (lw_at lw_m14 189 rfl) rfl
theorem q3735 : (Jvm.Cond.methodLink "TypeHouse$Breaker" (133 : Nat) ({ cls := "TypeHouse$Breaker", name := "runPass", desc := "(IZZ)I" } : Jvm.MethodName)) ∈ lw_all := lw_g (lw_at lw_m14 190 rfl) rfl
theorem q3737 : (Jvm.Cond.instanceMethod ({ cls := "TypeHouse$Breaker", name := "runPass", desc := "(IZZ)I" } : Jvm.MethodName)) ∈ lw_all := lw_g (lw_at lw_m14 192 rfl) rfl
theorem q3738 : (Jvm.Cond.code ({ cls := "TypeHouse$Breaker", name := "runPass", desc := "(IZZ)I" } : Jvm.MethodName) prog_3_method_7_code (4 : Nat) (Option.some Jvm.ClassFile.FieldType.int)) ∈ lw_all := lw_g (lw_at lw_m14 193 rfl) rfl
theorem q3739 : (Jvm.Cond.methodLink "TypeHouse$Breaker" (125 : Nat) ({ cls := "TypeHouse$Pass", name := "run", desc := "()Z" } : Jvm.MethodName)) ∈ lw_all := lw_g (lw_at lw_m14 194 rfl) rfl
theorem q3740 : (Jvm.Cond.instanceMethod ({ cls := "TypeHouse$Pass", name := "run", desc := "()Z" } : Jvm.MethodName)) ∈ lw_all := lw_g (lw_at lw_m14 195 rfl) rfl
theorem q3741 : (Jvm.Cond.selects "TypeHouse$Pass" ({ cls := "TypeHouse$Pass", name := "run", desc := "()Z" } : Jvm.MethodName) ({ cls := "TypeHouse$Pass", name := "run", desc := "()Z" } : Jvm.MethodName)) ∈ lw_all := lw_g (lw_at lw_m14 196 rfl) rfl
theorem q3742 : (Jvm.Cond.code ({ cls := "TypeHouse$Pass", name := "run", desc := "()Z" } : Jvm.MethodName) prog_24_method_11_code (5 : Nat) (Option.some Jvm.ClassFile.FieldType.boolean)) ∈ lw_all := lw_g (lw_at lw_m14 197 rfl) rfl
theorem q3743 : (Jvm.Cond.methodLink "TypeHouse$Pass" (162 : Nat) ({ cls := "TypeHouse$Nodes", name := "begin", desc := "()V" } : Jvm.MethodName)) ∈ lw_all := lw_g (lw_at lw_m14 198 rfl) rfl
theorem q3751 : (Jvm.Cond.methodLink "TypeHouse$Pass" (165 : Nat) ({ cls := "TypeHouse$Pass", name := "clear", desc := "()V" } : Jvm.MethodName)) ∈ lw_all := lw_g (lw_at lw_m14 206 rfl) rfl
theorem q3755 : (Jvm.Cond.methodLink "TypeHouse$Pass" (168 : Nat) ({ cls := "TypeHouse$Pass", name := "isPlace", desc := "(I)Z" } : Jvm.MethodName)) ∈ lw_all := lw_g (lw_at lw_m14 210 rfl) rfl
theorem q3768 : (Jvm.Cond.methodLink "TypeHouse$Pass" (172 : Nat) ({ cls := "TypeHouse$Pass", name := "goThrough", desc := "(I)I" } : Jvm.MethodName)) ∈ lw_all := lw_g (lw_at lw_m14 223 rfl) rfl
theorem q3818 : (Jvm.Cond.methodLink "TypeHouse$Pass" (178 : Nat) ({ cls := "TypeHouse$Pass", name := "makeNodes", desc := "(I)Z" } : Jvm.MethodName)) ∈ lw_all := lw_g (lw_at lw_m15 33 rfl) rfl
theorem q3822 : (Jvm.Cond.constant "TypeHouse$Pass" (184 : Nat) (3000000 : Int32)) ∈ lw_all := lw_g (lw_at lw_m15 37 rfl) rfl
theorem q3823 : (Jvm.Cond.constant "TypeHouse$Pass" (185 : Nat) (30000000 : Int32)) ∈ lw_all := lw_g (lw_at lw_m15 38 rfl) rfl
theorem q3824 : (Jvm.Cond.methodLink "TypeHouse$Breaker" (129 : Nat) ({ cls := "TypeHouse$Pass", name := "choose", desc := "()I" } : Jvm.MethodName)) ∈ lw_all := lw_g (lw_at lw_m15 39 rfl) rfl
theorem q3825 : (Jvm.Cond.instanceMethod ({ cls := "TypeHouse$Pass", name := "choose", desc := "()I" } : Jvm.MethodName)) ∈ lw_all := lw_g (lw_at lw_m15 40 rfl) rfl
theorem q3826 : (Jvm.Cond.selects "TypeHouse$Pass" ({ cls := "TypeHouse$Pass", name := "choose", desc := "()I" } : Jvm.MethodName) ({ cls := "TypeHouse$Pass", name := "choose", desc := "()I" } : Jvm.MethodName)) ∈ lw_all := lw_g (lw_at lw_m15 41 rfl) rfl
theorem q3827 : (Jvm.Cond.code ({ cls := "TypeHouse$Pass", name := "choose", desc := "()I" } : Jvm.MethodName) prog_24_method_14_code (7 : Nat) (Option.some Jvm.ClassFile.FieldType.int)) ∈ lw_all := lw_g (lw_at lw_m15 42 rfl) rfl
theorem q3828 : (Jvm.Cond.methodLink "TypeHouse$Pass" (189 : Nat) ({ cls := "TypeHouse$Pass", name := "leastOf", desc := "(I)I" } : Jvm.MethodName)) ∈ lw_all := lw_g (lw_at lw_m15 43 rfl) rfl
theorem q3830 : (Jvm.Cond.instanceMethod ({ cls := "TypeHouse$Pass", name := "leastOf", desc := "(I)I" } : Jvm.MethodName)) ∈ lw_all := lw_g (lw_at lw_m15 45 rfl) rfl
theorem q3831 : (Jvm.Cond.code ({ cls := "TypeHouse$Pass", name := "leastOf", desc := "(I)I" } : Jvm.MethodName) prog_24_method_13_code (5 : Nat) (Option.some Jvm.ClassFile.FieldType.int)) ∈ lw_all := lw_g (lw_at lw_m15 46 rfl) rfl
theorem q3832 : (Jvm.Cond.methodLink "TypeHouse$Pass" (186 : Nat) ({ cls := "TypeHouse$Pass", name := "isAtEnd", desc := "(I)Z" } : Jvm.MethodName)) ∈ lw_all := lw_g (lw_at lw_m15 47 rfl) rfl
theorem q3834 : (Jvm.Cond.instanceMethod ({ cls := "TypeHouse$Pass", name := "isAtEnd", desc := "(I)Z" } : Jvm.MethodName)) ∈ lw_all := lw_g (lw_at lw_m15 49 rfl) rfl
theorem q3835 : (Jvm.Cond.code ({ cls := "TypeHouse$Pass", name := "isAtEnd", desc := "(I)Z" } : Jvm.MethodName) prog_24_method_12_code (2 : Nat) (Option.some Jvm.ClassFile.FieldType.boolean)) ∈ lw_all := lw_g (lw_at lw_m15 50 rfl) rfl
theorem q3836 : (Jvm.Cond.methodLink "TypeHouse$Press" (545 : Nat) ({ cls := "TypeHouse$Breaker", name := "isHyphen", desc := "(I)Z" } : Jvm.MethodName)) ∈ lw_all := lw_g (lw_at lw_m15 51 rfl) rfl
theorem q3837 : (Jvm.Cond.instanceMethod ({ cls := "TypeHouse$Breaker", name := "isHyphen", desc := "(I)Z" } : Jvm.MethodName)) ∈ lw_all := lw_g (lw_at lw_m15 52 rfl) rfl
theorem q3838 : (Jvm.Cond.selects "TypeHouse$Breaker" ({ cls := "TypeHouse$Breaker", name := "isHyphen", desc := "(I)Z" } : Jvm.MethodName) ({ cls := "TypeHouse$Breaker", name := "isHyphen", desc := "(I)Z" } : Jvm.MethodName)) ∈ lw_all := lw_g (lw_at lw_m15 53 rfl) rfl
theorem q3839 : (Jvm.Cond.code ({ cls := "TypeHouse$Breaker", name := "isHyphen", desc := "(I)Z" } : Jvm.MethodName) prog_3_method_10_code (2 : Nat) (Option.some Jvm.ClassFile.FieldType.boolean)) ∈ lw_all := lw_g (lw_at lw_m15 54 rfl) rfl
theorem q3840 : (Jvm.Cond.methodLink "TypeHouse$Press" (548 : Nat) ({ cls := "TypeHouse$Press", name := "line", desc := "(I)V" } : Jvm.MethodName)) ∈ lw_all := lw_g (lw_at lw_m15 55 rfl) rfl
theorem q3842 : (Jvm.Cond.instanceMethod ({ cls := "TypeHouse$Press", name := "line", desc := "(I)V" } : Jvm.MethodName)) ∈ lw_all := lw_g (lw_at lw_m15 57 rfl) rfl
theorem q3843 : (Jvm.Cond.code ({ cls := "TypeHouse$Press", name := "line", desc := "(I)V" } : Jvm.MethodName) prog_26_method_35_code (5 : Nat) (Option.none : Option Jvm.ClassFile.FieldType)) ∈ lw_all := lw_g (lw_at lw_m15 58 rfl) rfl
theorem q3844 : (Jvm.Cond.methodLink "TypeHouse$Press" (556 : Nat) ({ cls := "TypeHouse$Press", name := "rowGlue", desc := "(I)V" } : Jvm.MethodName)) ∈ lw_all := lw_g (lw_at lw_m15 59 rfl) rfl
theorem q3846 : (Jvm.Cond.instanceMethod ({ cls := "TypeHouse$Press", name := "rowGlue", desc := "(I)V" } : Jvm.MethodName)) ∈ lw_all := lw_g (lw_at lw_m15 61 rfl) rfl
theorem q3847 : (Jvm.Cond.code ({ cls := "TypeHouse$Press", name := "rowGlue", desc := "(I)V" } : Jvm.MethodName) prog_26_method_34_code (3 : Nat) (Option.none : Option Jvm.ClassFile.FieldType)) ∈ lw_all := lw_g (lw_at lw_m15 62 rfl) rfl
theorem q3848 : (Jvm.Cond.methodLink "TypeHouse$Press" (438 : Nat) ({ cls := "TypeHouse$Press", name := "addBox", desc := "(II)V" } : Jvm.MethodName)) ∈ lw_all := lw_g (lw_at lw_m15 63 rfl) rfl
theorem q3850 : (Jvm.Cond.instanceMethod ({ cls := "TypeHouse$Press", name := "addBox", desc := "(II)V" } : Jvm.MethodName)) ∈ lw_all := lw_g (lw_at lw_m15 65 rfl) rfl
theorem q3851 : (Jvm.Cond.code ({ cls := "TypeHouse$Press", name := "addBox", desc := "(II)V" } : Jvm.MethodName) prog_26_method_16_code (4 : Nat) (Option.none : Option Jvm.ClassFile.FieldType)) ∈ lw_all := lw_g (lw_at lw_m15 66 rfl) rfl
theorem q3852 : (Jvm.Cond.methodLink "TypeHouse$Press" (349 : Nat) ({ cls := "TypeHouse$Press", name := "addBetween", desc := "(J)V" } : Jvm.MethodName)) ∈ lw_all := lw_g (lw_at lw_m15 67 rfl) rfl
theorem q3854 : (Jvm.Cond.instanceMethod ({ cls := "TypeHouse$Press", name := "addBetween", desc := "(J)V" } : Jvm.MethodName)) ∈ lw_all := lw_g (lw_at lw_m15 69 rfl) rfl
theorem q3855 : (Jvm.Cond.code ({ cls := "TypeHouse$Press", name := "addBetween", desc := "(J)V" } : Jvm.MethodName) prog_26_method_17_code (4 : Nat) (Option.none : Option Jvm.ClassFile.FieldType)) ∈ lw_all := lw_g (lw_at lw_m15 70 rfl) rfl
theorem q3856 : (Jvm.Cond.constantLong "TypeHouse$Press" (355 : Nat) (-1073741823 : Int64)) ∈ lw_all := lw_g (lw_at lw_m15 71 rfl) rfl
theorem q3857 : (Jvm.Cond.constantLong "TypeHouse$Press" (357 : Nat) (1073741823 : Int64)) ∈ lw_all := lw_g (lw_at lw_m15 72 rfl) rfl
theorem q3858 : (Jvm.Cond.methodLink "TypeHouse$Press" (353 : Nat) ({ cls := "TypeHouse$Press", name := "add", desc := "(IIIII)V" } : Jvm.MethodName)) ∈ lw_all := lw_g (lw_at lw_m15 73 rfl) rfl
theorem q3860 : (Jvm.Cond.instanceMethod ({ cls := "TypeHouse$Press", name := "add", desc := "(IIIII)V" } : Jvm.MethodName)) ∈ lw_all := lw_g (lw_at lw_m15 75 rfl) rfl
theorem q3861 : (Jvm.Cond.code ({ cls := "TypeHouse$Press", name := "add", desc := "(IIIII)V" } : Jvm.MethodName) prog_26_method_14_code (6 : Nat) (Option.none : Option Jvm.ClassFile.FieldType)) ∈ lw_all := lw_g (lw_at lw_m15 76 rfl) rfl
theorem q3862 : (Jvm.Cond.methodLink "TypeHouse$Press" (550 : Nat) ({ cls := "TypeHouse$Press", name := "between", desc := "(I)V" } : Jvm.MethodName)) ∈ lw_all := lw_g (lw_at lw_m15 77 rfl) rfl
theorem q3864 : (Jvm.Cond.instanceMethod ({ cls := "TypeHouse$Press", name := "between", desc := "(I)V" } : Jvm.MethodName)) ∈ lw_all := lw_g (lw_at lw_m15 79 rfl) rfl
theorem q3865 : (Jvm.Cond.code ({ cls := "TypeHouse$Press", name := "between", desc := "(I)V" } : Jvm.MethodName) prog_26_method_36_code (5 : Nat) (Option.none : Option Jvm.ClassFile.FieldType)) ∈ lw_all := lw_g (lw_at lw_m15 80 rfl) rfl
theorem q3866 : (Jvm.Cond.methodLink "TypeHouse$Press" (567 : Nat) ({ cls := "TypeHouse$Press", name := "clipped", desc := "(J)I" } : Jvm.MethodName)) ∈ lw_all := lw_g (lw_at lw_m15 81 rfl) rfl
theorem q3867 : (Jvm.Cond.static ({ cls := "TypeHouse$Press", name := "clipped", desc := "(J)I" } : Jvm.MethodName)) ∈ lw_all := lw_g (lw_at lw_m15 82 rfl) rfl
theorem q3868 : (Jvm.Cond.code ({ cls := "TypeHouse$Press", name := "clipped", desc := "(J)I" } : Jvm.MethodName) prog_26_method_15_code (2 : Nat) (Option.some Jvm.ClassFile.FieldType.int)) ∈ lw_all := lw_g (lw_at lw_m15 83 rfl) rfl
theorem q3869 : (Jvm.Cond.constantLong "TypeHouse$Press" (336 : Nat) (-10000 : Int64)) ∈ lw_all := lw_g (lw_at lw_m15 84 rfl) rfl
theorem q3870 : (Jvm.Cond.constantLong "TypeHouse$Press" (338 : Nat) (10000 : Int64)) ∈ lw_all := lw_g (lw_at lw_m15 85 rfl) rfl
theorem q3871 : (Jvm.Cond.methodLink "TypeHouse$Press" (269 : Nat) ({ cls := "TypeHouse$Settings", name := "close", desc := "()V" } : Jvm.MethodName)) ∈ lw_all := lw_g (lw_at lw_m15 86 rfl) rfl
theorem q3872 : (Jvm.Cond.instanceMethod ({ cls := "TypeHouse$Settings", name := "close", desc := "()V" } : Jvm.MethodName)) ∈ lw_all := lw_g (lw_at lw_m15 87 rfl) rfl
theorem q3873 : (Jvm.Cond.selects "TypeHouse$Settings" ({ cls := "TypeHouse$Settings", name := "close", desc := "()V" } : Jvm.MethodName) ({ cls := "TypeHouse$Settings", name := "close", desc := "()V" } : Jvm.MethodName)) ∈ lw_all := lw_g (lw_at lw_m15 88 rfl) rfl
theorem q3874 : (Jvm.Cond.code ({ cls := "TypeHouse$Settings", name := "close", desc := "()V" } : Jvm.MethodName) prog_28_method_12_code (4 : Nat) (Option.none : Option Jvm.ClassFile.FieldType)) ∈ lw_all := lw_g (lw_at lw_m15 89 rfl) rfl
theorem q3875 : (Jvm.Cond.methodLink "TypeHouse$Press" (407 : Nat) ({ cls := "TypeHouse$Press", name := "deliver", desc := "(IIIZ)V" } : Jvm.MethodName)) ∈ lw_all := lw_g (lw_at lw_m15 90 rfl) rfl
theorem q3877 : (Jvm.Cond.instanceMethod ({ cls := "TypeHouse$Press", name := "deliver", desc := "(IIIZ)V" } : Jvm.MethodName)) ∈ lw_all := lw_g (lw_at lw_m15 92 rfl) rfl
theorem q3878 : (Jvm.Cond.code ({ cls := "TypeHouse$Press", name := "deliver", desc := "(IIIZ)V" } : Jvm.MethodName) prog_26_method_21_code (5 : Nat) (Option.none : Option Jvm.ClassFile.FieldType)) ∈ lw_all := lw_g (lw_at lw_m15 93 rfl) rfl
theorem q3879 : (Jvm.Cond.methodLink "TypeHouse$Press" (695 : Nat) ({ cls := "TypeHouse$Press", name := "close", desc := "(I)V" } : Jvm.MethodName)) ∈ lw_all := lw_g (lw_at lw_m15 94 rfl) rfl
theorem q3881 : (Jvm.Cond.instanceMethod ({ cls := "TypeHouse$Press", name := "close", desc := "(I)V" } : Jvm.MethodName)) ∈ lw_all := lw_g (lw_at lw_m15 96 rfl) rfl
theorem q3882 : (Jvm.Cond.code ({ cls := "TypeHouse$Press", name := "close", desc := "(I)V" } : Jvm.MethodName) prog_26_method_45_code (2 : Nat) (Option.none : Option Jvm.ClassFile.FieldType)) ∈ lw_all := lw_g (lw_at lw_m15 97 rfl) rfl
theorem q3883 : (Jvm.Cond.methodLink "TypeHouse$Press" (697 : Nat) ({ cls := "TypeHouse$Press", name := "space", desc := "()V" } : Jvm.MethodName)) ∈ lw_all := lw_g (lw_at lw_m15 98 rfl) rfl
theorem q3885 : (Jvm.Cond.instanceMethod ({ cls := "TypeHouse$Press", name := "space", desc := "()V" } : Jvm.MethodName)) ∈ lw_all := lw_g (lw_at lw_m15 100 rfl) rfl
theorem q3886 : (Jvm.Cond.code ({ cls := "TypeHouse$Press", name := "space", desc := "()V" } : Jvm.MethodName) prog_26_method_31_code (2 : Nat) (Option.none : Option Jvm.ClassFile.FieldType)) ∈ lw_all := lw_g (lw_at lw_m15 101 rfl) rfl
theorem q3887 : (Jvm.Cond.methodLink "TypeHouse$Press" (507 : Nat) ({ cls := "TypeHouse$FontTable", name := "parameter", desc := "(II)I" } : Jvm.MethodName)) ∈ lw_all := lw_g (lw_at lw_m15 102 rfl) rfl
theorem q3899 : (Jvm.Cond.instanceMethod ({ cls := "TypeHouse$Press", name := "solid", desc := "()I" } : Jvm.MethodName)) ∈ lw_all := lw_g (lw_at lw_m15 114 rfl) rfl
theorem q3900 : (Jvm.Cond.code ({ cls := "TypeHouse$Press", name := "solid", desc := "()I" } : Jvm.MethodName) prog_26_method_19_code (2 : Nat) (Option.some Jvm.ClassFile.FieldType.int)) ∈ lw_all := lw_g (lw_at lw_m15 115 rfl) rfl
theorem q3901 : (Jvm.Cond.methodLinkNest "TypeHouse$Press" (394 : Nat) ({ cls := "TypeHouse$Expander", name := "needExpanded", desc := "()I" } : Jvm.MethodName) "TypeHouse") ∈ lw_tbl := lw_at lw_m15 116 rfl
theorem q3902 : (Jvm.Cond.methodLinkNest "TypeHouse$Press" (397 : Nat) ({ cls := "TypeHouse", name := "is", desc := "(II)Z" } : Jvm.MethodName) "TypeHouse") ∈ lw_tbl := lw_at lw_m15 117 rfl
theorem q3903 : (Jvm.Cond.methodLinkNest "TypeHouse$Press" (401 : Nat) ({ cls := "TypeHouse$Expander", name := "primitive", desc := "(I)I" } : Jvm.MethodName) "TypeHouse") ∈ lw_tbl := lw_at lw_m15 118 rfl
abbrev cX24_run : ByteArray := prog_24_method_11_code
def yX24_run : MethodName := ⟨RX24, "run", "()Z"⟩
def YX24_run : eY := (yX24_run, cX24_run, 5, (Option.some FieldType.boolean), [])
theorem mX24_run : e_mv YX24_run RX24 0 := ⟨q3740, q3741, q3742, by decide, by decide +kernel, (e_sig (by decide +kernel))⟩
theorem dX24_run_0 : decode cX24_run 0 = .ok (.aload_n 0, 1) := dc_42 (by decide +kernel)
theorem dX24_run_1 : decode cX24_run 1 = .ok (.getfield 12, 3) := dc_180 (a := 0) (b := 12) (n := 12) (by decide +kernel)
theorem dX24_run_4 : decode cX24_run 4 = .ok (.invokevirtual 162, 3) := dc_182 (a := 0) (b := 162) (n := 162) (by decide +kernel)
theorem dX24_run_7 : decode cX24_run 7 = .ok (.aload_n 0, 1) := dc_42 (by decide +kernel)
theorem dX24_run_8 : decode cX24_run 8 = .ok (.invokevirtual 165, 3) := dc_182 (a := 0) (b := 165) (n := 165) (by decide +kernel)
theorem dX24_run_11 : decode cX24_run 11 = .ok (.iconst 0, 1) := dc_3 (by decide +kernel)
theorem dX24_run_12 : decode cX24_run 12 = .ok (.istore_n 1, 1) := dc_60 (by decide +kernel)
theorem dX24_run_13 : decode cX24_run 13 = .ok (.iload_n 1, 1) := dc_27 (by decide +kernel)
theorem dX24_run_14 : decode cX24_run 14 = .ok (.aload_n 0, 1) := dc_42 (by decide +kernel)
theorem dX24_run_15 : decode cX24_run 15 = .ok (.getfield 33, 3) := dc_180 (a := 0) (b := 33) (n := 33) (by decide +kernel)
theorem dX24_run_18 : decode cX24_run 18 = .ok (.getfield 70, 3) := dc_180 (a := 0) (b := 70) (n := 70) (by decide +kernel)
theorem dX24_run_21 : decode cX24_run 21 = .ok (.if_icmp .ge 229, 3) := dc_162 (a := 0) (b := 229) (v := 229) (by decide +kernel)
theorem dX24_run_24 : decode cX24_run 24 = .ok (.aload_n 0, 1) := dc_42 (by decide +kernel)
theorem dX24_run_25 : decode cX24_run 25 = .ok (.getfield 12, 3) := dc_180 (a := 0) (b := 12) (n := 12) (by decide +kernel)
theorem dX24_run_28 : decode cX24_run 28 = .ok (.getfield 127, 3) := dc_180 (a := 0) (b := 127) (n := 127) (by decide +kernel)
theorem dX24_run_31 : decode cX24_run 31 = .ok (.iconst (-1), 1) := dc_2 (by decide +kernel)
theorem dX24_run_32 : decode cX24_run 32 = .ok (.if_icmp .eq 218, 3) := dc_159 (a := 0) (b := 218) (v := 218) (by decide +kernel)
theorem dX24_run_35 : decode cX24_run 35 = .ok (.aload_n 0, 1) := dc_42 (by decide +kernel)
theorem dX24_run_36 : decode cX24_run 36 = .ok (.iload_n 1, 1) := dc_27 (by decide +kernel)
theorem dX24_run_37 : decode cX24_run 37 = .ok (.invokevirtual 168, 3) := dc_182 (a := 0) (b := 168) (n := 168) (by decide +kernel)
theorem dX24_run_40 : decode cX24_run 40 = .ok (.ifCond .ne 6, 3) := dc_154 (a := 0) (b := 6) (v := 6) (by decide +kernel)
theorem dX24_run_43 : decode cX24_run 43 = .ok (.goto 201, 3) := dc_167 (a := 0) (b := 201) (v := 201) (by decide +kernel)
theorem dX24_run_46 : decode cX24_run 46 = .ok (.aload_n 0, 1) := dc_42 (by decide +kernel)
theorem dX24_run_47 : decode cX24_run 47 = .ok (.getfield 130, 3) := dc_180 (a := 0) (b := 130) (n := 130) (by decide +kernel)
theorem dX24_run_50 : decode cX24_run 50 = .ok (.istore_n 2, 1) := dc_61 (by decide +kernel)
theorem dX24_run_51 : decode cX24_run 51 = .ok (.aload_n 0, 1) := dc_42 (by decide +kernel)
theorem dX24_run_52 : decode cX24_run 52 = .ok (.iload_n 1, 1) := dc_27 (by decide +kernel)
theorem dX24_run_53 : decode cX24_run 53 = .ok (.invokevirtual 172, 3) := dc_182 (a := 0) (b := 172) (n := 172) (by decide +kernel)
theorem dX24_run_56 : decode cX24_run 56 = .ok (.istore_n 3, 1) := dc_62 (by decide +kernel)
theorem dX24_run_57 : decode cX24_run 57 = .ok (.aload_n 0, 1) := dc_42 (by decide +kernel)
theorem dX24_run_58 : decode cX24_run 58 = .ok (.getfield 111, 3) := dc_180 (a := 0) (b := 111) (n := 111) (by decide +kernel)
theorem dX24_run_61 : decode cX24_run 61 = .ok (.ifCond .ne 131, 3) := dc_154 (a := 0) (b := 131) (v := 131) (by decide +kernel)
theorem dX24_run_64 : decode cX24_run 64 = .ok (.aload_n 0, 1) := dc_42 (by decide +kernel)
theorem dX24_run_65 : decode cX24_run 65 = .ok (.getfield 175, 3) := dc_180 (a := 0) (b := 175) (n := 175) (by decide +kernel)
theorem dX24_run_68 : decode cX24_run 68 = .ok (.ifCond .eq 124, 3) := dc_153 (a := 0) (b := 124) (v := 124) (by decide +kernel)
theorem dX24_run_71 : decode cX24_run 71 = .ok (.iload_n 3, 1) := dc_29 (by decide +kernel)
theorem dX24_run_72 : decode cX24_run 72 = .ok (.iconst (-1), 1) := dc_2 (by decide +kernel)
theorem dX24_run_73 : decode cX24_run 73 = .ok (.if_icmp .eq 119, 3) := dc_159 (a := 0) (b := 119) (v := 119) (by decide +kernel)
theorem dX24_run_76 : decode cX24_run 76 = .ok (.aload_n 0, 1) := dc_42 (by decide +kernel)
theorem dX24_run_77 : decode cX24_run 77 = .ok (.getfield 12, 3) := dc_180 (a := 0) (b := 12) (n := 12) (by decide +kernel)
theorem dX24_run_80 : decode cX24_run 80 = .ok (.getfield 157, 3) := dc_180 (a := 0) (b := 157) (n := 157) (by decide +kernel)
theorem dX24_run_83 : decode cX24_run 83 = .ok (.sipush 8000, 3) := dc_17 (a := 31) (b := 64) (v := 8000) (by decide +kernel)
theorem dX24_run_86 : decode cX24_run 86 = .ok (.if_icmp .le 5, 3) := dc_164 (a := 0) (b := 5) (v := 5) (by decide +kernel)
theorem dX24_run_89 : decode cX24_run 89 = .ok (.iconst 0, 1) := dc_3 (by decide +kernel)
theorem dX24_run_90 : decode cX24_run 90 = .ok (.ireturn, 1) := dc_172 (by decide +kernel)
theorem dX24_run_91 : decode cX24_run 91 = .ok (.aload_n 0, 1) := dc_42 (by decide +kernel)
theorem dX24_run_92 : decode cX24_run 92 = .ok (.getfield 37, 3) := dc_180 (a := 0) (b := 37) (n := 37) (by decide +kernel)
theorem dX24_run_95 : decode cX24_run 95 = .ok (.aload_n 0, 1) := dc_42 (by decide +kernel)
theorem dX24_run_96 : decode cX24_run 96 = .ok (.getfield 33, 3) := dc_180 (a := 0) (b := 33) (n := 33) (by decide +kernel)
theorem dX24_run_99 : decode cX24_run 99 = .ok (.aload_n 0, 1) := dc_42 (by decide +kernel)
theorem dX24_run_100 : decode cX24_run 100 = .ok (.getfield 12, 3) := dc_180 (a := 0) (b := 12) (n := 12) (by decide +kernel)
theorem dX24_run_103 : decode cX24_run 103 = .ok (.getfield 90, 3) := dc_180 (a := 0) (b := 90) (n := 90) (by decide +kernel)
theorem dX24_run_106 : decode cX24_run 106 = .ok (.iload_n 3, 1) := dc_29 (by decide +kernel)
theorem dX24_run_107 : decode cX24_run 107 = .ok (.iaload, 1) := dc_46 (by decide +kernel)
theorem dX24_run_108 : decode cX24_run 108 = .ok (.iload_n 1, 1) := dc_27 (by decide +kernel)
theorem dX24_run_109 : decode cX24_run 109 = .ok (.invokevirtual 133, 3) := dc_182 (a := 0) (b := 133) (n := 133) (by decide +kernel)
theorem dX24_run_112 : decode cX24_run 112 = .ok (.aload_n 0, 1) := dc_42 (by decide +kernel)
theorem dX24_run_113 : decode cX24_run 113 = .ok (.getfield 21, 3) := dc_180 (a := 0) (b := 21) (n := 21) (by decide +kernel)
theorem dX24_run_116 : decode cX24_run 116 = .ok (.aload_n 0, 1) := dc_42 (by decide +kernel)
theorem dX24_run_117 : decode cX24_run 117 = .ok (.getfield 44, 3) := dc_180 (a := 0) (b := 44) (n := 44) (by decide +kernel)
theorem dX24_run_120 : decode cX24_run 120 = .ok (.aload_n 0, 1) := dc_42 (by decide +kernel)
theorem dX24_run_121 : decode cX24_run 121 = .ok (.getfield 12, 3) := dc_180 (a := 0) (b := 12) (n := 12) (by decide +kernel)
theorem dX24_run_124 : decode cX24_run 124 = .ok (.getfield 99, 3) := dc_180 (a := 0) (b := 99) (n := 99) (by decide +kernel)
theorem dX24_run_127 : decode cX24_run 127 = .ok (.iload_n 3, 1) := dc_29 (by decide +kernel)
theorem dX24_run_128 : decode cX24_run 128 = .ok (.iaload, 1) := dc_46 (by decide +kernel)
theorem dX24_run_129 : decode cX24_run 129 = .ok (.bipush 19, 2) := dc_16 (a := 19) (v := 19) (by decide +kernel)
theorem dX24_run_131 : decode cX24_run 131 = .ok (.invokestatic 124, 3) := dc_184 (a := 0) (b := 124) (n := 124) (by decide +kernel)
theorem dX24_run_134 : decode cX24_run 134 = .ok (.iaload, 1) := dc_46 (by decide +kernel)
theorem dX24_run_135 : decode cX24_run 135 = .ok (.i2l, 1) := dc_133 (by decide +kernel)
theorem dX24_run_136 : decode cX24_run 136 = .ok (.aload_n 0, 1) := dc_42 (by decide +kernel)
theorem dX24_run_137 : decode cX24_run 137 = .ok (.getfield 37, 3) := dc_180 (a := 0) (b := 37) (n := 37) (by decide +kernel)
theorem dX24_run_140 : decode cX24_run 140 = .ok (.getfield 136, 3) := dc_180 (a := 0) (b := 136) (n := 136) (by decide +kernel)
theorem dX24_run_143 : decode cX24_run 143 = .ok (.lsub, 1) := dc_101 (by decide +kernel)
theorem dX24_run_144 : decode cX24_run 144 = .ok (.aload_n 0, 1) := dc_42 (by decide +kernel)
theorem dX24_run_145 : decode cX24_run 145 = .ok (.getfield 37, 3) := dc_180 (a := 0) (b := 37) (n := 37) (by decide +kernel)
theorem dX24_run_148 : decode cX24_run 148 = .ok (.invokevirtual 140, 3) := dc_182 (a := 0) (b := 140) (n := 140) (by decide +kernel)
theorem dX24_run_151 : decode cX24_run 151 = .ok (.aload_n 0, 1) := dc_42 (by decide +kernel)
theorem dX24_run_152 : decode cX24_run 152 = .ok (.getfield 12, 3) := dc_180 (a := 0) (b := 12) (n := 12) (by decide +kernel)
theorem dX24_run_155 : decode cX24_run 155 = .ok (.iload_n 1, 1) := dc_27 (by decide +kernel)
theorem dX24_run_156 : decode cX24_run 156 = .ok (.aload_n 0, 1) := dc_42 (by decide +kernel)
theorem dX24_run_157 : decode cX24_run 157 = .ok (.getfield 12, 3) := dc_180 (a := 0) (b := 12) (n := 12) (by decide +kernel)
theorem dX24_run_160 : decode cX24_run 160 = .ok (.getfield 99, 3) := dc_180 (a := 0) (b := 99) (n := 99) (by decide +kernel)
theorem dX24_run_163 : decode cX24_run 163 = .ok (.iload_n 3, 1) := dc_29 (by decide +kernel)
theorem dX24_run_164 : decode cX24_run 164 = .ok (.iaload, 1) := dc_46 (by decide +kernel)
theorem dX24_run_165 : decode cX24_run 165 = .ok (.iconst 1, 1) := dc_4 (by decide +kernel)
theorem dX24_run_166 : decode cX24_run 166 = .ok (.iadd, 1) := dc_96 (by decide +kernel)
theorem dX24_run_167 : decode cX24_run 167 = .ok (.aload_n 0, 1) := dc_42 (by decide +kernel)
theorem dX24_run_168 : decode cX24_run 168 = .ok (.getfield 21, 3) := dc_180 (a := 0) (b := 21) (n := 21) (by decide +kernel)
theorem dX24_run_171 : decode cX24_run 171 = .ok (.getfield 96, 3) := dc_180 (a := 0) (b := 96) (n := 96) (by decide +kernel)
theorem dX24_run_174 : decode cX24_run 174 = .ok (.aload_n 0, 1) := dc_42 (by decide +kernel)
theorem dX24_run_175 : decode cX24_run 175 = .ok (.getfield 12, 3) := dc_180 (a := 0) (b := 12) (n := 12) (by decide +kernel)
theorem dX24_run_178 : decode cX24_run 178 = .ok (.getfield 102, 3) := dc_180 (a := 0) (b := 102) (n := 102) (by decide +kernel)
theorem dX24_run_181 : decode cX24_run 181 = .ok (.iload_n 3, 1) := dc_29 (by decide +kernel)
theorem dX24_run_182 : decode cX24_run 182 = .ok (.laload, 1) := dc_47 (by decide +kernel)
theorem dX24_run_183 : decode cX24_run 183 = .ok (.iload_n 3, 1) := dc_29 (by decide +kernel)
theorem dX24_run_184 : decode cX24_run 184 = .ok (.invokevirtual 158, 3) := dc_182 (a := 0) (b := 158) (n := 158) (by decide +kernel)
theorem dX24_run_187 : decode cX24_run 187 = .ok (.istore 4, 2) := dc_54 (a := 4) (by decide +kernel)
theorem dX24_run_189 : decode cX24_run 189 = .ok (.goto 20, 3) := dc_167 (a := 0) (b := 20) (v := 20) (by decide +kernel)
theorem dX24_run_192 : decode cX24_run 192 = .ok (.aload_n 0, 1) := dc_42 (by decide +kernel)
theorem dX24_run_193 : decode cX24_run 193 = .ok (.getfield 111, 3) := dc_180 (a := 0) (b := 111) (n := 111) (by decide +kernel)
theorem dX24_run_196 : decode cX24_run 196 = .ok (.ifCond .eq 13, 3) := dc_153 (a := 0) (b := 13) (v := 13) (by decide +kernel)
theorem dX24_run_199 : decode cX24_run 199 = .ok (.aload_n 0, 1) := dc_42 (by decide +kernel)
theorem dX24_run_200 : decode cX24_run 200 = .ok (.iload_n 1, 1) := dc_27 (by decide +kernel)
theorem dX24_run_201 : decode cX24_run 201 = .ok (.invokevirtual 178, 3) := dc_182 (a := 0) (b := 178) (n := 178) (by decide +kernel)
theorem dX24_run_204 : decode cX24_run 204 = .ok (.ifCond .ne 5, 3) := dc_154 (a := 0) (b := 5) (v := 5) (by decide +kernel)
theorem dX24_run_207 : decode cX24_run 207 = .ok (.iconst 0, 1) := dc_3 (by decide +kernel)
theorem dX24_run_208 : decode cX24_run 208 = .ok (.ireturn, 1) := dc_172 (by decide +kernel)
theorem dX24_run_209 : decode cX24_run 209 = .ok (.aload_n 0, 1) := dc_42 (by decide +kernel)
theorem dX24_run_210 : decode cX24_run 210 = .ok (.dup, 1) := dc_89 (by decide +kernel)
theorem dX24_run_211 : decode cX24_run 211 = .ok (.getfield 181, 3) := dc_180 (a := 0) (b := 181) (n := 181) (by decide +kernel)
theorem dX24_run_214 : decode cX24_run 214 = .ok (.aload_n 0, 1) := dc_42 (by decide +kernel)
theorem dX24_run_215 : decode cX24_run 215 = .ok (.getfield 130, 3) := dc_180 (a := 0) (b := 130) (n := 130) (by decide +kernel)
theorem dX24_run_218 : decode cX24_run 218 = .ok (.iload_n 2, 1) := dc_28 (by decide +kernel)
theorem dX24_run_219 : decode cX24_run 219 = .ok (.isub, 1) := dc_100 (by decide +kernel)
theorem dX24_run_220 : decode cX24_run 220 = .ok (.iadd, 1) := dc_96 (by decide +kernel)
theorem dX24_run_221 : decode cX24_run 221 = .ok (.putfield 181, 3) := dc_181 (a := 0) (b := 181) (n := 181) (by decide +kernel)
theorem dX24_run_224 : decode cX24_run 224 = .ok (.aload_n 0, 1) := dc_42 (by decide +kernel)
theorem dX24_run_225 : decode cX24_run 225 = .ok (.getfield 130, 3) := dc_180 (a := 0) (b := 130) (n := 130) (by decide +kernel)
theorem dX24_run_228 : decode cX24_run 228 = .ok (.ldc 184, 2) := dc_18 (a := 184) (by decide +kernel)
theorem dX24_run_230 : decode cX24_run 230 = .ok (.if_icmp .gt 12, 3) := dc_163 (a := 0) (b := 12) (v := 12) (by decide +kernel)
theorem dX24_run_233 : decode cX24_run 233 = .ok (.aload_n 0, 1) := dc_42 (by decide +kernel)
theorem dX24_run_234 : decode cX24_run 234 = .ok (.getfield 181, 3) := dc_180 (a := 0) (b := 181) (n := 181) (by decide +kernel)
theorem dX24_run_237 : decode cX24_run 237 = .ok (.ldc 185, 2) := dc_18 (a := 185) (by decide +kernel)
theorem dX24_run_239 : decode cX24_run 239 = .ok (.if_icmp .le 5, 3) := dc_164 (a := 0) (b := 5) (v := 5) (by decide +kernel)
theorem dX24_run_242 : decode cX24_run 242 = .ok (.iconst 0, 1) := dc_3 (by decide +kernel)
theorem dX24_run_243 : decode cX24_run 243 = .ok (.ireturn, 1) := dc_172 (by decide +kernel)
theorem dX24_run_244 : decode cX24_run 244 = .ok (.iinc 1 1, 3) := dc_132 (a := 1) (b := 1) (v := 1) (by decide +kernel)
theorem dX24_run_247 : decode cX24_run 247 = .ok (.goto (-234), 3) := dc_167 (a := 255) (b := 22) (v := -234) (by decide +kernel)
theorem dX24_run_250 : decode cX24_run 250 = .ok (.iconst 1, 1) := dc_4 (by decide +kernel)
theorem dX24_run_251 : decode cX24_run 251 = .ok (.ireturn, 1) := dc_172 (by decide +kernel)
theorem GX24_111 {w : eW} {d : Nat} {Y : eY} {pc : Nat} {ls : eL} {st : List Value} {h : eH} {Q : eO → eH → Prop} {a : Nat} {x : Int32} (hf : g_I 23 h a 13 = some x) (hd : decode Y.2.1 pc = .ok (.getfield 111, 3)) (hY : Y.1.cls = RX24) (kk : wp w d Y (pc + 3) ls (.int x :: st) h Q) : wp w d Y pc ls (.ref a :: st) h Q := x_gI (ci := 23) (k := 13) hf hd rfl (by decide) (by rw [hY]; exact q1409) kk
theorem GX24_175 {w : eW} {d : Nat} {Y : eY} {pc : Nat} {ls : eL} {st : List Value} {h : eH} {Q : eO → eH → Prop} {a : Nat} {x : Int32} (hf : g_I 23 h a 9 = some x) (hd : decode Y.2.1 pc = .ok (.getfield 175, 3)) (hY : Y.1.cls = RX24) (kk : wp w d Y (pc + 3) ls (.int x :: st) h Q) : wp w d Y pc ls (.ref a :: st) h Q := x_gI (ci := 23) (k := 9) hf hd rfl (by decide) (by rw [hY]; exact q1404) kk
theorem GX24_181 {w : eW} {d : Nat} {Y : eY} {pc : Nat} {ls : eL} {st : List Value} {h : eH} {Q : eO → eH → Prop} {a : Nat} {x : Int32} (hf : g_I 23 h a 15 = some x) (hd : decode Y.2.1 pc = .ok (.getfield 181, 3)) (hY : Y.1.cls = RX24) (kk : wp w d Y (pc + 3) ls (.int x :: st) h Q) : wp w d Y pc ls (.ref a :: st) h Q := x_gI (ci := 23) (k := 15) hf hd rfl (by decide) (by rw [hY]; exact q1412) kk
theorem SX24_181 {w : eW} {d : Nat} {Y : eY} {pc : Nat} {ls : eL} {st : List Value} {h : eH} {Q : eO → eH → Prop} {a : Nat} {h' : eH} {x : Int32} (hf : p_V 23 h a 15 (.int x) = some h') (hd : decode Y.2.1 pc = .ok (.putfield 181, 3)) (hY : Y.1.cls = RX24) (kk : wp w d Y (pc + 3) ls st h' Q) : wp w d Y pc ls (.int x :: .ref a :: st) h Q := x_pI (ci := 23) (k := 15) hf hd rfl (by decide) (by rw [hY]; exact q1412) rfl rfl kk
def fX24_run_b242 (N : Nat)  (h : eH) : Option (Int32 × eH) :=
  some ((0 : Int32), h)
theorem pX24_run_b242 {w : eW} {d : Nat} (hd : 4 ≤ d + 1) {N : Nat}  {h : eH} {q} (hf : fX24_run_b242 N h = some q) : wp w (d + 1) YX24_run 242 [none, none, none, none, none] [] h (e_is (e_rn c_I q)) := by
  unfold fX24_run_b242 at hf
  refine w_iconst dX24_run_242 (v := 0) (by decide) ?_
  cases hf
  exact w_iret dX24_run_243 rfl rfl rfl
def fX24_run_b244 (N : Nat) (k13 : Nat → Int32 → eH → Option (Int32 × eH)) (l0 : Nat) (l1 : Int32) (h : eH) : Option (Int32 × eH) :=
  k13 l0 (l1 + (1 : Int32)) h
theorem pX24_run_b244 {w : eW} {d : Nat} (hd : 4 ≤ d + 1) {N : Nat} {k13 : Nat → Int32 → eH → Option (Int32 × eH)} (hk13 : ∀ l0 l1 h q, k13 l0 l1 h = some q → wp w (d + 1) YX24_run 13 [some (.ref l0), some (.int l1), none, none, none] [] h (e_is (e_rn c_I q))) {l0 : Nat} {l1 : Int32} {h : eH} {q} (hf : fX24_run_b244 N k13 l0 l1 h = some q) : wp w (d + 1) YX24_run 244 [some (.ref l0), some (.int l1), none, none, none] [] h (e_is (e_rn c_I q)) := by
  unfold fX24_run_b244 at hf
  refine w_iinc dX24_run_244 (v := (l1 + (1 : Int32))) rfl rfl (by decide) (ls' := [some (.ref l0), some (.int (l1 + (1 : Int32))), none, none, none]) rfl ?_
  refine w_goto 13 dX24_run_247 (by decide) ?_
  exact (hk13 _ _ _ _ hf).to ⟨rfl, rfl, trivial⟩
def fX24_run_b209 (N : Nat) (k13 : Nat → Int32 → eH → Option (Int32 × eH)) (l0 : Nat) (l1 : Int32) (l2 : Int32) (h : eH) : Option (Int32 × eH) :=
  (g_I 23 h l0 15).bind fun x1 =>
  (g_I 23 h l0 14).bind fun x3 =>
  (p_V 23 h l0 15 (.int (x1 + (x3 - l2)))).bind fun h5 =>
  (g_I 23 h5 l0 14).bind fun x7 =>
  if (3000000 : Int32) < x7 then
    fX24_run_b242 N h5
  else
    (g_I 23 h5 l0 15).bind fun x10 =>
    if x10 ≤ (30000000 : Int32) then
      fX24_run_b244 N k13 l0 l1 h5
    else
      fX24_run_b242 N h5
theorem pX24_run_b209 {w : eW} {d : Nat} (hd : 4 ≤ d + 1) {N : Nat} {k13 : Nat → Int32 → eH → Option (Int32 × eH)} (hk13 : ∀ l0 l1 h q, k13 l0 l1 h = some q → wp w (d + 1) YX24_run 13 [some (.ref l0), some (.int l1), none, none, none] [] h (e_is (e_rn c_I q))) {l0 : Nat} {l1 : Int32} {l2 : Int32} {h : eH} {q} (hf : fX24_run_b209 N k13 l0 l1 l2 h = some q) : wp w (d + 1) YX24_run 209 [some (.ref l0), some (.int l1), some (.int l2), none, none] [] h (e_is (e_rn c_I q)) := by
  unfold fX24_run_b209 at hf
  refine w_aload_n dX24_run_209 rfl rfl ?_
  refine w_dup dX24_run_210 rfl ?_
  obtain ⟨x1, b2, hf⟩ := Option.bind_eq_some_iff.mp hf
  refine GX24_181 b2 dX24_run_211 rfl ?_
  refine w_aload_n dX24_run_214 rfl rfl ?_
  obtain ⟨x3, b4, hf⟩ := Option.bind_eq_some_iff.mp hf
  refine GX24_130 b4 dX24_run_215 rfl ?_
  refine w_iload_n dX24_run_218 rfl rfl ?_
  refine w_isub dX24_run_219 ?_
  refine w_iadd dX24_run_220 ?_
  obtain ⟨h5, b6, hf⟩ := Option.bind_eq_some_iff.mp hf
  refine SX24_181 b6 dX24_run_221 rfl ?_
  refine w_aload_n dX24_run_224 rfl rfl ?_
  obtain ⟨x7, b8, hf⟩ := Option.bind_eq_some_iff.mp hf
  refine GX24_130 b8 dX24_run_225 rfl ?_
  refine w_ldc dX24_run_228 q3822 ?_
  refine w_icmp_gt 242 dX24_run_230 (by decide) (fun c9 => ?_) (fun c9 => ?_)
  · replace hf := (if_pos (show (3000000 : Int32) < x7 from c9)).symm.trans hf
    exact (pX24_run_b242 hd hf).to trivial
  · replace hf := (if_neg (show ¬ ((3000000 : Int32) < x7) from c9)).symm.trans hf
    refine w_aload_n dX24_run_233 rfl rfl ?_
    obtain ⟨x10, b11, hf⟩ := Option.bind_eq_some_iff.mp hf
    refine GX24_181 b11 dX24_run_234 rfl ?_
    refine w_ldc dX24_run_237 q3823 ?_
    refine w_icmp_le 244 dX24_run_239 (by decide) (fun c12 => ?_) (fun c12 => ?_)
    · replace hf := (if_pos (show x10 ≤ (30000000 : Int32) from c12)).symm.trans hf
      exact (pX24_run_b244 hd hk13 hf).to ⟨rfl, rfl, trivial⟩
    · replace hf := (if_neg (show ¬ (x10 ≤ (30000000 : Int32)) from c12)).symm.trans hf
      exact (pX24_run_b242 hd hf).to trivial
def fX24_run_b192 (N : Nat) (k13 : Nat → Int32 → eH → Option (Int32 × eH)) (l0 : Nat) (l1 : Int32) (l2 : Int32) (h : eH) : Option (Int32 × eH) :=
  (g_I 23 h l0 13).bind fun x1 =>
  if x1 = 0 then
    fX24_run_b209 N k13 l0 l1 l2 h
  else
    (k_ok 23 h l0).bind fun _ =>
    (fX24_makeNodes N l0 l1 h).bind fun q5 =>
    if ¬ q5.1 = 0 then
      fX24_run_b209 N k13 l0 l1 l2 q5.2
    else
      some ((0 : Int32), q5.2)
theorem pX24_run_b192 {w : eW} {d : Nat} (hd : 4 ≤ d + 1) {N : Nat} {k13 : Nat → Int32 → eH → Option (Int32 × eH)} (hk13 : ∀ l0 l1 h q, k13 l0 l1 h = some q → wp w (d + 1) YX24_run 13 [some (.ref l0), some (.int l1), none, none, none] [] h (e_is (e_rn c_I q))) {l0 : Nat} {l1 : Int32} {l2 : Int32} {h : eH} {q} (hf : fX24_run_b192 N k13 l0 l1 l2 h = some q) : wp w (d + 1) YX24_run 192 [some (.ref l0), some (.int l1), some (.int l2), none, none] [] h (e_is (e_rn c_I q)) := by
  unfold fX24_run_b192 at hf
  refine w_aload_n dX24_run_192 rfl rfl ?_
  obtain ⟨x1, b2, hf⟩ := Option.bind_eq_some_iff.mp hf
  refine GX24_111 b2 dX24_run_193 rfl ?_
  refine w_if_eq 209 dX24_run_196 (by decide) (fun c3 => ?_) (fun c3 => ?_)
  · replace hf := (if_pos (show x1 = 0 from c3)).symm.trans hf
    exact (pX24_run_b209 hd hk13 hf).to ⟨rfl, rfl, rfl, trivial⟩
  · replace hf := (if_neg (show ¬ (x1 = 0) from c3)).symm.trans hf
    refine w_aload_n dX24_run_199 rfl rfl ?_
    refine w_iload_n dX24_run_200 rfl rfl ?_
    obtain ⟨_, b4, hf⟩ := Option.bind_eq_some_iff.mp hf
    refine x_cnI hf (e_stV (Yc := YX24_makeNodes) (ci := 23) (av := [.int l1]) (st := []) dX24_run_201 q3818 mX24_makeNodes rfl (k_ok_some b4).1 (k_ok_some b4).2) mX24_makeNodes.2.2.1 mX24_makeNodes.2.2.2.2.1 (Nat.le_of_ble_eq_true rfl) (Nat.le_of_ble_eq_true rfl) (fun q hq => pX24_makeNodes (by omega) hq) (fun q5 hf => ?_)
    refine w_if_ne 209 dX24_run_204 (by decide) (fun c6 => ?_) (fun c6 => ?_)
    · replace hf := (if_pos (show ¬ q5.1 = 0 from c6)).symm.trans hf
      exact (pX24_run_b209 hd hk13 hf).to ⟨rfl, rfl, rfl, trivial⟩
    · replace hf := (if_neg (show ¬ (¬ q5.1 = 0) from (fun z => z c6))).symm.trans hf
      refine w_iconst dX24_run_207 (v := 0) (by decide) ?_
      cases hf
      exact w_iret dX24_run_208 rfl rfl rfl
def fX24_run_b250 (N : Nat)  (h : eH) : Option (Int32 × eH) :=
  some ((1 : Int32), h)
theorem pX24_run_b250 {w : eW} {d : Nat} (hd : 4 ≤ d + 1) {N : Nat}  {h : eH} {q} (hf : fX24_run_b250 N h = some q) : wp w (d + 1) YX24_run 250 [none, none, none, none, none] [] h (e_is (e_rn c_I q)) := by
  unfold fX24_run_b250 at hf
  refine w_iconst dX24_run_250 (v := 1) (by decide) ?_
  cases hf
  exact w_iret dX24_run_251 rfl rfl rfl
def fX24_run_b13 (N : Nat) : Nat → Nat → Int32 → eH → Option (Int32 × eH)
  | 0, _, _, _ => none
  | n + 1, l0, l1, h =>
    (g_A 23 h l0 0).bind fun a1 =>
    (g_I 21 h a1 5).bind fun x3 =>
    if x3 ≤ l1 then
      fX24_run_b250 N h
    else
      (g_A 23 h l0 4).bind fun a6 =>
      (g_I 24 h a6 7).bind fun x8 =>
      if x8 = (-1 : Int32) then
        fX24_run_b250 N h
      else
        (k_ok 23 h l0).bind fun _ =>
        (fX24_isPlace N l0 l1 h).bind fun q12 =>
        if ¬ q12.1 = 0 then
          (g_I 23 q12.2 l0 14).bind fun x14 =>
          (k_ok 23 q12.2 l0).bind fun _ =>
          (fX24_goThrough N l0 l1 q12.2).bind fun q17 =>
          (g_I 23 q17.2 l0 13).bind fun x18 =>
          if ¬ x18 = 0 then
            fX24_run_b192 N (fX24_run_b13 N n) l0 l1 x14 q17.2
          else
            (g_I 23 q17.2 l0 9).bind fun x21 =>
            if x21 = 0 then
              fX24_run_b192 N (fX24_run_b13 N n) l0 l1 x14 q17.2
            else
              if q17.1 = (-1 : Int32) then
                fX24_run_b192 N (fX24_run_b13 N n) l0 l1 x14 q17.2
              else
                (g_A 23 q17.2 l0 4).bind fun a25 =>
                (g_I 24 q17.2 a25 6).bind fun x27 =>
                if x27 ≤ (8000 : Int32) then
                  (g_A 23 q17.2 l0 1).bind fun a30 =>
                  (g_A 23 q17.2 l0 0).bind fun a32 =>
                  (g_A 23 q17.2 l0 4).bind fun a34 =>
                  (g_A 24 q17.2 a34 0).bind fun a36 =>
                  (r_I 100 q17.2 a36 q17.1).bind fun x38 =>
                  (k_ok 22 q17.2 a30).bind fun _ =>
                  (fX23_measure N a30 a32 x38 l1 q17.2).bind fun q41 =>
                  (g_A 23 q41.2 l0 5).bind fun a42 =>
                  (g_A 23 q41.2 l0 3).bind fun a44 =>
                  (g_A 23 q41.2 l0 4).bind fun a46 =>
                  (g_A 24 q41.2 a46 1).bind fun a48 =>
                  (r_I 100 q41.2 a48 q17.1).bind fun x50 =>
                  (r_I 100 q41.2 a44 (m_minI x50 (19 : Int32))).bind fun x52 =>
                  (g_A 23 q41.2 l0 1).bind fun a54 =>
                  (g_J 22 q41.2 a54 8).bind fun x56 =>
                  (g_A 23 q41.2 l0 1).bind fun a58 =>
                  (k_ok 25 q41.2 a42).bind fun _ =>
                  (fX26_weigh a42 ((x52).toInt64 - x56) a58 q41.2).bind fun q61 =>
                  (g_A 23 q61.2 l0 4).bind fun a62 =>
                  (g_A 23 q61.2 l0 4).bind fun a64 =>
                  (g_A 24 q61.2 a64 1).bind fun a66 =>
                  (r_I 100 q61.2 a66 q17.1).bind fun x68 =>
                  (g_A 23 q61.2 l0 5).bind fun a70 =>
                  (g_I 25 q61.2 a70 1).bind fun x72 =>
                  (g_A 23 q61.2 l0 4).bind fun a74 =>
                  (g_A 24 q61.2 a74 3).bind fun a76 =>
                  (r_J q61.2 a76 q17.1).bind fun x78 =>
                  (k_ok 24 q61.2 a62).bind fun _ =>
                  (fX25_add a62 l1 (x68 + (1 : Int32)) x72 x78 q17.1 q61.2).bind fun q81 =>
                  fX24_run_b209 N (fX24_run_b13 N n) l0 l1 x14 q81.2
                else
                  some ((0 : Int32), q17.2)
        else
          fX24_run_b244 N (fX24_run_b13 N n) l0 l1 q12.2
theorem pX24_run_b13 {w : eW} {d : Nat} (hd : 4 ≤ d + 1) {N : Nat} : ∀ (n : Nat) l0 l1 h q, fX24_run_b13 N n l0 l1 h = some q → wp w (d + 1) YX24_run 13 [some (.ref l0), some (.int l1), none, none, none] [] h (e_is (e_rn c_I q)) := by
  intro n
  induction n with
  | zero => intro l0 l1 h q hf; simp [fX24_run_b13] at hf
  | succ n ih =>
    intro l0 l1 h q hf
    rw [fX24_run_b13] at hf
    refine w_iload_n dX24_run_13 rfl rfl ?_
    refine w_aload_n dX24_run_14 rfl rfl ?_
    obtain ⟨a1, b2, hf⟩ := Option.bind_eq_some_iff.mp hf
    refine GX24_33 b2 dX24_run_15 rfl ?_
    obtain ⟨x3, b4, hf⟩ := Option.bind_eq_some_iff.mp hf
    refine GX24_70 b4 dX24_run_18 rfl ?_
    refine w_icmp_ge 250 dX24_run_21 (by decide) (fun c5 => ?_) (fun c5 => ?_)
    · replace hf := (if_pos (show x3 ≤ l1 from c5)).symm.trans hf
      exact (pX24_run_b250 hd hf).to trivial
    · replace hf := (if_neg (show ¬ (x3 ≤ l1) from c5)).symm.trans hf
      refine w_aload_n dX24_run_24 rfl rfl ?_
      obtain ⟨a6, b7, hf⟩ := Option.bind_eq_some_iff.mp hf
      refine GX24_12 b7 dX24_run_25 rfl ?_
      obtain ⟨x8, b9, hf⟩ := Option.bind_eq_some_iff.mp hf
      refine GX24_127 b9 dX24_run_28 rfl ?_
      refine w_iconst dX24_run_31 (v := -1) (by decide) ?_
      refine w_icmp_eq 250 dX24_run_32 (by decide) (fun c10 => ?_) (fun c10 => ?_)
      · replace hf := (if_pos (show x8 = (-1 : Int32) from c10)).symm.trans hf
        exact (pX24_run_b250 hd hf).to trivial
      · replace hf := (if_neg (show ¬ (x8 = (-1 : Int32)) from c10)).symm.trans hf
        refine w_aload_n dX24_run_35 rfl rfl ?_
        refine w_iload_n dX24_run_36 rfl rfl ?_
        obtain ⟨_, b11, hf⟩ := Option.bind_eq_some_iff.mp hf
        refine x_cnI hf (e_stV (Yc := YX24_isPlace) (ci := 23) (av := [.int l1]) (st := []) dX24_run_37 q3755 mX24_isPlace rfl (k_ok_some b11).1 (k_ok_some b11).2) mX24_isPlace.2.2.1 mX24_isPlace.2.2.2.2.1 (Nat.le_of_ble_eq_true rfl) (Nat.le_of_ble_eq_true rfl) (fun q hq => pX24_isPlace (by omega) hq) (fun q12 hf => ?_)
        refine w_if_ne 46 dX24_run_40 (by decide) (fun c13 => ?_) (fun c13 => ?_)
        · replace hf := (if_pos (show ¬ q12.1 = 0 from c13)).symm.trans hf
          refine w_aload_n dX24_run_46 rfl rfl ?_
          obtain ⟨x14, b15, hf⟩ := Option.bind_eq_some_iff.mp hf
          refine GX24_130 b15 dX24_run_47 rfl ?_
          refine w_istore_n dX24_run_50 rfl (by decide) (ls' := [some (.ref l0), some (.int l1), some (.int x14), none, none]) rfl ?_
          refine w_aload_n dX24_run_51 rfl rfl ?_
          refine w_iload_n dX24_run_52 rfl rfl ?_
          obtain ⟨_, b16, hf⟩ := Option.bind_eq_some_iff.mp hf
          refine x_cnI hf (e_stV (Yc := YX24_goThrough) (ci := 23) (av := [.int l1]) (st := []) dX24_run_53 q3768 mX24_goThrough rfl (k_ok_some b16).1 (k_ok_some b16).2) mX24_goThrough.2.2.1 mX24_goThrough.2.2.2.2.1 (Nat.le_of_ble_eq_true rfl) (Nat.le_of_ble_eq_true rfl) (fun q hq => pX24_goThrough (by omega) hq) (fun q17 hf => ?_)
          refine w_istore_n dX24_run_56 rfl (by decide) (ls' := [some (.ref l0), some (.int l1), some (.int x14), some (.int q17.1), none]) rfl ?_
          refine w_aload_n dX24_run_57 rfl rfl ?_
          obtain ⟨x18, b19, hf⟩ := Option.bind_eq_some_iff.mp hf
          refine GX24_111 b19 dX24_run_58 rfl ?_
          refine w_if_ne 192 dX24_run_61 (by decide) (fun c20 => ?_) (fun c20 => ?_)
          · replace hf := (if_pos (show ¬ x18 = 0 from c20)).symm.trans hf
            exact (pX24_run_b192 hd ih hf).to ⟨rfl, rfl, rfl, trivial⟩
          · replace hf := (if_neg (show ¬ (¬ x18 = 0) from (fun z => z c20))).symm.trans hf
            refine w_aload_n dX24_run_64 rfl rfl ?_
            obtain ⟨x21, b22, hf⟩ := Option.bind_eq_some_iff.mp hf
            refine GX24_175 b22 dX24_run_65 rfl ?_
            refine w_if_eq 192 dX24_run_68 (by decide) (fun c23 => ?_) (fun c23 => ?_)
            · replace hf := (if_pos (show x21 = 0 from c23)).symm.trans hf
              exact (pX24_run_b192 hd ih hf).to ⟨rfl, rfl, rfl, trivial⟩
            · replace hf := (if_neg (show ¬ (x21 = 0) from c23)).symm.trans hf
              refine w_iload_n dX24_run_71 rfl rfl ?_
              refine w_iconst dX24_run_72 (v := -1) (by decide) ?_
              refine w_icmp_eq 192 dX24_run_73 (by decide) (fun c24 => ?_) (fun c24 => ?_)
              · replace hf := (if_pos (show q17.1 = (-1 : Int32) from c24)).symm.trans hf
                exact (pX24_run_b192 hd ih hf).to ⟨rfl, rfl, rfl, trivial⟩
              · replace hf := (if_neg (show ¬ (q17.1 = (-1 : Int32)) from c24)).symm.trans hf
                refine w_aload_n dX24_run_76 rfl rfl ?_
                obtain ⟨a25, b26, hf⟩ := Option.bind_eq_some_iff.mp hf
                refine GX24_12 b26 dX24_run_77 rfl ?_
                obtain ⟨x27, b28, hf⟩ := Option.bind_eq_some_iff.mp hf
                refine GX24_157 b28 dX24_run_80 rfl ?_
                refine w_sipush dX24_run_83 (v := 8000) (by decide) ?_
                refine w_icmp_le 91 dX24_run_86 (by decide) (fun c29 => ?_) (fun c29 => ?_)
                · replace hf := (if_pos (show x27 ≤ (8000 : Int32) from c29)).symm.trans hf
                  refine w_aload_n dX24_run_91 rfl rfl ?_
                  obtain ⟨a30, b31, hf⟩ := Option.bind_eq_some_iff.mp hf
                  refine GX24_37 b31 dX24_run_92 rfl ?_
                  refine w_aload_n dX24_run_95 rfl rfl ?_
                  obtain ⟨a32, b33, hf⟩ := Option.bind_eq_some_iff.mp hf
                  refine GX24_33 b33 dX24_run_96 rfl ?_
                  refine w_aload_n dX24_run_99 rfl rfl ?_
                  obtain ⟨a34, b35, hf⟩ := Option.bind_eq_some_iff.mp hf
                  refine GX24_12 b35 dX24_run_100 rfl ?_
                  obtain ⟨a36, b37, hf⟩ := Option.bind_eq_some_iff.mp hf
                  refine GX24_90 b37 dX24_run_103 rfl ?_
                  refine w_iload_n dX24_run_106 rfl rfl ?_
                  obtain ⟨x38, b39, hf⟩ := Option.bind_eq_some_iff.mp hf
                  refine x_rI b39 dX24_run_107 ?_
                  refine w_iload_n dX24_run_108 rfl rfl ?_
                  obtain ⟨_, b40, hf⟩ := Option.bind_eq_some_iff.mp hf
                  refine x_cnV hf (e_stV (Yc := YX23_measure) (ci := 22) (av := [.ref a32, .int x38, .int l1]) (st := []) dX24_run_109 q3772 mX23_measure rfl (k_ok_some b40).1 (k_ok_some b40).2) mX23_measure.2.2.1 mX23_measure.2.2.2.2.1 (Nat.le_of_ble_eq_true rfl) (Nat.le_of_ble_eq_true rfl) (fun q hq => pX23_measure (by omega) hq) (fun q41 hf => ?_)
                  refine w_aload_n dX24_run_112 rfl rfl ?_
                  obtain ⟨a42, b43, hf⟩ := Option.bind_eq_some_iff.mp hf
                  refine GX24_21 b43 dX24_run_113 rfl ?_
                  refine w_aload_n dX24_run_116 rfl rfl ?_
                  obtain ⟨a44, b45, hf⟩ := Option.bind_eq_some_iff.mp hf
                  refine GX24_44 b45 dX24_run_117 rfl ?_
                  refine w_aload_n dX24_run_120 rfl rfl ?_
                  obtain ⟨a46, b47, hf⟩ := Option.bind_eq_some_iff.mp hf
                  refine GX24_12 b47 dX24_run_121 rfl ?_
                  obtain ⟨a48, b49, hf⟩ := Option.bind_eq_some_iff.mp hf
                  refine GX24_99 b49 dX24_run_124 rfl ?_
                  refine w_iload_n dX24_run_127 rfl rfl ?_
                  obtain ⟨x50, b51, hf⟩ := Option.bind_eq_some_iff.mp hf
                  refine x_rI b51 dX24_run_128 ?_
                  refine w_bipush dX24_run_129 (v := 19) (by decide) ?_
                  refine x_minI dX24_run_131 q3781 q2930 q478 q2931 (Nat.le_of_ble_eq_true rfl) ?_
                  obtain ⟨x52, b53, hf⟩ := Option.bind_eq_some_iff.mp hf
                  refine x_rI b53 dX24_run_134 ?_
                  refine w_i2l dX24_run_135 ?_
                  refine w_aload_n dX24_run_136 rfl rfl ?_
                  obtain ⟨a54, b55, hf⟩ := Option.bind_eq_some_iff.mp hf
                  refine GX24_37 b55 dX24_run_137 rfl ?_
                  obtain ⟨x56, b57, hf⟩ := Option.bind_eq_some_iff.mp hf
                  refine GX24_136 b57 dX24_run_140 rfl ?_
                  refine w_lsub dX24_run_143 ?_
                  refine w_aload_n dX24_run_144 rfl rfl ?_
                  obtain ⟨a58, b59, hf⟩ := Option.bind_eq_some_iff.mp hf
                  refine GX24_37 b59 dX24_run_145 rfl ?_
                  obtain ⟨_, b60, hf⟩ := Option.bind_eq_some_iff.mp hf
                  refine x_cnV hf (e_stV (Yc := YX26_weigh) (ci := 25) (av := [.long ((x52).toInt64 - x56), .ref a58]) (st := []) dX24_run_148 q3782 mX26_weigh rfl (k_ok_some b60).1 (k_ok_some b60).2) mX26_weigh.2.2.1 mX26_weigh.2.2.2.2.1 (Nat.le_of_ble_eq_true rfl) (Nat.le_of_ble_eq_true rfl) (fun q hq => pX26_weigh (by omega) hq) (fun q61 hf => ?_)
                  refine w_aload_n dX24_run_151 rfl rfl ?_
                  obtain ⟨a62, b63, hf⟩ := Option.bind_eq_some_iff.mp hf
                  refine GX24_12 b63 dX24_run_152 rfl ?_
                  refine w_iload_n dX24_run_155 rfl rfl ?_
                  refine w_aload_n dX24_run_156 rfl rfl ?_
                  obtain ⟨a64, b65, hf⟩ := Option.bind_eq_some_iff.mp hf
                  refine GX24_12 b65 dX24_run_157 rfl ?_
                  obtain ⟨a66, b67, hf⟩ := Option.bind_eq_some_iff.mp hf
                  refine GX24_99 b67 dX24_run_160 rfl ?_
                  refine w_iload_n dX24_run_163 rfl rfl ?_
                  obtain ⟨x68, b69, hf⟩ := Option.bind_eq_some_iff.mp hf
                  refine x_rI b69 dX24_run_164 ?_
                  refine w_iconst dX24_run_165 (v := 1) (by decide) ?_
                  refine w_iadd dX24_run_166 ?_
                  refine w_aload_n dX24_run_167 rfl rfl ?_
                  obtain ⟨a70, b71, hf⟩ := Option.bind_eq_some_iff.mp hf
                  refine GX24_21 b71 dX24_run_168 rfl ?_
                  obtain ⟨x72, b73, hf⟩ := Option.bind_eq_some_iff.mp hf
                  refine GX24_96 b73 dX24_run_171 rfl ?_
                  refine w_aload_n dX24_run_174 rfl rfl ?_
                  obtain ⟨a74, b75, hf⟩ := Option.bind_eq_some_iff.mp hf
                  refine GX24_12 b75 dX24_run_175 rfl ?_
                  obtain ⟨a76, b77, hf⟩ := Option.bind_eq_some_iff.mp hf
                  refine GX24_102 b77 dX24_run_178 rfl ?_
                  refine w_iload_n dX24_run_181 rfl rfl ?_
                  obtain ⟨x78, b79, hf⟩ := Option.bind_eq_some_iff.mp hf
                  refine x_rJ b79 dX24_run_182 ?_
                  refine w_iload_n dX24_run_183 rfl rfl ?_
                  obtain ⟨_, b80, hf⟩ := Option.bind_eq_some_iff.mp hf
                  refine x_cnI hf (e_stV (Yc := YX25_add) (ci := 24) (av := [.int l1, .int (x68 + (1 : Int32)), .int x72, .long x78, .int q17.1]) (st := []) dX24_run_184 q3817 mX25_add rfl (k_ok_some b80).1 (k_ok_some b80).2) mX25_add.2.2.1 mX25_add.2.2.2.2.1 (Nat.le_of_ble_eq_true rfl) (Nat.le_of_ble_eq_true rfl) (fun q hq => pX25_add (by omega) hq) (fun q81 hf => ?_)
                  refine w_istore dX24_run_187 (by decide) (ls' := [some (.ref l0), some (.int l1), some (.int x14), some (.int q17.1), some (.int q81.1)]) rfl ?_
                  refine w_goto 209 dX24_run_189 (by decide) ?_
                  exact (pX24_run_b209 hd ih hf).to ⟨rfl, rfl, rfl, trivial⟩
                · replace hf := (if_neg (show ¬ (x27 ≤ (8000 : Int32)) from c29)).symm.trans hf
                  refine w_iconst dX24_run_89 (v := 0) (by decide) ?_
                  cases hf
                  exact w_iret dX24_run_90 rfl rfl rfl
        · replace hf := (if_neg (show ¬ (¬ q12.1 = 0) from (fun z => z c13))).symm.trans hf
          refine w_goto 244 dX24_run_43 (by decide) ?_
          exact (pX24_run_b244 hd ih hf).to ⟨rfl, rfl, trivial⟩
def fX24_run (N : Nat) (this : Nat) (h : eH) : Option (Int32 × eH) :=
  (g_A 23 h this 4).bind fun a1 =>
  (k_ok 24 h a1).bind fun _ =>
  (fX25_begin a1 h).bind fun q4 =>
  (k_ok 23 q4.2 this).bind fun _ =>
  (fX24_clear N this q4.2).bind fun q6 =>
  fX24_run_b13 N N this (0 : Int32) q6.2
theorem pX24_run {w : eW} {d : Nat} (hd : 4 ≤ d) {N : Nat} {this : Nat} {h : eH} {q} (hf : fX24_run N this h = some q) : wm w d YX24_run [.ref this] h (e_is (e_rn c_I q)) := by
  obtain ⟨d, rfl⟩ : ∃ e, d = e + 1 := ⟨d - 1, by omega⟩
  show wp w (d + 1) YX24_run 0 [some (.ref this), none, none, none, none] [] h _
  unfold fX24_run at hf
  refine w_aload_n dX24_run_0 rfl rfl ?_
  obtain ⟨a1, b2, hf⟩ := Option.bind_eq_some_iff.mp hf
  refine GX24_12 b2 dX24_run_1 rfl ?_
  obtain ⟨_, b3, hf⟩ := Option.bind_eq_some_iff.mp hf
  refine x_cnV hf (e_stV (Yc := YX25_begin) (ci := 24) (av := []) (st := []) dX24_run_4 q3743 mX25_begin rfl (k_ok_some b3).1 (k_ok_some b3).2) mX25_begin.2.2.1 mX25_begin.2.2.2.2.1 (Nat.le_of_ble_eq_true rfl) (Nat.le_of_ble_eq_true rfl) (fun q hq => pX25_begin (by omega) hq) (fun q4 hf => ?_)
  refine w_aload_n dX24_run_7 rfl rfl ?_
  obtain ⟨_, b5, hf⟩ := Option.bind_eq_some_iff.mp hf
  refine x_cnV hf (e_stV (Yc := YX24_clear) (ci := 23) (av := []) (st := []) dX24_run_8 q3751 mX24_clear rfl (k_ok_some b5).1 (k_ok_some b5).2) mX24_clear.2.2.1 mX24_clear.2.2.2.2.1 (Nat.le_of_ble_eq_true rfl) (Nat.le_of_ble_eq_true rfl) (fun q hq => pX24_clear (by omega) hq) (fun q6 hf => ?_)
  refine w_iconst dX24_run_11 (v := 0) (by decide) ?_
  refine w_istore_n dX24_run_12 rfl (by decide) (ls' := [some (.ref this), some (.int (0 : Int32)), none, none, none]) rfl ?_
  exact (pX24_run_b13 hd N _ _ _ _ hf).to ⟨rfl, rfl, trivial⟩
abbrev cX24_isAtEnd : ByteArray := prog_24_method_12_code
def yX24_isAtEnd : MethodName := ⟨RX24, "isAtEnd", "(I)Z"⟩
def YX24_isAtEnd : eY := (yX24_isAtEnd, cX24_isAtEnd, 2, (Option.some FieldType.boolean), [])
theorem mX24_isAtEnd : e_mv YX24_isAtEnd RX24 1 := ⟨q3834, qs177, q3835, by decide, by decide +kernel, (e_sig (by decide +kernel))⟩
theorem dX24_isAtEnd_0 : decode cX24_isAtEnd 0 = .ok (.aload_n 0, 1) := dc_42 (by decide +kernel)
theorem dX24_isAtEnd_1 : decode cX24_isAtEnd 1 = .ok (.getfield 12, 3) := dc_180 (a := 0) (b := 12) (n := 12) (by decide +kernel)
theorem dX24_isAtEnd_4 : decode cX24_isAtEnd 4 = .ok (.getfield 90, 3) := dc_180 (a := 0) (b := 90) (n := 90) (by decide +kernel)
theorem dX24_isAtEnd_7 : decode cX24_isAtEnd 7 = .ok (.iload_n 1, 1) := dc_27 (by decide +kernel)
theorem dX24_isAtEnd_8 : decode cX24_isAtEnd 8 = .ok (.iaload, 1) := dc_46 (by decide +kernel)
theorem dX24_isAtEnd_9 : decode cX24_isAtEnd 9 = .ok (.aload_n 0, 1) := dc_42 (by decide +kernel)
theorem dX24_isAtEnd_10 : decode cX24_isAtEnd 10 = .ok (.getfield 33, 3) := dc_180 (a := 0) (b := 33) (n := 33) (by decide +kernel)
theorem dX24_isAtEnd_13 : decode cX24_isAtEnd 13 = .ok (.getfield 70, 3) := dc_180 (a := 0) (b := 70) (n := 70) (by decide +kernel)
theorem dX24_isAtEnd_16 : decode cX24_isAtEnd 16 = .ok (.iconst 1, 1) := dc_4 (by decide +kernel)
theorem dX24_isAtEnd_17 : decode cX24_isAtEnd 17 = .ok (.isub, 1) := dc_100 (by decide +kernel)
theorem dX24_isAtEnd_18 : decode cX24_isAtEnd 18 = .ok (.if_icmp .ne 7, 3) := dc_160 (a := 0) (b := 7) (v := 7) (by decide +kernel)
theorem dX24_isAtEnd_21 : decode cX24_isAtEnd 21 = .ok (.iconst 1, 1) := dc_4 (by decide +kernel)
theorem dX24_isAtEnd_22 : decode cX24_isAtEnd 22 = .ok (.goto 4, 3) := dc_167 (a := 0) (b := 4) (v := 4) (by decide +kernel)
theorem dX24_isAtEnd_25 : decode cX24_isAtEnd 25 = .ok (.iconst 0, 1) := dc_3 (by decide +kernel)
theorem dX24_isAtEnd_26 : decode cX24_isAtEnd 26 = .ok (.ireturn, 1) := dc_172 (by decide +kernel)
def fX24_isAtEnd_b26 (s0 : Int32) (h : eH) : Option (Int32 × eH) :=
  z_r s0 (s0, h)
theorem pX24_isAtEnd_b26 {w : eW} {d : Nat} (hd : 0 ≤ d) {s0 : Int32} {h : eH} {q} (hf : fX24_isAtEnd_b26 s0 h = some q) : wp w d YX24_isAtEnd 26 [none, none] [.int s0] h (e_is (e_rn c_I q)) := by
  unfold fX24_isAtEnd_b26 at hf
  obtain ⟨b1, rfl⟩ := z_r_some hf
  exact w_iret dX24_isAtEnd_26 rfl b1 rfl
def fX24_isAtEnd (this : Nat) (p0 : Int32) (h : eH) : Option (Int32 × eH) :=
  (g_A 23 h this 4).bind fun a1 =>
  (g_A 24 h a1 0).bind fun a3 =>
  (r_I 100 h a3 p0).bind fun x5 =>
  (g_A 23 h this 0).bind fun a7 =>
  (g_I 21 h a7 5).bind fun x9 =>
  if ¬ x5 = (x9 - (1 : Int32)) then
    fX24_isAtEnd_b26 (0 : Int32) h
  else
    fX24_isAtEnd_b26 (1 : Int32) h
theorem pX24_isAtEnd {w : eW} {d : Nat} (hd : 0 ≤ d) {this : Nat} {p0 : Int32} {h : eH} {q} (hf : fX24_isAtEnd this p0 h = some q) : wm w d YX24_isAtEnd [.ref this, .int p0] h (e_is (e_rn c_I q)) := by
  show wp w d YX24_isAtEnd 0 [some (.ref this), some (.int p0)] [] h _
  unfold fX24_isAtEnd at hf
  refine w_aload_n dX24_isAtEnd_0 rfl rfl ?_
  obtain ⟨a1, b2, hf⟩ := Option.bind_eq_some_iff.mp hf
  refine GX24_12 b2 dX24_isAtEnd_1 rfl ?_
  obtain ⟨a3, b4, hf⟩ := Option.bind_eq_some_iff.mp hf
  refine GX24_90 b4 dX24_isAtEnd_4 rfl ?_
  refine w_iload_n dX24_isAtEnd_7 rfl rfl ?_
  obtain ⟨x5, b6, hf⟩ := Option.bind_eq_some_iff.mp hf
  refine x_rI b6 dX24_isAtEnd_8 ?_
  refine w_aload_n dX24_isAtEnd_9 rfl rfl ?_
  obtain ⟨a7, b8, hf⟩ := Option.bind_eq_some_iff.mp hf
  refine GX24_33 b8 dX24_isAtEnd_10 rfl ?_
  obtain ⟨x9, b10, hf⟩ := Option.bind_eq_some_iff.mp hf
  refine GX24_70 b10 dX24_isAtEnd_13 rfl ?_
  refine w_iconst dX24_isAtEnd_16 (v := 1) (by decide) ?_
  refine w_isub dX24_isAtEnd_17 ?_
  refine w_icmp_ne 25 dX24_isAtEnd_18 (by decide) (fun c11 => ?_) (fun c11 => ?_)
  · replace hf := (if_pos (show ¬ x5 = (x9 - (1 : Int32)) from c11)).symm.trans hf
    refine w_iconst dX24_isAtEnd_25 (v := 0) (by decide) ?_
    exact (pX24_isAtEnd_b26 hd hf).to trivial
  · replace hf := (if_neg (show ¬ (¬ x5 = (x9 - (1 : Int32))) from (fun z => z c11))).symm.trans hf
    refine w_iconst dX24_isAtEnd_21 (v := 1) (by decide) ?_
    refine w_goto 26 dX24_isAtEnd_22 (by decide) ?_
    exact (pX24_isAtEnd_b26 hd hf).to trivial
abbrev cX24_leastOf : ByteArray := prog_24_method_13_code
def yX24_leastOf : MethodName := ⟨RX24, "leastOf", "(I)I"⟩
def YX24_leastOf : eY := (yX24_leastOf, cX24_leastOf, 5, (Option.some FieldType.int), [])
theorem mX24_leastOf : e_mv YX24_leastOf RX24 1 := ⟨q3830, qs176, q3831, by decide, by decide +kernel, (e_sig (by decide +kernel))⟩
theorem dX24_leastOf_0 : decode cX24_leastOf 0 = .ok (.iconst (-1), 1) := dc_2 (by decide +kernel)
theorem dX24_leastOf_1 : decode cX24_leastOf 1 = .ok (.istore_n 2, 1) := dc_61 (by decide +kernel)
theorem dX24_leastOf_2 : decode cX24_leastOf 2 = .ok (.iconst 1, 1) := dc_4 (by decide +kernel)
theorem dX24_leastOf_3 : decode cX24_leastOf 3 = .ok (.istore_n 3, 1) := dc_62 (by decide +kernel)
theorem dX24_leastOf_4 : decode cX24_leastOf 4 = .ok (.iload_n 3, 1) := dc_29 (by decide +kernel)
theorem dX24_leastOf_5 : decode cX24_leastOf 5 = .ok (.aload_n 0, 1) := dc_42 (by decide +kernel)
theorem dX24_leastOf_6 : decode cX24_leastOf 6 = .ok (.getfield 12, 3) := dc_180 (a := 0) (b := 12) (n := 12) (by decide +kernel)
theorem dX24_leastOf_9 : decode cX24_leastOf 9 = .ok (.getfield 157, 3) := dc_180 (a := 0) (b := 157) (n := 157) (by decide +kernel)
theorem dX24_leastOf_12 : decode cX24_leastOf 12 = .ok (.if_icmp .ge 187, 3) := dc_162 (a := 0) (b := 187) (v := 187) (by decide +kernel)
theorem dX24_leastOf_15 : decode cX24_leastOf 15 = .ok (.aload_n 0, 1) := dc_42 (by decide +kernel)
theorem dX24_leastOf_16 : decode cX24_leastOf 16 = .ok (.iload_n 3, 1) := dc_29 (by decide +kernel)
theorem dX24_leastOf_17 : decode cX24_leastOf 17 = .ok (.invokevirtual 186, 3) := dc_182 (a := 0) (b := 186) (n := 186) (by decide +kernel)
theorem dX24_leastOf_20 : decode cX24_leastOf 20 = .ok (.ifCond .eq 173, 3) := dc_153 (a := 0) (b := 173) (v := 173) (by decide +kernel)
theorem dX24_leastOf_23 : decode cX24_leastOf 23 = .ok (.iload_n 1, 1) := dc_27 (by decide +kernel)
theorem dX24_leastOf_24 : decode cX24_leastOf 24 = .ok (.ifCond .le 19, 3) := dc_158 (a := 0) (b := 19) (v := 19) (by decide +kernel)
theorem dX24_leastOf_27 : decode cX24_leastOf 27 = .ok (.aload_n 0, 1) := dc_42 (by decide +kernel)
theorem dX24_leastOf_28 : decode cX24_leastOf 28 = .ok (.getfield 12, 3) := dc_180 (a := 0) (b := 12) (n := 12) (by decide +kernel)
theorem dX24_leastOf_31 : decode cX24_leastOf 31 = .ok (.getfield 99, 3) := dc_180 (a := 0) (b := 99) (n := 99) (by decide +kernel)
theorem dX24_leastOf_34 : decode cX24_leastOf 34 = .ok (.iload_n 3, 1) := dc_29 (by decide +kernel)
theorem dX24_leastOf_35 : decode cX24_leastOf 35 = .ok (.iaload, 1) := dc_46 (by decide +kernel)
theorem dX24_leastOf_36 : decode cX24_leastOf 36 = .ok (.iload_n 1, 1) := dc_27 (by decide +kernel)
theorem dX24_leastOf_37 : decode cX24_leastOf 37 = .ok (.if_icmp .eq 6, 3) := dc_159 (a := 0) (b := 6) (v := 6) (by decide +kernel)
theorem dX24_leastOf_40 : decode cX24_leastOf 40 = .ok (.goto 153, 3) := dc_167 (a := 0) (b := 153) (v := 153) (by decide +kernel)
theorem dX24_leastOf_43 : decode cX24_leastOf 43 = .ok (.iload_n 2, 1) := dc_28 (by decide +kernel)
theorem dX24_leastOf_44 : decode cX24_leastOf 44 = .ok (.iconst (-1), 1) := dc_2 (by decide +kernel)
theorem dX24_leastOf_45 : decode cX24_leastOf 45 = .ok (.if_icmp .eq 25, 3) := dc_159 (a := 0) (b := 25) (v := 25) (by decide +kernel)
theorem dX24_leastOf_48 : decode cX24_leastOf 48 = .ok (.aload_n 0, 1) := dc_42 (by decide +kernel)
theorem dX24_leastOf_49 : decode cX24_leastOf 49 = .ok (.getfield 12, 3) := dc_180 (a := 0) (b := 12) (n := 12) (by decide +kernel)
theorem dX24_leastOf_52 : decode cX24_leastOf 52 = .ok (.getfield 102, 3) := dc_180 (a := 0) (b := 102) (n := 102) (by decide +kernel)
theorem dX24_leastOf_55 : decode cX24_leastOf 55 = .ok (.iload_n 3, 1) := dc_29 (by decide +kernel)
theorem dX24_leastOf_56 : decode cX24_leastOf 56 = .ok (.laload, 1) := dc_47 (by decide +kernel)
theorem dX24_leastOf_57 : decode cX24_leastOf 57 = .ok (.aload_n 0, 1) := dc_42 (by decide +kernel)
theorem dX24_leastOf_58 : decode cX24_leastOf 58 = .ok (.getfield 12, 3) := dc_180 (a := 0) (b := 12) (n := 12) (by decide +kernel)
theorem dX24_leastOf_61 : decode cX24_leastOf 61 = .ok (.getfield 102, 3) := dc_180 (a := 0) (b := 102) (n := 102) (by decide +kernel)
theorem dX24_leastOf_64 : decode cX24_leastOf 64 = .ok (.iload_n 2, 1) := dc_28 (by decide +kernel)
theorem dX24_leastOf_65 : decode cX24_leastOf 65 = .ok (.laload, 1) := dc_47 (by decide +kernel)
theorem dX24_leastOf_66 : decode cX24_leastOf 66 = .ok (.lcmp, 1) := dc_148 (by decide +kernel)
theorem dX24_leastOf_67 : decode cX24_leastOf 67 = .ok (.ifCond .ge 7, 3) := dc_156 (a := 0) (b := 7) (v := 7) (by decide +kernel)
theorem dX24_leastOf_70 : decode cX24_leastOf 70 = .ok (.iconst 1, 1) := dc_4 (by decide +kernel)
theorem dX24_leastOf_71 : decode cX24_leastOf 71 = .ok (.goto 4, 3) := dc_167 (a := 0) (b := 4) (v := 4) (by decide +kernel)
theorem dX24_leastOf_74 : decode cX24_leastOf 74 = .ok (.iconst 0, 1) := dc_3 (by decide +kernel)
theorem dX24_leastOf_75 : decode cX24_leastOf 75 = .ok (.istore 4, 2) := dc_54 (a := 4) (by decide +kernel)
theorem dX24_leastOf_77 : decode cX24_leastOf 77 = .ok (.iload 4, 2) := dc_21 (a := 4) (by decide +kernel)
theorem dX24_leastOf_79 : decode cX24_leastOf 79 = .ok (.ifCond .ne 103, 3) := dc_154 (a := 0) (b := 103) (v := 103) (by decide +kernel)
theorem dX24_leastOf_82 : decode cX24_leastOf 82 = .ok (.aload_n 0, 1) := dc_42 (by decide +kernel)
theorem dX24_leastOf_83 : decode cX24_leastOf 83 = .ok (.getfield 12, 3) := dc_180 (a := 0) (b := 12) (n := 12) (by decide +kernel)
theorem dX24_leastOf_86 : decode cX24_leastOf 86 = .ok (.getfield 102, 3) := dc_180 (a := 0) (b := 102) (n := 102) (by decide +kernel)
theorem dX24_leastOf_89 : decode cX24_leastOf 89 = .ok (.iload_n 3, 1) := dc_29 (by decide +kernel)
theorem dX24_leastOf_90 : decode cX24_leastOf 90 = .ok (.laload, 1) := dc_47 (by decide +kernel)
theorem dX24_leastOf_91 : decode cX24_leastOf 91 = .ok (.aload_n 0, 1) := dc_42 (by decide +kernel)
theorem dX24_leastOf_92 : decode cX24_leastOf 92 = .ok (.getfield 12, 3) := dc_180 (a := 0) (b := 12) (n := 12) (by decide +kernel)
theorem dX24_leastOf_95 : decode cX24_leastOf 95 = .ok (.getfield 102, 3) := dc_180 (a := 0) (b := 102) (n := 102) (by decide +kernel)
theorem dX24_leastOf_98 : decode cX24_leastOf 98 = .ok (.iload_n 2, 1) := dc_28 (by decide +kernel)
theorem dX24_leastOf_99 : decode cX24_leastOf 99 = .ok (.laload, 1) := dc_47 (by decide +kernel)
theorem dX24_leastOf_100 : decode cX24_leastOf 100 = .ok (.lcmp, 1) := dc_148 (by decide +kernel)
theorem dX24_leastOf_101 : decode cX24_leastOf 101 = .ok (.ifCond .ne 81, 3) := dc_154 (a := 0) (b := 81) (v := 81) (by decide +kernel)
theorem dX24_leastOf_104 : decode cX24_leastOf 104 = .ok (.aload_n 0, 1) := dc_42 (by decide +kernel)
theorem dX24_leastOf_105 : decode cX24_leastOf 105 = .ok (.getfield 12, 3) := dc_180 (a := 0) (b := 12) (n := 12) (by decide +kernel)
theorem dX24_leastOf_108 : decode cX24_leastOf 108 = .ok (.getfield 99, 3) := dc_180 (a := 0) (b := 99) (n := 99) (by decide +kernel)
theorem dX24_leastOf_111 : decode cX24_leastOf 111 = .ok (.iload_n 3, 1) := dc_29 (by decide +kernel)
theorem dX24_leastOf_112 : decode cX24_leastOf 112 = .ok (.iaload, 1) := dc_46 (by decide +kernel)
theorem dX24_leastOf_113 : decode cX24_leastOf 113 = .ok (.aload_n 0, 1) := dc_42 (by decide +kernel)
theorem dX24_leastOf_114 : decode cX24_leastOf 114 = .ok (.getfield 12, 3) := dc_180 (a := 0) (b := 12) (n := 12) (by decide +kernel)
theorem dX24_leastOf_117 : decode cX24_leastOf 117 = .ok (.getfield 99, 3) := dc_180 (a := 0) (b := 99) (n := 99) (by decide +kernel)
theorem dX24_leastOf_120 : decode cX24_leastOf 120 = .ok (.iload_n 2, 1) := dc_28 (by decide +kernel)
theorem dX24_leastOf_121 : decode cX24_leastOf 121 = .ok (.iaload, 1) := dc_46 (by decide +kernel)
theorem dX24_leastOf_122 : decode cX24_leastOf 122 = .ok (.if_icmp .eq 32, 3) := dc_159 (a := 0) (b := 32) (v := 32) (by decide +kernel)
theorem dX24_leastOf_125 : decode cX24_leastOf 125 = .ok (.aload_n 0, 1) := dc_42 (by decide +kernel)
theorem dX24_leastOf_126 : decode cX24_leastOf 126 = .ok (.getfield 12, 3) := dc_180 (a := 0) (b := 12) (n := 12) (by decide +kernel)
theorem dX24_leastOf_129 : decode cX24_leastOf 129 = .ok (.getfield 99, 3) := dc_180 (a := 0) (b := 99) (n := 99) (by decide +kernel)
theorem dX24_leastOf_132 : decode cX24_leastOf 132 = .ok (.iload_n 3, 1) := dc_29 (by decide +kernel)
theorem dX24_leastOf_133 : decode cX24_leastOf 133 = .ok (.iaload, 1) := dc_46 (by decide +kernel)
theorem dX24_leastOf_134 : decode cX24_leastOf 134 = .ok (.aload_n 0, 1) := dc_42 (by decide +kernel)
theorem dX24_leastOf_135 : decode cX24_leastOf 135 = .ok (.getfield 12, 3) := dc_180 (a := 0) (b := 12) (n := 12) (by decide +kernel)
theorem dX24_leastOf_138 : decode cX24_leastOf 138 = .ok (.getfield 99, 3) := dc_180 (a := 0) (b := 99) (n := 99) (by decide +kernel)
theorem dX24_leastOf_141 : decode cX24_leastOf 141 = .ok (.iload_n 2, 1) := dc_28 (by decide +kernel)
theorem dX24_leastOf_142 : decode cX24_leastOf 142 = .ok (.iaload, 1) := dc_46 (by decide +kernel)
theorem dX24_leastOf_143 : decode cX24_leastOf 143 = .ok (.if_icmp .ge 7, 3) := dc_162 (a := 0) (b := 7) (v := 7) (by decide +kernel)
theorem dX24_leastOf_146 : decode cX24_leastOf 146 = .ok (.iconst 1, 1) := dc_4 (by decide +kernel)
theorem dX24_leastOf_147 : decode cX24_leastOf 147 = .ok (.goto 33, 3) := dc_167 (a := 0) (b := 33) (v := 33) (by decide +kernel)
theorem dX24_leastOf_150 : decode cX24_leastOf 150 = .ok (.iconst 0, 1) := dc_3 (by decide +kernel)
theorem dX24_leastOf_151 : decode cX24_leastOf 151 = .ok (.goto 29, 3) := dc_167 (a := 0) (b := 29) (v := 29) (by decide +kernel)
theorem dX24_leastOf_154 : decode cX24_leastOf 154 = .ok (.aload_n 0, 1) := dc_42 (by decide +kernel)
theorem dX24_leastOf_155 : decode cX24_leastOf 155 = .ok (.getfield 12, 3) := dc_180 (a := 0) (b := 12) (n := 12) (by decide +kernel)
theorem dX24_leastOf_158 : decode cX24_leastOf 158 = .ok (.getfield 93, 3) := dc_180 (a := 0) (b := 93) (n := 93) (by decide +kernel)
theorem dX24_leastOf_161 : decode cX24_leastOf 161 = .ok (.iload_n 3, 1) := dc_29 (by decide +kernel)
theorem dX24_leastOf_162 : decode cX24_leastOf 162 = .ok (.baload, 1) := dc_51 (by decide +kernel)
theorem dX24_leastOf_163 : decode cX24_leastOf 163 = .ok (.aload_n 0, 1) := dc_42 (by decide +kernel)
theorem dX24_leastOf_164 : decode cX24_leastOf 164 = .ok (.getfield 12, 3) := dc_180 (a := 0) (b := 12) (n := 12) (by decide +kernel)
theorem dX24_leastOf_167 : decode cX24_leastOf 167 = .ok (.getfield 93, 3) := dc_180 (a := 0) (b := 93) (n := 93) (by decide +kernel)
theorem dX24_leastOf_170 : decode cX24_leastOf 170 = .ok (.iload_n 2, 1) := dc_28 (by decide +kernel)
theorem dX24_leastOf_171 : decode cX24_leastOf 171 = .ok (.baload, 1) := dc_51 (by decide +kernel)
theorem dX24_leastOf_172 : decode cX24_leastOf 172 = .ok (.if_icmp .ge 7, 3) := dc_162 (a := 0) (b := 7) (v := 7) (by decide +kernel)
theorem dX24_leastOf_175 : decode cX24_leastOf 175 = .ok (.iconst 1, 1) := dc_4 (by decide +kernel)
theorem dX24_leastOf_176 : decode cX24_leastOf 176 = .ok (.goto 4, 3) := dc_167 (a := 0) (b := 4) (v := 4) (by decide +kernel)
theorem dX24_leastOf_179 : decode cX24_leastOf 179 = .ok (.iconst 0, 1) := dc_3 (by decide +kernel)
theorem dX24_leastOf_180 : decode cX24_leastOf 180 = .ok (.istore 4, 2) := dc_54 (a := 4) (by decide +kernel)
theorem dX24_leastOf_182 : decode cX24_leastOf 182 = .ok (.iload 4, 2) := dc_21 (a := 4) (by decide +kernel)
theorem dX24_leastOf_184 : decode cX24_leastOf 184 = .ok (.ifCond .eq 7, 3) := dc_153 (a := 0) (b := 7) (v := 7) (by decide +kernel)
theorem dX24_leastOf_187 : decode cX24_leastOf 187 = .ok (.iload_n 3, 1) := dc_29 (by decide +kernel)
theorem dX24_leastOf_188 : decode cX24_leastOf 188 = .ok (.goto 4, 3) := dc_167 (a := 0) (b := 4) (v := 4) (by decide +kernel)
theorem dX24_leastOf_191 : decode cX24_leastOf 191 = .ok (.iload_n 2, 1) := dc_28 (by decide +kernel)
theorem dX24_leastOf_192 : decode cX24_leastOf 192 = .ok (.istore_n 2, 1) := dc_61 (by decide +kernel)
theorem dX24_leastOf_193 : decode cX24_leastOf 193 = .ok (.iinc 3 1, 3) := dc_132 (a := 3) (b := 1) (v := 1) (by decide +kernel)
theorem dX24_leastOf_196 : decode cX24_leastOf 196 = .ok (.goto (-192), 3) := dc_167 (a := 255) (b := 64) (v := -192) (by decide +kernel)
theorem dX24_leastOf_199 : decode cX24_leastOf 199 = .ok (.iload_n 2, 1) := dc_28 (by decide +kernel)
theorem dX24_leastOf_200 : decode cX24_leastOf 200 = .ok (.ireturn, 1) := dc_172 (by decide +kernel)
def fX24_leastOf_b193 (N : Nat) (k4 : Nat → Int32 → Int32 → Int32 → eH → Option (Int32 × eH)) (l0 : Nat) (l1 : Int32) (l2 : Int32) (l3 : Int32) (h : eH) : Option (Int32 × eH) :=
  k4 l0 l1 l2 (l3 + (1 : Int32)) h
theorem pX24_leastOf_b193 {w : eW} {d : Nat} (hd : 1 ≤ d + 1) {N : Nat} {k4 : Nat → Int32 → Int32 → Int32 → eH → Option (Int32 × eH)} (hk4 : ∀ l0 l1 l2 l3 h q, k4 l0 l1 l2 l3 h = some q → wp w (d + 1) YX24_leastOf 4 [some (.ref l0), some (.int l1), some (.int l2), some (.int l3), none] [] h (e_is (e_rn c_I q))) {l0 : Nat} {l1 : Int32} {l2 : Int32} {l3 : Int32} {h : eH} {q} (hf : fX24_leastOf_b193 N k4 l0 l1 l2 l3 h = some q) : wp w (d + 1) YX24_leastOf 193 [some (.ref l0), some (.int l1), some (.int l2), some (.int l3), none] [] h (e_is (e_rn c_I q)) := by
  unfold fX24_leastOf_b193 at hf
  refine w_iinc dX24_leastOf_193 (v := (l3 + (1 : Int32))) rfl rfl (by decide) (ls' := [some (.ref l0), some (.int l1), some (.int l2), some (.int (l3 + (1 : Int32))), none]) rfl ?_
  refine w_goto 4 dX24_leastOf_196 (by decide) ?_
  exact (hk4 _ _ _ _ _ _ hf).to ⟨rfl, rfl, rfl, rfl, trivial⟩
def fX24_leastOf_b192 (N : Nat) (k4 : Nat → Int32 → Int32 → Int32 → eH → Option (Int32 × eH)) (l0 : Nat) (l1 : Int32) (l3 : Int32) (s0 : Int32) (h : eH) : Option (Int32 × eH) :=
  fX24_leastOf_b193 N k4 l0 l1 s0 l3 h
theorem pX24_leastOf_b192 {w : eW} {d : Nat} (hd : 1 ≤ d + 1) {N : Nat} {k4 : Nat → Int32 → Int32 → Int32 → eH → Option (Int32 × eH)} (hk4 : ∀ l0 l1 l2 l3 h q, k4 l0 l1 l2 l3 h = some q → wp w (d + 1) YX24_leastOf 4 [some (.ref l0), some (.int l1), some (.int l2), some (.int l3), none] [] h (e_is (e_rn c_I q))) {l0 : Nat} {l1 : Int32} {l3 : Int32} {s0 : Int32} {h : eH} {q} (hf : fX24_leastOf_b192 N k4 l0 l1 l3 s0 h = some q) : wp w (d + 1) YX24_leastOf 192 [some (.ref l0), some (.int l1), none, some (.int l3), none] [.int s0] h (e_is (e_rn c_I q)) := by
  unfold fX24_leastOf_b192 at hf
  refine w_istore_n dX24_leastOf_192 rfl (by decide) (ls' := [some (.ref l0), some (.int l1), some (.int s0), some (.int l3), none]) rfl ?_
  exact (pX24_leastOf_b193 hd hk4 hf).to ⟨rfl, rfl, rfl, rfl, trivial⟩
def fX24_leastOf_b182 (N : Nat) (k4 : Nat → Int32 → Int32 → Int32 → eH → Option (Int32 × eH)) (l0 : Nat) (l1 : Int32) (l2 : Int32) (l3 : Int32) (l4 : Int32) (h : eH) : Option (Int32 × eH) :=
  if l4 = 0 then
    fX24_leastOf_b192 N k4 l0 l1 l3 l2 h
  else
    fX24_leastOf_b192 N k4 l0 l1 l3 l3 h
theorem pX24_leastOf_b182 {w : eW} {d : Nat} (hd : 1 ≤ d + 1) {N : Nat} {k4 : Nat → Int32 → Int32 → Int32 → eH → Option (Int32 × eH)} (hk4 : ∀ l0 l1 l2 l3 h q, k4 l0 l1 l2 l3 h = some q → wp w (d + 1) YX24_leastOf 4 [some (.ref l0), some (.int l1), some (.int l2), some (.int l3), none] [] h (e_is (e_rn c_I q))) {l0 : Nat} {l1 : Int32} {l2 : Int32} {l3 : Int32} {l4 : Int32} {h : eH} {q} (hf : fX24_leastOf_b182 N k4 l0 l1 l2 l3 l4 h = some q) : wp w (d + 1) YX24_leastOf 182 [some (.ref l0), some (.int l1), some (.int l2), some (.int l3), some (.int l4)] [] h (e_is (e_rn c_I q)) := by
  unfold fX24_leastOf_b182 at hf
  refine w_iload dX24_leastOf_182 rfl ?_
  refine w_if_eq 191 dX24_leastOf_184 (by decide) (fun c1 => ?_) (fun c1 => ?_)
  · replace hf := (if_pos (show l4 = 0 from c1)).symm.trans hf
    refine w_iload_n dX24_leastOf_191 rfl rfl ?_
    exact (pX24_leastOf_b192 hd hk4 hf).to ⟨rfl, rfl, rfl, trivial⟩
  · replace hf := (if_neg (show ¬ (l4 = 0) from c1)).symm.trans hf
    refine w_iload_n dX24_leastOf_187 rfl rfl ?_
    refine w_goto 192 dX24_leastOf_188 (by decide) ?_
    exact (pX24_leastOf_b192 hd hk4 hf).to ⟨rfl, rfl, rfl, trivial⟩
def fX24_leastOf_b180 (N : Nat) (k4 : Nat → Int32 → Int32 → Int32 → eH → Option (Int32 × eH)) (l0 : Nat) (l1 : Int32) (l2 : Int32) (l3 : Int32) (s0 : Int32) (h : eH) : Option (Int32 × eH) :=
  fX24_leastOf_b182 N k4 l0 l1 l2 l3 s0 h
theorem pX24_leastOf_b180 {w : eW} {d : Nat} (hd : 1 ≤ d + 1) {N : Nat} {k4 : Nat → Int32 → Int32 → Int32 → eH → Option (Int32 × eH)} (hk4 : ∀ l0 l1 l2 l3 h q, k4 l0 l1 l2 l3 h = some q → wp w (d + 1) YX24_leastOf 4 [some (.ref l0), some (.int l1), some (.int l2), some (.int l3), none] [] h (e_is (e_rn c_I q))) {l0 : Nat} {l1 : Int32} {l2 : Int32} {l3 : Int32} {s0 : Int32} {h : eH} {q} (hf : fX24_leastOf_b180 N k4 l0 l1 l2 l3 s0 h = some q) : wp w (d + 1) YX24_leastOf 180 [some (.ref l0), some (.int l1), some (.int l2), some (.int l3), none] [.int s0] h (e_is (e_rn c_I q)) := by
  unfold fX24_leastOf_b180 at hf
  refine w_istore dX24_leastOf_180 (by decide) (ls' := [some (.ref l0), some (.int l1), some (.int l2), some (.int l3), some (.int s0)]) rfl ?_
  exact (pX24_leastOf_b182 hd hk4 hf).to ⟨rfl, rfl, rfl, rfl, rfl, trivial⟩
def fX24_leastOf_b75 (N : Nat) (k4 : Nat → Int32 → Int32 → Int32 → eH → Option (Int32 × eH)) (l0 : Nat) (l1 : Int32) (l2 : Int32) (l3 : Int32) (s0 : Int32) (h : eH) : Option (Int32 × eH) :=
  if ¬ s0 = 0 then
    fX24_leastOf_b182 N k4 l0 l1 l2 l3 s0 h
  else
    (g_A 23 h l0 4).bind fun a2 =>
    (g_A 24 h a2 3).bind fun a4 =>
    (r_J h a4 l3).bind fun x6 =>
    (g_A 23 h l0 4).bind fun a8 =>
    (g_A 24 h a8 3).bind fun a10 =>
    (r_J h a10 l2).bind fun x12 =>
    if ¬ (lg_cmp x6 x12) = 0 then
      fX24_leastOf_b182 N k4 l0 l1 l2 l3 s0 h
    else
      (g_A 23 h l0 4).bind fun a15 =>
      (g_A 24 h a15 1).bind fun a17 =>
      (r_I 100 h a17 l3).bind fun x19 =>
      (g_A 23 h l0 4).bind fun a21 =>
      (g_A 24 h a21 1).bind fun a23 =>
      (r_I 100 h a23 l2).bind fun x25 =>
      if x19 = x25 then
        (g_A 23 h l0 4).bind fun a28 =>
        (g_A 24 h a28 2).bind fun a30 =>
        (r_I 102 h a30 l3).bind fun x32 =>
        (g_A 23 h l0 4).bind fun a34 =>
        (g_A 24 h a34 2).bind fun a36 =>
        (r_I 102 h a36 l2).bind fun x38 =>
        if x38 ≤ x32 then
          fX24_leastOf_b180 N k4 l0 l1 l2 l3 (0 : Int32) h
        else
          fX24_leastOf_b180 N k4 l0 l1 l2 l3 (1 : Int32) h
      else
        (g_A 23 h l0 4).bind fun a41 =>
        (g_A 24 h a41 1).bind fun a43 =>
        (r_I 100 h a43 l3).bind fun x45 =>
        (g_A 23 h l0 4).bind fun a47 =>
        (g_A 24 h a47 1).bind fun a49 =>
        (r_I 100 h a49 l2).bind fun x51 =>
        if x51 ≤ x45 then
          fX24_leastOf_b180 N k4 l0 l1 l2 l3 (0 : Int32) h
        else
          fX24_leastOf_b180 N k4 l0 l1 l2 l3 (1 : Int32) h
theorem pX24_leastOf_b75 {w : eW} {d : Nat} (hd : 1 ≤ d + 1) {N : Nat} {k4 : Nat → Int32 → Int32 → Int32 → eH → Option (Int32 × eH)} (hk4 : ∀ l0 l1 l2 l3 h q, k4 l0 l1 l2 l3 h = some q → wp w (d + 1) YX24_leastOf 4 [some (.ref l0), some (.int l1), some (.int l2), some (.int l3), none] [] h (e_is (e_rn c_I q))) {l0 : Nat} {l1 : Int32} {l2 : Int32} {l3 : Int32} {s0 : Int32} {h : eH} {q} (hf : fX24_leastOf_b75 N k4 l0 l1 l2 l3 s0 h = some q) : wp w (d + 1) YX24_leastOf 75 [some (.ref l0), some (.int l1), some (.int l2), some (.int l3), none] [.int s0] h (e_is (e_rn c_I q)) := by
  unfold fX24_leastOf_b75 at hf
  refine w_istore dX24_leastOf_75 (by decide) (ls' := [some (.ref l0), some (.int l1), some (.int l2), some (.int l3), some (.int s0)]) rfl ?_
  refine w_iload dX24_leastOf_77 rfl ?_
  refine w_if_ne 182 dX24_leastOf_79 (by decide) (fun c1 => ?_) (fun c1 => ?_)
  · replace hf := (if_pos (show ¬ s0 = 0 from c1)).symm.trans hf
    exact (pX24_leastOf_b182 hd hk4 hf).to ⟨rfl, rfl, rfl, rfl, rfl, trivial⟩
  · replace hf := (if_neg (show ¬ (¬ s0 = 0) from (fun z => z c1))).symm.trans hf
    refine w_aload_n dX24_leastOf_82 rfl rfl ?_
    obtain ⟨a2, b3, hf⟩ := Option.bind_eq_some_iff.mp hf
    refine GX24_12 b3 dX24_leastOf_83 rfl ?_
    obtain ⟨a4, b5, hf⟩ := Option.bind_eq_some_iff.mp hf
    refine GX24_102 b5 dX24_leastOf_86 rfl ?_
    refine w_iload_n dX24_leastOf_89 rfl rfl ?_
    obtain ⟨x6, b7, hf⟩ := Option.bind_eq_some_iff.mp hf
    refine x_rJ b7 dX24_leastOf_90 ?_
    refine w_aload_n dX24_leastOf_91 rfl rfl ?_
    obtain ⟨a8, b9, hf⟩ := Option.bind_eq_some_iff.mp hf
    refine GX24_12 b9 dX24_leastOf_92 rfl ?_
    obtain ⟨a10, b11, hf⟩ := Option.bind_eq_some_iff.mp hf
    refine GX24_102 b11 dX24_leastOf_95 rfl ?_
    refine w_iload_n dX24_leastOf_98 rfl rfl ?_
    obtain ⟨x12, b13, hf⟩ := Option.bind_eq_some_iff.mp hf
    refine x_rJ b13 dX24_leastOf_99 ?_
    refine w_lcmp dX24_leastOf_100 ?_
    refine w_if_ne 182 dX24_leastOf_101 (by decide) (fun c14 => ?_) (fun c14 => ?_)
    · replace hf := (if_pos (show ¬ (lg_cmp x6 x12) = 0 from c14)).symm.trans hf
      exact (pX24_leastOf_b182 hd hk4 hf).to ⟨rfl, rfl, rfl, rfl, rfl, trivial⟩
    · replace hf := (if_neg (show ¬ (¬ (lg_cmp x6 x12) = 0) from (fun z => z c14))).symm.trans hf
      refine w_aload_n dX24_leastOf_104 rfl rfl ?_
      obtain ⟨a15, b16, hf⟩ := Option.bind_eq_some_iff.mp hf
      refine GX24_12 b16 dX24_leastOf_105 rfl ?_
      obtain ⟨a17, b18, hf⟩ := Option.bind_eq_some_iff.mp hf
      refine GX24_99 b18 dX24_leastOf_108 rfl ?_
      refine w_iload_n dX24_leastOf_111 rfl rfl ?_
      obtain ⟨x19, b20, hf⟩ := Option.bind_eq_some_iff.mp hf
      refine x_rI b20 dX24_leastOf_112 ?_
      refine w_aload_n dX24_leastOf_113 rfl rfl ?_
      obtain ⟨a21, b22, hf⟩ := Option.bind_eq_some_iff.mp hf
      refine GX24_12 b22 dX24_leastOf_114 rfl ?_
      obtain ⟨a23, b24, hf⟩ := Option.bind_eq_some_iff.mp hf
      refine GX24_99 b24 dX24_leastOf_117 rfl ?_
      refine w_iload_n dX24_leastOf_120 rfl rfl ?_
      obtain ⟨x25, b26, hf⟩ := Option.bind_eq_some_iff.mp hf
      refine x_rI b26 dX24_leastOf_121 ?_
      refine w_icmp_eq 154 dX24_leastOf_122 (by decide) (fun c27 => ?_) (fun c27 => ?_)
      · replace hf := (if_pos (show x19 = x25 from c27)).symm.trans hf
        refine w_aload_n dX24_leastOf_154 rfl rfl ?_
        obtain ⟨a28, b29, hf⟩ := Option.bind_eq_some_iff.mp hf
        refine GX24_12 b29 dX24_leastOf_155 rfl ?_
        obtain ⟨a30, b31, hf⟩ := Option.bind_eq_some_iff.mp hf
        refine GX24_93 b31 dX24_leastOf_158 rfl ?_
        refine w_iload_n dX24_leastOf_161 rfl rfl ?_
        obtain ⟨x32, b33, hf⟩ := Option.bind_eq_some_iff.mp hf
        refine x_rB b33 dX24_leastOf_162 ?_
        refine w_aload_n dX24_leastOf_163 rfl rfl ?_
        obtain ⟨a34, b35, hf⟩ := Option.bind_eq_some_iff.mp hf
        refine GX24_12 b35 dX24_leastOf_164 rfl ?_
        obtain ⟨a36, b37, hf⟩ := Option.bind_eq_some_iff.mp hf
        refine GX24_93 b37 dX24_leastOf_167 rfl ?_
        refine w_iload_n dX24_leastOf_170 rfl rfl ?_
        obtain ⟨x38, b39, hf⟩ := Option.bind_eq_some_iff.mp hf
        refine x_rB b39 dX24_leastOf_171 ?_
        refine w_icmp_ge 179 dX24_leastOf_172 (by decide) (fun c40 => ?_) (fun c40 => ?_)
        · replace hf := (if_pos (show x38 ≤ x32 from c40)).symm.trans hf
          refine w_iconst dX24_leastOf_179 (v := 0) (by decide) ?_
          exact (pX24_leastOf_b180 hd hk4 hf).to ⟨rfl, rfl, rfl, rfl, trivial⟩
        · replace hf := (if_neg (show ¬ (x38 ≤ x32) from c40)).symm.trans hf
          refine w_iconst dX24_leastOf_175 (v := 1) (by decide) ?_
          refine w_goto 180 dX24_leastOf_176 (by decide) ?_
          exact (pX24_leastOf_b180 hd hk4 hf).to ⟨rfl, rfl, rfl, rfl, trivial⟩
      · replace hf := (if_neg (show ¬ (x19 = x25) from c27)).symm.trans hf
        refine w_aload_n dX24_leastOf_125 rfl rfl ?_
        obtain ⟨a41, b42, hf⟩ := Option.bind_eq_some_iff.mp hf
        refine GX24_12 b42 dX24_leastOf_126 rfl ?_
        obtain ⟨a43, b44, hf⟩ := Option.bind_eq_some_iff.mp hf
        refine GX24_99 b44 dX24_leastOf_129 rfl ?_
        refine w_iload_n dX24_leastOf_132 rfl rfl ?_
        obtain ⟨x45, b46, hf⟩ := Option.bind_eq_some_iff.mp hf
        refine x_rI b46 dX24_leastOf_133 ?_
        refine w_aload_n dX24_leastOf_134 rfl rfl ?_
        obtain ⟨a47, b48, hf⟩ := Option.bind_eq_some_iff.mp hf
        refine GX24_12 b48 dX24_leastOf_135 rfl ?_
        obtain ⟨a49, b50, hf⟩ := Option.bind_eq_some_iff.mp hf
        refine GX24_99 b50 dX24_leastOf_138 rfl ?_
        refine w_iload_n dX24_leastOf_141 rfl rfl ?_
        obtain ⟨x51, b52, hf⟩ := Option.bind_eq_some_iff.mp hf
        refine x_rI b52 dX24_leastOf_142 ?_
        refine w_icmp_ge 150 dX24_leastOf_143 (by decide) (fun c53 => ?_) (fun c53 => ?_)
        · replace hf := (if_pos (show x51 ≤ x45 from c53)).symm.trans hf
          refine w_iconst dX24_leastOf_150 (v := 0) (by decide) ?_
          refine w_goto 180 dX24_leastOf_151 (by decide) ?_
          exact (pX24_leastOf_b180 hd hk4 hf).to ⟨rfl, rfl, rfl, rfl, trivial⟩
        · replace hf := (if_neg (show ¬ (x51 ≤ x45) from c53)).symm.trans hf
          refine w_iconst dX24_leastOf_146 (v := 1) (by decide) ?_
          refine w_goto 180 dX24_leastOf_147 (by decide) ?_
          exact (pX24_leastOf_b180 hd hk4 hf).to ⟨rfl, rfl, rfl, rfl, trivial⟩
def fX24_leastOf_b70 (N : Nat) (k4 : Nat → Int32 → Int32 → Int32 → eH → Option (Int32 × eH)) (l0 : Nat) (l1 : Int32) (l2 : Int32) (l3 : Int32) (h : eH) : Option (Int32 × eH) :=
  fX24_leastOf_b75 N k4 l0 l1 l2 l3 (1 : Int32) h
theorem pX24_leastOf_b70 {w : eW} {d : Nat} (hd : 1 ≤ d + 1) {N : Nat} {k4 : Nat → Int32 → Int32 → Int32 → eH → Option (Int32 × eH)} (hk4 : ∀ l0 l1 l2 l3 h q, k4 l0 l1 l2 l3 h = some q → wp w (d + 1) YX24_leastOf 4 [some (.ref l0), some (.int l1), some (.int l2), some (.int l3), none] [] h (e_is (e_rn c_I q))) {l0 : Nat} {l1 : Int32} {l2 : Int32} {l3 : Int32} {h : eH} {q} (hf : fX24_leastOf_b70 N k4 l0 l1 l2 l3 h = some q) : wp w (d + 1) YX24_leastOf 70 [some (.ref l0), some (.int l1), some (.int l2), some (.int l3), none] [] h (e_is (e_rn c_I q)) := by
  unfold fX24_leastOf_b70 at hf
  refine w_iconst dX24_leastOf_70 (v := 1) (by decide) ?_
  refine w_goto 75 dX24_leastOf_71 (by decide) ?_
  exact (pX24_leastOf_b75 hd hk4 hf).to ⟨rfl, rfl, rfl, rfl, trivial⟩
def fX24_leastOf_b43 (N : Nat) (k4 : Nat → Int32 → Int32 → Int32 → eH → Option (Int32 × eH)) (l0 : Nat) (l1 : Int32) (l2 : Int32) (l3 : Int32) (h : eH) : Option (Int32 × eH) :=
  if l2 = (-1 : Int32) then
    fX24_leastOf_b70 N k4 l0 l1 l2 l3 h
  else
    (g_A 23 h l0 4).bind fun a2 =>
    (g_A 24 h a2 3).bind fun a4 =>
    (r_J h a4 l3).bind fun x6 =>
    (g_A 23 h l0 4).bind fun a8 =>
    (g_A 24 h a8 3).bind fun a10 =>
    (r_J h a10 l2).bind fun x12 =>
    if 0 ≤ (lg_cmp x6 x12) then
      fX24_leastOf_b75 N k4 l0 l1 l2 l3 (0 : Int32) h
    else
      fX24_leastOf_b70 N k4 l0 l1 l2 l3 h
theorem pX24_leastOf_b43 {w : eW} {d : Nat} (hd : 1 ≤ d + 1) {N : Nat} {k4 : Nat → Int32 → Int32 → Int32 → eH → Option (Int32 × eH)} (hk4 : ∀ l0 l1 l2 l3 h q, k4 l0 l1 l2 l3 h = some q → wp w (d + 1) YX24_leastOf 4 [some (.ref l0), some (.int l1), some (.int l2), some (.int l3), none] [] h (e_is (e_rn c_I q))) {l0 : Nat} {l1 : Int32} {l2 : Int32} {l3 : Int32} {h : eH} {q} (hf : fX24_leastOf_b43 N k4 l0 l1 l2 l3 h = some q) : wp w (d + 1) YX24_leastOf 43 [some (.ref l0), some (.int l1), some (.int l2), some (.int l3), none] [] h (e_is (e_rn c_I q)) := by
  unfold fX24_leastOf_b43 at hf
  refine w_iload_n dX24_leastOf_43 rfl rfl ?_
  refine w_iconst dX24_leastOf_44 (v := -1) (by decide) ?_
  refine w_icmp_eq 70 dX24_leastOf_45 (by decide) (fun c1 => ?_) (fun c1 => ?_)
  · replace hf := (if_pos (show l2 = (-1 : Int32) from c1)).symm.trans hf
    exact (pX24_leastOf_b70 hd hk4 hf).to ⟨rfl, rfl, rfl, rfl, trivial⟩
  · replace hf := (if_neg (show ¬ (l2 = (-1 : Int32)) from c1)).symm.trans hf
    refine w_aload_n dX24_leastOf_48 rfl rfl ?_
    obtain ⟨a2, b3, hf⟩ := Option.bind_eq_some_iff.mp hf
    refine GX24_12 b3 dX24_leastOf_49 rfl ?_
    obtain ⟨a4, b5, hf⟩ := Option.bind_eq_some_iff.mp hf
    refine GX24_102 b5 dX24_leastOf_52 rfl ?_
    refine w_iload_n dX24_leastOf_55 rfl rfl ?_
    obtain ⟨x6, b7, hf⟩ := Option.bind_eq_some_iff.mp hf
    refine x_rJ b7 dX24_leastOf_56 ?_
    refine w_aload_n dX24_leastOf_57 rfl rfl ?_
    obtain ⟨a8, b9, hf⟩ := Option.bind_eq_some_iff.mp hf
    refine GX24_12 b9 dX24_leastOf_58 rfl ?_
    obtain ⟨a10, b11, hf⟩ := Option.bind_eq_some_iff.mp hf
    refine GX24_102 b11 dX24_leastOf_61 rfl ?_
    refine w_iload_n dX24_leastOf_64 rfl rfl ?_
    obtain ⟨x12, b13, hf⟩ := Option.bind_eq_some_iff.mp hf
    refine x_rJ b13 dX24_leastOf_65 ?_
    refine w_lcmp dX24_leastOf_66 ?_
    refine w_if_ge 74 dX24_leastOf_67 (by decide) (fun c14 => ?_) (fun c14 => ?_)
    · replace hf := (if_pos (show 0 ≤ (lg_cmp x6 x12) from c14)).symm.trans hf
      refine w_iconst dX24_leastOf_74 (v := 0) (by decide) ?_
      exact (pX24_leastOf_b75 hd hk4 hf).to ⟨rfl, rfl, rfl, rfl, trivial⟩
    · replace hf := (if_neg (show ¬ (0 ≤ (lg_cmp x6 x12)) from c14)).symm.trans hf
      exact (pX24_leastOf_b70 hd hk4 hf).to ⟨rfl, rfl, rfl, rfl, trivial⟩
def fX24_leastOf_b4 (N : Nat) : Nat → Nat → Int32 → Int32 → Int32 → eH → Option (Int32 × eH)
  | 0, _, _, _, _, _ => none
  | n + 1, l0, l1, l2, l3, h =>
    (g_A 23 h l0 4).bind fun a1 =>
    (g_I 24 h a1 6).bind fun x3 =>
    if x3 ≤ l3 then
      some (l2, h)
    else
      (k_ok 23 h l0).bind fun _ =>
      (fX24_isAtEnd l0 l3 h).bind fun q7 =>
      if q7.1 = 0 then
        fX24_leastOf_b193 N (fX24_leastOf_b4 N n) l0 l1 l2 l3 q7.2
      else
        if l1 ≤ 0 then
          fX24_leastOf_b43 N (fX24_leastOf_b4 N n) l0 l1 l2 l3 q7.2
        else
          (g_A 23 q7.2 l0 4).bind fun a10 =>
          (g_A 24 q7.2 a10 1).bind fun a12 =>
          (r_I 100 q7.2 a12 l3).bind fun x14 =>
          if x14 = l1 then
            fX24_leastOf_b43 N (fX24_leastOf_b4 N n) l0 l1 l2 l3 q7.2
          else
            fX24_leastOf_b193 N (fX24_leastOf_b4 N n) l0 l1 l2 l3 q7.2
theorem pX24_leastOf_b4 {w : eW} {d : Nat} (hd : 1 ≤ d + 1) {N : Nat} : ∀ (n : Nat) l0 l1 l2 l3 h q, fX24_leastOf_b4 N n l0 l1 l2 l3 h = some q → wp w (d + 1) YX24_leastOf 4 [some (.ref l0), some (.int l1), some (.int l2), some (.int l3), none] [] h (e_is (e_rn c_I q)) := by
  intro n
  induction n with
  | zero => intro l0 l1 l2 l3 h q hf; simp [fX24_leastOf_b4] at hf
  | succ n ih =>
    intro l0 l1 l2 l3 h q hf
    rw [fX24_leastOf_b4] at hf
    refine w_iload_n dX24_leastOf_4 rfl rfl ?_
    refine w_aload_n dX24_leastOf_5 rfl rfl ?_
    obtain ⟨a1, b2, hf⟩ := Option.bind_eq_some_iff.mp hf
    refine GX24_12 b2 dX24_leastOf_6 rfl ?_
    obtain ⟨x3, b4, hf⟩ := Option.bind_eq_some_iff.mp hf
    refine GX24_157 b4 dX24_leastOf_9 rfl ?_
    refine w_icmp_ge 199 dX24_leastOf_12 (by decide) (fun c5 => ?_) (fun c5 => ?_)
    · replace hf := (if_pos (show x3 ≤ l3 from c5)).symm.trans hf
      refine w_iload_n dX24_leastOf_199 rfl rfl ?_
      cases hf
      exact w_iret dX24_leastOf_200 rfl rfl rfl
    · replace hf := (if_neg (show ¬ (x3 ≤ l3) from c5)).symm.trans hf
      refine w_aload_n dX24_leastOf_15 rfl rfl ?_
      refine w_iload_n dX24_leastOf_16 rfl rfl ?_
      obtain ⟨_, b6, hf⟩ := Option.bind_eq_some_iff.mp hf
      refine x_cnI hf (e_stV (Yc := YX24_isAtEnd) (ci := 23) (av := [.int l3]) (st := []) dX24_leastOf_17 q3832 mX24_isAtEnd rfl (k_ok_some b6).1 (k_ok_some b6).2) mX24_isAtEnd.2.2.1 mX24_isAtEnd.2.2.2.2.1 (Nat.le_of_ble_eq_true rfl) (Nat.le_of_ble_eq_true rfl) (fun q hq => pX24_isAtEnd (by omega) hq) (fun q7 hf => ?_)
      refine w_if_eq 193 dX24_leastOf_20 (by decide) (fun c8 => ?_) (fun c8 => ?_)
      · replace hf := (if_pos (show q7.1 = 0 from c8)).symm.trans hf
        exact (pX24_leastOf_b193 hd ih hf).to ⟨rfl, rfl, rfl, rfl, trivial⟩
      · replace hf := (if_neg (show ¬ (q7.1 = 0) from c8)).symm.trans hf
        refine w_iload_n dX24_leastOf_23 rfl rfl ?_
        refine w_if_le 43 dX24_leastOf_24 (by decide) (fun c9 => ?_) (fun c9 => ?_)
        · replace hf := (if_pos (show l1 ≤ 0 from c9)).symm.trans hf
          exact (pX24_leastOf_b43 hd ih hf).to ⟨rfl, rfl, rfl, rfl, trivial⟩
        · replace hf := (if_neg (show ¬ (l1 ≤ 0) from c9)).symm.trans hf
          refine w_aload_n dX24_leastOf_27 rfl rfl ?_
          obtain ⟨a10, b11, hf⟩ := Option.bind_eq_some_iff.mp hf
          refine GX24_12 b11 dX24_leastOf_28 rfl ?_
          obtain ⟨a12, b13, hf⟩ := Option.bind_eq_some_iff.mp hf
          refine GX24_99 b13 dX24_leastOf_31 rfl ?_
          refine w_iload_n dX24_leastOf_34 rfl rfl ?_
          obtain ⟨x14, b15, hf⟩ := Option.bind_eq_some_iff.mp hf
          refine x_rI b15 dX24_leastOf_35 ?_
          refine w_iload_n dX24_leastOf_36 rfl rfl ?_
          refine w_icmp_eq 43 dX24_leastOf_37 (by decide) (fun c16 => ?_) (fun c16 => ?_)
          · replace hf := (if_pos (show x14 = l1 from c16)).symm.trans hf
            exact (pX24_leastOf_b43 hd ih hf).to ⟨rfl, rfl, rfl, rfl, trivial⟩
          · replace hf := (if_neg (show ¬ (x14 = l1) from c16)).symm.trans hf
            refine w_goto 193 dX24_leastOf_40 (by decide) ?_
            exact (pX24_leastOf_b193 hd ih hf).to ⟨rfl, rfl, rfl, rfl, trivial⟩
def fX24_leastOf (N : Nat) (this : Nat) (p0 : Int32) (h : eH) : Option (Int32 × eH) :=
  fX24_leastOf_b4 N N this p0 (-1 : Int32) (1 : Int32) h
theorem pX24_leastOf {w : eW} {d : Nat} (hd : 1 ≤ d) {N : Nat} {this : Nat} {p0 : Int32} {h : eH} {q} (hf : fX24_leastOf N this p0 h = some q) : wm w d YX24_leastOf [.ref this, .int p0] h (e_is (e_rn c_I q)) := by
  obtain ⟨d, rfl⟩ : ∃ e, d = e + 1 := ⟨d - 1, by omega⟩
  show wp w (d + 1) YX24_leastOf 0 [some (.ref this), some (.int p0), none, none, none] [] h _
  unfold fX24_leastOf at hf
  refine w_iconst dX24_leastOf_0 (v := -1) (by decide) ?_
  refine w_istore_n dX24_leastOf_1 rfl (by decide) (ls' := [some (.ref this), some (.int p0), some (.int (-1 : Int32)), none, none]) rfl ?_
  refine w_iconst dX24_leastOf_2 (v := 1) (by decide) ?_
  refine w_istore_n dX24_leastOf_3 rfl (by decide) (ls' := [some (.ref this), some (.int p0), some (.int (-1 : Int32)), some (.int (1 : Int32)), none]) rfl ?_
  exact (pX24_leastOf_b4 hd N _ _ _ _ _ _ hf).to ⟨rfl, rfl, rfl, rfl, trivial⟩
abbrev cX24_choose : ByteArray := prog_24_method_14_code
def yX24_choose : MethodName := ⟨RX24, "choose", "()I"⟩
def YX24_choose : eY := (yX24_choose, cX24_choose, 7, (Option.some FieldType.int), [])
theorem mX24_choose : e_mv YX24_choose RX24 0 := ⟨q3825, q3826, q3827, by decide, by decide +kernel, (e_sig (by decide +kernel))⟩
theorem dX24_choose_0 : decode cX24_choose 0 = .ok (.aload_n 0, 1) := dc_42 (by decide +kernel)
theorem dX24_choose_1 : decode cX24_choose 1 = .ok (.iconst 0, 1) := dc_3 (by decide +kernel)
theorem dX24_choose_2 : decode cX24_choose 2 = .ok (.invokevirtual 189, 3) := dc_182 (a := 0) (b := 189) (n := 189) (by decide +kernel)
theorem dX24_choose_5 : decode cX24_choose 5 = .ok (.istore_n 1, 1) := dc_60 (by decide +kernel)
theorem dX24_choose_6 : decode cX24_choose 6 = .ok (.iload_n 1, 1) := dc_27 (by decide +kernel)
theorem dX24_choose_7 : decode cX24_choose 7 = .ok (.iconst (-1), 1) := dc_2 (by decide +kernel)
theorem dX24_choose_8 : decode cX24_choose 8 = .ok (.if_icmp .eq 13, 3) := dc_159 (a := 0) (b := 13) (v := 13) (by decide +kernel)
theorem dX24_choose_11 : decode cX24_choose 11 = .ok (.aload_n 0, 1) := dc_42 (by decide +kernel)
theorem dX24_choose_12 : decode cX24_choose 12 = .ok (.getfield 41, 3) := dc_180 (a := 0) (b := 41) (n := 41) (by decide +kernel)
theorem dX24_choose_15 : decode cX24_choose 15 = .ok (.bipush 9, 2) := dc_16 (a := 9) (v := 9) (by decide +kernel)
theorem dX24_choose_17 : decode cX24_choose 17 = .ok (.iaload, 1) := dc_46 (by decide +kernel)
theorem dX24_choose_18 : decode cX24_choose 18 = .ok (.ifCond .ne 5, 3) := dc_154 (a := 0) (b := 5) (v := 5) (by decide +kernel)
theorem dX24_choose_21 : decode cX24_choose 21 = .ok (.iload_n 1, 1) := dc_27 (by decide +kernel)
theorem dX24_choose_22 : decode cX24_choose 22 = .ok (.ireturn, 1) := dc_172 (by decide +kernel)
theorem dX24_choose_23 : decode cX24_choose 23 = .ok (.aload_n 0, 1) := dc_42 (by decide +kernel)
theorem dX24_choose_24 : decode cX24_choose 24 = .ok (.getfield 12, 3) := dc_180 (a := 0) (b := 12) (n := 12) (by decide +kernel)
theorem dX24_choose_27 : decode cX24_choose 27 = .ok (.getfield 99, 3) := dc_180 (a := 0) (b := 99) (n := 99) (by decide +kernel)
theorem dX24_choose_30 : decode cX24_choose 30 = .ok (.iload_n 1, 1) := dc_27 (by decide +kernel)
theorem dX24_choose_31 : decode cX24_choose 31 = .ok (.iaload, 1) := dc_46 (by decide +kernel)
theorem dX24_choose_32 : decode cX24_choose 32 = .ok (.istore_n 2, 1) := dc_61 (by decide +kernel)
theorem dX24_choose_33 : decode cX24_choose 33 = .ok (.iload_n 2, 1) := dc_28 (by decide +kernel)
theorem dX24_choose_34 : decode cX24_choose 34 = .ok (.aload_n 0, 1) := dc_42 (by decide +kernel)
theorem dX24_choose_35 : decode cX24_choose 35 = .ok (.getfield 41, 3) := dc_180 (a := 0) (b := 41) (n := 41) (by decide +kernel)
theorem dX24_choose_38 : decode cX24_choose 38 = .ok (.bipush 9, 2) := dc_16 (a := 9) (v := 9) (by decide +kernel)
theorem dX24_choose_40 : decode cX24_choose 40 = .ok (.iaload, 1) := dc_46 (by decide +kernel)
theorem dX24_choose_41 : decode cX24_choose 41 = .ok (.iadd, 1) := dc_96 (by decide +kernel)
theorem dX24_choose_42 : decode cX24_choose 42 = .ok (.istore_n 3, 1) := dc_62 (by decide +kernel)
theorem dX24_choose_43 : decode cX24_choose 43 = .ok (.aload_n 0, 1) := dc_42 (by decide +kernel)
theorem dX24_choose_44 : decode cX24_choose 44 = .ok (.getfield 41, 3) := dc_180 (a := 0) (b := 41) (n := 41) (by decide +kernel)
theorem dX24_choose_47 : decode cX24_choose 47 = .ok (.bipush 9, 2) := dc_16 (a := 9) (v := 9) (by decide +kernel)
theorem dX24_choose_49 : decode cX24_choose 49 = .ok (.iaload, 1) := dc_46 (by decide +kernel)
theorem dX24_choose_50 : decode cX24_choose 50 = .ok (.ifCond .le 7, 3) := dc_158 (a := 0) (b := 7) (v := 7) (by decide +kernel)
theorem dX24_choose_53 : decode cX24_choose 53 = .ok (.iconst (-1), 1) := dc_2 (by decide +kernel)
theorem dX24_choose_54 : decode cX24_choose 54 = .ok (.goto 4, 3) := dc_167 (a := 0) (b := 4) (v := 4) (by decide +kernel)
theorem dX24_choose_57 : decode cX24_choose 57 = .ok (.iconst 1, 1) := dc_4 (by decide +kernel)
theorem dX24_choose_58 : decode cX24_choose 58 = .ok (.istore 4, 2) := dc_54 (a := 4) (by decide +kernel)
theorem dX24_choose_60 : decode cX24_choose 60 = .ok (.iconst (-1), 1) := dc_2 (by decide +kernel)
theorem dX24_choose_61 : decode cX24_choose 61 = .ok (.istore 5, 2) := dc_54 (a := 5) (by decide +kernel)
theorem dX24_choose_63 : decode cX24_choose 63 = .ok (.iload_n 3, 1) := dc_29 (by decide +kernel)
theorem dX24_choose_64 : decode cX24_choose 64 = .ok (.istore 6, 2) := dc_54 (a := 6) (by decide +kernel)
theorem dX24_choose_66 : decode cX24_choose 66 = .ok (.iload 5, 2) := dc_21 (a := 5) (by decide +kernel)
theorem dX24_choose_68 : decode cX24_choose 68 = .ok (.iconst (-1), 1) := dc_2 (by decide +kernel)
theorem dX24_choose_69 : decode cX24_choose 69 = .ok (.if_icmp .ne 36, 3) := dc_160 (a := 0) (b := 36) (v := 36) (by decide +kernel)
theorem dX24_choose_72 : decode cX24_choose 72 = .ok (.iload 6, 2) := dc_21 (a := 6) (by decide +kernel)
theorem dX24_choose_74 : decode cX24_choose 74 = .ok (.iload_n 2, 1) := dc_28 (by decide +kernel)
theorem dX24_choose_75 : decode cX24_choose 75 = .ok (.if_icmp .eq 30, 3) := dc_159 (a := 0) (b := 30) (v := 30) (by decide +kernel)
theorem dX24_choose_78 : decode cX24_choose 78 = .ok (.iload 6, 2) := dc_21 (a := 6) (by decide +kernel)
theorem dX24_choose_80 : decode cX24_choose 80 = .ok (.ifCond .le 12, 3) := dc_158 (a := 0) (b := 12) (v := 12) (by decide +kernel)
theorem dX24_choose_83 : decode cX24_choose 83 = .ok (.aload_n 0, 1) := dc_42 (by decide +kernel)
theorem dX24_choose_84 : decode cX24_choose 84 = .ok (.iload 6, 2) := dc_21 (a := 6) (by decide +kernel)
theorem dX24_choose_86 : decode cX24_choose 86 = .ok (.invokevirtual 189, 3) := dc_182 (a := 0) (b := 189) (n := 189) (by decide +kernel)
theorem dX24_choose_89 : decode cX24_choose 89 = .ok (.goto 4, 3) := dc_167 (a := 0) (b := 4) (v := 4) (by decide +kernel)
theorem dX24_choose_92 : decode cX24_choose 92 = .ok (.iconst (-1), 1) := dc_2 (by decide +kernel)
theorem dX24_choose_93 : decode cX24_choose 93 = .ok (.istore 5, 2) := dc_54 (a := 5) (by decide +kernel)
theorem dX24_choose_95 : decode cX24_choose 95 = .ok (.iload 6, 2) := dc_21 (a := 6) (by decide +kernel)
theorem dX24_choose_97 : decode cX24_choose 97 = .ok (.iload 4, 2) := dc_21 (a := 4) (by decide +kernel)
theorem dX24_choose_99 : decode cX24_choose 99 = .ok (.iadd, 1) := dc_96 (by decide +kernel)
theorem dX24_choose_100 : decode cX24_choose 100 = .ok (.istore 6, 2) := dc_54 (a := 6) (by decide +kernel)
theorem dX24_choose_102 : decode cX24_choose 102 = .ok (.goto (-36), 3) := dc_167 (a := 255) (b := 220) (v := -36) (by decide +kernel)
theorem dX24_choose_105 : decode cX24_choose 105 = .ok (.iload 5, 2) := dc_21 (a := 5) (by decide +kernel)
theorem dX24_choose_107 : decode cX24_choose 107 = .ok (.iconst (-1), 1) := dc_2 (by decide +kernel)
theorem dX24_choose_108 : decode cX24_choose 108 = .ok (.if_icmp .ne 6, 3) := dc_160 (a := 0) (b := 6) (v := 6) (by decide +kernel)
theorem dX24_choose_111 : decode cX24_choose 111 = .ok (.iload_n 1, 1) := dc_27 (by decide +kernel)
theorem dX24_choose_112 : decode cX24_choose 112 = .ok (.istore 5, 2) := dc_54 (a := 5) (by decide +kernel)
theorem dX24_choose_114 : decode cX24_choose 114 = .ok (.aload_n 0, 1) := dc_42 (by decide +kernel)
theorem dX24_choose_115 : decode cX24_choose 115 = .ok (.getfield 175, 3) := dc_180 (a := 0) (b := 175) (n := 175) (by decide +kernel)
theorem dX24_choose_118 : decode cX24_choose 118 = .ok (.ifCond .ne 17, 3) := dc_154 (a := 0) (b := 17) (v := 17) (by decide +kernel)
theorem dX24_choose_121 : decode cX24_choose 121 = .ok (.aload_n 0, 1) := dc_42 (by decide +kernel)
theorem dX24_choose_122 : decode cX24_choose 122 = .ok (.getfield 12, 3) := dc_180 (a := 0) (b := 12) (n := 12) (by decide +kernel)
theorem dX24_choose_125 : decode cX24_choose 125 = .ok (.getfield 99, 3) := dc_180 (a := 0) (b := 99) (n := 99) (by decide +kernel)
theorem dX24_choose_128 : decode cX24_choose 128 = .ok (.iload 5, 2) := dc_21 (a := 5) (by decide +kernel)
theorem dX24_choose_130 : decode cX24_choose 130 = .ok (.iaload, 1) := dc_46 (by decide +kernel)
theorem dX24_choose_131 : decode cX24_choose 131 = .ok (.iload_n 3, 1) := dc_29 (by decide +kernel)
theorem dX24_choose_132 : decode cX24_choose 132 = .ok (.if_icmp .ne 8, 3) := dc_160 (a := 0) (b := 8) (v := 8) (by decide +kernel)
theorem dX24_choose_135 : decode cX24_choose 135 = .ok (.iload 5, 2) := dc_21 (a := 5) (by decide +kernel)
theorem dX24_choose_137 : decode cX24_choose 137 = .ok (.goto 4, 3) := dc_167 (a := 0) (b := 4) (v := 4) (by decide +kernel)
theorem dX24_choose_140 : decode cX24_choose 140 = .ok (.iconst (-1), 1) := dc_2 (by decide +kernel)
theorem dX24_choose_141 : decode cX24_choose 141 = .ok (.ireturn, 1) := dc_172 (by decide +kernel)
def fX24_choose_b21 (N : Nat) (l1 : Int32) (h : eH) : Option (Int32 × eH) :=
  some (l1, h)
theorem pX24_choose_b21 {w : eW} {d : Nat} (hd : 2 ≤ d + 1) {N : Nat} {l1 : Int32} {h : eH} {q} (hf : fX24_choose_b21 N l1 h = some q) : wp w (d + 1) YX24_choose 21 [none, some (.int l1), none, none, none, none, none] [] h (e_is (e_rn c_I q)) := by
  unfold fX24_choose_b21 at hf
  refine w_iload_n dX24_choose_21 rfl rfl ?_
  cases hf
  exact w_iret dX24_choose_22 rfl rfl rfl
def fX24_choose_b93 (N : Nat) (k66 : Nat → Int32 → Int32 → Int32 → Int32 → Int32 → Int32 → eH → Option (Int32 × eH)) (l0 : Nat) (l1 : Int32) (l2 : Int32) (l3 : Int32) (l4 : Int32) (l6 : Int32) (s0 : Int32) (h : eH) : Option (Int32 × eH) :=
  k66 l0 l1 l2 l3 l4 s0 (l6 + l4) h
theorem pX24_choose_b93 {w : eW} {d : Nat} (hd : 2 ≤ d + 1) {N : Nat} {k66 : Nat → Int32 → Int32 → Int32 → Int32 → Int32 → Int32 → eH → Option (Int32 × eH)} (hk66 : ∀ l0 l1 l2 l3 l4 l5 l6 h q, k66 l0 l1 l2 l3 l4 l5 l6 h = some q → wp w (d + 1) YX24_choose 66 [some (.ref l0), some (.int l1), some (.int l2), some (.int l3), some (.int l4), some (.int l5), some (.int l6)] [] h (e_is (e_rn c_I q))) {l0 : Nat} {l1 : Int32} {l2 : Int32} {l3 : Int32} {l4 : Int32} {l6 : Int32} {s0 : Int32} {h : eH} {q} (hf : fX24_choose_b93 N k66 l0 l1 l2 l3 l4 l6 s0 h = some q) : wp w (d + 1) YX24_choose 93 [some (.ref l0), some (.int l1), some (.int l2), some (.int l3), some (.int l4), none, some (.int l6)] [.int s0] h (e_is (e_rn c_I q)) := by
  unfold fX24_choose_b93 at hf
  refine w_istore dX24_choose_93 (by decide) (ls' := [some (.ref l0), some (.int l1), some (.int l2), some (.int l3), some (.int l4), some (.int s0), some (.int l6)]) rfl ?_
  refine w_iload dX24_choose_95 rfl ?_
  refine w_iload dX24_choose_97 rfl ?_
  refine w_iadd dX24_choose_99 ?_
  refine w_istore dX24_choose_100 (by decide) (ls' := [some (.ref l0), some (.int l1), some (.int l2), some (.int l3), some (.int l4), some (.int s0), some (.int (l6 + l4))]) rfl ?_
  refine w_goto 66 dX24_choose_102 (by decide) ?_
  exact (hk66 _ _ _ _ _ _ _ _ _ hf).to ⟨rfl, rfl, rfl, rfl, rfl, rfl, rfl, trivial⟩
def fX24_choose_b141 (N : Nat) (s0 : Int32) (h : eH) : Option (Int32 × eH) :=
  some (s0, h)
theorem pX24_choose_b141 {w : eW} {d : Nat} (hd : 2 ≤ d + 1) {N : Nat} {s0 : Int32} {h : eH} {q} (hf : fX24_choose_b141 N s0 h = some q) : wp w (d + 1) YX24_choose 141 [none, none, none, none, none, none, none] [.int s0] h (e_is (e_rn c_I q)) := by
  unfold fX24_choose_b141 at hf
  cases hf
  exact w_iret dX24_choose_141 rfl rfl rfl
def fX24_choose_b135 (N : Nat) (l5 : Int32) (h : eH) : Option (Int32 × eH) :=
  fX24_choose_b141 N l5 h
theorem pX24_choose_b135 {w : eW} {d : Nat} (hd : 2 ≤ d + 1) {N : Nat} {l5 : Int32} {h : eH} {q} (hf : fX24_choose_b135 N l5 h = some q) : wp w (d + 1) YX24_choose 135 [none, none, none, none, none, some (.int l5), none] [] h (e_is (e_rn c_I q)) := by
  unfold fX24_choose_b135 at hf
  refine w_iload dX24_choose_135 rfl ?_
  refine w_goto 141 dX24_choose_137 (by decide) ?_
  exact (pX24_choose_b141 hd hf).to trivial
def fX24_choose_b114 (N : Nat) (l0 : Nat) (l3 : Int32) (l5 : Int32) (h : eH) : Option (Int32 × eH) :=
  (g_I 23 h l0 9).bind fun x1 =>
  if ¬ x1 = 0 then
    fX24_choose_b135 N l5 h
  else
    (g_A 23 h l0 4).bind fun a4 =>
    (g_A 24 h a4 1).bind fun a6 =>
    (r_I 100 h a6 l5).bind fun x8 =>
    if ¬ x8 = l3 then
      fX24_choose_b141 N (-1 : Int32) h
    else
      fX24_choose_b135 N l5 h
theorem pX24_choose_b114 {w : eW} {d : Nat} (hd : 2 ≤ d + 1) {N : Nat} {l0 : Nat} {l3 : Int32} {l5 : Int32} {h : eH} {q} (hf : fX24_choose_b114 N l0 l3 l5 h = some q) : wp w (d + 1) YX24_choose 114 [some (.ref l0), none, none, some (.int l3), none, some (.int l5), none] [] h (e_is (e_rn c_I q)) := by
  unfold fX24_choose_b114 at hf
  refine w_aload_n dX24_choose_114 rfl rfl ?_
  obtain ⟨x1, b2, hf⟩ := Option.bind_eq_some_iff.mp hf
  refine GX24_175 b2 dX24_choose_115 rfl ?_
  refine w_if_ne 135 dX24_choose_118 (by decide) (fun c3 => ?_) (fun c3 => ?_)
  · replace hf := (if_pos (show ¬ x1 = 0 from c3)).symm.trans hf
    exact (pX24_choose_b135 hd hf).to ⟨rfl, trivial⟩
  · replace hf := (if_neg (show ¬ (¬ x1 = 0) from (fun z => z c3))).symm.trans hf
    refine w_aload_n dX24_choose_121 rfl rfl ?_
    obtain ⟨a4, b5, hf⟩ := Option.bind_eq_some_iff.mp hf
    refine GX24_12 b5 dX24_choose_122 rfl ?_
    obtain ⟨a6, b7, hf⟩ := Option.bind_eq_some_iff.mp hf
    refine GX24_99 b7 dX24_choose_125 rfl ?_
    refine w_iload dX24_choose_128 rfl ?_
    obtain ⟨x8, b9, hf⟩ := Option.bind_eq_some_iff.mp hf
    refine x_rI b9 dX24_choose_130 ?_
    refine w_iload_n dX24_choose_131 rfl rfl ?_
    refine w_icmp_ne 140 dX24_choose_132 (by decide) (fun c10 => ?_) (fun c10 => ?_)
    · replace hf := (if_pos (show ¬ x8 = l3 from c10)).symm.trans hf
      refine w_iconst dX24_choose_140 (v := -1) (by decide) ?_
      exact (pX24_choose_b141 hd hf).to trivial
    · replace hf := (if_neg (show ¬ (¬ x8 = l3) from (fun z => z c10))).symm.trans hf
      exact (pX24_choose_b135 hd hf).to ⟨rfl, trivial⟩
def fX24_choose_b105 (N : Nat) (l0 : Nat) (l1 : Int32) (l3 : Int32) (l5 : Int32) (h : eH) : Option (Int32 × eH) :=
  if ¬ l5 = (-1 : Int32) then
    fX24_choose_b114 N l0 l3 l5 h
  else
    fX24_choose_b114 N l0 l3 l1 h
theorem pX24_choose_b105 {w : eW} {d : Nat} (hd : 2 ≤ d + 1) {N : Nat} {l0 : Nat} {l1 : Int32} {l3 : Int32} {l5 : Int32} {h : eH} {q} (hf : fX24_choose_b105 N l0 l1 l3 l5 h = some q) : wp w (d + 1) YX24_choose 105 [some (.ref l0), some (.int l1), none, some (.int l3), none, some (.int l5), none] [] h (e_is (e_rn c_I q)) := by
  unfold fX24_choose_b105 at hf
  refine w_iload dX24_choose_105 rfl ?_
  refine w_iconst dX24_choose_107 (v := -1) (by decide) ?_
  refine w_icmp_ne 114 dX24_choose_108 (by decide) (fun c1 => ?_) (fun c1 => ?_)
  · replace hf := (if_pos (show ¬ l5 = (-1 : Int32) from c1)).symm.trans hf
    exact (pX24_choose_b114 hd hf).to ⟨rfl, rfl, rfl, trivial⟩
  · replace hf := (if_neg (show ¬ (¬ l5 = (-1 : Int32)) from (fun z => z c1))).symm.trans hf
    refine w_iload_n dX24_choose_111 rfl rfl ?_
    refine w_istore dX24_choose_112 (by decide) (ls' := [some (.ref l0), some (.int l1), none, some (.int l3), none, some (.int l1), none]) rfl ?_
    exact (pX24_choose_b114 hd hf).to ⟨rfl, rfl, rfl, trivial⟩
def fX24_choose_b66 (N : Nat) : Nat → Nat → Int32 → Int32 → Int32 → Int32 → Int32 → Int32 → eH → Option (Int32 × eH)
  | 0, _, _, _, _, _, _, _, _ => none
  | n + 1, l0, l1, l2, l3, l4, l5, l6, h =>
    if ¬ l5 = (-1 : Int32) then
      fX24_choose_b105 N l0 l1 l3 l5 h
    else
      if l6 = l2 then
        fX24_choose_b105 N l0 l1 l3 l5 h
      else
        if l6 ≤ 0 then
          fX24_choose_b93 N (fX24_choose_b66 N n) l0 l1 l2 l3 l4 l6 (-1 : Int32) h
        else
          (k_ok 23 h l0).bind fun _ =>
          (fX24_leastOf N l0 l6 h).bind fun q5 =>
          fX24_choose_b93 N (fX24_choose_b66 N n) l0 l1 l2 l3 l4 l6 q5.1 q5.2
theorem pX24_choose_b66 {w : eW} {d : Nat} (hd : 2 ≤ d + 1) {N : Nat} : ∀ (n : Nat) l0 l1 l2 l3 l4 l5 l6 h q, fX24_choose_b66 N n l0 l1 l2 l3 l4 l5 l6 h = some q → wp w (d + 1) YX24_choose 66 [some (.ref l0), some (.int l1), some (.int l2), some (.int l3), some (.int l4), some (.int l5), some (.int l6)] [] h (e_is (e_rn c_I q)) := by
  intro n
  induction n with
  | zero => intro l0 l1 l2 l3 l4 l5 l6 h q hf; simp [fX24_choose_b66] at hf
  | succ n ih =>
    intro l0 l1 l2 l3 l4 l5 l6 h q hf
    rw [fX24_choose_b66] at hf
    refine w_iload dX24_choose_66 rfl ?_
    refine w_iconst dX24_choose_68 (v := -1) (by decide) ?_
    refine w_icmp_ne 105 dX24_choose_69 (by decide) (fun c1 => ?_) (fun c1 => ?_)
    · replace hf := (if_pos (show ¬ l5 = (-1 : Int32) from c1)).symm.trans hf
      exact (pX24_choose_b105 hd hf).to ⟨rfl, rfl, rfl, rfl, trivial⟩
    · replace hf := (if_neg (show ¬ (¬ l5 = (-1 : Int32)) from (fun z => z c1))).symm.trans hf
      refine w_iload dX24_choose_72 rfl ?_
      refine w_iload_n dX24_choose_74 rfl rfl ?_
      refine w_icmp_eq 105 dX24_choose_75 (by decide) (fun c2 => ?_) (fun c2 => ?_)
      · replace hf := (if_pos (show l6 = l2 from c2)).symm.trans hf
        exact (pX24_choose_b105 hd hf).to ⟨rfl, rfl, rfl, rfl, trivial⟩
      · replace hf := (if_neg (show ¬ (l6 = l2) from c2)).symm.trans hf
        refine w_iload dX24_choose_78 rfl ?_
        refine w_if_le 92 dX24_choose_80 (by decide) (fun c3 => ?_) (fun c3 => ?_)
        · replace hf := (if_pos (show l6 ≤ 0 from c3)).symm.trans hf
          refine w_iconst dX24_choose_92 (v := -1) (by decide) ?_
          exact (pX24_choose_b93 hd ih hf).to ⟨rfl, rfl, rfl, rfl, rfl, rfl, trivial⟩
        · replace hf := (if_neg (show ¬ (l6 ≤ 0) from c3)).symm.trans hf
          refine w_aload_n dX24_choose_83 rfl rfl ?_
          refine w_iload dX24_choose_84 rfl ?_
          obtain ⟨_, b4, hf⟩ := Option.bind_eq_some_iff.mp hf
          refine x_cnI hf (e_stV (Yc := YX24_leastOf) (ci := 23) (av := [.int l6]) (st := []) dX24_choose_86 q3828 mX24_leastOf rfl (k_ok_some b4).1 (k_ok_some b4).2) mX24_leastOf.2.2.1 mX24_leastOf.2.2.2.2.1 (Nat.le_of_ble_eq_true rfl) (Nat.le_of_ble_eq_true rfl) (fun q hq => pX24_leastOf (by omega) hq) (fun q5 hf => ?_)
          refine w_goto 93 dX24_choose_89 (by decide) ?_
          exact (pX24_choose_b93 hd ih hf).to ⟨rfl, rfl, rfl, rfl, rfl, rfl, trivial⟩
def fX24_choose_b58 (N : Nat) (l0 : Nat) (l1 : Int32) (l2 : Int32) (l3 : Int32) (s0 : Int32) (h : eH) : Option (Int32 × eH) :=
  fX24_choose_b66 N N l0 l1 l2 l3 s0 (-1 : Int32) l3 h
theorem pX24_choose_b58 {w : eW} {d : Nat} (hd : 2 ≤ d + 1) {N : Nat} {l0 : Nat} {l1 : Int32} {l2 : Int32} {l3 : Int32} {s0 : Int32} {h : eH} {q} (hf : fX24_choose_b58 N l0 l1 l2 l3 s0 h = some q) : wp w (d + 1) YX24_choose 58 [some (.ref l0), some (.int l1), some (.int l2), some (.int l3), none, none, none] [.int s0] h (e_is (e_rn c_I q)) := by
  unfold fX24_choose_b58 at hf
  refine w_istore dX24_choose_58 (by decide) (ls' := [some (.ref l0), some (.int l1), some (.int l2), some (.int l3), some (.int s0), none, none]) rfl ?_
  refine w_iconst dX24_choose_60 (v := -1) (by decide) ?_
  refine w_istore dX24_choose_61 (by decide) (ls' := [some (.ref l0), some (.int l1), some (.int l2), some (.int l3), some (.int s0), some (.int (-1 : Int32)), none]) rfl ?_
  refine w_iload_n dX24_choose_63 rfl rfl ?_
  refine w_istore dX24_choose_64 (by decide) (ls' := [some (.ref l0), some (.int l1), some (.int l2), some (.int l3), some (.int s0), some (.int (-1 : Int32)), some (.int l3)]) rfl ?_
  exact (pX24_choose_b66 hd N _ _ _ _ _ _ _ _ _ hf).to ⟨rfl, rfl, rfl, rfl, rfl, rfl, rfl, trivial⟩
def fX24_choose (N : Nat) (this : Nat) (h : eH) : Option (Int32 × eH) :=
  (k_ok 23 h this).bind fun _ =>
  (fX24_leastOf N this (0 : Int32) h).bind fun q2 =>
  if q2.1 = (-1 : Int32) then
    fX24_choose_b21 N q2.1 q2.2
  else
    (g_A 23 q2.2 this 2).bind fun a4 =>
    (r_I 100 q2.2 a4 (9 : Int32)).bind fun x6 =>
    if ¬ x6 = 0 then
      (g_A 23 q2.2 this 4).bind fun a9 =>
      (g_A 24 q2.2 a9 1).bind fun a11 =>
      (r_I 100 q2.2 a11 q2.1).bind fun x13 =>
      (g_A 23 q2.2 this 2).bind fun a15 =>
      (r_I 100 q2.2 a15 (9 : Int32)).bind fun x17 =>
      (g_A 23 q2.2 this 2).bind fun a19 =>
      (r_I 100 q2.2 a19 (9 : Int32)).bind fun x21 =>
      if x21 ≤ 0 then
        fX24_choose_b58 N this q2.1 x13 (x13 + x17) (1 : Int32) q2.2
      else
        fX24_choose_b58 N this q2.1 x13 (x13 + x17) (-1 : Int32) q2.2
    else
      fX24_choose_b21 N q2.1 q2.2
theorem pX24_choose {w : eW} {d : Nat} (hd : 2 ≤ d) {N : Nat} {this : Nat} {h : eH} {q} (hf : fX24_choose N this h = some q) : wm w d YX24_choose [.ref this] h (e_is (e_rn c_I q)) := by
  obtain ⟨d, rfl⟩ : ∃ e, d = e + 1 := ⟨d - 1, by omega⟩
  show wp w (d + 1) YX24_choose 0 [some (.ref this), none, none, none, none, none, none] [] h _
  unfold fX24_choose at hf
  refine w_aload_n dX24_choose_0 rfl rfl ?_
  refine w_iconst dX24_choose_1 (v := 0) (by decide) ?_
  obtain ⟨_, b1, hf⟩ := Option.bind_eq_some_iff.mp hf
  refine x_cnI hf (e_stV (Yc := YX24_leastOf) (ci := 23) (av := [.int (0 : Int32)]) (st := []) dX24_choose_2 q3828 mX24_leastOf rfl (k_ok_some b1).1 (k_ok_some b1).2) mX24_leastOf.2.2.1 mX24_leastOf.2.2.2.2.1 (Nat.le_of_ble_eq_true rfl) (Nat.le_of_ble_eq_true rfl) (fun q hq => pX24_leastOf (by omega) hq) (fun q2 hf => ?_)
  refine w_istore_n dX24_choose_5 rfl (by decide) (ls' := [some (.ref this), some (.int q2.1), none, none, none, none, none]) rfl ?_
  refine w_iload_n dX24_choose_6 rfl rfl ?_
  refine w_iconst dX24_choose_7 (v := -1) (by decide) ?_
  refine w_icmp_eq 21 dX24_choose_8 (by decide) (fun c3 => ?_) (fun c3 => ?_)
  · replace hf := (if_pos (show q2.1 = (-1 : Int32) from c3)).symm.trans hf
    exact (pX24_choose_b21 hd hf).to ⟨rfl, trivial⟩
  · replace hf := (if_neg (show ¬ (q2.1 = (-1 : Int32)) from c3)).symm.trans hf
    refine w_aload_n dX24_choose_11 rfl rfl ?_
    obtain ⟨a4, b5, hf⟩ := Option.bind_eq_some_iff.mp hf
    refine GX24_41 b5 dX24_choose_12 rfl ?_
    refine w_bipush dX24_choose_15 (v := 9) (by decide) ?_
    obtain ⟨x6, b7, hf⟩ := Option.bind_eq_some_iff.mp hf
    refine x_rI b7 dX24_choose_17 ?_
    refine w_if_ne 23 dX24_choose_18 (by decide) (fun c8 => ?_) (fun c8 => ?_)
    · replace hf := (if_pos (show ¬ x6 = 0 from c8)).symm.trans hf
      refine w_aload_n dX24_choose_23 rfl rfl ?_
      obtain ⟨a9, b10, hf⟩ := Option.bind_eq_some_iff.mp hf
      refine GX24_12 b10 dX24_choose_24 rfl ?_
      obtain ⟨a11, b12, hf⟩ := Option.bind_eq_some_iff.mp hf
      refine GX24_99 b12 dX24_choose_27 rfl ?_
      refine w_iload_n dX24_choose_30 rfl rfl ?_
      obtain ⟨x13, b14, hf⟩ := Option.bind_eq_some_iff.mp hf
      refine x_rI b14 dX24_choose_31 ?_
      refine w_istore_n dX24_choose_32 rfl (by decide) (ls' := [some (.ref this), some (.int q2.1), some (.int x13), none, none, none, none]) rfl ?_
      refine w_iload_n dX24_choose_33 rfl rfl ?_
      refine w_aload_n dX24_choose_34 rfl rfl ?_
      obtain ⟨a15, b16, hf⟩ := Option.bind_eq_some_iff.mp hf
      refine GX24_41 b16 dX24_choose_35 rfl ?_
      refine w_bipush dX24_choose_38 (v := 9) (by decide) ?_
      obtain ⟨x17, b18, hf⟩ := Option.bind_eq_some_iff.mp hf
      refine x_rI b18 dX24_choose_40 ?_
      refine w_iadd dX24_choose_41 ?_
      refine w_istore_n dX24_choose_42 rfl (by decide) (ls' := [some (.ref this), some (.int q2.1), some (.int x13), some (.int (x13 + x17)), none, none, none]) rfl ?_
      refine w_aload_n dX24_choose_43 rfl rfl ?_
      obtain ⟨a19, b20, hf⟩ := Option.bind_eq_some_iff.mp hf
      refine GX24_41 b20 dX24_choose_44 rfl ?_
      refine w_bipush dX24_choose_47 (v := 9) (by decide) ?_
      obtain ⟨x21, b22, hf⟩ := Option.bind_eq_some_iff.mp hf
      refine x_rI b22 dX24_choose_49 ?_
      refine w_if_le 57 dX24_choose_50 (by decide) (fun c23 => ?_) (fun c23 => ?_)
      · replace hf := (if_pos (show x21 ≤ 0 from c23)).symm.trans hf
        refine w_iconst dX24_choose_57 (v := 1) (by decide) ?_
        exact (pX24_choose_b58 hd hf).to ⟨rfl, rfl, rfl, rfl, trivial⟩
      · replace hf := (if_neg (show ¬ (x21 ≤ 0) from c23)).symm.trans hf
        refine w_iconst dX24_choose_53 (v := -1) (by decide) ?_
        refine w_goto 58 dX24_choose_54 (by decide) ?_
        exact (pX24_choose_b58 hd hf).to ⟨rfl, rfl, rfl, rfl, trivial⟩
    · replace hf := (if_neg (show ¬ (¬ x6 = 0) from (fun z => z c8))).symm.trans hf
      exact (pX24_choose_b21 hd hf).to ⟨rfl, trivial⟩
abbrev cX21_runPass : ByteArray := prog_3_method_7_code
def yX21_runPass : MethodName := ⟨RX21, "runPass", "(IZZ)I"⟩
def YX21_runPass : eY := (yX21_runPass, cX21_runPass, 4, (Option.some FieldType.int), [])
theorem mX21_runPass : e_mv YX21_runPass RX21 3 := ⟨q3737, qs165, q3738, by decide, by decide +kernel, (e_sig (by decide +kernel))⟩
theorem dX21_runPass_0 : decode cX21_runPass 0 = .ok (.aload_n 0, 1) := dc_42 (by decide +kernel)
theorem dX21_runPass_1 : decode cX21_runPass 1 = .ok (.getfield 40, 3) := dc_180 (a := 0) (b := 40) (n := 40) (by decide +kernel)
theorem dX21_runPass_4 : decode cX21_runPass 4 = .ok (.iload_n 1, 1) := dc_27 (by decide +kernel)
theorem dX21_runPass_5 : decode cX21_runPass 5 = .ok (.putfield 115, 3) := dc_181 (a := 0) (b := 115) (n := 115) (by decide +kernel)
theorem dX21_runPass_8 : decode cX21_runPass 8 = .ok (.aload_n 0, 1) := dc_42 (by decide +kernel)
theorem dX21_runPass_9 : decode cX21_runPass 9 = .ok (.getfield 40, 3) := dc_180 (a := 0) (b := 40) (n := 40) (by decide +kernel)
theorem dX21_runPass_12 : decode cX21_runPass 12 = .ok (.iload_n 2, 1) := dc_28 (by decide +kernel)
theorem dX21_runPass_13 : decode cX21_runPass 13 = .ok (.putfield 118, 3) := dc_181 (a := 0) (b := 118) (n := 118) (by decide +kernel)
theorem dX21_runPass_16 : decode cX21_runPass 16 = .ok (.aload_n 0, 1) := dc_42 (by decide +kernel)
theorem dX21_runPass_17 : decode cX21_runPass 17 = .ok (.getfield 40, 3) := dc_180 (a := 0) (b := 40) (n := 40) (by decide +kernel)
theorem dX21_runPass_20 : decode cX21_runPass 20 = .ok (.iload_n 3, 1) := dc_29 (by decide +kernel)
theorem dX21_runPass_21 : decode cX21_runPass 21 = .ok (.putfield 122, 3) := dc_181 (a := 0) (b := 122) (n := 122) (by decide +kernel)
theorem dX21_runPass_24 : decode cX21_runPass 24 = .ok (.aload_n 0, 1) := dc_42 (by decide +kernel)
theorem dX21_runPass_25 : decode cX21_runPass 25 = .ok (.getfield 40, 3) := dc_180 (a := 0) (b := 40) (n := 40) (by decide +kernel)
theorem dX21_runPass_28 : decode cX21_runPass 28 = .ok (.invokevirtual 125, 3) := dc_182 (a := 0) (b := 125) (n := 125) (by decide +kernel)
theorem dX21_runPass_31 : decode cX21_runPass 31 = .ok (.ifCond .eq 13, 3) := dc_153 (a := 0) (b := 13) (v := 13) (by decide +kernel)
theorem dX21_runPass_34 : decode cX21_runPass 34 = .ok (.aload_n 0, 1) := dc_42 (by decide +kernel)
theorem dX21_runPass_35 : decode cX21_runPass 35 = .ok (.getfield 40, 3) := dc_180 (a := 0) (b := 40) (n := 40) (by decide +kernel)
theorem dX21_runPass_38 : decode cX21_runPass 38 = .ok (.invokevirtual 129, 3) := dc_182 (a := 0) (b := 129) (n := 129) (by decide +kernel)
theorem dX21_runPass_41 : decode cX21_runPass 41 = .ok (.goto 5, 3) := dc_167 (a := 0) (b := 5) (v := 5) (by decide +kernel)
theorem dX21_runPass_44 : decode cX21_runPass 44 = .ok (.bipush (-2), 2) := dc_16 (a := 254) (v := -2) (by decide +kernel)
theorem dX21_runPass_46 : decode cX21_runPass 46 = .ok (.ireturn, 1) := dc_172 (by decide +kernel)
theorem GX21_40 {w : eW} {d : Nat} {Y : eY} {pc : Nat} {ls : eL} {st : List Value} {h : eH} {Q : eO → eH → Prop} {a : Nat} {x : Nat} (hf : g_A 20 h a 5 = some x) (hd : decode Y.2.1 pc = .ok (.getfield 40, 3)) (hY : Y.1.cls = RX21) (kk : wp w d Y (pc + 3) ls (.ref x :: st) h Q) : wp w d Y pc ls (.ref a :: st) h Q := x_gA (ci := 20) (k := 5) hf hd rfl (by decide) (by rw [hY]; exact q1454) kk
theorem SX21_115 {w : eW} {d : Nat} {Y : eY} {pc : Nat} {ls : eL} {st : List Value} {h : eH} {Q : eO → eH → Prop} {a : Nat} {h' : eH} {x : Int32} (hf : p_V 23 h a 10 (.int x) = some h') (hd : decode Y.2.1 pc = .ok (.putfield 115, 3)) (hY : Y.1.cls = RX21) (kk : wp w d Y (pc + 3) ls st h' Q) : wp w d Y pc ls (.int x :: .ref a :: st) h Q := x_pIN (ci := 23) (k := 10) hf hd rfl (by decide) (by rw [hY]; exact q1405) rfl rfl kk
theorem SX21_118 {w : eW} {d : Nat} {Y : eY} {pc : Nat} {ls : eL} {st : List Value} {h : eH} {Q : eO → eH → Prop} {a : Nat} {h' : eH} {x : Int32} (hf : p_Z 23 h a 8 x = some h') (hd : decode Y.2.1 pc = .ok (.putfield 118, 3)) (hY : Y.1.cls = RX21) (kk : wp w d Y (pc + 3) ls st h' Q) : wp w d Y pc ls (.int x :: .ref a :: st) h Q := x_pZN (ci := 23) (k := 8) hf hd rfl (by decide) (by rw [hY]; exact q1402) rfl rfl kk
theorem SX21_122 {w : eW} {d : Nat} {Y : eY} {pc : Nat} {ls : eL} {st : List Value} {h : eH} {Q : eO → eH → Prop} {a : Nat} {h' : eH} {x : Int32} (hf : p_Z 23 h a 9 x = some h') (hd : decode Y.2.1 pc = .ok (.putfield 122, 3)) (hY : Y.1.cls = RX21) (kk : wp w d Y (pc + 3) ls st h' Q) : wp w d Y pc ls (.int x :: .ref a :: st) h Q := x_pZN (ci := 23) (k := 9) hf hd rfl (by decide) (by rw [hY]; exact q1403) rfl rfl kk
def fX21_runPass_b46 (N : Nat) (s0 : Int32) (h : eH) : Option (Int32 × eH) :=
  some (s0, h)
theorem pX21_runPass_b46 {w : eW} {d : Nat} (hd : 5 ≤ d + 1) {N : Nat} {s0 : Int32} {h : eH} {q} (hf : fX21_runPass_b46 N s0 h = some q) : wp w (d + 1) YX21_runPass 46 [none, none, none, none] [.int s0] h (e_is (e_rn c_I q)) := by
  unfold fX21_runPass_b46 at hf
  cases hf
  exact w_iret dX21_runPass_46 rfl rfl rfl
def fX21_runPass (N : Nat) (this : Nat) (p0 : Int32) (p1 : Int32) (p2 : Int32) (h : eH) : Option (Int32 × eH) :=
  (g_A 20 h this 5).bind fun a1 =>
  (p_V 23 h a1 10 (.int p0)).bind fun h3 =>
  (g_A 20 h3 this 5).bind fun a5 =>
  (p_Z 23 h3 a5 8 p1).bind fun h7 =>
  (g_A 20 h7 this 5).bind fun a9 =>
  (p_Z 23 h7 a9 9 p2).bind fun h11 =>
  (g_A 20 h11 this 5).bind fun a13 =>
  (k_ok 23 h11 a13).bind fun _ =>
  (fX24_run N a13 h11).bind fun q16 =>
  if q16.1 = 0 then
    fX21_runPass_b46 N (-2 : Int32) q16.2
  else
    (g_A 20 q16.2 this 5).bind fun a18 =>
    (k_ok 23 q16.2 a18).bind fun _ =>
    (fX24_choose N a18 q16.2).bind fun q21 =>
    fX21_runPass_b46 N q21.1 q21.2
theorem pX21_runPass {w : eW} {d : Nat} (hd : 5 ≤ d) {N : Nat} {this : Nat} {p0 : Int32} {p1 : Int32} {p2 : Int32} {h : eH} {q} (hf : fX21_runPass N this p0 p1 p2 h = some q) : wm w d YX21_runPass [.ref this, .int p0, .int p1, .int p2] h (e_is (e_rn c_I q)) := by
  obtain ⟨d, rfl⟩ : ∃ e, d = e + 1 := ⟨d - 1, by omega⟩
  show wp w (d + 1) YX21_runPass 0 [some (.ref this), some (.int p0), some (.int p1), some (.int p2)] [] h _
  unfold fX21_runPass at hf
  refine w_aload_n dX21_runPass_0 rfl rfl ?_
  obtain ⟨a1, b2, hf⟩ := Option.bind_eq_some_iff.mp hf
  refine GX21_40 b2 dX21_runPass_1 rfl ?_
  refine w_iload_n dX21_runPass_4 rfl rfl ?_
  obtain ⟨h3, b4, hf⟩ := Option.bind_eq_some_iff.mp hf
  refine SX21_115 b4 dX21_runPass_5 rfl ?_
  refine w_aload_n dX21_runPass_8 rfl rfl ?_
  obtain ⟨a5, b6, hf⟩ := Option.bind_eq_some_iff.mp hf
  refine GX21_40 b6 dX21_runPass_9 rfl ?_
  refine w_iload_n dX21_runPass_12 rfl rfl ?_
  obtain ⟨h7, b8, hf⟩ := Option.bind_eq_some_iff.mp hf
  refine SX21_118 b8 dX21_runPass_13 rfl ?_
  refine w_aload_n dX21_runPass_16 rfl rfl ?_
  obtain ⟨a9, b10, hf⟩ := Option.bind_eq_some_iff.mp hf
  refine GX21_40 b10 dX21_runPass_17 rfl ?_
  refine w_iload_n dX21_runPass_20 rfl rfl ?_
  obtain ⟨h11, b12, hf⟩ := Option.bind_eq_some_iff.mp hf
  refine SX21_122 b12 dX21_runPass_21 rfl ?_
  refine w_aload_n dX21_runPass_24 rfl rfl ?_
  obtain ⟨a13, b14, hf⟩ := Option.bind_eq_some_iff.mp hf
  refine GX21_40 b14 dX21_runPass_25 rfl ?_
  obtain ⟨_, b15, hf⟩ := Option.bind_eq_some_iff.mp hf
  refine x_cnI hf (e_stV (Yc := YX24_run) (ci := 23) (av := []) (st := []) dX21_runPass_28 q3739 mX24_run rfl (k_ok_some b15).1 (k_ok_some b15).2) mX24_run.2.2.1 mX24_run.2.2.2.2.1 (Nat.le_of_ble_eq_true rfl) (Nat.le_of_ble_eq_true rfl) (fun q hq => pX24_run (by omega) hq) (fun q16 hf => ?_)
  refine w_if_eq 44 dX21_runPass_31 (by decide) (fun c17 => ?_) (fun c17 => ?_)
  · replace hf := (if_pos (show q16.1 = 0 from c17)).symm.trans hf
    refine w_bipush dX21_runPass_44 (v := -2) (by decide) ?_
    exact (pX21_runPass_b46 hd hf).to trivial
  · replace hf := (if_neg (show ¬ (q16.1 = 0) from c17)).symm.trans hf
    refine w_aload_n dX21_runPass_34 rfl rfl ?_
    obtain ⟨a18, b19, hf⟩ := Option.bind_eq_some_iff.mp hf
    refine GX21_40 b19 dX21_runPass_35 rfl ?_
    obtain ⟨_, b20, hf⟩ := Option.bind_eq_some_iff.mp hf
    refine x_cnI hf (e_stV (Yc := YX24_choose) (ci := 23) (av := []) (st := []) dX21_runPass_38 q3824 mX24_choose rfl (k_ok_some b20).1 (k_ok_some b20).2) mX24_choose.2.2.1 mX24_choose.2.2.2.2.1 (Nat.le_of_ble_eq_true rfl) (Nat.le_of_ble_eq_true rfl) (fun q hq => pX24_choose (by omega) hq) (fun q21 hf => ?_)
    refine w_goto 46 dX21_runPass_41 (by decide) ?_
    exact (pX21_runPass_b46 hd hf).to trivial
abbrev cX21_runAll : ByteArray := prog_3_method_8_code
def yX21_runAll : MethodName := ⟨RX21, "runAll", "()I"⟩
def YX21_runAll : eY := (yX21_runAll, cX21_runAll, 2, (Option.some FieldType.int), [])
theorem mX21_runAll : e_mv YX21_runAll RX21 0 := ⟨q3733, qs164, q3734, by decide, by decide +kernel, (e_sig (by decide +kernel))⟩
theorem dX21_runAll_0 : decode cX21_runAll 0 = .ok (.iconst (-1), 1) := dc_2 (by decide +kernel)
theorem dX21_runAll_1 : decode cX21_runAll 1 = .ok (.istore_n 1, 1) := dc_60 (by decide +kernel)
theorem dX21_runAll_2 : decode cX21_runAll 2 = .ok (.aload_n 0, 1) := dc_42 (by decide +kernel)
theorem dX21_runAll_3 : decode cX21_runAll 3 = .ok (.getfield 25, 3) := dc_180 (a := 0) (b := 25) (n := 25) (by decide +kernel)
theorem dX21_runAll_6 : decode cX21_runAll 6 = .ok (.iconst 0, 1) := dc_3 (by decide +kernel)
theorem dX21_runAll_7 : decode cX21_runAll 7 = .ok (.iaload, 1) := dc_46 (by decide +kernel)
theorem dX21_runAll_8 : decode cX21_runAll 8 = .ok (.ifCond .lt 16, 3) := dc_155 (a := 0) (b := 16) (v := 16) (by decide +kernel)
theorem dX21_runAll_11 : decode cX21_runAll 11 = .ok (.aload_n 0, 1) := dc_42 (by decide +kernel)
theorem dX21_runAll_12 : decode cX21_runAll 12 = .ok (.aload_n 0, 1) := dc_42 (by decide +kernel)
theorem dX21_runAll_13 : decode cX21_runAll 13 = .ok (.getfield 25, 3) := dc_180 (a := 0) (b := 25) (n := 25) (by decide +kernel)
theorem dX21_runAll_16 : decode cX21_runAll 16 = .ok (.iconst 0, 1) := dc_3 (by decide +kernel)
theorem dX21_runAll_17 : decode cX21_runAll 17 = .ok (.iaload, 1) := dc_46 (by decide +kernel)
theorem dX21_runAll_18 : decode cX21_runAll 18 = .ok (.iconst 0, 1) := dc_3 (by decide +kernel)
theorem dX21_runAll_19 : decode cX21_runAll 19 = .ok (.iconst 0, 1) := dc_3 (by decide +kernel)
theorem dX21_runAll_20 : decode cX21_runAll 20 = .ok (.invokevirtual 133, 3) := dc_182 (a := 0) (b := 133) (n := 133) (by decide +kernel)
theorem dX21_runAll_23 : decode cX21_runAll 23 = .ok (.istore_n 1, 1) := dc_60 (by decide +kernel)
theorem dX21_runAll_24 : decode cX21_runAll 24 = .ok (.iload_n 1, 1) := dc_27 (by decide +kernel)
theorem dX21_runAll_25 : decode cX21_runAll 25 = .ok (.iconst (-1), 1) := dc_2 (by decide +kernel)
theorem dX21_runAll_26 : decode cX21_runAll 26 = .ok (.if_icmp .ne 30, 3) := dc_160 (a := 0) (b := 30) (v := 30) (by decide +kernel)
theorem dX21_runAll_29 : decode cX21_runAll 29 = .ok (.aload_n 0, 1) := dc_42 (by decide +kernel)
theorem dX21_runAll_30 : decode cX21_runAll 30 = .ok (.aload_n 0, 1) := dc_42 (by decide +kernel)
theorem dX21_runAll_31 : decode cX21_runAll 31 = .ok (.getfield 25, 3) := dc_180 (a := 0) (b := 25) (n := 25) (by decide +kernel)
theorem dX21_runAll_34 : decode cX21_runAll 34 = .ok (.iconst 1, 1) := dc_4 (by decide +kernel)
theorem dX21_runAll_35 : decode cX21_runAll 35 = .ok (.iaload, 1) := dc_46 (by decide +kernel)
theorem dX21_runAll_36 : decode cX21_runAll 36 = .ok (.iconst 1, 1) := dc_4 (by decide +kernel)
theorem dX21_runAll_37 : decode cX21_runAll 37 = .ok (.aload_n 0, 1) := dc_42 (by decide +kernel)
theorem dX21_runAll_38 : decode cX21_runAll 38 = .ok (.getfield 25, 3) := dc_180 (a := 0) (b := 25) (n := 25) (by decide +kernel)
theorem dX21_runAll_41 : decode cX21_runAll 41 = .ok (.bipush 8, 2) := dc_16 (a := 8) (v := 8) (by decide +kernel)
theorem dX21_runAll_43 : decode cX21_runAll 43 = .ok (.iaload, 1) := dc_46 (by decide +kernel)
theorem dX21_runAll_44 : decode cX21_runAll 44 = .ok (.ifCond .ne 7, 3) := dc_154 (a := 0) (b := 7) (v := 7) (by decide +kernel)
theorem dX21_runAll_47 : decode cX21_runAll 47 = .ok (.iconst 1, 1) := dc_4 (by decide +kernel)
theorem dX21_runAll_48 : decode cX21_runAll 48 = .ok (.goto 4, 3) := dc_167 (a := 0) (b := 4) (v := 4) (by decide +kernel)
theorem dX21_runAll_51 : decode cX21_runAll 51 = .ok (.iconst 0, 1) := dc_3 (by decide +kernel)
theorem dX21_runAll_52 : decode cX21_runAll 52 = .ok (.invokevirtual 133, 3) := dc_182 (a := 0) (b := 133) (n := 133) (by decide +kernel)
theorem dX21_runAll_55 : decode cX21_runAll 55 = .ok (.istore_n 1, 1) := dc_60 (by decide +kernel)
theorem dX21_runAll_56 : decode cX21_runAll 56 = .ok (.iload_n 1, 1) := dc_27 (by decide +kernel)
theorem dX21_runAll_57 : decode cX21_runAll 57 = .ok (.iconst (-1), 1) := dc_2 (by decide +kernel)
theorem dX21_runAll_58 : decode cX21_runAll 58 = .ok (.if_icmp .ne 46, 3) := dc_160 (a := 0) (b := 46) (v := 46) (by decide +kernel)
theorem dX21_runAll_61 : decode cX21_runAll 61 = .ok (.aload_n 0, 1) := dc_42 (by decide +kernel)
theorem dX21_runAll_62 : decode cX21_runAll 62 = .ok (.getfield 25, 3) := dc_180 (a := 0) (b := 25) (n := 25) (by decide +kernel)
theorem dX21_runAll_65 : decode cX21_runAll 65 = .ok (.bipush 8, 2) := dc_16 (a := 8) (v := 8) (by decide +kernel)
theorem dX21_runAll_67 : decode cX21_runAll 67 = .ok (.iaload, 1) := dc_46 (by decide +kernel)
theorem dX21_runAll_68 : decode cX21_runAll 68 = .ok (.ifCond .le 36, 3) := dc_158 (a := 0) (b := 36) (v := 36) (by decide +kernel)
theorem dX21_runAll_71 : decode cX21_runAll 71 = .ok (.aload_n 0, 1) := dc_42 (by decide +kernel)
theorem dX21_runAll_72 : decode cX21_runAll 72 = .ok (.getfield 21, 3) := dc_180 (a := 0) (b := 21) (n := 21) (by decide +kernel)
theorem dX21_runAll_75 : decode cX21_runAll 75 = .ok (.getfield 109, 3) := dc_180 (a := 0) (b := 109) (n := 109) (by decide +kernel)
theorem dX21_runAll_78 : decode cX21_runAll 78 = .ok (.iconst 0, 1) := dc_3 (by decide +kernel)
theorem dX21_runAll_79 : decode cX21_runAll 79 = .ok (.dup2, 1) := dc_92 (by decide +kernel)
theorem dX21_runAll_80 : decode cX21_runAll 80 = .ok (.laload, 1) := dc_47 (by decide +kernel)
theorem dX21_runAll_81 : decode cX21_runAll 81 = .ok (.aload_n 0, 1) := dc_42 (by decide +kernel)
theorem dX21_runAll_82 : decode cX21_runAll 82 = .ok (.getfield 25, 3) := dc_180 (a := 0) (b := 25) (n := 25) (by decide +kernel)
theorem dX21_runAll_85 : decode cX21_runAll 85 = .ok (.bipush 8, 2) := dc_16 (a := 8) (v := 8) (by decide +kernel)
theorem dX21_runAll_87 : decode cX21_runAll 87 = .ok (.iaload, 1) := dc_46 (by decide +kernel)
theorem dX21_runAll_88 : decode cX21_runAll 88 = .ok (.i2l, 1) := dc_133 (by decide +kernel)
theorem dX21_runAll_89 : decode cX21_runAll 89 = .ok (.ladd, 1) := dc_97 (by decide +kernel)
theorem dX21_runAll_90 : decode cX21_runAll 90 = .ok (.lastore, 1) := dc_80 (by decide +kernel)
theorem dX21_runAll_91 : decode cX21_runAll 91 = .ok (.aload_n 0, 1) := dc_42 (by decide +kernel)
theorem dX21_runAll_92 : decode cX21_runAll 92 = .ok (.aload_n 0, 1) := dc_42 (by decide +kernel)
theorem dX21_runAll_93 : decode cX21_runAll 93 = .ok (.getfield 25, 3) := dc_180 (a := 0) (b := 25) (n := 25) (by decide +kernel)
theorem dX21_runAll_96 : decode cX21_runAll 96 = .ok (.iconst 1, 1) := dc_4 (by decide +kernel)
theorem dX21_runAll_97 : decode cX21_runAll 97 = .ok (.iaload, 1) := dc_46 (by decide +kernel)
theorem dX21_runAll_98 : decode cX21_runAll 98 = .ok (.iconst 1, 1) := dc_4 (by decide +kernel)
theorem dX21_runAll_99 : decode cX21_runAll 99 = .ok (.iconst 1, 1) := dc_4 (by decide +kernel)
theorem dX21_runAll_100 : decode cX21_runAll 100 = .ok (.invokevirtual 133, 3) := dc_182 (a := 0) (b := 133) (n := 133) (by decide +kernel)
theorem dX21_runAll_103 : decode cX21_runAll 103 = .ok (.istore_n 1, 1) := dc_60 (by decide +kernel)
theorem dX21_runAll_104 : decode cX21_runAll 104 = .ok (.iload_n 1, 1) := dc_27 (by decide +kernel)
theorem dX21_runAll_105 : decode cX21_runAll 105 = .ok (.ireturn, 1) := dc_172 (by decide +kernel)
def fX21_runAll_b104 (N : Nat) (l1 : Int32) (h : eH) : Option (Int32 × eH) :=
  some (l1, h)
theorem pX21_runAll_b104 {w : eW} {d : Nat} (hd : 6 ≤ d + 1) {N : Nat} {l1 : Int32} {h : eH} {q} (hf : fX21_runAll_b104 N l1 h = some q) : wp w (d + 1) YX21_runAll 104 [none, some (.int l1)] [] h (e_is (e_rn c_I q)) := by
  unfold fX21_runAll_b104 at hf
  refine w_iload_n dX21_runAll_104 rfl rfl ?_
  cases hf
  exact w_iret dX21_runAll_105 rfl rfl rfl
def fX21_runAll_b56 (N : Nat) (l0 : Nat) (l1 : Int32) (h : eH) : Option (Int32 × eH) :=
  if ¬ l1 = (-1 : Int32) then
    fX21_runAll_b104 N l1 h
  else
    (g_A 20 h l0 2).bind fun a2 =>
    (r_I 100 h a2 (8 : Int32)).bind fun x4 =>
    if x4 ≤ 0 then
      fX21_runAll_b104 N l1 h
    else
      (g_A 20 h l0 1).bind fun a7 =>
      (g_A 22 h a7 5).bind fun a9 =>
      (r_J h a9 (0 : Int32)).bind fun x11 =>
      (g_A 20 h l0 2).bind fun a13 =>
      (r_I 100 h a13 (8 : Int32)).bind fun x15 =>
      (q_V 101 h a9 (0 : Int32) (.long (x11 + (x15).toInt64))).bind fun h17 =>
      (g_A 20 h17 l0 2).bind fun a19 =>
      (r_I 100 h17 a19 (1 : Int32)).bind fun x21 =>
      (k_ok 20 h17 l0).bind fun _ =>
      (fX21_runPass N l0 x21 (1 : Int32) (1 : Int32) h17).bind fun q24 =>
      fX21_runAll_b104 N q24.1 q24.2
theorem pX21_runAll_b56 {w : eW} {d : Nat} (hd : 6 ≤ d + 1) {N : Nat} {l0 : Nat} {l1 : Int32} {h : eH} {q} (hf : fX21_runAll_b56 N l0 l1 h = some q) : wp w (d + 1) YX21_runAll 56 [some (.ref l0), some (.int l1)] [] h (e_is (e_rn c_I q)) := by
  unfold fX21_runAll_b56 at hf
  refine w_iload_n dX21_runAll_56 rfl rfl ?_
  refine w_iconst dX21_runAll_57 (v := -1) (by decide) ?_
  refine w_icmp_ne 104 dX21_runAll_58 (by decide) (fun c1 => ?_) (fun c1 => ?_)
  · replace hf := (if_pos (show ¬ l1 = (-1 : Int32) from c1)).symm.trans hf
    exact (pX21_runAll_b104 hd hf).to ⟨rfl, trivial⟩
  · replace hf := (if_neg (show ¬ (¬ l1 = (-1 : Int32)) from (fun z => z c1))).symm.trans hf
    refine w_aload_n dX21_runAll_61 rfl rfl ?_
    obtain ⟨a2, b3, hf⟩ := Option.bind_eq_some_iff.mp hf
    refine GX21_25 b3 dX21_runAll_62 rfl ?_
    refine w_bipush dX21_runAll_65 (v := 8) (by decide) ?_
    obtain ⟨x4, b5, hf⟩ := Option.bind_eq_some_iff.mp hf
    refine x_rI b5 dX21_runAll_67 ?_
    refine w_if_le 104 dX21_runAll_68 (by decide) (fun c6 => ?_) (fun c6 => ?_)
    · replace hf := (if_pos (show x4 ≤ 0 from c6)).symm.trans hf
      exact (pX21_runAll_b104 hd hf).to ⟨rfl, trivial⟩
    · replace hf := (if_neg (show ¬ (x4 ≤ 0) from c6)).symm.trans hf
      refine w_aload_n dX21_runAll_71 rfl rfl ?_
      obtain ⟨a7, b8, hf⟩ := Option.bind_eq_some_iff.mp hf
      refine GX21_21 b8 dX21_runAll_72 rfl ?_
      obtain ⟨a9, b10, hf⟩ := Option.bind_eq_some_iff.mp hf
      refine GX21_109 b10 dX21_runAll_75 rfl ?_
      refine w_iconst dX21_runAll_78 (v := 0) (by decide) ?_
      refine w_dup2_11 dX21_runAll_79 rfl rfl ?_
      obtain ⟨x11, b12, hf⟩ := Option.bind_eq_some_iff.mp hf
      refine x_rJ b12 dX21_runAll_80 ?_
      refine w_aload_n dX21_runAll_81 rfl rfl ?_
      obtain ⟨a13, b14, hf⟩ := Option.bind_eq_some_iff.mp hf
      refine GX21_25 b14 dX21_runAll_82 rfl ?_
      refine w_bipush dX21_runAll_85 (v := 8) (by decide) ?_
      obtain ⟨x15, b16, hf⟩ := Option.bind_eq_some_iff.mp hf
      refine x_rI b16 dX21_runAll_87 ?_
      refine w_i2l dX21_runAll_88 ?_
      refine w_ladd dX21_runAll_89 ?_
      obtain ⟨h17, b18, hf⟩ := Option.bind_eq_some_iff.mp hf
      refine x_qJ b18 dX21_runAll_90 ?_
      refine w_aload_n dX21_runAll_91 rfl rfl ?_
      refine w_aload_n dX21_runAll_92 rfl rfl ?_
      obtain ⟨a19, b20, hf⟩ := Option.bind_eq_some_iff.mp hf
      refine GX21_25 b20 dX21_runAll_93 rfl ?_
      refine w_iconst dX21_runAll_96 (v := 1) (by decide) ?_
      obtain ⟨x21, b22, hf⟩ := Option.bind_eq_some_iff.mp hf
      refine x_rI b22 dX21_runAll_97 ?_
      refine w_iconst dX21_runAll_98 (v := 1) (by decide) ?_
      refine w_iconst dX21_runAll_99 (v := 1) (by decide) ?_
      obtain ⟨_, b23, hf⟩ := Option.bind_eq_some_iff.mp hf
      refine x_cnI hf (e_stV (Yc := YX21_runPass) (ci := 20) (av := [.int x21, .int (1 : Int32), .int (1 : Int32)]) (st := []) dX21_runAll_100 q3735 mX21_runPass rfl (k_ok_some b23).1 (k_ok_some b23).2) mX21_runPass.2.2.1 mX21_runPass.2.2.2.2.1 (Nat.le_of_ble_eq_true rfl) (Nat.le_of_ble_eq_true rfl) (fun q hq => pX21_runPass (by omega) hq) (fun q24 hf => ?_)
      refine w_istore_n dX21_runAll_103 rfl (by decide) (ls' := [some (.ref l0), some (.int q24.1)]) rfl ?_
      exact (pX21_runAll_b104 hd hf).to ⟨rfl, trivial⟩
def fX21_runAll_b52 (N : Nat) (l0 : Nat) (s0 : Nat) (s1 : Int32) (s2 : Int32) (s3 : Int32) (h : eH) : Option (Int32 × eH) :=
  (k_ok 20 h s0).bind fun _ =>
  (fX21_runPass N s0 s1 s2 s3 h).bind fun q2 =>
  fX21_runAll_b56 N l0 q2.1 q2.2
theorem pX21_runAll_b52 {w : eW} {d : Nat} (hd : 6 ≤ d + 1) {N : Nat} {l0 : Nat} {s0 : Nat} {s1 : Int32} {s2 : Int32} {s3 : Int32} {h : eH} {q} (hf : fX21_runAll_b52 N l0 s0 s1 s2 s3 h = some q) : wp w (d + 1) YX21_runAll 52 [some (.ref l0), none] [.int s3, .int s2, .int s1, .ref s0] h (e_is (e_rn c_I q)) := by
  unfold fX21_runAll_b52 at hf
  obtain ⟨_, b1, hf⟩ := Option.bind_eq_some_iff.mp hf
  refine x_cnI hf (e_stV (Yc := YX21_runPass) (ci := 20) (av := [.int s1, .int s2, .int s3]) (st := []) dX21_runAll_52 q3735 mX21_runPass rfl (k_ok_some b1).1 (k_ok_some b1).2) mX21_runPass.2.2.1 mX21_runPass.2.2.2.2.1 (Nat.le_of_ble_eq_true rfl) (Nat.le_of_ble_eq_true rfl) (fun q hq => pX21_runPass (by omega) hq) (fun q2 hf => ?_)
  refine w_istore_n dX21_runAll_55 rfl (by decide) (ls' := [some (.ref l0), some (.int q2.1)]) rfl ?_
  exact (pX21_runAll_b56 hd hf).to ⟨rfl, rfl, trivial⟩
def fX21_runAll_b24 (N : Nat) (l0 : Nat) (l1 : Int32) (h : eH) : Option (Int32 × eH) :=
  if ¬ l1 = (-1 : Int32) then
    fX21_runAll_b56 N l0 l1 h
  else
    (g_A 20 h l0 2).bind fun a2 =>
    (r_I 100 h a2 (1 : Int32)).bind fun x4 =>
    (g_A 20 h l0 2).bind fun a6 =>
    (r_I 100 h a6 (8 : Int32)).bind fun x8 =>
    if ¬ x8 = 0 then
      fX21_runAll_b52 N l0 l0 x4 (1 : Int32) (0 : Int32) h
    else
      fX21_runAll_b52 N l0 l0 x4 (1 : Int32) (1 : Int32) h
theorem pX21_runAll_b24 {w : eW} {d : Nat} (hd : 6 ≤ d + 1) {N : Nat} {l0 : Nat} {l1 : Int32} {h : eH} {q} (hf : fX21_runAll_b24 N l0 l1 h = some q) : wp w (d + 1) YX21_runAll 24 [some (.ref l0), some (.int l1)] [] h (e_is (e_rn c_I q)) := by
  unfold fX21_runAll_b24 at hf
  refine w_iload_n dX21_runAll_24 rfl rfl ?_
  refine w_iconst dX21_runAll_25 (v := -1) (by decide) ?_
  refine w_icmp_ne 56 dX21_runAll_26 (by decide) (fun c1 => ?_) (fun c1 => ?_)
  · replace hf := (if_pos (show ¬ l1 = (-1 : Int32) from c1)).symm.trans hf
    exact (pX21_runAll_b56 hd hf).to ⟨rfl, rfl, trivial⟩
  · replace hf := (if_neg (show ¬ (¬ l1 = (-1 : Int32)) from (fun z => z c1))).symm.trans hf
    refine w_aload_n dX21_runAll_29 rfl rfl ?_
    refine w_aload_n dX21_runAll_30 rfl rfl ?_
    obtain ⟨a2, b3, hf⟩ := Option.bind_eq_some_iff.mp hf
    refine GX21_25 b3 dX21_runAll_31 rfl ?_
    refine w_iconst dX21_runAll_34 (v := 1) (by decide) ?_
    obtain ⟨x4, b5, hf⟩ := Option.bind_eq_some_iff.mp hf
    refine x_rI b5 dX21_runAll_35 ?_
    refine w_iconst dX21_runAll_36 (v := 1) (by decide) ?_
    refine w_aload_n dX21_runAll_37 rfl rfl ?_
    obtain ⟨a6, b7, hf⟩ := Option.bind_eq_some_iff.mp hf
    refine GX21_25 b7 dX21_runAll_38 rfl ?_
    refine w_bipush dX21_runAll_41 (v := 8) (by decide) ?_
    obtain ⟨x8, b9, hf⟩ := Option.bind_eq_some_iff.mp hf
    refine x_rI b9 dX21_runAll_43 ?_
    refine w_if_ne 51 dX21_runAll_44 (by decide) (fun c10 => ?_) (fun c10 => ?_)
    · replace hf := (if_pos (show ¬ x8 = 0 from c10)).symm.trans hf
      refine w_iconst dX21_runAll_51 (v := 0) (by decide) ?_
      exact (pX21_runAll_b52 hd hf).to ⟨rfl, trivial⟩
    · replace hf := (if_neg (show ¬ (¬ x8 = 0) from (fun z => z c10))).symm.trans hf
      refine w_iconst dX21_runAll_47 (v := 1) (by decide) ?_
      refine w_goto 52 dX21_runAll_48 (by decide) ?_
      exact (pX21_runAll_b52 hd hf).to ⟨rfl, trivial⟩
def fX21_runAll (N : Nat) (this : Nat) (h : eH) : Option (Int32 × eH) :=
  (g_A 20 h this 2).bind fun a1 =>
  (r_I 100 h a1 (0 : Int32)).bind fun x3 =>
  if x3 < 0 then
    fX21_runAll_b24 N this (-1 : Int32) h
  else
    (g_A 20 h this 2).bind fun a6 =>
    (r_I 100 h a6 (0 : Int32)).bind fun x8 =>
    (k_ok 20 h this).bind fun _ =>
    (fX21_runPass N this x8 (0 : Int32) (0 : Int32) h).bind fun q11 =>
    fX21_runAll_b24 N this q11.1 q11.2
theorem pX21_runAll {w : eW} {d : Nat} (hd : 6 ≤ d) {N : Nat} {this : Nat} {h : eH} {q} (hf : fX21_runAll N this h = some q) : wm w d YX21_runAll [.ref this] h (e_is (e_rn c_I q)) := by
  obtain ⟨d, rfl⟩ : ∃ e, d = e + 1 := ⟨d - 1, by omega⟩
  show wp w (d + 1) YX21_runAll 0 [some (.ref this), none] [] h _
  unfold fX21_runAll at hf
  refine w_iconst dX21_runAll_0 (v := -1) (by decide) ?_
  refine w_istore_n dX21_runAll_1 rfl (by decide) (ls' := [some (.ref this), some (.int (-1 : Int32))]) rfl ?_
  refine w_aload_n dX21_runAll_2 rfl rfl ?_
  obtain ⟨a1, b2, hf⟩ := Option.bind_eq_some_iff.mp hf
  refine GX21_25 b2 dX21_runAll_3 rfl ?_
  refine w_iconst dX21_runAll_6 (v := 0) (by decide) ?_
  obtain ⟨x3, b4, hf⟩ := Option.bind_eq_some_iff.mp hf
  refine x_rI b4 dX21_runAll_7 ?_
  refine w_if_lt 24 dX21_runAll_8 (by decide) (fun c5 => ?_) (fun c5 => ?_)
  · replace hf := (if_pos (show x3 < 0 from c5)).symm.trans hf
    exact (pX21_runAll_b24 hd hf).to ⟨rfl, rfl, trivial⟩
  · replace hf := (if_neg (show ¬ (x3 < 0) from c5)).symm.trans hf
    refine w_aload_n dX21_runAll_11 rfl rfl ?_
    refine w_aload_n dX21_runAll_12 rfl rfl ?_
    obtain ⟨a6, b7, hf⟩ := Option.bind_eq_some_iff.mp hf
    refine GX21_25 b7 dX21_runAll_13 rfl ?_
    refine w_iconst dX21_runAll_16 (v := 0) (by decide) ?_
    obtain ⟨x8, b9, hf⟩ := Option.bind_eq_some_iff.mp hf
    refine x_rI b9 dX21_runAll_17 ?_
    refine w_iconst dX21_runAll_18 (v := 0) (by decide) ?_
    refine w_iconst dX21_runAll_19 (v := 0) (by decide) ?_
    obtain ⟨_, b10, hf⟩ := Option.bind_eq_some_iff.mp hf
    refine x_cnI hf (e_stV (Yc := YX21_runPass) (ci := 20) (av := [.int x8, .int (0 : Int32), .int (0 : Int32)]) (st := []) dX21_runAll_20 q3735 mX21_runPass rfl (k_ok_some b10).1 (k_ok_some b10).2) mX21_runPass.2.2.1 mX21_runPass.2.2.2.2.1 (Nat.le_of_ble_eq_true rfl) (Nat.le_of_ble_eq_true rfl) (fun q hq => pX21_runPass (by omega) hq) (fun q11 hf => ?_)
    refine w_istore_n dX21_runAll_23 rfl (by decide) (ls' := [some (.ref this), some (.int q11.1)]) rfl ?_
    exact (pX21_runAll_b24 hd hf).to ⟨rfl, rfl, trivial⟩
abbrev cX21_run : ByteArray := prog_3_method_9_code
def yX21_run : MethodName := ⟨RX21, "run", "()Z"⟩
def YX21_run : eY := (yX21_run, cX21_run, 8, (Option.some FieldType.boolean), [])
theorem mX21_run : e_mv YX21_run RX21 0 := ⟨q3710, q3711, q3712, by decide, by decide +kernel, (e_sig (by decide +kernel))⟩
theorem dX21_run_0 : decode cX21_run 0 = .ok (.aload_n 0, 1) := dc_42 (by decide +kernel)
theorem dX21_run_1 : decode cX21_run 1 = .ok (.getfield 12, 3) := dc_180 (a := 0) (b := 12) (n := 12) (by decide +kernel)
theorem dX21_run_4 : decode cX21_run 4 = .ok (.iconst 4, 1) := dc_7 (by decide +kernel)
theorem dX21_run_5 : decode cX21_run 5 = .ok (.sipush 10000, 3) := dc_17 (a := 39) (b := 16) (v := 10000) (by decide +kernel)
theorem dX21_run_8 : decode cX21_run 8 = .ok (.iconst 0, 1) := dc_3 (by decide +kernel)
theorem dX21_run_9 : decode cX21_run 9 = .ok (.iconst 0, 1) := dc_3 (by decide +kernel)
theorem dX21_run_10 : decode cX21_run 10 = .ok (.iconst 0, 1) := dc_3 (by decide +kernel)
theorem dX21_run_11 : decode cX21_run 11 = .ok (.invokevirtual 137, 3) := dc_182 (a := 0) (b := 137) (n := 137) (by decide +kernel)
theorem dX21_run_14 : decode cX21_run 14 = .ok (.istore_n 1, 1) := dc_60 (by decide +kernel)
theorem dX21_run_15 : decode cX21_run 15 = .ok (.aload_n 0, 1) := dc_42 (by decide +kernel)
theorem dX21_run_16 : decode cX21_run 16 = .ok (.getfield 12, 3) := dc_180 (a := 0) (b := 12) (n := 12) (by decide +kernel)
theorem dX21_run_19 : decode cX21_run 19 = .ok (.iconst 1, 1) := dc_4 (by decide +kernel)
theorem dX21_run_20 : decode cX21_run 20 = .ok (.aload_n 0, 1) := dc_42 (by decide +kernel)
theorem dX21_run_21 : decode cX21_run 21 = .ok (.getfield 32, 3) := dc_180 (a := 0) (b := 32) (n := 32) (by decide +kernel)
theorem dX21_run_24 : decode cX21_run 24 = .ok (.bipush 8, 2) := dc_16 (a := 8) (v := 8) (by decide +kernel)
theorem dX21_run_26 : decode cX21_run 26 = .ok (.iaload, 1) := dc_46 (by decide +kernel)
theorem dX21_run_27 : decode cX21_run 27 = .ok (.aload_n 0, 1) := dc_42 (by decide +kernel)
theorem dX21_run_28 : decode cX21_run 28 = .ok (.getfield 32, 3) := dc_180 (a := 0) (b := 32) (n := 32) (by decide +kernel)
theorem dX21_run_31 : decode cX21_run 31 = .ok (.bipush 9, 2) := dc_16 (a := 9) (v := 9) (by decide +kernel)
theorem dX21_run_33 : decode cX21_run 33 = .ok (.iaload, 1) := dc_46 (by decide +kernel)
theorem dX21_run_34 : decode cX21_run 34 = .ok (.aload_n 0, 1) := dc_42 (by decide +kernel)
theorem dX21_run_35 : decode cX21_run 35 = .ok (.getfield 32, 3) := dc_180 (a := 0) (b := 32) (n := 32) (by decide +kernel)
theorem dX21_run_38 : decode cX21_run 38 = .ok (.bipush 10, 2) := dc_16 (a := 10) (v := 10) (by decide +kernel)
theorem dX21_run_40 : decode cX21_run 40 = .ok (.iaload, 1) := dc_46 (by decide +kernel)
theorem dX21_run_41 : decode cX21_run 41 = .ok (.aload_n 0, 1) := dc_42 (by decide +kernel)
theorem dX21_run_42 : decode cX21_run 42 = .ok (.getfield 32, 3) := dc_180 (a := 0) (b := 32) (n := 32) (by decide +kernel)
theorem dX21_run_45 : decode cX21_run 45 = .ok (.bipush 11, 2) := dc_16 (a := 11) (v := 11) (by decide +kernel)
theorem dX21_run_47 : decode cX21_run 47 = .ok (.iaload, 1) := dc_46 (by decide +kernel)
theorem dX21_run_48 : decode cX21_run 48 = .ok (.invokevirtual 137, 3) := dc_182 (a := 0) (b := 137) (n := 137) (by decide +kernel)
theorem dX21_run_51 : decode cX21_run 51 = .ok (.istore_n 2, 1) := dc_61 (by decide +kernel)
theorem dX21_run_52 : decode cX21_run 52 = .ok (.aload_n 0, 1) := dc_42 (by decide +kernel)
theorem dX21_run_53 : decode cX21_run 53 = .ok (.getfield 12, 3) := dc_180 (a := 0) (b := 12) (n := 12) (by decide +kernel)
theorem dX21_run_56 : decode cX21_run 56 = .ok (.iconst 4, 1) := dc_7 (by decide +kernel)
theorem dX21_run_57 : decode cX21_run 57 = .ok (.sipush (-10000), 3) := dc_17 (a := 216) (b := 240) (v := -10000) (by decide +kernel)
theorem dX21_run_60 : decode cX21_run 60 = .ok (.iconst 0, 1) := dc_3 (by decide +kernel)
theorem dX21_run_61 : decode cX21_run 61 = .ok (.iconst 0, 1) := dc_3 (by decide +kernel)
theorem dX21_run_62 : decode cX21_run 62 = .ok (.iconst 0, 1) := dc_3 (by decide +kernel)
theorem dX21_run_63 : decode cX21_run 63 = .ok (.invokevirtual 137, 3) := dc_182 (a := 0) (b := 137) (n := 137) (by decide +kernel)
theorem dX21_run_66 : decode cX21_run 66 = .ok (.istore_n 3, 1) := dc_62 (by decide +kernel)
theorem dX21_run_67 : decode cX21_run 67 = .ok (.aload_n 0, 1) := dc_42 (by decide +kernel)
theorem dX21_run_68 : decode cX21_run 68 = .ok (.getfield 21, 3) := dc_180 (a := 0) (b := 21) (n := 21) (by decide +kernel)
theorem dX21_run_71 : decode cX21_run 71 = .ok (.aload_n 0, 1) := dc_42 (by decide +kernel)
theorem dX21_run_72 : decode cX21_run 72 = .ok (.getfield 12, 3) := dc_180 (a := 0) (b := 12) (n := 12) (by decide +kernel)
theorem dX21_run_75 : decode cX21_run 75 = .ok (.invokevirtual 141, 3) := dc_182 (a := 0) (b := 141) (n := 141) (by decide +kernel)
theorem dX21_run_78 : decode cX21_run 78 = .ok (.aload_n 0, 1) := dc_42 (by decide +kernel)
theorem dX21_run_79 : decode cX21_run 79 = .ok (.invokevirtual 145, 3) := dc_182 (a := 0) (b := 145) (n := 145) (by decide +kernel)
theorem dX21_run_82 : decode cX21_run 82 = .ok (.aload_n 0, 1) := dc_42 (by decide +kernel)
theorem dX21_run_83 : decode cX21_run 83 = .ok (.invokevirtual 148, 3) := dc_182 (a := 0) (b := 148) (n := 148) (by decide +kernel)
theorem dX21_run_86 : decode cX21_run 86 = .ok (.istore 4, 2) := dc_54 (a := 4) (by decide +kernel)
theorem dX21_run_88 : decode cX21_run 88 = .ok (.iload 4, 2) := dc_21 (a := 4) (by decide +kernel)
theorem dX21_run_90 : decode cX21_run 90 = .ok (.bipush (-2), 2) := dc_16 (a := 254) (v := -2) (by decide +kernel)
theorem dX21_run_92 : decode cX21_run 92 = .ok (.if_icmp .ne 5, 3) := dc_160 (a := 0) (b := 5) (v := 5) (by decide +kernel)
theorem dX21_run_95 : decode cX21_run 95 = .ok (.iconst 0, 1) := dc_3 (by decide +kernel)
theorem dX21_run_96 : decode cX21_run 96 = .ok (.ireturn, 1) := dc_172 (by decide +kernel)
theorem dX21_run_97 : decode cX21_run 97 = .ok (.aload_n 0, 1) := dc_42 (by decide +kernel)
theorem dX21_run_98 : decode cX21_run 98 = .ok (.getfield 40, 3) := dc_180 (a := 0) (b := 40) (n := 40) (by decide +kernel)
theorem dX21_run_101 : decode cX21_run 101 = .ok (.getfield 151, 3) := dc_180 (a := 0) (b := 151) (n := 151) (by decide +kernel)
theorem dX21_run_104 : decode cX21_run 104 = .ok (.astore 5, 2) := dc_58 (a := 5) (by decide +kernel)
theorem dX21_run_106 : decode cX21_run 106 = .ok (.aload_n 0, 1) := dc_42 (by decide +kernel)
theorem dX21_run_107 : decode cX21_run 107 = .ok (.aload 5, 2) := dc_25 (a := 5) (by decide +kernel)
theorem dX21_run_109 : decode cX21_run 109 = .ok (.getfield 155, 3) := dc_180 (a := 0) (b := 155) (n := 155) (by decide +kernel)
theorem dX21_run_112 : decode cX21_run 112 = .ok (.iload 4, 2) := dc_21 (a := 4) (by decide +kernel)
theorem dX21_run_114 : decode cX21_run 114 = .ok (.iaload, 1) := dc_46 (by decide +kernel)
theorem dX21_run_115 : decode cX21_run 115 = .ok (.putfield 160, 3) := dc_181 (a := 0) (b := 160) (n := 160) (by decide +kernel)
theorem dX21_run_118 : decode cX21_run 118 = .ok (.aload_n 0, 1) := dc_42 (by decide +kernel)
theorem dX21_run_119 : decode cX21_run 119 = .ok (.aload 5, 2) := dc_25 (a := 5) (by decide +kernel)
theorem dX21_run_121 : decode cX21_run 121 = .ok (.getfield 163, 3) := dc_180 (a := 0) (b := 163) (n := 163) (by decide +kernel)
theorem dX21_run_124 : decode cX21_run 124 = .ok (.iconst 1, 1) := dc_4 (by decide +kernel)
theorem dX21_run_125 : decode cX21_run 125 = .ok (.isub, 1) := dc_100 (by decide +kernel)
theorem dX21_run_126 : decode cX21_run 126 = .ok (.putfield 164, 3) := dc_181 (a := 0) (b := 164) (n := 164) (by decide +kernel)
theorem dX21_run_129 : decode cX21_run 129 = .ok (.aload_n 0, 1) := dc_42 (by decide +kernel)
theorem dX21_run_130 : decode cX21_run 130 = .ok (.getfield 160, 3) := dc_180 (a := 0) (b := 160) (n := 160) (by decide +kernel)
theorem dX21_run_133 : decode cX21_run 133 = .ok (.iconst 1, 1) := dc_4 (by decide +kernel)
theorem dX21_run_134 : decode cX21_run 134 = .ok (.isub, 1) := dc_100 (by decide +kernel)
theorem dX21_run_135 : decode cX21_run 135 = .ok (.istore 6, 2) := dc_54 (a := 6) (by decide +kernel)
theorem dX21_run_137 : decode cX21_run 137 = .ok (.iload 6, 2) := dc_21 (a := 6) (by decide +kernel)
theorem dX21_run_139 : decode cX21_run 139 = .ok (.ifCond .lt 70, 3) := dc_155 (a := 0) (b := 70) (v := 70) (by decide +kernel)
theorem dX21_run_142 : decode cX21_run 142 = .ok (.aload 5, 2) := dc_25 (a := 5) (by decide +kernel)
theorem dX21_run_144 : decode cX21_run 144 = .ok (.getfield 167, 3) := dc_180 (a := 0) (b := 167) (n := 167) (by decide +kernel)
theorem dX21_run_147 : decode cX21_run 147 = .ok (.iload 4, 2) := dc_21 (a := 4) (by decide +kernel)
theorem dX21_run_149 : decode cX21_run 149 = .ok (.iaload, 1) := dc_46 (by decide +kernel)
theorem dX21_run_150 : decode cX21_run 150 = .ok (.istore 7, 2) := dc_54 (a := 7) (by decide +kernel)
theorem dX21_run_152 : decode cX21_run 152 = .ok (.aload_n 0, 1) := dc_42 (by decide +kernel)
theorem dX21_run_153 : decode cX21_run 153 = .ok (.getfield 44, 3) := dc_180 (a := 0) (b := 44) (n := 44) (by decide +kernel)
theorem dX21_run_156 : decode cX21_run 156 = .ok (.iload 6, 2) := dc_21 (a := 6) (by decide +kernel)
theorem dX21_run_158 : decode cX21_run 158 = .ok (.aload 5, 2) := dc_25 (a := 5) (by decide +kernel)
theorem dX21_run_160 : decode cX21_run 160 = .ok (.getfield 170, 3) := dc_180 (a := 0) (b := 170) (n := 170) (by decide +kernel)
theorem dX21_run_163 : decode cX21_run 163 = .ok (.iload 4, 2) := dc_21 (a := 4) (by decide +kernel)
theorem dX21_run_165 : decode cX21_run 165 = .ok (.iaload, 1) := dc_46 (by decide +kernel)
theorem dX21_run_166 : decode cX21_run 166 = .ok (.iastore, 1) := dc_79 (by decide +kernel)
theorem dX21_run_167 : decode cX21_run 167 = .ok (.aload_n 0, 1) := dc_42 (by decide +kernel)
theorem dX21_run_168 : decode cX21_run 168 = .ok (.getfield 47, 3) := dc_180 (a := 0) (b := 47) (n := 47) (by decide +kernel)
theorem dX21_run_171 : decode cX21_run 171 = .ok (.iload 6, 2) := dc_21 (a := 6) (by decide +kernel)
theorem dX21_run_173 : decode cX21_run 173 = .ok (.iload 7, 2) := dc_21 (a := 7) (by decide +kernel)
theorem dX21_run_175 : decode cX21_run 175 = .ok (.ifCond .ne 7, 3) := dc_154 (a := 0) (b := 7) (v := 7) (by decide +kernel)
theorem dX21_run_178 : decode cX21_run 178 = .ok (.iconst 0, 1) := dc_3 (by decide +kernel)
theorem dX21_run_179 : decode cX21_run 179 = .ok (.goto 19, 3) := dc_167 (a := 0) (b := 19) (v := 19) (by decide +kernel)
theorem dX21_run_182 : decode cX21_run 182 = .ok (.aload_n 0, 1) := dc_42 (by decide +kernel)
theorem dX21_run_183 : decode cX21_run 183 = .ok (.getfield 21, 3) := dc_180 (a := 0) (b := 21) (n := 21) (by decide +kernel)
theorem dX21_run_186 : decode cX21_run 186 = .ok (.getfield 173, 3) := dc_180 (a := 0) (b := 173) (n := 173) (by decide +kernel)
theorem dX21_run_189 : decode cX21_run 189 = .ok (.aload 5, 2) := dc_25 (a := 5) (by decide +kernel)
theorem dX21_run_191 : decode cX21_run 191 = .ok (.getfield 170, 3) := dc_180 (a := 0) (b := 170) (n := 170) (by decide +kernel)
theorem dX21_run_194 : decode cX21_run 194 = .ok (.iload 7, 2) := dc_21 (a := 7) (by decide +kernel)
theorem dX21_run_196 : decode cX21_run 196 = .ok (.iaload, 1) := dc_46 (by decide +kernel)
theorem dX21_run_197 : decode cX21_run 197 = .ok (.iaload, 1) := dc_46 (by decide +kernel)
theorem dX21_run_198 : decode cX21_run 198 = .ok (.iastore, 1) := dc_79 (by decide +kernel)
theorem dX21_run_199 : decode cX21_run 199 = .ok (.iload 7, 2) := dc_21 (a := 7) (by decide +kernel)
theorem dX21_run_201 : decode cX21_run 201 = .ok (.istore 4, 2) := dc_54 (a := 4) (by decide +kernel)
theorem dX21_run_203 : decode cX21_run 203 = .ok (.iinc 6 (-1), 3) := dc_132 (a := 6) (b := 255) (v := -1) (by decide +kernel)
theorem dX21_run_206 : decode cX21_run 206 = .ok (.goto (-69), 3) := dc_167 (a := 255) (b := 187) (v := -69) (by decide +kernel)
theorem dX21_run_209 : decode cX21_run 209 = .ok (.iconst 1, 1) := dc_4 (by decide +kernel)
theorem dX21_run_210 : decode cX21_run 210 = .ok (.ireturn, 1) := dc_172 (by decide +kernel)
theorem GX21_151 {w : eW} {d : Nat} {Y : eY} {pc : Nat} {ls : eL} {st : List Value} {h : eH} {Q : eO → eH → Prop} {a : Nat} {x : Nat} (hf : g_A 23 h a 4 = some x) (hd : decode Y.2.1 pc = .ok (.getfield 151, 3)) (hY : Y.1.cls = RX21) (kk : wp w d Y (pc + 3) ls (.ref x :: st) h Q) : wp w d Y pc ls (.ref a :: st) h Q := x_gAN (ci := 23) (k := 4) hf hd rfl (by decide) (by rw [hY]; exact q1397) kk
theorem GX21_155 {w : eW} {d : Nat} {Y : eY} {pc : Nat} {ls : eL} {st : List Value} {h : eH} {Q : eO → eH → Prop} {a : Nat} {x : Nat} (hf : g_A 24 h a 1 = some x) (hd : decode Y.2.1 pc = .ok (.getfield 155, 3)) (hY : Y.1.cls = RX21) (kk : wp w d Y (pc + 3) ls (.ref x :: st) h Q) : wp w d Y pc ls (.ref a :: st) h Q := x_gAN (ci := 24) (k := 1) hf hd rfl (by decide) (by rw [hY]; exact q1346) kk
theorem GX21_160 {w : eW} {d : Nat} {Y : eY} {pc : Nat} {ls : eL} {st : List Value} {h : eH} {Q : eO → eH → Prop} {a : Nat} {x : Int32} (hf : g_I 20 h a 7 = some x) (hd : decode Y.2.1 pc = .ok (.getfield 160, 3)) (hY : Y.1.cls = RX21) (kk : wp w d Y (pc + 3) ls (.int x :: st) h Q) : wp w d Y pc ls (.ref a :: st) h Q := x_gI (ci := 20) (k := 7) hf hd rfl (by decide) (by rw [hY]; exact q1458) kk
theorem GX21_163 {w : eW} {d : Nat} {Y : eY} {pc : Nat} {ls : eL} {st : List Value} {h : eH} {Q : eO → eH → Prop} {a : Nat} {x : Int32} (hf : g_I 24 h a 6 = some x) (hd : decode Y.2.1 pc = .ok (.getfield 163, 3)) (hY : Y.1.cls = RX21) (kk : wp w d Y (pc + 3) ls (.int x :: st) h Q) : wp w d Y pc ls (.ref a :: st) h Q := x_gIN (ci := 24) (k := 6) hf hd rfl (by decide) (by rw [hY]; exact q1357) kk
theorem GX21_167 {w : eW} {d : Nat} {Y : eY} {pc : Nat} {ls : eL} {st : List Value} {h : eH} {Q : eO → eH → Prop} {a : Nat} {x : Nat} (hf : g_A 24 h a 4 = some x) (hd : decode Y.2.1 pc = .ok (.getfield 167, 3)) (hY : Y.1.cls = RX21) (kk : wp w d Y (pc + 3) ls (.ref x :: st) h Q) : wp w d Y pc ls (.ref a :: st) h Q := x_gAN (ci := 24) (k := 4) hf hd rfl (by decide) (by rw [hY]; exact q1352) kk
theorem GX21_170 {w : eW} {d : Nat} {Y : eY} {pc : Nat} {ls : eL} {st : List Value} {h : eH} {Q : eO → eH → Prop} {a : Nat} {x : Nat} (hf : g_A 24 h a 0 = some x) (hd : decode Y.2.1 pc = .ok (.getfield 170, 3)) (hY : Y.1.cls = RX21) (kk : wp w d Y (pc + 3) ls (.ref x :: st) h Q) : wp w d Y pc ls (.ref a :: st) h Q := x_gAN (ci := 24) (k := 0) hf hd rfl (by decide) (by rw [hY]; exact q1343) kk
theorem GX21_173 {w : eW} {d : Nat} {Y : eY} {pc : Nat} {ls : eL} {st : List Value} {h : eH} {Q : eO → eH → Prop} {a : Nat} {x : Nat} (hf : g_A 22 h a 4 = some x) (hd : decode Y.2.1 pc = .ok (.getfield 173, 3)) (hY : Y.1.cls = RX21) (kk : wp w d Y (pc + 3) ls (.ref x :: st) h Q) : wp w d Y pc ls (.ref a :: st) h Q := x_gAN (ci := 22) (k := 4) hf hd rfl (by decide) (by rw [hY]; exact q1289) kk
theorem GX21_44 {w : eW} {d : Nat} {Y : eY} {pc : Nat} {ls : eL} {st : List Value} {h : eH} {Q : eO → eH → Prop} {a : Nat} {x : Nat} (hf : g_A 20 h a 8 = some x) (hd : decode Y.2.1 pc = .ok (.getfield 44, 3)) (hY : Y.1.cls = RX21) (kk : wp w d Y (pc + 3) ls (.ref x :: st) h Q) : wp w d Y pc ls (.ref a :: st) h Q := x_gA (ci := 20) (k := 8) hf hd rfl (by decide) (by rw [hY]; exact q1460) kk
theorem GX21_47 {w : eW} {d : Nat} {Y : eY} {pc : Nat} {ls : eL} {st : List Value} {h : eH} {Q : eO → eH → Prop} {a : Nat} {x : Nat} (hf : g_A 20 h a 9 = some x) (hd : decode Y.2.1 pc = .ok (.getfield 47, 3)) (hY : Y.1.cls = RX21) (kk : wp w d Y (pc + 3) ls (.ref x :: st) h Q) : wp w d Y pc ls (.ref a :: st) h Q := x_gA (ci := 20) (k := 9) hf hd rfl (by decide) (by rw [hY]; exact q1462) kk
theorem SX21_160 {w : eW} {d : Nat} {Y : eY} {pc : Nat} {ls : eL} {st : List Value} {h : eH} {Q : eO → eH → Prop} {a : Nat} {h' : eH} {x : Int32} (hf : p_V 20 h a 7 (.int x) = some h') (hd : decode Y.2.1 pc = .ok (.putfield 160, 3)) (hY : Y.1.cls = RX21) (kk : wp w d Y (pc + 3) ls st h' Q) : wp w d Y pc ls (.int x :: .ref a :: st) h Q := x_pI (ci := 20) (k := 7) hf hd rfl (by decide) (by rw [hY]; exact q1458) rfl rfl kk
theorem SX21_164 {w : eW} {d : Nat} {Y : eY} {pc : Nat} {ls : eL} {st : List Value} {h : eH} {Q : eO → eH → Prop} {a : Nat} {h' : eH} {x : Int32} (hf : p_V 20 h a 6 (.int x) = some h') (hd : decode Y.2.1 pc = .ok (.putfield 164, 3)) (hY : Y.1.cls = RX21) (kk : wp w d Y (pc + 3) ls st h' Q) : wp w d Y pc ls (.int x :: .ref a :: st) h Q := x_pI (ci := 20) (k := 6) hf hd rfl (by decide) (by rw [hY]; exact q1456) rfl rfl kk
def fX21_run_b198 (N : Nat) (k137 : Nat → Int32 → Nat → Int32 → eH → Option (Int32 × eH)) (l0 : Nat) (l5 : Nat) (l6 : Int32) (l7 : Int32) (s0 : Nat) (s1 : Int32) (s2 : Int32) (h : eH) : Option (Int32 × eH) :=
  (q_V 100 h s0 s1 (.int s2)).bind fun h1 =>
  k137 l0 l7 l5 (l6 + (-1 : Int32)) h1
theorem pX21_run_b198 {w : eW} {d : Nat} (hd : 7 ≤ d + 1) {N : Nat} {k137 : Nat → Int32 → Nat → Int32 → eH → Option (Int32 × eH)} (hk137 : ∀ l0 l4 l5 l6 h q, k137 l0 l4 l5 l6 h = some q → wp w (d + 1) YX21_run 137 [some (.ref l0), none, none, none, some (.int l4), some (.ref l5), some (.int l6), none] [] h (e_is (e_rn c_I q))) {l0 : Nat} {l5 : Nat} {l6 : Int32} {l7 : Int32} {s0 : Nat} {s1 : Int32} {s2 : Int32} {h : eH} {q} (hf : fX21_run_b198 N k137 l0 l5 l6 l7 s0 s1 s2 h = some q) : wp w (d + 1) YX21_run 198 [some (.ref l0), none, none, none, none, some (.ref l5), some (.int l6), some (.int l7)] [.int s2, .int s1, .ref s0] h (e_is (e_rn c_I q)) := by
  unfold fX21_run_b198 at hf
  obtain ⟨h1, b2, hf⟩ := Option.bind_eq_some_iff.mp hf
  refine x_qI b2 dX21_run_198 ?_
  refine w_iload dX21_run_199 rfl ?_
  refine w_istore dX21_run_201 (by decide) (ls' := [some (.ref l0), none, none, none, some (.int l7), some (.ref l5), some (.int l6), some (.int l7)]) rfl ?_
  refine w_iinc dX21_run_203 (v := (l6 + (-1 : Int32))) rfl rfl (by decide) (ls' := [some (.ref l0), none, none, none, some (.int l7), some (.ref l5), some (.int (l6 + (-1 : Int32))), some (.int l7)]) rfl ?_
  refine w_goto 137 dX21_run_206 (by decide) ?_
  exact (hk137 _ _ _ _ _ _ hf).to ⟨rfl, rfl, rfl, rfl, trivial⟩
def fX21_run_b137 (N : Nat) : Nat → Nat → Int32 → Nat → Int32 → eH → Option (Int32 × eH)
  | 0, _, _, _, _, _ => none
  | n + 1, l0, l4, l5, l6, h =>
    if l6 < 0 then
      some ((1 : Int32), h)
    else
      (g_A 24 h l5 4).bind fun a2 =>
      (r_I 100 h a2 l4).bind fun x4 =>
      (g_A 20 h l0 8).bind fun a6 =>
      (g_A 24 h l5 0).bind fun a8 =>
      (r_I 100 h a8 l4).bind fun x10 =>
      (q_V 100 h a6 l6 (.int x10)).bind fun h12 =>
      (g_A 20 h12 l0 9).bind fun a14 =>
      if ¬ x4 = 0 then
        (g_A 20 h12 l0 1).bind fun a17 =>
        (g_A 22 h12 a17 4).bind fun a19 =>
        (g_A 24 h12 l5 0).bind fun a21 =>
        (r_I 100 h12 a21 x4).bind fun x23 =>
        (r_I 100 h12 a19 x23).bind fun x25 =>
        fX21_run_b198 N (fX21_run_b137 N n) l0 l5 l6 x4 a14 l6 x25 h12
      else
        fX21_run_b198 N (fX21_run_b137 N n) l0 l5 l6 x4 a14 l6 (0 : Int32) h12
theorem pX21_run_b137 {w : eW} {d : Nat} (hd : 7 ≤ d + 1) {N : Nat} : ∀ (n : Nat) l0 l4 l5 l6 h q, fX21_run_b137 N n l0 l4 l5 l6 h = some q → wp w (d + 1) YX21_run 137 [some (.ref l0), none, none, none, some (.int l4), some (.ref l5), some (.int l6), none] [] h (e_is (e_rn c_I q)) := by
  intro n
  induction n with
  | zero => intro l0 l4 l5 l6 h q hf; simp [fX21_run_b137] at hf
  | succ n ih =>
    intro l0 l4 l5 l6 h q hf
    rw [fX21_run_b137] at hf
    refine w_iload dX21_run_137 rfl ?_
    refine w_if_lt 209 dX21_run_139 (by decide) (fun c1 => ?_) (fun c1 => ?_)
    · replace hf := (if_pos (show l6 < 0 from c1)).symm.trans hf
      refine w_iconst dX21_run_209 (v := 1) (by decide) ?_
      cases hf
      exact w_iret dX21_run_210 rfl rfl rfl
    · replace hf := (if_neg (show ¬ (l6 < 0) from c1)).symm.trans hf
      refine w_aload dX21_run_142 rfl ?_
      obtain ⟨a2, b3, hf⟩ := Option.bind_eq_some_iff.mp hf
      refine GX21_167 b3 dX21_run_144 rfl ?_
      refine w_iload dX21_run_147 rfl ?_
      obtain ⟨x4, b5, hf⟩ := Option.bind_eq_some_iff.mp hf
      refine x_rI b5 dX21_run_149 ?_
      refine w_istore dX21_run_150 (by decide) (ls' := [some (.ref l0), none, none, none, some (.int l4), some (.ref l5), some (.int l6), some (.int x4)]) rfl ?_
      refine w_aload_n dX21_run_152 rfl rfl ?_
      obtain ⟨a6, b7, hf⟩ := Option.bind_eq_some_iff.mp hf
      refine GX21_44 b7 dX21_run_153 rfl ?_
      refine w_iload dX21_run_156 rfl ?_
      refine w_aload dX21_run_158 rfl ?_
      obtain ⟨a8, b9, hf⟩ := Option.bind_eq_some_iff.mp hf
      refine GX21_170 b9 dX21_run_160 rfl ?_
      refine w_iload dX21_run_163 rfl ?_
      obtain ⟨x10, b11, hf⟩ := Option.bind_eq_some_iff.mp hf
      refine x_rI b11 dX21_run_165 ?_
      obtain ⟨h12, b13, hf⟩ := Option.bind_eq_some_iff.mp hf
      refine x_qI b13 dX21_run_166 ?_
      refine w_aload_n dX21_run_167 rfl rfl ?_
      obtain ⟨a14, b15, hf⟩ := Option.bind_eq_some_iff.mp hf
      refine GX21_47 b15 dX21_run_168 rfl ?_
      refine w_iload dX21_run_171 rfl ?_
      refine w_iload dX21_run_173 rfl ?_
      refine w_if_ne 182 dX21_run_175 (by decide) (fun c16 => ?_) (fun c16 => ?_)
      · replace hf := (if_pos (show ¬ x4 = 0 from c16)).symm.trans hf
        refine w_aload_n dX21_run_182 rfl rfl ?_
        obtain ⟨a17, b18, hf⟩ := Option.bind_eq_some_iff.mp hf
        refine GX21_21 b18 dX21_run_183 rfl ?_
        obtain ⟨a19, b20, hf⟩ := Option.bind_eq_some_iff.mp hf
        refine GX21_173 b20 dX21_run_186 rfl ?_
        refine w_aload dX21_run_189 rfl ?_
        obtain ⟨a21, b22, hf⟩ := Option.bind_eq_some_iff.mp hf
        refine GX21_170 b22 dX21_run_191 rfl ?_
        refine w_iload dX21_run_194 rfl ?_
        obtain ⟨x23, b24, hf⟩ := Option.bind_eq_some_iff.mp hf
        refine x_rI b24 dX21_run_196 ?_
        obtain ⟨x25, b26, hf⟩ := Option.bind_eq_some_iff.mp hf
        refine x_rI b26 dX21_run_197 ?_
        exact (pX21_run_b198 hd ih hf).to ⟨rfl, rfl, rfl, rfl, trivial⟩
      · replace hf := (if_neg (show ¬ (¬ x4 = 0) from (fun z => z c16))).symm.trans hf
        refine w_iconst dX21_run_178 (v := 0) (by decide) ?_
        refine w_goto 198 dX21_run_179 (by decide) ?_
        exact (pX21_run_b198 hd ih hf).to ⟨rfl, rfl, rfl, rfl, trivial⟩
def fX21_run (N : Nat) (this : Nat) (h : eH) : Option (Int32 × eH) :=
  (g_A 20 h this 0).bind fun a1 =>
  (k_ok 21 h a1).bind fun _ =>
  (fX22_add a1 (4 : Int32) (10000 : Int32) (0 : Int32) (0 : Int32) (0 : Int32) h).bind fun q4 =>
  (g_A 20 q4.2 this 0).bind fun a5 =>
  (g_A 20 q4.2 this 4).bind fun a7 =>
  (r_I 100 q4.2 a7 (8 : Int32)).bind fun x9 =>
  (g_A 20 q4.2 this 4).bind fun a11 =>
  (r_I 100 q4.2 a11 (9 : Int32)).bind fun x13 =>
  (g_A 20 q4.2 this 4).bind fun a15 =>
  (r_I 100 q4.2 a15 (10 : Int32)).bind fun x17 =>
  (g_A 20 q4.2 this 4).bind fun a19 =>
  (r_I 100 q4.2 a19 (11 : Int32)).bind fun x21 =>
  (k_ok 21 q4.2 a5).bind fun _ =>
  (fX22_add a5 (1 : Int32) x9 x13 x17 x21 q4.2).bind fun q24 =>
  (g_A 20 q24.2 this 0).bind fun a25 =>
  (k_ok 21 q24.2 a25).bind fun _ =>
  (fX22_add a25 (4 : Int32) (-10000 : Int32) (0 : Int32) (0 : Int32) (0 : Int32) q24.2).bind fun q28 =>
  (g_A 20 q28.2 this 1).bind fun a29 =>
  (g_A 20 q28.2 this 0).bind fun a31 =>
  (k_ok 22 q28.2 a29).bind fun _ =>
  (fX23_take N a29 a31 q28.2).bind fun q34 =>
  (k_ok 20 q34.2 this).bind fun _ =>
  (fX21_takeAround N this q34.2).bind fun q36 =>
  (k_ok 20 q36.2 this).bind fun _ =>
  (fX21_runAll N this q36.2).bind fun q38 =>
  if ¬ q38.1 = (-2 : Int32) then
    (g_A 20 q38.2 this 5).bind fun a40 =>
    (g_A 23 q38.2 a40 4).bind fun a42 =>
    (g_A 24 q38.2 a42 1).bind fun a44 =>
    (r_I 100 q38.2 a44 q38.1).bind fun x46 =>
    (p_V 20 q38.2 this 7 (.int x46)).bind fun h48 =>
    (g_I 24 h48 a42 6).bind fun x50 =>
    (p_V 20 h48 this 6 (.int (x50 - (1 : Int32)))).bind fun h52 =>
    (g_I 20 h52 this 7).bind fun x54 =>
    fX21_run_b137 N N this q38.1 a42 (x54 - (1 : Int32)) h52
  else
    some ((0 : Int32), q38.2)
theorem pX21_run {w : eW} {d : Nat} (hd : 7 ≤ d) {N : Nat} {this : Nat} {h : eH} {q} (hf : fX21_run N this h = some q) : wm w d YX21_run [.ref this] h (e_is (e_rn c_I q)) := by
  obtain ⟨d, rfl⟩ : ∃ e, d = e + 1 := ⟨d - 1, by omega⟩
  show wp w (d + 1) YX21_run 0 [some (.ref this), none, none, none, none, none, none, none] [] h _
  unfold fX21_run at hf
  refine w_aload_n dX21_run_0 rfl rfl ?_
  obtain ⟨a1, b2, hf⟩ := Option.bind_eq_some_iff.mp hf
  refine GX21_12 b2 dX21_run_1 rfl ?_
  refine w_iconst dX21_run_4 (v := 4) (by decide) ?_
  refine w_sipush dX21_run_5 (v := 10000) (by decide) ?_
  refine w_iconst dX21_run_8 (v := 0) (by decide) ?_
  refine w_iconst dX21_run_9 (v := 0) (by decide) ?_
  refine w_iconst dX21_run_10 (v := 0) (by decide) ?_
  obtain ⟨_, b3, hf⟩ := Option.bind_eq_some_iff.mp hf
  refine x_cnI hf (e_stV (Yc := YX22_add) (ci := 21) (av := [.int (4 : Int32), .int (10000 : Int32), .int (0 : Int32), .int (0 : Int32), .int (0 : Int32)]) (st := []) dX21_run_11 q3713 mX22_add rfl (k_ok_some b3).1 (k_ok_some b3).2) mX22_add.2.2.1 mX22_add.2.2.2.2.1 (Nat.le_of_ble_eq_true rfl) (Nat.le_of_ble_eq_true rfl) (fun q hq => pX22_add (by omega) hq) (fun q4 hf => ?_)
  refine w_istore_n dX21_run_14 rfl (by decide) (ls' := [some (.ref this), some (.int q4.1), none, none, none, none, none, none]) rfl ?_
  refine w_aload_n dX21_run_15 rfl rfl ?_
  obtain ⟨a5, b6, hf⟩ := Option.bind_eq_some_iff.mp hf
  refine GX21_12 b6 dX21_run_16 rfl ?_
  refine w_iconst dX21_run_19 (v := 1) (by decide) ?_
  refine w_aload_n dX21_run_20 rfl rfl ?_
  obtain ⟨a7, b8, hf⟩ := Option.bind_eq_some_iff.mp hf
  refine GX21_32 b8 dX21_run_21 rfl ?_
  refine w_bipush dX21_run_24 (v := 8) (by decide) ?_
  obtain ⟨x9, b10, hf⟩ := Option.bind_eq_some_iff.mp hf
  refine x_rI b10 dX21_run_26 ?_
  refine w_aload_n dX21_run_27 rfl rfl ?_
  obtain ⟨a11, b12, hf⟩ := Option.bind_eq_some_iff.mp hf
  refine GX21_32 b12 dX21_run_28 rfl ?_
  refine w_bipush dX21_run_31 (v := 9) (by decide) ?_
  obtain ⟨x13, b14, hf⟩ := Option.bind_eq_some_iff.mp hf
  refine x_rI b14 dX21_run_33 ?_
  refine w_aload_n dX21_run_34 rfl rfl ?_
  obtain ⟨a15, b16, hf⟩ := Option.bind_eq_some_iff.mp hf
  refine GX21_32 b16 dX21_run_35 rfl ?_
  refine w_bipush dX21_run_38 (v := 10) (by decide) ?_
  obtain ⟨x17, b18, hf⟩ := Option.bind_eq_some_iff.mp hf
  refine x_rI b18 dX21_run_40 ?_
  refine w_aload_n dX21_run_41 rfl rfl ?_
  obtain ⟨a19, b20, hf⟩ := Option.bind_eq_some_iff.mp hf
  refine GX21_32 b20 dX21_run_42 rfl ?_
  refine w_bipush dX21_run_45 (v := 11) (by decide) ?_
  obtain ⟨x21, b22, hf⟩ := Option.bind_eq_some_iff.mp hf
  refine x_rI b22 dX21_run_47 ?_
  obtain ⟨_, b23, hf⟩ := Option.bind_eq_some_iff.mp hf
  refine x_cnI hf (e_stV (Yc := YX22_add) (ci := 21) (av := [.int (1 : Int32), .int x9, .int x13, .int x17, .int x21]) (st := []) dX21_run_48 q3713 mX22_add rfl (k_ok_some b23).1 (k_ok_some b23).2) mX22_add.2.2.1 mX22_add.2.2.2.2.1 (Nat.le_of_ble_eq_true rfl) (Nat.le_of_ble_eq_true rfl) (fun q hq => pX22_add (by omega) hq) (fun q24 hf => ?_)
  refine w_istore_n dX21_run_51 rfl (by decide) (ls' := [some (.ref this), some (.int q4.1), some (.int q24.1), none, none, none, none, none]) rfl ?_
  refine w_aload_n dX21_run_52 rfl rfl ?_
  obtain ⟨a25, b26, hf⟩ := Option.bind_eq_some_iff.mp hf
  refine GX21_12 b26 dX21_run_53 rfl ?_
  refine w_iconst dX21_run_56 (v := 4) (by decide) ?_
  refine w_sipush dX21_run_57 (v := -10000) (by decide) ?_
  refine w_iconst dX21_run_60 (v := 0) (by decide) ?_
  refine w_iconst dX21_run_61 (v := 0) (by decide) ?_
  refine w_iconst dX21_run_62 (v := 0) (by decide) ?_
  obtain ⟨_, b27, hf⟩ := Option.bind_eq_some_iff.mp hf
  refine x_cnI hf (e_stV (Yc := YX22_add) (ci := 21) (av := [.int (4 : Int32), .int (-10000 : Int32), .int (0 : Int32), .int (0 : Int32), .int (0 : Int32)]) (st := []) dX21_run_63 q3713 mX22_add rfl (k_ok_some b27).1 (k_ok_some b27).2) mX22_add.2.2.1 mX22_add.2.2.2.2.1 (Nat.le_of_ble_eq_true rfl) (Nat.le_of_ble_eq_true rfl) (fun q hq => pX22_add (by omega) hq) (fun q28 hf => ?_)
  refine w_istore_n dX21_run_66 rfl (by decide) (ls' := [some (.ref this), some (.int q4.1), some (.int q24.1), some (.int q28.1), none, none, none, none]) rfl ?_
  refine w_aload_n dX21_run_67 rfl rfl ?_
  obtain ⟨a29, b30, hf⟩ := Option.bind_eq_some_iff.mp hf
  refine GX21_21 b30 dX21_run_68 rfl ?_
  refine w_aload_n dX21_run_71 rfl rfl ?_
  obtain ⟨a31, b32, hf⟩ := Option.bind_eq_some_iff.mp hf
  refine GX21_12 b32 dX21_run_72 rfl ?_
  obtain ⟨_, b33, hf⟩ := Option.bind_eq_some_iff.mp hf
  refine x_cnV hf (e_stV (Yc := YX23_take) (ci := 22) (av := [.ref a31]) (st := []) dX21_run_75 q3714 mX23_take rfl (k_ok_some b33).1 (k_ok_some b33).2) mX23_take.2.2.1 mX23_take.2.2.2.2.1 (Nat.le_of_ble_eq_true rfl) (Nat.le_of_ble_eq_true rfl) (fun q hq => pX23_take (by omega) hq) (fun q34 hf => ?_)
  refine w_aload_n dX21_run_78 rfl rfl ?_
  obtain ⟨_, b35, hf⟩ := Option.bind_eq_some_iff.mp hf
  refine x_cnV hf (e_stV (Yc := YX21_takeAround) (ci := 20) (av := []) (st := []) dX21_run_79 q3724 mX21_takeAround rfl (k_ok_some b35).1 (k_ok_some b35).2) mX21_takeAround.2.2.1 mX21_takeAround.2.2.2.2.1 (Nat.le_of_ble_eq_true rfl) (Nat.le_of_ble_eq_true rfl) (fun q hq => pX21_takeAround (by omega) hq) (fun q36 hf => ?_)
  refine w_aload_n dX21_run_82 rfl rfl ?_
  obtain ⟨_, b37, hf⟩ := Option.bind_eq_some_iff.mp hf
  refine x_cnI hf (e_stV (Yc := YX21_runAll) (ci := 20) (av := []) (st := []) dX21_run_83 q3731 mX21_runAll rfl (k_ok_some b37).1 (k_ok_some b37).2) mX21_runAll.2.2.1 mX21_runAll.2.2.2.2.1 (Nat.le_of_ble_eq_true rfl) (Nat.le_of_ble_eq_true rfl) (fun q hq => pX21_runAll (by omega) hq) (fun q38 hf => ?_)
  refine w_istore dX21_run_86 (by decide) (ls' := [some (.ref this), some (.int q4.1), some (.int q24.1), some (.int q28.1), some (.int q38.1), none, none, none]) rfl ?_
  refine w_iload dX21_run_88 rfl ?_
  refine w_bipush dX21_run_90 (v := -2) (by decide) ?_
  refine w_icmp_ne 97 dX21_run_92 (by decide) (fun c39 => ?_) (fun c39 => ?_)
  · replace hf := (if_pos (show ¬ q38.1 = (-2 : Int32) from c39)).symm.trans hf
    refine w_aload_n dX21_run_97 rfl rfl ?_
    obtain ⟨a40, b41, hf⟩ := Option.bind_eq_some_iff.mp hf
    refine GX21_40 b41 dX21_run_98 rfl ?_
    obtain ⟨a42, b43, hf⟩ := Option.bind_eq_some_iff.mp hf
    refine GX21_151 b43 dX21_run_101 rfl ?_
    refine w_astore dX21_run_104 (by decide) (ls' := [some (.ref this), some (.int q4.1), some (.int q24.1), some (.int q28.1), some (.int q38.1), some (.ref a42), none, none]) rfl ?_
    refine w_aload_n dX21_run_106 rfl rfl ?_
    refine w_aload dX21_run_107 rfl ?_
    obtain ⟨a44, b45, hf⟩ := Option.bind_eq_some_iff.mp hf
    refine GX21_155 b45 dX21_run_109 rfl ?_
    refine w_iload dX21_run_112 rfl ?_
    obtain ⟨x46, b47, hf⟩ := Option.bind_eq_some_iff.mp hf
    refine x_rI b47 dX21_run_114 ?_
    obtain ⟨h48, b49, hf⟩ := Option.bind_eq_some_iff.mp hf
    refine SX21_160 b49 dX21_run_115 rfl ?_
    refine w_aload_n dX21_run_118 rfl rfl ?_
    refine w_aload dX21_run_119 rfl ?_
    obtain ⟨x50, b51, hf⟩ := Option.bind_eq_some_iff.mp hf
    refine GX21_163 b51 dX21_run_121 rfl ?_
    refine w_iconst dX21_run_124 (v := 1) (by decide) ?_
    refine w_isub dX21_run_125 ?_
    obtain ⟨h52, b53, hf⟩ := Option.bind_eq_some_iff.mp hf
    refine SX21_164 b53 dX21_run_126 rfl ?_
    refine w_aload_n dX21_run_129 rfl rfl ?_
    obtain ⟨x54, b55, hf⟩ := Option.bind_eq_some_iff.mp hf
    refine GX21_160 b55 dX21_run_130 rfl ?_
    refine w_iconst dX21_run_133 (v := 1) (by decide) ?_
    refine w_isub dX21_run_134 ?_
    refine w_istore dX21_run_135 (by decide) (ls' := [some (.ref this), some (.int q4.1), some (.int q24.1), some (.int q28.1), some (.int q38.1), some (.ref a42), some (.int (x54 - (1 : Int32))), none]) rfl ?_
    exact (pX21_run_b137 hd N _ _ _ _ _ _ hf).to ⟨rfl, rfl, rfl, rfl, trivial⟩
  · replace hf := (if_neg (show ¬ (¬ q38.1 = (-2 : Int32)) from (fun z => z c39))).symm.trans hf
    refine w_iconst dX21_run_95 (v := 0) (by decide) ?_
    cases hf
    exact w_iret dX21_run_96 rfl rfl rfl
abbrev cX21_isHyphen : ByteArray := prog_3_method_10_code
def yX21_isHyphen : MethodName := ⟨RX21, "isHyphen", "(I)Z"⟩
def YX21_isHyphen : eY := (yX21_isHyphen, cX21_isHyphen, 2, (Option.some FieldType.boolean), [])
theorem mX21_isHyphen : e_mv YX21_isHyphen RX21 1 := ⟨q3837, q3838, q3839, by decide, by decide +kernel, (e_sig (by decide +kernel))⟩
theorem dX21_isHyphen_0 : decode cX21_isHyphen 0 = .ok (.aload_n 0, 1) := dc_42 (by decide +kernel)
theorem dX21_isHyphen_1 : decode cX21_isHyphen 1 = .ok (.getfield 12, 3) := dc_180 (a := 0) (b := 12) (n := 12) (by decide +kernel)
theorem dX21_isHyphen_4 : decode cX21_isHyphen 4 = .ok (.getfield 83, 3) := dc_180 (a := 0) (b := 83) (n := 83) (by decide +kernel)
theorem dX21_isHyphen_7 : decode cX21_isHyphen 7 = .ok (.aload_n 0, 1) := dc_42 (by decide +kernel)
theorem dX21_isHyphen_8 : decode cX21_isHyphen 8 = .ok (.getfield 44, 3) := dc_180 (a := 0) (b := 44) (n := 44) (by decide +kernel)
theorem dX21_isHyphen_11 : decode cX21_isHyphen 11 = .ok (.iload_n 1, 1) := dc_27 (by decide +kernel)
theorem dX21_isHyphen_12 : decode cX21_isHyphen 12 = .ok (.iaload, 1) := dc_46 (by decide +kernel)
theorem dX21_isHyphen_13 : decode cX21_isHyphen 13 = .ok (.baload, 1) := dc_51 (by decide +kernel)
theorem dX21_isHyphen_14 : decode cX21_isHyphen 14 = .ok (.iconst 5, 1) := dc_8 (by decide +kernel)
theorem dX21_isHyphen_15 : decode cX21_isHyphen 15 = .ok (.if_icmp .ne 7, 3) := dc_160 (a := 0) (b := 7) (v := 7) (by decide +kernel)
theorem dX21_isHyphen_18 : decode cX21_isHyphen 18 = .ok (.iconst 1, 1) := dc_4 (by decide +kernel)
theorem dX21_isHyphen_19 : decode cX21_isHyphen 19 = .ok (.goto 4, 3) := dc_167 (a := 0) (b := 4) (v := 4) (by decide +kernel)
theorem dX21_isHyphen_22 : decode cX21_isHyphen 22 = .ok (.iconst 0, 1) := dc_3 (by decide +kernel)
theorem dX21_isHyphen_23 : decode cX21_isHyphen 23 = .ok (.ireturn, 1) := dc_172 (by decide +kernel)
def fX21_isHyphen_b23 (s0 : Int32) (h : eH) : Option (Int32 × eH) :=
  z_r s0 (s0, h)
theorem pX21_isHyphen_b23 {w : eW} {d : Nat} (hd : 0 ≤ d) {s0 : Int32} {h : eH} {q} (hf : fX21_isHyphen_b23 s0 h = some q) : wp w d YX21_isHyphen 23 [none, none] [.int s0] h (e_is (e_rn c_I q)) := by
  unfold fX21_isHyphen_b23 at hf
  obtain ⟨b1, rfl⟩ := z_r_some hf
  exact w_iret dX21_isHyphen_23 rfl b1 rfl
def fX21_isHyphen (this : Nat) (p0 : Int32) (h : eH) : Option (Int32 × eH) :=
  (g_A 20 h this 0).bind fun a1 =>
  (g_A 21 h a1 0).bind fun a3 =>
  (g_A 20 h this 8).bind fun a5 =>
  (r_I 100 h a5 p0).bind fun x7 =>
  (r_I 102 h a3 x7).bind fun x9 =>
  if ¬ x9 = (5 : Int32) then
    fX21_isHyphen_b23 (0 : Int32) h
  else
    fX21_isHyphen_b23 (1 : Int32) h
theorem pX21_isHyphen {w : eW} {d : Nat} (hd : 0 ≤ d) {this : Nat} {p0 : Int32} {h : eH} {q} (hf : fX21_isHyphen this p0 h = some q) : wm w d YX21_isHyphen [.ref this, .int p0] h (e_is (e_rn c_I q)) := by
  show wp w d YX21_isHyphen 0 [some (.ref this), some (.int p0)] [] h _
  unfold fX21_isHyphen at hf
  refine w_aload_n dX21_isHyphen_0 rfl rfl ?_
  obtain ⟨a1, b2, hf⟩ := Option.bind_eq_some_iff.mp hf
  refine GX21_12 b2 dX21_isHyphen_1 rfl ?_
  obtain ⟨a3, b4, hf⟩ := Option.bind_eq_some_iff.mp hf
  refine GX21_83 b4 dX21_isHyphen_4 rfl ?_
  refine w_aload_n dX21_isHyphen_7 rfl rfl ?_
  obtain ⟨a5, b6, hf⟩ := Option.bind_eq_some_iff.mp hf
  refine GX21_44 b6 dX21_isHyphen_8 rfl ?_
  refine w_iload_n dX21_isHyphen_11 rfl rfl ?_
  obtain ⟨x7, b8, hf⟩ := Option.bind_eq_some_iff.mp hf
  refine x_rI b8 dX21_isHyphen_12 ?_
  obtain ⟨x9, b10, hf⟩ := Option.bind_eq_some_iff.mp hf
  refine x_rB b10 dX21_isHyphen_13 ?_
  refine w_iconst dX21_isHyphen_14 (v := 5) (by decide) ?_
  refine w_icmp_ne 22 dX21_isHyphen_15 (by decide) (fun c11 => ?_) (fun c11 => ?_)
  · replace hf := (if_pos (show ¬ x9 = (5 : Int32) from c11)).symm.trans hf
    refine w_iconst dX21_isHyphen_22 (v := 0) (by decide) ?_
    exact (pX21_isHyphen_b23 hd hf).to trivial
  · replace hf := (if_neg (show ¬ (¬ x9 = (5 : Int32)) from (fun z => z c11))).symm.trans hf
    refine w_iconst dX21_isHyphen_18 (v := 1) (by decide) ?_
    refine w_goto 23 dX21_isHyphen_19 (by decide) ?_
    exact (pX21_isHyphen_b23 hd hf).to trivial
abbrev cX3_rowGlue : ByteArray := prog_26_method_34_code
def yX3_rowGlue : MethodName := ⟨RX3, "rowGlue", "(I)V"⟩
def YX3_rowGlue : eY := (yX3_rowGlue, cX3_rowGlue, 3, none, [])
theorem mX3_rowGlue : e_mv YX3_rowGlue RX3 1 := ⟨q3846, qs179, q3847, by decide, by decide +kernel, (e_sig (by decide +kernel))⟩
theorem dX3_rowGlue_0 : decode cX3_rowGlue 0 = .ok (.aload_n 0, 1) := dc_42 (by decide +kernel)
theorem dX3_rowGlue_1 : decode cX3_rowGlue 1 = .ok (.getfield 87, 3) := dc_180 (a := 0) (b := 87) (n := 87) (by decide +kernel)
theorem dX3_rowGlue_4 : decode cX3_rowGlue 4 = .ok (.getfield 553, 3) := dc_180 (a := 2) (b := 41) (n := 553) (by decide +kernel)
theorem dX3_rowGlue_7 : decode cX3_rowGlue 7 = .ok (.astore_n 2, 1) := dc_77 (by decide +kernel)
theorem dX3_rowGlue_8 : decode cX3_rowGlue 8 = .ok (.aload_n 0, 1) := dc_42 (by decide +kernel)
theorem dX3_rowGlue_9 : decode cX3_rowGlue 9 = .ok (.getfield 133, 3) := dc_180 (a := 0) (b := 133) (n := 133) (by decide +kernel)
theorem dX3_rowGlue_12 : decode cX3_rowGlue 12 = .ok (.iconst 2, 1) := dc_5 (by decide +kernel)
theorem dX3_rowGlue_13 : decode cX3_rowGlue 13 = .ok (.aload_n 2, 1) := dc_44 (by decide +kernel)
theorem dX3_rowGlue_14 : decode cX3_rowGlue 14 = .ok (.iload_n 1, 1) := dc_27 (by decide +kernel)
theorem dX3_rowGlue_15 : decode cX3_rowGlue 15 = .ok (.iaload, 1) := dc_46 (by decide +kernel)
theorem dX3_rowGlue_16 : decode cX3_rowGlue 16 = .ok (.aload_n 2, 1) := dc_44 (by decide +kernel)
theorem dX3_rowGlue_17 : decode cX3_rowGlue 17 = .ok (.iload_n 1, 1) := dc_27 (by decide +kernel)
theorem dX3_rowGlue_18 : decode cX3_rowGlue 18 = .ok (.iconst 1, 1) := dc_4 (by decide +kernel)
theorem dX3_rowGlue_19 : decode cX3_rowGlue 19 = .ok (.iadd, 1) := dc_96 (by decide +kernel)
theorem dX3_rowGlue_20 : decode cX3_rowGlue 20 = .ok (.iaload, 1) := dc_46 (by decide +kernel)
theorem dX3_rowGlue_21 : decode cX3_rowGlue 21 = .ok (.aload_n 2, 1) := dc_44 (by decide +kernel)
theorem dX3_rowGlue_22 : decode cX3_rowGlue 22 = .ok (.iload_n 1, 1) := dc_27 (by decide +kernel)
theorem dX3_rowGlue_23 : decode cX3_rowGlue 23 = .ok (.iconst 2, 1) := dc_5 (by decide +kernel)
theorem dX3_rowGlue_24 : decode cX3_rowGlue 24 = .ok (.iadd, 1) := dc_96 (by decide +kernel)
theorem dX3_rowGlue_25 : decode cX3_rowGlue 25 = .ok (.iaload, 1) := dc_46 (by decide +kernel)
theorem dX3_rowGlue_26 : decode cX3_rowGlue 26 = .ok (.aload_n 2, 1) := dc_44 (by decide +kernel)
theorem dX3_rowGlue_27 : decode cX3_rowGlue 27 = .ok (.iload_n 1, 1) := dc_27 (by decide +kernel)
theorem dX3_rowGlue_28 : decode cX3_rowGlue 28 = .ok (.iconst 3, 1) := dc_6 (by decide +kernel)
theorem dX3_rowGlue_29 : decode cX3_rowGlue 29 = .ok (.iadd, 1) := dc_96 (by decide +kernel)
theorem dX3_rowGlue_30 : decode cX3_rowGlue 30 = .ok (.iaload, 1) := dc_46 (by decide +kernel)
theorem dX3_rowGlue_31 : decode cX3_rowGlue 31 = .ok (.iconst 0, 1) := dc_3 (by decide +kernel)
theorem dX3_rowGlue_32 : decode cX3_rowGlue 32 = .ok (.invokevirtual 322, 3) := dc_182 (a := 1) (b := 66) (n := 322) (by decide +kernel)
theorem dX3_rowGlue_35 : decode cX3_rowGlue 35 = .ok (.return_, 1) := dc_177 (by decide +kernel)
theorem GX3_553 {w : eW} {d : Nat} {Y : eY} {pc : Nat} {ls : eL} {st : List Value} {h : eH} {Q : eO → eH → Prop} {a : Nat} {x : Nat} (hf : g_A 20 h a 4 = some x) (hd : decode Y.2.1 pc = .ok (.getfield 553, 3)) (hY : Y.1.cls = RX3) (kk : wp w d Y (pc + 3) ls (.ref x :: st) h Q) : wp w d Y pc ls (.ref a :: st) h Q := x_gAN (ci := 20) (k := 4) hf hd rfl (by decide) (by rw [hY]; exact q1453) kk
def fX3_rowGlue (this : Nat) (p0 : Int32) (h : eH) : Option (Unit × eH) :=
  (g_A 2 h this 11).bind fun a1 =>
  (g_A 20 h a1 4).bind fun a3 =>
  (g_A 2 h this 18).bind fun a5 =>
  (r_I 100 h a3 p0).bind fun x7 =>
  (r_I 100 h a3 (p0 + (1 : Int32))).bind fun x9 =>
  (r_I 100 h a3 (p0 + (2 : Int32))).bind fun x11 =>
  (r_I 100 h a3 (p0 + (3 : Int32))).bind fun x13 =>
  (k_ok 33 h a5).bind fun _ =>
  (fX34_add a5 (2 : Int32) x7 x9 x11 x13 (0 : Int32) h).bind fun q16 =>
  some ((), q16.2)
theorem pX3_rowGlue {w : eW} {d : Nat} (hd : 3 ≤ d) {this : Nat} {p0 : Int32} {h : eH} {q} (hf : fX3_rowGlue this p0 h = some q) : wm w d YX3_rowGlue [.ref this, .int p0] h (e_is (e_rn c_V q)) := by
  obtain ⟨d, rfl⟩ : ∃ e, d = e + 1 := ⟨d - 1, by omega⟩
  show wp w (d + 1) YX3_rowGlue 0 [some (.ref this), some (.int p0), none] [] h _
  unfold fX3_rowGlue at hf
  refine w_aload_n dX3_rowGlue_0 rfl rfl ?_
  obtain ⟨a1, b2, hf⟩ := Option.bind_eq_some_iff.mp hf
  refine GX3_87 b2 dX3_rowGlue_1 rfl ?_
  obtain ⟨a3, b4, hf⟩ := Option.bind_eq_some_iff.mp hf
  refine GX3_553 b4 dX3_rowGlue_4 rfl ?_
  refine w_astore_n dX3_rowGlue_7 rfl (by decide) (ls' := [some (.ref this), some (.int p0), some (.ref a3)]) rfl ?_
  refine w_aload_n dX3_rowGlue_8 rfl rfl ?_
  obtain ⟨a5, b6, hf⟩ := Option.bind_eq_some_iff.mp hf
  refine GX3_133 b6 dX3_rowGlue_9 rfl ?_
  refine w_iconst dX3_rowGlue_12 (v := 2) (by decide) ?_
  refine w_aload_n dX3_rowGlue_13 rfl rfl ?_
  refine w_iload_n dX3_rowGlue_14 rfl rfl ?_
  obtain ⟨x7, b8, hf⟩ := Option.bind_eq_some_iff.mp hf
  refine x_rI b8 dX3_rowGlue_15 ?_
  refine w_aload_n dX3_rowGlue_16 rfl rfl ?_
  refine w_iload_n dX3_rowGlue_17 rfl rfl ?_
  refine w_iconst dX3_rowGlue_18 (v := 1) (by decide) ?_
  refine w_iadd dX3_rowGlue_19 ?_
  obtain ⟨x9, b10, hf⟩ := Option.bind_eq_some_iff.mp hf
  refine x_rI b10 dX3_rowGlue_20 ?_
  refine w_aload_n dX3_rowGlue_21 rfl rfl ?_
  refine w_iload_n dX3_rowGlue_22 rfl rfl ?_
  refine w_iconst dX3_rowGlue_23 (v := 2) (by decide) ?_
  refine w_iadd dX3_rowGlue_24 ?_
  obtain ⟨x11, b12, hf⟩ := Option.bind_eq_some_iff.mp hf
  refine x_rI b12 dX3_rowGlue_25 ?_
  refine w_aload_n dX3_rowGlue_26 rfl rfl ?_
  refine w_iload_n dX3_rowGlue_27 rfl rfl ?_
  refine w_iconst dX3_rowGlue_28 (v := 3) (by decide) ?_
  refine w_iadd dX3_rowGlue_29 ?_
  obtain ⟨x13, b14, hf⟩ := Option.bind_eq_some_iff.mp hf
  refine x_rI b14 dX3_rowGlue_30 ?_
  refine w_iconst dX3_rowGlue_31 (v := 0) (by decide) ?_
  obtain ⟨_, b15, hf⟩ := Option.bind_eq_some_iff.mp hf
  refine x_cnV hf (e_stV (Yc := YX34_add) (ci := 33) (av := [.int (2 : Int32), .int x7, .int x9, .int x11, .int x13, .int (0 : Int32)]) (st := []) dX3_rowGlue_32 q2837 mX34_add rfl (k_ok_some b15).1 (k_ok_some b15).2) mX34_add.2.2.1 mX34_add.2.2.2.2.1 (Nat.le_of_ble_eq_true rfl) (Nat.le_of_ble_eq_true rfl) (fun q hq => pX34_add (by omega) hq) (fun q16 hf => ?_)
  cases hf
  exact w_vret dX3_rowGlue_35 rfl rfl
abbrev cX3_addBetween : ByteArray := prog_26_method_17_code
def yX3_addBetween : MethodName := ⟨RX3, "addBetween", "(J)V"⟩
def YX3_addBetween : eY := (yX3_addBetween, cX3_addBetween, 4, none, [])
theorem mX3_addBetween : e_mv YX3_addBetween RX3 1 := ⟨q3854, qs181, q3855, by decide, by decide +kernel, (e_sig (by decide +kernel))⟩
theorem dX3_addBetween_0 : decode cX3_addBetween 0 = .ok (.aload_n 0, 1) := dc_42 (by decide +kernel)
theorem dX3_addBetween_1 : decode cX3_addBetween 1 = .ok (.getfield 14, 3) := dc_180 (a := 0) (b := 14) (n := 14) (by decide +kernel)
theorem dX3_addBetween_4 : decode cX3_addBetween 4 = .ok (.lload_n 1, 1) := dc_31 (by decide +kernel)
theorem dX3_addBetween_5 : decode cX3_addBetween 5 = .ok (.ldc2_w 355, 3) := dc_20 (a := 1) (b := 99) (n := 355) (by decide +kernel)
theorem dX3_addBetween_8 : decode cX3_addBetween 8 = .ok (.lcmp, 1) := dc_148 (by decide +kernel)
theorem dX3_addBetween_9 : decode cX3_addBetween 9 = .ok (.ifCond .lt 15, 3) := dc_155 (a := 0) (b := 15) (v := 15) (by decide +kernel)
theorem dX3_addBetween_12 : decode cX3_addBetween 12 = .ok (.lload_n 1, 1) := dc_31 (by decide +kernel)
theorem dX3_addBetween_13 : decode cX3_addBetween 13 = .ok (.ldc2_w 357, 3) := dc_20 (a := 1) (b := 101) (n := 357) (by decide +kernel)
theorem dX3_addBetween_16 : decode cX3_addBetween 16 = .ok (.lcmp, 1) := dc_148 (by decide +kernel)
theorem dX3_addBetween_17 : decode cX3_addBetween 17 = .ok (.ifCond .gt 7, 3) := dc_157 (a := 0) (b := 7) (v := 7) (by decide +kernel)
theorem dX3_addBetween_20 : decode cX3_addBetween 20 = .ok (.iconst 1, 1) := dc_4 (by decide +kernel)
theorem dX3_addBetween_21 : decode cX3_addBetween 21 = .ok (.goto 4, 3) := dc_167 (a := 0) (b := 4) (v := 4) (by decide +kernel)
theorem dX3_addBetween_24 : decode cX3_addBetween 24 = .ok (.iconst 0, 1) := dc_3 (by decide +kernel)
theorem dX3_addBetween_25 : decode cX3_addBetween 25 = .ok (.bipush 16, 2) := dc_16 (a := 16) (v := 16) (by decide +kernel)
theorem dX3_addBetween_27 : decode cX3_addBetween 27 = .ok (.invokevirtual 289, 3) := dc_182 (a := 1) (b := 33) (n := 289) (by decide +kernel)
theorem dX3_addBetween_30 : decode cX3_addBetween 30 = .ok (.aload_n 0, 1) := dc_42 (by decide +kernel)
theorem dX3_addBetween_31 : decode cX3_addBetween 31 = .ok (.getfield 53, 3) := dc_180 (a := 0) (b := 53) (n := 53) (by decide +kernel)
theorem dX3_addBetween_34 : decode cX3_addBetween 34 = .ok (.getfield 311, 3) := dc_180 (a := 1) (b := 55) (n := 311) (by decide +kernel)
theorem dX3_addBetween_37 : decode cX3_addBetween 37 = .ok (.astore_n 3, 1) := dc_78 (by decide +kernel)
theorem dX3_addBetween_38 : decode cX3_addBetween 38 = .ok (.lload_n 1, 1) := dc_31 (by decide +kernel)
theorem dX3_addBetween_39 : decode cX3_addBetween 39 = .ok (.aload_n 3, 1) := dc_45 (by decide +kernel)
theorem dX3_addBetween_40 : decode cX3_addBetween 40 = .ok (.sipush 528, 3) := dc_17 (a := 2) (b := 16) (v := 528) (by decide +kernel)
theorem dX3_addBetween_43 : decode cX3_addBetween 43 = .ok (.iaload, 1) := dc_46 (by decide +kernel)
theorem dX3_addBetween_44 : decode cX3_addBetween 44 = .ok (.i2l, 1) := dc_133 (by decide +kernel)
theorem dX3_addBetween_45 : decode cX3_addBetween 45 = .ok (.lcmp, 1) := dc_148 (by decide +kernel)
theorem dX3_addBetween_46 : decode cX3_addBetween 46 = .ok (.ifCond .ge 13, 3) := dc_156 (a := 0) (b := 13) (v := 13) (by decide +kernel)
theorem dX3_addBetween_49 : decode cX3_addBetween 49 = .ok (.aload_n 0, 1) := dc_42 (by decide +kernel)
theorem dX3_addBetween_50 : decode cX3_addBetween 50 = .ok (.sipush 1563, 3) := dc_17 (a := 6) (b := 27) (v := 1563) (by decide +kernel)
theorem dX3_addBetween_53 : decode cX3_addBetween 53 = .ok (.invokevirtual 302, 3) := dc_182 (a := 1) (b := 46) (n := 302) (by decide +kernel)
theorem dX3_addBetween_56 : decode cX3_addBetween 56 = .ok (.goto 25, 3) := dc_167 (a := 0) (b := 25) (v := 25) (by decide +kernel)
theorem dX3_addBetween_59 : decode cX3_addBetween 59 = .ok (.aload_n 0, 1) := dc_42 (by decide +kernel)
theorem dX3_addBetween_60 : decode cX3_addBetween 60 = .ok (.iconst 2, 1) := dc_5 (by decide +kernel)
theorem dX3_addBetween_61 : decode cX3_addBetween 61 = .ok (.lload_n 1, 1) := dc_31 (by decide +kernel)
theorem dX3_addBetween_62 : decode cX3_addBetween 62 = .ok (.l2i, 1) := dc_136 (by decide +kernel)
theorem dX3_addBetween_63 : decode cX3_addBetween 63 = .ok (.aload_n 3, 1) := dc_45 (by decide +kernel)
theorem dX3_addBetween_64 : decode cX3_addBetween 64 = .ok (.sipush 1560, 3) := dc_17 (a := 6) (b := 24) (v := 1560) (by decide +kernel)
theorem dX3_addBetween_67 : decode cX3_addBetween 67 = .ok (.iaload, 1) := dc_46 (by decide +kernel)
theorem dX3_addBetween_68 : decode cX3_addBetween 68 = .ok (.aload_n 3, 1) := dc_45 (by decide +kernel)
theorem dX3_addBetween_69 : decode cX3_addBetween 69 = .ok (.sipush 1561, 3) := dc_17 (a := 6) (b := 25) (v := 1561) (by decide +kernel)
theorem dX3_addBetween_72 : decode cX3_addBetween 72 = .ok (.iaload, 1) := dc_46 (by decide +kernel)
theorem dX3_addBetween_73 : decode cX3_addBetween 73 = .ok (.aload_n 3, 1) := dc_45 (by decide +kernel)
theorem dX3_addBetween_74 : decode cX3_addBetween 74 = .ok (.sipush 1562, 3) := dc_17 (a := 6) (b := 26) (v := 1562) (by decide +kernel)
theorem dX3_addBetween_77 : decode cX3_addBetween 77 = .ok (.iaload, 1) := dc_46 (by decide +kernel)
theorem dX3_addBetween_78 : decode cX3_addBetween 78 = .ok (.invokevirtual 294, 3) := dc_182 (a := 1) (b := 38) (n := 294) (by decide +kernel)
theorem dX3_addBetween_81 : decode cX3_addBetween 81 = .ok (.return_, 1) := dc_177 (by decide +kernel)
def fX3_addBetween_b81 (N : Nat)  (h : eH) : Option ((Unit ⊕ Nat) × eH) :=
  some (.inl (), h)
theorem pX3_addBetween_b81 {w : eW} {d : Nat} (hd : 13 ≤ d + 1) {N : Nat}  {h : eH} {q} (hf : fX3_addBetween_b81 N h = some q) : wp w (d + 1) YX3_addBetween 81 [none, none, none, none] [] h (e_is (e_rt c_V q)) := by
  unfold fX3_addBetween_b81 at hf
  cases hf
  exact w_vret dX3_addBetween_81 rfl rfl
def fX3_addBetween_b25 (N : Nat) (l0 : Nat) (l1 : Int64) (s0 : Nat) (s1 : Int32) (h : eH) : Option ((Unit ⊕ Nat) × eH) :=
  (k_ok 3 h s0).bind fun _ =>
  t_B (fX4_want s0 s1 (16 : Int32) h) fun x2 h3 =>
  (g_A 2 h3 l0 6).bind fun a4 =>
  (g_A 8 h3 a4 3).bind fun a6 =>
  (r_I 100 h3 a6 (528 : Int32)).bind fun x8 =>
  if 0 ≤ (lg_cmp l1 (x8).toInt64) then
    (r_I 100 h3 a6 (1560 : Int32)).bind fun x11 =>
    (r_I 100 h3 a6 (1561 : Int32)).bind fun x13 =>
    (r_I 100 h3 a6 (1562 : Int32)).bind fun x15 =>
    (k_ok 2 h3 l0).bind fun _ =>
    t_B (fX3_addVertical N l0 (2 : Int32) (l1).toInt32 x11 x13 x15 h3) fun x18 h19 =>
    fX3_addBetween_b81 N h19
  else
    (k_ok 2 h3 l0).bind fun _ =>
    t_B (fX3_addGlue N l0 (1563 : Int32) h3) fun x21 h22 =>
    fX3_addBetween_b81 N h22
theorem pX3_addBetween_b25 {w : eW} {d : Nat} (hd : 13 ≤ d + 1) {N : Nat} {l0 : Nat} {l1 : Int64} {s0 : Nat} {s1 : Int32} {h : eH} {q} (hf : fX3_addBetween_b25 N l0 l1 s0 s1 h = some q) : wp w (d + 1) YX3_addBetween 25 [some (.ref l0), some (.long l1), none, none] [.int s1, .ref s0] h (e_is (e_rt c_V q)) := by
  unfold fX3_addBetween_b25 at hf
  refine w_bipush dX3_addBetween_25 (v := 16) (by decide) ?_
  obtain ⟨_, b1, hf⟩ := Option.bind_eq_some_iff.mp hf
  refine x_ctV hf (e_stV (Yc := YX4_want) (ci := 3) (av := [.int s1, .int (16 : Int32)]) (st := []) dX3_addBetween_27 q2846 mX4_want rfl (k_ok_some b1).1 (k_ok_some b1).2) mX4_want.2.2.1 mX4_want.2.2.2.2.1 (Nat.le_of_ble_eq_true rfl) (Nat.le_of_ble_eq_true rfl) rfl (fun q hq => pX4_want (by omega) hq) (fun x2 h3 hf => ?_)
  refine w_aload_n dX3_addBetween_30 rfl rfl ?_
  obtain ⟨a4, b5, hf⟩ := Option.bind_eq_some_iff.mp hf
  refine GX3_53 b5 dX3_addBetween_31 rfl ?_
  obtain ⟨a6, b7, hf⟩ := Option.bind_eq_some_iff.mp hf
  refine GX3_311 b7 dX3_addBetween_34 rfl ?_
  refine w_astore_n dX3_addBetween_37 rfl (by decide) (ls' := [some (.ref l0), some (.long l1), none, some (.ref a6)]) rfl ?_
  refine w_lload_n dX3_addBetween_38 rfl rfl ?_
  refine w_aload_n dX3_addBetween_39 rfl rfl ?_
  refine w_sipush dX3_addBetween_40 (v := 528) (by decide) ?_
  obtain ⟨x8, b9, hf⟩ := Option.bind_eq_some_iff.mp hf
  refine x_rI b9 dX3_addBetween_43 ?_
  refine w_i2l dX3_addBetween_44 ?_
  refine w_lcmp dX3_addBetween_45 ?_
  refine w_if_ge 59 dX3_addBetween_46 (by decide) (fun c10 => ?_) (fun c10 => ?_)
  · replace hf := (if_pos (show 0 ≤ (lg_cmp l1 (x8).toInt64) from c10)).symm.trans hf
    refine w_aload_n dX3_addBetween_59 rfl rfl ?_
    refine w_iconst dX3_addBetween_60 (v := 2) (by decide) ?_
    refine w_lload_n dX3_addBetween_61 rfl rfl ?_
    refine w_l2i dX3_addBetween_62 ?_
    refine w_aload_n dX3_addBetween_63 rfl rfl ?_
    refine w_sipush dX3_addBetween_64 (v := 1560) (by decide) ?_
    obtain ⟨x11, b12, hf⟩ := Option.bind_eq_some_iff.mp hf
    refine x_rI b12 dX3_addBetween_67 ?_
    refine w_aload_n dX3_addBetween_68 rfl rfl ?_
    refine w_sipush dX3_addBetween_69 (v := 1561) (by decide) ?_
    obtain ⟨x13, b14, hf⟩ := Option.bind_eq_some_iff.mp hf
    refine x_rI b14 dX3_addBetween_72 ?_
    refine w_aload_n dX3_addBetween_73 rfl rfl ?_
    refine w_sipush dX3_addBetween_74 (v := 1562) (by decide) ?_
    obtain ⟨x15, b16, hf⟩ := Option.bind_eq_some_iff.mp hf
    refine x_rI b16 dX3_addBetween_77 ?_
    obtain ⟨_, b17, hf⟩ := Option.bind_eq_some_iff.mp hf
    refine x_ctV hf (e_stV (Yc := YX3_addVertical) (ci := 2) (av := [.int (2 : Int32), .int (l1).toInt32, .int x11, .int x13, .int x15]) (st := []) dX3_addBetween_78 q3198 mX3_addVertical rfl (k_ok_some b17).1 (k_ok_some b17).2) mX3_addVertical.2.2.1 mX3_addVertical.2.2.2.2.1 (Nat.le_of_ble_eq_true rfl) (Nat.le_of_ble_eq_true rfl) rfl (fun q hq => pX3_addVertical (by omega) hq) (fun x18 h19 hf => ?_)
    exact (pX3_addBetween_b81 hd hf).to trivial
  · replace hf := (if_neg (show ¬ (0 ≤ (lg_cmp l1 (x8).toInt64)) from c10)).symm.trans hf
    refine w_aload_n dX3_addBetween_49 rfl rfl ?_
    refine w_sipush dX3_addBetween_50 (v := 1563) (by decide) ?_
    obtain ⟨_, b20, hf⟩ := Option.bind_eq_some_iff.mp hf
    refine x_ctV hf (e_stV (Yc := YX3_addGlue) (ci := 2) (av := [.int (1563 : Int32)]) (st := []) dX3_addBetween_53 q3194 mX3_addGlue rfl (k_ok_some b20).1 (k_ok_some b20).2) mX3_addGlue.2.2.1 mX3_addGlue.2.2.2.2.1 (Nat.le_of_ble_eq_true rfl) (Nat.le_of_ble_eq_true rfl) rfl (fun q hq => pX3_addGlue (by omega) hq) (fun x21 h22 hf => ?_)
    refine w_goto 81 dX3_addBetween_56 (by decide) ?_
    exact (pX3_addBetween_b81 hd hf).to trivial
def fX3_addBetween_b24 (N : Nat) (l0 : Nat) (l1 : Int64) (s0 : Nat) (h : eH) : Option ((Unit ⊕ Nat) × eH) :=
  fX3_addBetween_b25 N l0 l1 s0 (0 : Int32) h
theorem pX3_addBetween_b24 {w : eW} {d : Nat} (hd : 13 ≤ d + 1) {N : Nat} {l0 : Nat} {l1 : Int64} {s0 : Nat} {h : eH} {q} (hf : fX3_addBetween_b24 N l0 l1 s0 h = some q) : wp w (d + 1) YX3_addBetween 24 [some (.ref l0), some (.long l1), none, none] [.ref s0] h (e_is (e_rt c_V q)) := by
  unfold fX3_addBetween_b24 at hf
  refine w_iconst dX3_addBetween_24 (v := 0) (by decide) ?_
  exact (pX3_addBetween_b25 hd hf).to ⟨rfl, rfl, trivial⟩
def fX3_addBetween (N : Nat) (this : Nat) (p0 : Int64) (h : eH) : Option ((Unit ⊕ Nat) × eH) :=
  (g_A 2 h this 0).bind fun a1 =>
  if (lg_cmp p0 (-1073741823 : Int64)) < 0 then
    fX3_addBetween_b24 N this p0 a1 h
  else
    if 0 < (lg_cmp p0 (1073741823 : Int64)) then
      fX3_addBetween_b24 N this p0 a1 h
    else
      fX3_addBetween_b25 N this p0 a1 (1 : Int32) h
theorem pX3_addBetween {w : eW} {d : Nat} (hd : 13 ≤ d) {N : Nat} {this : Nat} {p0 : Int64} {h : eH} {q} (hf : fX3_addBetween N this p0 h = some q) : wm w d YX3_addBetween [.ref this, .long p0] h (e_is (e_rt c_V q)) := by
  obtain ⟨d, rfl⟩ : ∃ e, d = e + 1 := ⟨d - 1, by omega⟩
  show wp w (d + 1) YX3_addBetween 0 [some (.ref this), some (.long p0), none, none] [] h _
  unfold fX3_addBetween at hf
  refine w_aload_n dX3_addBetween_0 rfl rfl ?_
  obtain ⟨a1, b2, hf⟩ := Option.bind_eq_some_iff.mp hf
  refine GX3_14 b2 dX3_addBetween_1 rfl ?_
  refine w_lload_n dX3_addBetween_4 rfl rfl ?_
  refine w_ldc2 dX3_addBetween_5 q3856 ?_
  refine w_lcmp dX3_addBetween_8 ?_
  refine w_if_lt 24 dX3_addBetween_9 (by decide) (fun c3 => ?_) (fun c3 => ?_)
  · replace hf := (if_pos (show (lg_cmp p0 (-1073741823 : Int64)) < 0 from c3)).symm.trans hf
    exact (pX3_addBetween_b24 hd hf).to ⟨rfl, rfl, trivial⟩
  · replace hf := (if_neg (show ¬ ((lg_cmp p0 (-1073741823 : Int64)) < 0) from c3)).symm.trans hf
    refine w_lload_n dX3_addBetween_12 rfl rfl ?_
    refine w_ldc2 dX3_addBetween_13 q3857 ?_
    refine w_lcmp dX3_addBetween_16 ?_
    refine w_if_gt 24 dX3_addBetween_17 (by decide) (fun c4 => ?_) (fun c4 => ?_)
    · replace hf := (if_pos (show 0 < (lg_cmp p0 (1073741823 : Int64)) from c4)).symm.trans hf
      exact (pX3_addBetween_b24 hd hf).to ⟨rfl, rfl, trivial⟩
    · replace hf := (if_neg (show ¬ (0 < (lg_cmp p0 (1073741823 : Int64))) from c4)).symm.trans hf
      refine w_iconst dX3_addBetween_20 (v := 1) (by decide) ?_
      refine w_goto 25 dX3_addBetween_21 (by decide) ?_
      exact (pX3_addBetween_b25 hd hf).to ⟨rfl, rfl, trivial⟩
abbrev cX3_add : ByteArray := prog_26_method_14_code
def yX3_add : MethodName := ⟨RX3, "add", "(IIIII)V"⟩
def YX3_add : eY := (yX3_add, cX3_add, 6, none, [])
theorem mX3_add : e_mv YX3_add RX3 5 := ⟨q3860, qs182, q3861, by decide, by decide +kernel, (e_sig (by decide +kernel))⟩
theorem dX3_add_0 : decode cX3_add 0 = .ok (.aload_n 0, 1) := dc_42 (by decide +kernel)
theorem dX3_add_1 : decode cX3_add 1 = .ok (.invokevirtual 298, 3) := dc_182 (a := 1) (b := 42) (n := 298) (by decide +kernel)
theorem dX3_add_4 : decode cX3_add 4 = .ok (.ifCond .eq 17, 3) := dc_153 (a := 0) (b := 17) (v := 17) (by decide +kernel)
theorem dX3_add_7 : decode cX3_add 7 = .ok (.aload_n 0, 1) := dc_42 (by decide +kernel)
theorem dX3_add_8 : decode cX3_add 8 = .ok (.iload_n 1, 1) := dc_27 (by decide +kernel)
theorem dX3_add_9 : decode cX3_add 9 = .ok (.iload_n 2, 1) := dc_28 (by decide +kernel)
theorem dX3_add_10 : decode cX3_add 10 = .ok (.iload_n 3, 1) := dc_29 (by decide +kernel)
theorem dX3_add_11 : decode cX3_add 11 = .ok (.iload 4, 2) := dc_21 (a := 4) (by decide +kernel)
theorem dX3_add_13 : decode cX3_add 13 = .ok (.iload 5, 2) := dc_21 (a := 5) (by decide +kernel)
theorem dX3_add_15 : decode cX3_add 15 = .ok (.invokevirtual 294, 3) := dc_182 (a := 1) (b := 38) (n := 294) (by decide +kernel)
theorem dX3_add_18 : decode cX3_add 18 = .ok (.goto 15, 3) := dc_167 (a := 0) (b := 15) (v := 15) (by decide +kernel)
theorem dX3_add_21 : decode cX3_add 21 = .ok (.aload_n 0, 1) := dc_42 (by decide +kernel)
theorem dX3_add_22 : decode cX3_add 22 = .ok (.iload_n 1, 1) := dc_27 (by decide +kernel)
theorem dX3_add_23 : decode cX3_add 23 = .ok (.iload_n 2, 1) := dc_28 (by decide +kernel)
theorem dX3_add_24 : decode cX3_add 24 = .ok (.iload_n 3, 1) := dc_29 (by decide +kernel)
theorem dX3_add_25 : decode cX3_add 25 = .ok (.iload 4, 2) := dc_21 (a := 4) (by decide +kernel)
theorem dX3_add_27 : decode cX3_add 27 = .ok (.iload 5, 2) := dc_21 (a := 5) (by decide +kernel)
theorem dX3_add_29 : decode cX3_add 29 = .ok (.iconst 0, 1) := dc_3 (by decide +kernel)
theorem dX3_add_30 : decode cX3_add 30 = .ok (.invokevirtual 318, 3) := dc_182 (a := 1) (b := 62) (n := 318) (by decide +kernel)
theorem dX3_add_33 : decode cX3_add 33 = .ok (.return_, 1) := dc_177 (by decide +kernel)
def fX3_add_b33 (N : Nat)  (h : eH) : Option ((Unit ⊕ Nat) × eH) :=
  some (.inl (), h)
theorem pX3_add_b33 {w : eW} {d : Nat} (hd : 12 ≤ d + 1) {N : Nat}  {h : eH} {q} (hf : fX3_add_b33 N h = some q) : wp w (d + 1) YX3_add 33 [none, none, none, none, none, none] [] h (e_is (e_rt c_V q)) := by
  unfold fX3_add_b33 at hf
  cases hf
  exact w_vret dX3_add_33 rfl rfl
def fX3_add (N : Nat) (this : Nat) (p0 : Int32) (p1 : Int32) (p2 : Int32) (p3 : Int32) (p4 : Int32) (h : eH) : Option ((Unit ⊕ Nat) × eH) :=
  (k_ok 2 h this).bind fun _ =>
  (fX3_isVertical this h).bind fun q2 =>
  if q2.1 = 0 then
    (k_ok 2 q2.2 this).bind fun _ =>
    t_B (fX3_put this p0 p1 p2 p3 p4 (0 : Int32) q2.2) fun x5 h6 =>
    fX3_add_b33 N h6
  else
    (k_ok 2 q2.2 this).bind fun _ =>
    t_B (fX3_addVertical N this p0 p1 p2 p3 p4 q2.2) fun x8 h9 =>
    fX3_add_b33 N h9
theorem pX3_add {w : eW} {d : Nat} (hd : 12 ≤ d) {N : Nat} {this : Nat} {p0 : Int32} {p1 : Int32} {p2 : Int32} {p3 : Int32} {p4 : Int32} {h : eH} {q} (hf : fX3_add N this p0 p1 p2 p3 p4 h = some q) : wm w d YX3_add [.ref this, .int p0, .int p1, .int p2, .int p3, .int p4] h (e_is (e_rt c_V q)) := by
  obtain ⟨d, rfl⟩ : ∃ e, d = e + 1 := ⟨d - 1, by omega⟩
  show wp w (d + 1) YX3_add 0 [some (.ref this), some (.int p0), some (.int p1), some (.int p2), some (.int p3), some (.int p4)] [] h _
  unfold fX3_add at hf
  refine w_aload_n dX3_add_0 rfl rfl ?_
  obtain ⟨_, b1, hf⟩ := Option.bind_eq_some_iff.mp hf
  refine x_cnI hf (e_stV (Yc := YX3_isVertical) (ci := 2) (av := []) (st := []) dX3_add_1 q3190 mX3_isVertical rfl (k_ok_some b1).1 (k_ok_some b1).2) mX3_isVertical.2.2.1 mX3_isVertical.2.2.2.2.1 (Nat.le_of_ble_eq_true rfl) (Nat.le_of_ble_eq_true rfl) (fun q hq => pX3_isVertical (by omega) hq) (fun q2 hf => ?_)
  refine w_if_eq 21 dX3_add_4 (by decide) (fun c3 => ?_) (fun c3 => ?_)
  · replace hf := (if_pos (show q2.1 = 0 from c3)).symm.trans hf
    refine w_aload_n dX3_add_21 rfl rfl ?_
    refine w_iload_n dX3_add_22 rfl rfl ?_
    refine w_iload_n dX3_add_23 rfl rfl ?_
    refine w_iload_n dX3_add_24 rfl rfl ?_
    refine w_iload dX3_add_25 rfl ?_
    refine w_iload dX3_add_27 rfl ?_
    refine w_iconst dX3_add_29 (v := 0) (by decide) ?_
    obtain ⟨_, b4, hf⟩ := Option.bind_eq_some_iff.mp hf
    refine x_ctV hf (e_stV (Yc := YX3_put) (ci := 2) (av := [.int p0, .int p1, .int p2, .int p3, .int p4, .int (0 : Int32)]) (st := []) dX3_add_30 q3177 mX3_put rfl (k_ok_some b4).1 (k_ok_some b4).2) mX3_put.2.2.1 mX3_put.2.2.2.2.1 (Nat.le_of_ble_eq_true rfl) (Nat.le_of_ble_eq_true rfl) rfl (fun q hq => pX3_put (by omega) hq) (fun x5 h6 hf => ?_)
    exact (pX3_add_b33 hd hf).to trivial
  · replace hf := (if_neg (show ¬ (q2.1 = 0) from c3)).symm.trans hf
    refine w_aload_n dX3_add_7 rfl rfl ?_
    refine w_iload_n dX3_add_8 rfl rfl ?_
    refine w_iload_n dX3_add_9 rfl rfl ?_
    refine w_iload_n dX3_add_10 rfl rfl ?_
    refine w_iload dX3_add_11 rfl ?_
    refine w_iload dX3_add_13 rfl ?_
    obtain ⟨_, b7, hf⟩ := Option.bind_eq_some_iff.mp hf
    refine x_ctV hf (e_stV (Yc := YX3_addVertical) (ci := 2) (av := [.int p0, .int p1, .int p2, .int p3, .int p4]) (st := []) dX3_add_15 q3198 mX3_addVertical rfl (k_ok_some b7).1 (k_ok_some b7).2) mX3_addVertical.2.2.1 mX3_addVertical.2.2.2.2.1 (Nat.le_of_ble_eq_true rfl) (Nat.le_of_ble_eq_true rfl) rfl (fun q hq => pX3_addVertical (by omega) hq) (fun x8 h9 hf => ?_)
    refine w_goto 33 dX3_add_18 (by decide) ?_
    exact (pX3_add_b33 hd hf).to trivial
abbrev cX3_addBox : ByteArray := prog_26_method_16_code
def yX3_addBox : MethodName := ⟨RX3, "addBox", "(II)V"⟩
def YX3_addBox : eY := (yX3_addBox, cX3_addBox, 4, none, [])
theorem mX3_addBox : e_mv YX3_addBox RX3 2 := ⟨q3850, qs180, q3851, by decide, by decide +kernel, (e_sig (by decide +kernel))⟩
theorem dX3_addBox_0 : decode cX3_addBox 0 = .ok (.aload_n 0, 1) := dc_42 (by decide +kernel)
theorem dX3_addBox_1 : decode cX3_addBox 1 = .ok (.invokevirtual 298, 3) := dc_182 (a := 1) (b := 42) (n := 298) (by decide +kernel)
theorem dX3_addBox_4 : decode cX3_addBox 4 = .ok (.ifCond .eq 67, 3) := dc_153 (a := 0) (b := 67) (v := 67) (by decide +kernel)
theorem dX3_addBox_7 : decode cX3_addBox 7 = .ok (.aload_n 0, 1) := dc_42 (by decide +kernel)
theorem dX3_addBox_8 : decode cX3_addBox 8 = .ok (.getfield 143, 3) := dc_180 (a := 0) (b := 143) (n := 143) (by decide +kernel)
theorem dX3_addBox_11 : decode cX3_addBox 11 = .ok (.aload_n 0, 1) := dc_42 (by decide +kernel)
theorem dX3_addBox_12 : decode cX3_addBox 12 = .ok (.getfield 211, 3) := dc_180 (a := 0) (b := 211) (n := 211) (by decide +kernel)
theorem dX3_addBox_15 : decode cX3_addBox 15 = .ok (.iaload, 1) := dc_46 (by decide +kernel)
theorem dX3_addBox_16 : decode cX3_addBox 16 = .ok (.istore_n 3, 1) := dc_62 (by decide +kernel)
theorem dX3_addBox_17 : decode cX3_addBox 17 = .ok (.iload_n 3, 1) := dc_29 (by decide +kernel)
theorem dX3_addBox_18 : decode cX3_addBox 18 = .ok (.ldc 214, 2) := dc_18 (a := 214) (by decide +kernel)
theorem dX3_addBox_20 : decode cX3_addBox 20 = .ok (.if_icmp .eq 33, 3) := dc_159 (a := 0) (b := 33) (v := 33) (by decide +kernel)
theorem dX3_addBox_23 : decode cX3_addBox 23 = .ok (.aload_n 0, 1) := dc_42 (by decide +kernel)
theorem dX3_addBox_24 : decode cX3_addBox 24 = .ok (.aload_n 0, 1) := dc_42 (by decide +kernel)
theorem dX3_addBox_25 : decode cX3_addBox 25 = .ok (.getfield 53, 3) := dc_180 (a := 0) (b := 53) (n := 53) (by decide +kernel)
theorem dX3_addBox_28 : decode cX3_addBox 28 = .ok (.getfield 311, 3) := dc_180 (a := 1) (b := 55) (n := 311) (by decide +kernel)
theorem dX3_addBox_31 : decode cX3_addBox 31 = .ok (.sipush 1559, 3) := dc_17 (a := 6) (b := 23) (v := 1559) (by decide +kernel)
theorem dX3_addBox_34 : decode cX3_addBox 34 = .ok (.iaload, 1) := dc_46 (by decide +kernel)
theorem dX3_addBox_35 : decode cX3_addBox 35 = .ok (.i2l, 1) := dc_133 (by decide +kernel)
theorem dX3_addBox_36 : decode cX3_addBox 36 = .ok (.iload_n 3, 1) := dc_29 (by decide +kernel)
theorem dX3_addBox_37 : decode cX3_addBox 37 = .ok (.i2l, 1) := dc_133 (by decide +kernel)
theorem dX3_addBox_38 : decode cX3_addBox 38 = .ok (.lsub, 1) := dc_101 (by decide +kernel)
theorem dX3_addBox_39 : decode cX3_addBox 39 = .ok (.aload_n 0, 1) := dc_42 (by decide +kernel)
theorem dX3_addBox_40 : decode cX3_addBox 40 = .ok (.getfield 36, 3) := dc_180 (a := 0) (b := 36) (n := 36) (by decide +kernel)
theorem dX3_addBox_43 : decode cX3_addBox 43 = .ok (.iload_n 1, 1) := dc_27 (by decide +kernel)
theorem dX3_addBox_44 : decode cX3_addBox 44 = .ok (.aaload, 1) := dc_50 (by decide +kernel)
theorem dX3_addBox_45 : decode cX3_addBox 45 = .ok (.getfield 327, 3) := dc_180 (a := 1) (b := 71) (n := 327) (by decide +kernel)
theorem dX3_addBox_48 : decode cX3_addBox 48 = .ok (.i2l, 1) := dc_133 (by decide +kernel)
theorem dX3_addBox_49 : decode cX3_addBox 49 = .ok (.lsub, 1) := dc_101 (by decide +kernel)
theorem dX3_addBox_50 : decode cX3_addBox 50 = .ok (.invokevirtual 349, 3) := dc_182 (a := 1) (b := 93) (n := 349) (by decide +kernel)
theorem dX3_addBox_53 : decode cX3_addBox 53 = .ok (.aload_n 0, 1) := dc_42 (by decide +kernel)
theorem dX3_addBox_54 : decode cX3_addBox 54 = .ok (.getfield 143, 3) := dc_180 (a := 0) (b := 143) (n := 143) (by decide +kernel)
theorem dX3_addBox_57 : decode cX3_addBox 57 = .ok (.aload_n 0, 1) := dc_42 (by decide +kernel)
theorem dX3_addBox_58 : decode cX3_addBox 58 = .ok (.getfield 211, 3) := dc_180 (a := 0) (b := 211) (n := 211) (by decide +kernel)
theorem dX3_addBox_61 : decode cX3_addBox 61 = .ok (.aload_n 0, 1) := dc_42 (by decide +kernel)
theorem dX3_addBox_62 : decode cX3_addBox 62 = .ok (.getfield 36, 3) := dc_180 (a := 0) (b := 36) (n := 36) (by decide +kernel)
theorem dX3_addBox_65 : decode cX3_addBox 65 = .ok (.iload_n 1, 1) := dc_27 (by decide +kernel)
theorem dX3_addBox_66 : decode cX3_addBox 66 = .ok (.aaload, 1) := dc_50 (by decide +kernel)
theorem dX3_addBox_67 : decode cX3_addBox 67 = .ok (.getfield 330, 3) := dc_180 (a := 1) (b := 74) (n := 330) (by decide +kernel)
theorem dX3_addBox_70 : decode cX3_addBox 70 = .ok (.iastore, 1) := dc_79 (by decide +kernel)
theorem dX3_addBox_71 : decode cX3_addBox 71 = .ok (.aload_n 0, 1) := dc_42 (by decide +kernel)
theorem dX3_addBox_72 : decode cX3_addBox 72 = .ok (.iconst 4, 1) := dc_7 (by decide +kernel)
theorem dX3_addBox_73 : decode cX3_addBox 73 = .ok (.iload_n 1, 1) := dc_27 (by decide +kernel)
theorem dX3_addBox_74 : decode cX3_addBox 74 = .ok (.iload_n 2, 1) := dc_28 (by decide +kernel)
theorem dX3_addBox_75 : decode cX3_addBox 75 = .ok (.iconst 0, 1) := dc_3 (by decide +kernel)
theorem dX3_addBox_76 : decode cX3_addBox 76 = .ok (.iconst 0, 1) := dc_3 (by decide +kernel)
theorem dX3_addBox_77 : decode cX3_addBox 77 = .ok (.invokevirtual 353, 3) := dc_182 (a := 1) (b := 97) (n := 353) (by decide +kernel)
theorem dX3_addBox_80 : decode cX3_addBox 80 = .ok (.return_, 1) := dc_177 (by decide +kernel)
def fX3_addBox_b71 (N : Nat) (l0 : Nat) (l1 : Int32) (l2 : Int32) (h : eH) : Option ((Unit ⊕ Nat) × eH) :=
  (k_ok 2 h l0).bind fun _ =>
  t_B (fX3_add N l0 (4 : Int32) l1 l2 (0 : Int32) (0 : Int32) h) fun x2 h3 =>
  some (.inl (), h3)
theorem pX3_addBox_b71 {w : eW} {d : Nat} (hd : 14 ≤ d + 1) {N : Nat} {l0 : Nat} {l1 : Int32} {l2 : Int32} {h : eH} {q} (hf : fX3_addBox_b71 N l0 l1 l2 h = some q) : wp w (d + 1) YX3_addBox 71 [some (.ref l0), some (.int l1), some (.int l2), none] [] h (e_is (e_rt c_V q)) := by
  unfold fX3_addBox_b71 at hf
  refine w_aload_n dX3_addBox_71 rfl rfl ?_
  refine w_iconst dX3_addBox_72 (v := 4) (by decide) ?_
  refine w_iload_n dX3_addBox_73 rfl rfl ?_
  refine w_iload_n dX3_addBox_74 rfl rfl ?_
  refine w_iconst dX3_addBox_75 (v := 0) (by decide) ?_
  refine w_iconst dX3_addBox_76 (v := 0) (by decide) ?_
  obtain ⟨_, b1, hf⟩ := Option.bind_eq_some_iff.mp hf
  refine x_ctV hf (e_stV (Yc := YX3_add) (ci := 2) (av := [.int (4 : Int32), .int l1, .int l2, .int (0 : Int32), .int (0 : Int32)]) (st := []) dX3_addBox_77 q3858 mX3_add rfl (k_ok_some b1).1 (k_ok_some b1).2) mX3_add.2.2.1 mX3_add.2.2.2.2.1 (Nat.le_of_ble_eq_true rfl) (Nat.le_of_ble_eq_true rfl) rfl (fun q hq => pX3_add (by omega) hq) (fun x2 h3 hf => ?_)
  cases hf
  exact w_vret dX3_addBox_80 rfl rfl
def fX3_addBox_b53 (N : Nat) (l0 : Nat) (l1 : Int32) (l2 : Int32) (h : eH) : Option ((Unit ⊕ Nat) × eH) :=
  (g_A 2 h l0 21).bind fun a1 =>
  (g_I 2 h l0 27).bind fun x3 =>
  (g_A 2 h l0 3).bind fun a5 =>
  (r_A 104 h a5 l1).bind fun a7 =>
  (g_I 41 h a7 5).bind fun x9 =>
  (q_V 100 h a1 x3 (.int x9)).bind fun h11 =>
  fX3_addBox_b71 N l0 l1 l2 h11
theorem pX3_addBox_b53 {w : eW} {d : Nat} (hd : 14 ≤ d + 1) {N : Nat} {l0 : Nat} {l1 : Int32} {l2 : Int32} {h : eH} {q} (hf : fX3_addBox_b53 N l0 l1 l2 h = some q) : wp w (d + 1) YX3_addBox 53 [some (.ref l0), some (.int l1), some (.int l2), none] [] h (e_is (e_rt c_V q)) := by
  unfold fX3_addBox_b53 at hf
  refine w_aload_n dX3_addBox_53 rfl rfl ?_
  obtain ⟨a1, b2, hf⟩ := Option.bind_eq_some_iff.mp hf
  refine GX3_143 b2 dX3_addBox_54 rfl ?_
  refine w_aload_n dX3_addBox_57 rfl rfl ?_
  obtain ⟨x3, b4, hf⟩ := Option.bind_eq_some_iff.mp hf
  refine GX3_211 b4 dX3_addBox_58 rfl ?_
  refine w_aload_n dX3_addBox_61 rfl rfl ?_
  obtain ⟨a5, b6, hf⟩ := Option.bind_eq_some_iff.mp hf
  refine GX3_36 b6 dX3_addBox_62 rfl ?_
  refine w_iload_n dX3_addBox_65 rfl rfl ?_
  obtain ⟨a7, b8, hf⟩ := Option.bind_eq_some_iff.mp hf
  refine x_rA (c := 104) (by decide) b8 dX3_addBox_66 ?_
  obtain ⟨x9, b10, hf⟩ := Option.bind_eq_some_iff.mp hf
  refine GX3_330 b10 dX3_addBox_67 rfl ?_
  obtain ⟨h11, b12, hf⟩ := Option.bind_eq_some_iff.mp hf
  refine x_qI b12 dX3_addBox_70 ?_
  exact (pX3_addBox_b71 hd hf).to ⟨rfl, rfl, rfl, trivial⟩
def fX3_addBox (N : Nat) (this : Nat) (p0 : Int32) (p1 : Int32) (h : eH) : Option ((Unit ⊕ Nat) × eH) :=
  (k_ok 2 h this).bind fun _ =>
  (fX3_isVertical this h).bind fun q2 =>
  if q2.1 = 0 then
    fX3_addBox_b71 N this p0 p1 q2.2
  else
    (g_A 2 q2.2 this 21).bind fun a4 =>
    (g_I 2 q2.2 this 27).bind fun x6 =>
    (r_I 100 q2.2 a4 x6).bind fun x8 =>
    if x8 = (-2147483648 : Int32) then
      fX3_addBox_b53 N this p0 p1 q2.2
    else
      (g_A 2 q2.2 this 6).bind fun a11 =>
      (g_A 8 q2.2 a11 3).bind fun a13 =>
      (r_I 100 q2.2 a13 (1559 : Int32)).bind fun x15 =>
      (g_A 2 q2.2 this 3).bind fun a17 =>
      (r_A 104 q2.2 a17 p0).bind fun a19 =>
      (g_I 41 q2.2 a19 4).bind fun x21 =>
      (k_ok 2 q2.2 this).bind fun _ =>
      t_B (fX3_addBetween N this (((x15).toInt64 - (x8).toInt64) - (x21).toInt64) q2.2) fun x24 h25 =>
      fX3_addBox_b53 N this p0 p1 h25
theorem pX3_addBox {w : eW} {d : Nat} (hd : 14 ≤ d) {N : Nat} {this : Nat} {p0 : Int32} {p1 : Int32} {h : eH} {q} (hf : fX3_addBox N this p0 p1 h = some q) : wm w d YX3_addBox [.ref this, .int p0, .int p1] h (e_is (e_rt c_V q)) := by
  obtain ⟨d, rfl⟩ : ∃ e, d = e + 1 := ⟨d - 1, by omega⟩
  show wp w (d + 1) YX3_addBox 0 [some (.ref this), some (.int p0), some (.int p1), none] [] h _
  unfold fX3_addBox at hf
  refine w_aload_n dX3_addBox_0 rfl rfl ?_
  obtain ⟨_, b1, hf⟩ := Option.bind_eq_some_iff.mp hf
  refine x_cnI hf (e_stV (Yc := YX3_isVertical) (ci := 2) (av := []) (st := []) dX3_addBox_1 q3190 mX3_isVertical rfl (k_ok_some b1).1 (k_ok_some b1).2) mX3_isVertical.2.2.1 mX3_isVertical.2.2.2.2.1 (Nat.le_of_ble_eq_true rfl) (Nat.le_of_ble_eq_true rfl) (fun q hq => pX3_isVertical (by omega) hq) (fun q2 hf => ?_)
  refine w_if_eq 71 dX3_addBox_4 (by decide) (fun c3 => ?_) (fun c3 => ?_)
  · replace hf := (if_pos (show q2.1 = 0 from c3)).symm.trans hf
    exact (pX3_addBox_b71 hd hf).to ⟨rfl, rfl, rfl, trivial⟩
  · replace hf := (if_neg (show ¬ (q2.1 = 0) from c3)).symm.trans hf
    refine w_aload_n dX3_addBox_7 rfl rfl ?_
    obtain ⟨a4, b5, hf⟩ := Option.bind_eq_some_iff.mp hf
    refine GX3_143 b5 dX3_addBox_8 rfl ?_
    refine w_aload_n dX3_addBox_11 rfl rfl ?_
    obtain ⟨x6, b7, hf⟩ := Option.bind_eq_some_iff.mp hf
    refine GX3_211 b7 dX3_addBox_12 rfl ?_
    obtain ⟨x8, b9, hf⟩ := Option.bind_eq_some_iff.mp hf
    refine x_rI b9 dX3_addBox_15 ?_
    refine w_istore_n dX3_addBox_16 rfl (by decide) (ls' := [some (.ref this), some (.int p0), some (.int p1), some (.int x8)]) rfl ?_
    refine w_iload_n dX3_addBox_17 rfl rfl ?_
    refine w_ldc dX3_addBox_18 q2052 ?_
    refine w_icmp_eq 53 dX3_addBox_20 (by decide) (fun c10 => ?_) (fun c10 => ?_)
    · replace hf := (if_pos (show x8 = (-2147483648 : Int32) from c10)).symm.trans hf
      exact (pX3_addBox_b53 hd hf).to ⟨rfl, rfl, rfl, trivial⟩
    · replace hf := (if_neg (show ¬ (x8 = (-2147483648 : Int32)) from c10)).symm.trans hf
      refine w_aload_n dX3_addBox_23 rfl rfl ?_
      refine w_aload_n dX3_addBox_24 rfl rfl ?_
      obtain ⟨a11, b12, hf⟩ := Option.bind_eq_some_iff.mp hf
      refine GX3_53 b12 dX3_addBox_25 rfl ?_
      obtain ⟨a13, b14, hf⟩ := Option.bind_eq_some_iff.mp hf
      refine GX3_311 b14 dX3_addBox_28 rfl ?_
      refine w_sipush dX3_addBox_31 (v := 1559) (by decide) ?_
      obtain ⟨x15, b16, hf⟩ := Option.bind_eq_some_iff.mp hf
      refine x_rI b16 dX3_addBox_34 ?_
      refine w_i2l dX3_addBox_35 ?_
      refine w_iload_n dX3_addBox_36 rfl rfl ?_
      refine w_i2l dX3_addBox_37 ?_
      refine w_lsub dX3_addBox_38 ?_
      refine w_aload_n dX3_addBox_39 rfl rfl ?_
      obtain ⟨a17, b18, hf⟩ := Option.bind_eq_some_iff.mp hf
      refine GX3_36 b18 dX3_addBox_40 rfl ?_
      refine w_iload_n dX3_addBox_43 rfl rfl ?_
      obtain ⟨a19, b20, hf⟩ := Option.bind_eq_some_iff.mp hf
      refine x_rA (c := 104) (by decide) b20 dX3_addBox_44 ?_
      obtain ⟨x21, b22, hf⟩ := Option.bind_eq_some_iff.mp hf
      refine GX3_327 b22 dX3_addBox_45 rfl ?_
      refine w_i2l dX3_addBox_48 ?_
      refine w_lsub dX3_addBox_49 ?_
      obtain ⟨_, b23, hf⟩ := Option.bind_eq_some_iff.mp hf
      refine x_ctV hf (e_stV (Yc := YX3_addBetween) (ci := 2) (av := [.long (((x15).toInt64 - (x8).toInt64) - (x21).toInt64)]) (st := []) dX3_addBox_50 q3852 mX3_addBetween rfl (k_ok_some b23).1 (k_ok_some b23).2) mX3_addBetween.2.2.1 mX3_addBetween.2.2.2.2.1 (Nat.le_of_ble_eq_true rfl) (Nat.le_of_ble_eq_true rfl) rfl (fun q hq => pX3_addBetween (by omega) hq) (fun x24 h25 hf => ?_)
      exact (pX3_addBox_b53 hd hf).to ⟨rfl, rfl, rfl, trivial⟩
abbrev cX3_line : ByteArray := prog_26_method_35_code
def yX3_line : MethodName := ⟨RX3, "line", "(I)V"⟩
def YX3_line : eY := (yX3_line, cX3_line, 5, none, [])
theorem mX3_line : e_mv YX3_line RX3 1 := ⟨q3842, qs178, q3843, by decide, by decide +kernel, (e_sig (by decide +kernel))⟩
theorem dX3_line_0 : decode cX3_line 0 = .ok (.aload_n 0, 1) := dc_42 (by decide +kernel)
theorem dX3_line_1 : decode cX3_line 1 = .ok (.getfield 133, 3) := dc_180 (a := 0) (b := 133) (n := 133) (by decide +kernel)
theorem dX3_line_4 : decode cX3_line 4 = .ok (.iconst 0, 1) := dc_3 (by decide +kernel)
theorem dX3_line_5 : decode cX3_line 5 = .ok (.putfield 210, 3) := dc_181 (a := 0) (b := 210) (n := 210) (by decide +kernel)
theorem dX3_line_8 : decode cX3_line 8 = .ok (.aload_n 0, 1) := dc_42 (by decide +kernel)
theorem dX3_line_9 : decode cX3_line 9 = .ok (.iconst 0, 1) := dc_3 (by decide +kernel)
theorem dX3_line_10 : decode cX3_line 10 = .ok (.invokevirtual 556, 3) := dc_182 (a := 2) (b := 44) (n := 556) (by decide +kernel)
theorem dX3_line_13 : decode cX3_line 13 = .ok (.aload_n 0, 1) := dc_42 (by decide +kernel)
theorem dX3_line_14 : decode cX3_line 14 = .ok (.getfield 87, 3) := dc_180 (a := 0) (b := 87) (n := 87) (by decide +kernel)
theorem dX3_line_17 : decode cX3_line 17 = .ok (.getfield 559, 3) := dc_180 (a := 2) (b := 47) (n := 559) (by decide +kernel)
theorem dX3_line_20 : decode cX3_line 20 = .ok (.iload_n 1, 1) := dc_27 (by decide +kernel)
theorem dX3_line_21 : decode cX3_line 21 = .ok (.iaload, 1) := dc_46 (by decide +kernel)
theorem dX3_line_22 : decode cX3_line 22 = .ok (.istore_n 2, 1) := dc_61 (by decide +kernel)
theorem dX3_line_23 : decode cX3_line 23 = .ok (.aload_n 0, 1) := dc_42 (by decide +kernel)
theorem dX3_line_24 : decode cX3_line 24 = .ok (.getfield 87, 3) := dc_180 (a := 0) (b := 87) (n := 87) (by decide +kernel)
theorem dX3_line_27 : decode cX3_line 27 = .ok (.getfield 561, 3) := dc_180 (a := 2) (b := 49) (n := 561) (by decide +kernel)
theorem dX3_line_30 : decode cX3_line 30 = .ok (.iload_n 1, 1) := dc_27 (by decide +kernel)
theorem dX3_line_31 : decode cX3_line 31 = .ok (.iaload, 1) := dc_46 (by decide +kernel)
theorem dX3_line_32 : decode cX3_line 32 = .ok (.istore_n 3, 1) := dc_62 (by decide +kernel)
theorem dX3_line_33 : decode cX3_line 33 = .ok (.iload_n 3, 1) := dc_29 (by decide +kernel)
theorem dX3_line_34 : decode cX3_line 34 = .ok (.iload_n 2, 1) := dc_28 (by decide +kernel)
theorem dX3_line_35 : decode cX3_line 35 = .ok (.if_icmp .ge 54, 3) := dc_162 (a := 0) (b := 54) (v := 54) (by decide +kernel)
theorem dX3_line_38 : decode cX3_line 38 = .ok (.iload_n 3, 1) := dc_29 (by decide +kernel)
theorem dX3_line_39 : decode cX3_line 39 = .ok (.aload_n 0, 1) := dc_42 (by decide +kernel)
theorem dX3_line_40 : decode cX3_line 40 = .ok (.getfield 130, 3) := dc_180 (a := 0) (b := 130) (n := 130) (by decide +kernel)
theorem dX3_line_43 : decode cX3_line 43 = .ok (.getfield 210, 3) := dc_180 (a := 0) (b := 210) (n := 210) (by decide +kernel)
theorem dX3_line_46 : decode cX3_line 46 = .ok (.if_icmp .ge 18, 3) := dc_162 (a := 0) (b := 18) (v := 18) (by decide +kernel)
theorem dX3_line_49 : decode cX3_line 49 = .ok (.aload_n 0, 1) := dc_42 (by decide +kernel)
theorem dX3_line_50 : decode cX3_line 50 = .ok (.getfield 133, 3) := dc_180 (a := 0) (b := 133) (n := 133) (by decide +kernel)
theorem dX3_line_53 : decode cX3_line 53 = .ok (.aload_n 0, 1) := dc_42 (by decide +kernel)
theorem dX3_line_54 : decode cX3_line 54 = .ok (.getfield 130, 3) := dc_180 (a := 0) (b := 130) (n := 130) (by decide +kernel)
theorem dX3_line_57 : decode cX3_line 57 = .ok (.iload_n 3, 1) := dc_29 (by decide +kernel)
theorem dX3_line_58 : decode cX3_line 58 = .ok (.invokevirtual 521, 3) := dc_182 (a := 2) (b := 9) (n := 521) (by decide +kernel)
theorem dX3_line_61 : decode cX3_line 61 = .ok (.goto 22, 3) := dc_167 (a := 0) (b := 22) (v := 22) (by decide +kernel)
theorem dX3_line_64 : decode cX3_line 64 = .ok (.iload_n 3, 1) := dc_29 (by decide +kernel)
theorem dX3_line_65 : decode cX3_line 65 = .ok (.aload_n 0, 1) := dc_42 (by decide +kernel)
theorem dX3_line_66 : decode cX3_line 66 = .ok (.getfield 130, 3) := dc_180 (a := 0) (b := 130) (n := 130) (by decide +kernel)
theorem dX3_line_69 : decode cX3_line 69 = .ok (.getfield 210, 3) := dc_180 (a := 0) (b := 210) (n := 210) (by decide +kernel)
theorem dX3_line_72 : decode cX3_line 72 = .ok (.iconst 1, 1) := dc_4 (by decide +kernel)
theorem dX3_line_73 : decode cX3_line 73 = .ok (.iadd, 1) := dc_96 (by decide +kernel)
theorem dX3_line_74 : decode cX3_line 74 = .ok (.if_icmp .ne 9, 3) := dc_160 (a := 0) (b := 9) (v := 9) (by decide +kernel)
theorem dX3_line_77 : decode cX3_line 77 = .ok (.aload_n 0, 1) := dc_42 (by decide +kernel)
theorem dX3_line_78 : decode cX3_line 78 = .ok (.bipush 8, 2) := dc_16 (a := 8) (v := 8) (by decide +kernel)
theorem dX3_line_80 : decode cX3_line 80 = .ok (.invokevirtual 556, 3) := dc_182 (a := 2) (b := 44) (n := 556) (by decide +kernel)
theorem dX3_line_83 : decode cX3_line 83 = .ok (.iinc 3 1, 3) := dc_132 (a := 3) (b := 1) (v := 1) (by decide +kernel)
theorem dX3_line_86 : decode cX3_line 86 = .ok (.goto (-53), 3) := dc_167 (a := 255) (b := 203) (v := -53) (by decide +kernel)
theorem dX3_line_89 : decode cX3_line 89 = .ok (.iload_n 2, 1) := dc_28 (by decide +kernel)
theorem dX3_line_90 : decode cX3_line 90 = .ok (.aload_n 0, 1) := dc_42 (by decide +kernel)
theorem dX3_line_91 : decode cX3_line 91 = .ok (.getfield 130, 3) := dc_180 (a := 0) (b := 130) (n := 130) (by decide +kernel)
theorem dX3_line_94 : decode cX3_line 94 = .ok (.getfield 210, 3) := dc_180 (a := 0) (b := 210) (n := 210) (by decide +kernel)
theorem dX3_line_97 : decode cX3_line 97 = .ok (.if_icmp .ge 87, 3) := dc_162 (a := 0) (b := 87) (v := 87) (by decide +kernel)
theorem dX3_line_100 : decode cX3_line 100 = .ok (.aload_n 0, 1) := dc_42 (by decide +kernel)
theorem dX3_line_101 : decode cX3_line 101 = .ok (.getfield 130, 3) := dc_180 (a := 0) (b := 130) (n := 130) (by decide +kernel)
theorem dX3_line_104 : decode cX3_line 104 = .ok (.iload_n 2, 1) := dc_28 (by decide +kernel)
theorem dX3_line_105 : decode cX3_line 105 = .ok (.invokevirtual 359, 3) := dc_182 (a := 1) (b := 103) (n := 359) (by decide +kernel)
theorem dX3_line_108 : decode cX3_line 108 = .ok (.bipush 6, 2) := dc_16 (a := 6) (v := 6) (by decide +kernel)
theorem dX3_line_110 : decode cX3_line 110 = .ok (.if_icmp .ne 74, 3) := dc_160 (a := 0) (b := 74) (v := 74) (by decide +kernel)
theorem dX3_line_113 : decode cX3_line 113 = .ok (.aload_n 0, 1) := dc_42 (by decide +kernel)
theorem dX3_line_114 : decode cX3_line 114 = .ok (.getfield 130, 3) := dc_180 (a := 0) (b := 130) (n := 130) (by decide +kernel)
theorem dX3_line_117 : decode cX3_line 117 = .ok (.iload_n 2, 1) := dc_28 (by decide +kernel)
theorem dX3_line_118 : decode cX3_line 118 = .ok (.iconst 3, 1) := dc_6 (by decide +kernel)
theorem dX3_line_119 : decode cX3_line 119 = .ok (.invokevirtual 363, 3) := dc_182 (a := 1) (b := 107) (n := 363) (by decide +kernel)
theorem dX3_line_122 : decode cX3_line 122 = .ok (.iconst 1, 1) := dc_4 (by decide +kernel)
theorem dX3_line_123 : decode cX3_line 123 = .ok (.if_icmp .ne 61, 3) := dc_160 (a := 0) (b := 61) (v := 61) (by decide +kernel)
theorem dX3_line_126 : decode cX3_line 126 = .ok (.aload_n 0, 1) := dc_42 (by decide +kernel)
theorem dX3_line_127 : decode cX3_line 127 = .ok (.getfield 130, 3) := dc_180 (a := 0) (b := 130) (n := 130) (by decide +kernel)
theorem dX3_line_130 : decode cX3_line 130 = .ok (.iload_n 2, 1) := dc_28 (by decide +kernel)
theorem dX3_line_131 : decode cX3_line 131 = .ok (.iconst 1, 1) := dc_4 (by decide +kernel)
theorem dX3_line_132 : decode cX3_line 132 = .ok (.invokevirtual 363, 3) := dc_182 (a := 1) (b := 107) (n := 363) (by decide +kernel)
theorem dX3_line_135 : decode cX3_line 135 = .ok (.istore_n 3, 1) := dc_62 (by decide +kernel)
theorem dX3_line_136 : decode cX3_line 136 = .ok (.aload_n 0, 1) := dc_42 (by decide +kernel)
theorem dX3_line_137 : decode cX3_line 137 = .ok (.getfield 23, 3) := dc_180 (a := 0) (b := 23) (n := 23) (by decide +kernel)
theorem dX3_line_140 : decode cX3_line 140 = .ok (.getfield 448, 3) := dc_180 (a := 1) (b := 192) (n := 448) (by decide +kernel)
theorem dX3_line_143 : decode cX3_line 143 = .ok (.iload_n 3, 1) := dc_29 (by decide +kernel)
theorem dX3_line_144 : decode cX3_line 144 = .ok (.bipush 8, 2) := dc_16 (a := 8) (v := 8) (by decide +kernel)
theorem dX3_line_146 : decode cX3_line 146 = .ok (.ishr, 1) := dc_122 (by decide +kernel)
theorem dX3_line_147 : decode cX3_line 147 = .ok (.aaload, 1) := dc_50 (by decide +kernel)
theorem dX3_line_148 : decode cX3_line 148 = .ok (.astore 4, 2) := dc_58 (a := 4) (by decide +kernel)
theorem dX3_line_150 : decode cX3_line 150 = .ok (.aload_n 0, 1) := dc_42 (by decide +kernel)
theorem dX3_line_151 : decode cX3_line 151 = .ok (.getfield 133, 3) := dc_180 (a := 0) (b := 133) (n := 133) (by decide +kernel)
theorem dX3_line_154 : decode cX3_line 154 = .ok (.iconst 0, 1) := dc_3 (by decide +kernel)
theorem dX3_line_155 : decode cX3_line 155 = .ok (.iload_n 3, 1) := dc_29 (by decide +kernel)
theorem dX3_line_156 : decode cX3_line 156 = .ok (.aload 4, 2) := dc_25 (a := 4) (by decide +kernel)
theorem dX3_line_158 : decode cX3_line 158 = .ok (.bipush 45, 2) := dc_16 (a := 45) (v := 45) (by decide +kernel)
theorem dX3_line_160 : decode cX3_line 160 = .ok (.iconst 0, 1) := dc_3 (by decide +kernel)
theorem dX3_line_161 : decode cX3_line 161 = .ok (.invokevirtual 470, 3) := dc_182 (a := 1) (b := 214) (n := 470) (by decide +kernel)
theorem dX3_line_164 : decode cX3_line 164 = .ok (.aload 4, 2) := dc_25 (a := 4) (by decide +kernel)
theorem dX3_line_166 : decode cX3_line 166 = .ok (.bipush 45, 2) := dc_16 (a := 45) (v := 45) (by decide +kernel)
theorem dX3_line_168 : decode cX3_line 168 = .ok (.iconst 1, 1) := dc_4 (by decide +kernel)
theorem dX3_line_169 : decode cX3_line 169 = .ok (.invokevirtual 470, 3) := dc_182 (a := 1) (b := 214) (n := 470) (by decide +kernel)
theorem dX3_line_172 : decode cX3_line 172 = .ok (.aload 4, 2) := dc_25 (a := 4) (by decide +kernel)
theorem dX3_line_174 : decode cX3_line 174 = .ok (.bipush 45, 2) := dc_16 (a := 45) (v := 45) (by decide +kernel)
theorem dX3_line_176 : decode cX3_line 176 = .ok (.iconst 2, 1) := dc_5 (by decide +kernel)
theorem dX3_line_177 : decode cX3_line 177 = .ok (.invokevirtual 470, 3) := dc_182 (a := 1) (b := 214) (n := 470) (by decide +kernel)
theorem dX3_line_180 : decode cX3_line 180 = .ok (.iconst 0, 1) := dc_3 (by decide +kernel)
theorem dX3_line_181 : decode cX3_line 181 = .ok (.invokevirtual 322, 3) := dc_182 (a := 1) (b := 66) (n := 322) (by decide +kernel)
theorem dX3_line_184 : decode cX3_line 184 = .ok (.aload_n 0, 1) := dc_42 (by decide +kernel)
theorem dX3_line_185 : decode cX3_line 185 = .ok (.iconst 4, 1) := dc_7 (by decide +kernel)
theorem dX3_line_186 : decode cX3_line 186 = .ok (.invokevirtual 556, 3) := dc_182 (a := 2) (b := 44) (n := 556) (by decide +kernel)
theorem dX3_line_189 : decode cX3_line 189 = .ok (.aload_n 0, 1) := dc_42 (by decide +kernel)
theorem dX3_line_190 : decode cX3_line 190 = .ok (.aload_n 0, 1) := dc_42 (by decide +kernel)
theorem dX3_line_191 : decode cX3_line 191 = .ok (.aload_n 0, 1) := dc_42 (by decide +kernel)
theorem dX3_line_192 : decode cX3_line 192 = .ok (.getfield 133, 3) := dc_180 (a := 0) (b := 133) (n := 133) (by decide +kernel)
theorem dX3_line_195 : decode cX3_line 195 = .ok (.iconst 0, 1) := dc_3 (by decide +kernel)
theorem dX3_line_196 : decode cX3_line 196 = .ok (.iconst 0, 1) := dc_3 (by decide +kernel)
theorem dX3_line_197 : decode cX3_line 197 = .ok (.iconst 1, 1) := dc_4 (by decide +kernel)
theorem dX3_line_198 : decode cX3_line 198 = .ok (.aload_n 0, 1) := dc_42 (by decide +kernel)
theorem dX3_line_199 : decode cX3_line 199 = .ok (.getfield 87, 3) := dc_180 (a := 0) (b := 87) (n := 87) (by decide +kernel)
theorem dX3_line_202 : decode cX3_line 202 = .ok (.getfield 564, 3) := dc_180 (a := 2) (b := 52) (n := 564) (by decide +kernel)
theorem dX3_line_205 : decode cX3_line 205 = .ok (.iconst 0, 1) := dc_3 (by decide +kernel)
theorem dX3_line_206 : decode cX3_line 206 = .ok (.iaload, 1) := dc_46 (by decide +kernel)
theorem dX3_line_207 : decode cX3_line 207 = .ok (.invokevirtual 314, 3) := dc_182 (a := 1) (b := 58) (n := 314) (by decide +kernel)
theorem dX3_line_210 : decode cX3_line 210 = .ok (.iconst 0, 1) := dc_3 (by decide +kernel)
theorem dX3_line_211 : decode cX3_line 211 = .ok (.invokevirtual 438, 3) := dc_182 (a := 1) (b := 182) (n := 438) (by decide +kernel)
theorem dX3_line_214 : decode cX3_line 214 = .ok (.return_, 1) := dc_177 (by decide +kernel)
theorem GX3_130 {w : eW} {d : Nat} {Y : eY} {pc : Nat} {ls : eL} {st : List Value} {h : eH} {Q : eO → eH → Prop} {a : Nat} {x : Nat} (hf : g_A 2 h a 17 = some x) (hd : decode Y.2.1 pc = .ok (.getfield 130, 3)) (hY : Y.1.cls = RX3) (kk : wp w d Y (pc + 3) ls (.ref x :: st) h Q) : wp w d Y pc ls (.ref a :: st) h Q := x_gA (ci := 2) (k := 17) hf hd rfl (by decide) (by rw [hY]; exact q1809) kk
theorem GX3_559 {w : eW} {d : Nat} {Y : eY} {pc : Nat} {ls : eL} {st : List Value} {h : eH} {Q : eO → eH → Prop} {a : Nat} {x : Nat} (hf : g_A 20 h a 8 = some x) (hd : decode Y.2.1 pc = .ok (.getfield 559, 3)) (hY : Y.1.cls = RX3) (kk : wp w d Y (pc + 3) ls (.ref x :: st) h Q) : wp w d Y pc ls (.ref a :: st) h Q := x_gAN (ci := 20) (k := 8) hf hd rfl (by decide) (by rw [hY]; exact q1461) kk
theorem GX3_561 {w : eW} {d : Nat} {Y : eY} {pc : Nat} {ls : eL} {st : List Value} {h : eH} {Q : eO → eH → Prop} {a : Nat} {x : Nat} (hf : g_A 20 h a 9 = some x) (hd : decode Y.2.1 pc = .ok (.getfield 561, 3)) (hY : Y.1.cls = RX3) (kk : wp w d Y (pc + 3) ls (.ref x :: st) h Q) : wp w d Y pc ls (.ref a :: st) h Q := x_gAN (ci := 20) (k := 9) hf hd rfl (by decide) (by rw [hY]; exact q1463) kk
theorem GX3_564 {w : eW} {d : Nat} {Y : eY} {pc : Nat} {ls : eL} {st : List Value} {h : eH} {Q : eO → eH → Prop} {a : Nat} {x : Nat} (hf : g_A 20 h a 3 = some x) (hd : decode Y.2.1 pc = .ok (.getfield 564, 3)) (hY : Y.1.cls = RX3) (kk : wp w d Y (pc + 3) ls (.ref x :: st) h Q) : wp w d Y pc ls (.ref a :: st) h Q := x_gAN (ci := 20) (k := 3) hf hd rfl (by decide) (by rw [hY]; exact q1451) kk
def fX3_line_b83 (N : Nat) (k33 : Nat → Int32 → Int32 → eH → Option ((Unit ⊕ Nat) × eH)) (l0 : Nat) (l2 : Int32) (l3 : Int32) (h : eH) : Option ((Unit ⊕ Nat) × eH) :=
  k33 l0 l2 (l3 + (1 : Int32)) h
theorem pX3_line_b83 {w : eW} {d : Nat} (hd : 15 ≤ d + 1) {N : Nat} {k33 : Nat → Int32 → Int32 → eH → Option ((Unit ⊕ Nat) × eH)} (hk33 : ∀ l0 l2 l3 h q, k33 l0 l2 l3 h = some q → wp w (d + 1) YX3_line 33 [some (.ref l0), none, some (.int l2), some (.int l3), none] [] h (e_is (e_rt c_V q))) {l0 : Nat} {l2 : Int32} {l3 : Int32} {h : eH} {q} (hf : fX3_line_b83 N k33 l0 l2 l3 h = some q) : wp w (d + 1) YX3_line 83 [some (.ref l0), none, some (.int l2), some (.int l3), none] [] h (e_is (e_rt c_V q)) := by
  unfold fX3_line_b83 at hf
  refine w_iinc dX3_line_83 (v := (l3 + (1 : Int32))) rfl rfl (by decide) (ls' := [some (.ref l0), none, some (.int l2), some (.int (l3 + (1 : Int32))), none]) rfl ?_
  refine w_goto 33 dX3_line_86 (by decide) ?_
  exact (hk33 _ _ _ _ _ hf).to ⟨rfl, rfl, rfl, trivial⟩
def fX3_line_b184 (N : Nat) (l0 : Nat) (h : eH) : Option ((Unit ⊕ Nat) × eH) :=
  (k_ok 2 h l0).bind fun _ =>
  (fX3_rowGlue l0 (4 : Int32) h).bind fun q2 =>
  (g_A 2 q2.2 l0 18).bind fun a3 =>
  (g_A 2 q2.2 l0 11).bind fun a5 =>
  (g_A 20 q2.2 a5 3).bind fun a7 =>
  (r_I 100 q2.2 a7 (0 : Int32)).bind fun x9 =>
  (k_ok 2 q2.2 l0).bind fun _ =>
  t_B (fX3_pack N l0 a3 (0 : Int32) (0 : Int32) (1 : Int32) x9 q2.2) fun x12 h13 =>
  (k_ok 2 h13 l0).bind fun _ =>
  t_B (fX3_addBox N l0 x12 (0 : Int32) h13) fun x15 h16 =>
  some (.inl (), h16)
theorem pX3_line_b184 {w : eW} {d : Nat} (hd : 15 ≤ d + 1) {N : Nat} {l0 : Nat} {h : eH} {q} (hf : fX3_line_b184 N l0 h = some q) : wp w (d + 1) YX3_line 184 [some (.ref l0), none, none, none, none] [] h (e_is (e_rt c_V q)) := by
  unfold fX3_line_b184 at hf
  refine w_aload_n dX3_line_184 rfl rfl ?_
  refine w_iconst dX3_line_185 (v := 4) (by decide) ?_
  obtain ⟨_, b1, hf⟩ := Option.bind_eq_some_iff.mp hf
  refine x_cnV hf (e_stV (Yc := YX3_rowGlue) (ci := 2) (av := [.int (4 : Int32)]) (st := []) dX3_line_186 q3844 mX3_rowGlue rfl (k_ok_some b1).1 (k_ok_some b1).2) mX3_rowGlue.2.2.1 mX3_rowGlue.2.2.2.2.1 (Nat.le_of_ble_eq_true rfl) (Nat.le_of_ble_eq_true rfl) (fun q hq => pX3_rowGlue (by omega) hq) (fun q2 hf => ?_)
  refine w_aload_n dX3_line_189 rfl rfl ?_
  refine w_aload_n dX3_line_190 rfl rfl ?_
  refine w_aload_n dX3_line_191 rfl rfl ?_
  obtain ⟨a3, b4, hf⟩ := Option.bind_eq_some_iff.mp hf
  refine GX3_133 b4 dX3_line_192 rfl ?_
  refine w_iconst dX3_line_195 (v := 0) (by decide) ?_
  refine w_iconst dX3_line_196 (v := 0) (by decide) ?_
  refine w_iconst dX3_line_197 (v := 1) (by decide) ?_
  refine w_aload_n dX3_line_198 rfl rfl ?_
  obtain ⟨a5, b6, hf⟩ := Option.bind_eq_some_iff.mp hf
  refine GX3_87 b6 dX3_line_199 rfl ?_
  obtain ⟨a7, b8, hf⟩ := Option.bind_eq_some_iff.mp hf
  refine GX3_564 b8 dX3_line_202 rfl ?_
  refine w_iconst dX3_line_205 (v := 0) (by decide) ?_
  obtain ⟨x9, b10, hf⟩ := Option.bind_eq_some_iff.mp hf
  refine x_rI b10 dX3_line_206 ?_
  obtain ⟨_, b11, hf⟩ := Option.bind_eq_some_iff.mp hf
  refine x_ctI hf (e_stV (Yc := YX3_pack) (ci := 2) (av := [.ref a3, .int (0 : Int32), .int (0 : Int32), .int (1 : Int32), .int x9]) (st := [.ref l0]) dX3_line_207 q3486 mX3_pack rfl (k_ok_some b11).1 (k_ok_some b11).2) mX3_pack.2.2.1 mX3_pack.2.2.2.2.1 (Nat.le_of_ble_eq_true rfl) (Nat.le_of_ble_eq_true rfl) rfl (fun q hq => pX3_pack (by omega) hq) (fun x12 h13 hf => ?_)
  refine w_iconst dX3_line_210 (v := 0) (by decide) ?_
  obtain ⟨_, b14, hf⟩ := Option.bind_eq_some_iff.mp hf
  refine x_ctV hf (e_stV (Yc := YX3_addBox) (ci := 2) (av := [.int x12, .int (0 : Int32)]) (st := []) dX3_line_211 q3848 mX3_addBox rfl (k_ok_some b14).1 (k_ok_some b14).2) mX3_addBox.2.2.1 mX3_addBox.2.2.2.2.1 (Nat.le_of_ble_eq_true rfl) (Nat.le_of_ble_eq_true rfl) rfl (fun q hq => pX3_addBox (by omega) hq) (fun x15 h16 hf => ?_)
  cases hf
  exact w_vret dX3_line_214 rfl rfl
def fX3_line_b33 (N : Nat) : Nat → Nat → Int32 → Int32 → eH → Option ((Unit ⊕ Nat) × eH)
  | 0, _, _, _, _ => none
  | n + 1, l0, l2, l3, h =>
    if l2 ≤ l3 then
      (g_A 2 h l0 17).bind fun a2 =>
      (g_I 33 h a2 1).bind fun x4 =>
      if x4 ≤ l2 then
        fX3_line_b184 N l0 h
      else
        (g_A 2 h l0 17).bind fun a7 =>
        (k_ok 33 h a7).bind fun _ =>
        (fX34_kind a7 l2 h).bind fun q10 =>
        if ¬ q10.1 = (6 : Int32) then
          fX3_line_b184 N l0 q10.2
        else
          (g_A 2 q10.2 l0 17).bind fun a12 =>
          (k_ok 33 q10.2 a12).bind fun _ =>
          (fX34_of a12 l2 (3 : Int32) q10.2).bind fun q15 =>
          if ¬ q15.1 = (1 : Int32) then
            fX3_line_b184 N l0 q15.2
          else
            (g_A 2 q15.2 l0 17).bind fun a17 =>
            (k_ok 33 q15.2 a17).bind fun _ =>
            (fX34_of a17 l2 (1 : Int32) q15.2).bind fun q20 =>
            (g_A 2 q20.2 l0 1).bind fun a21 =>
            (g_A 4 q20.2 a21 1).bind fun a23 =>
            (r_A 105 q20.2 a23 (q20.1 >>> ((8 : Int32) &&& 31))).bind fun a25 =>
            (g_A 2 q20.2 l0 18).bind fun a27 =>
            (k_ok 5 q20.2 a25).bind fun _ =>
            (fX6_of a25 (45 : Int32) (0 : Int32) q20.2).bind fun q30 =>
            (k_ok 5 q30.2 a25).bind fun _ =>
            (fX6_of a25 (45 : Int32) (1 : Int32) q30.2).bind fun q32 =>
            (k_ok 5 q32.2 a25).bind fun _ =>
            (fX6_of a25 (45 : Int32) (2 : Int32) q32.2).bind fun q34 =>
            (k_ok 33 q34.2 a27).bind fun _ =>
            (fX34_add a27 (0 : Int32) q20.1 q30.1 q32.1 q34.1 (0 : Int32) q34.2).bind fun q36 =>
            fX3_line_b184 N l0 q36.2
    else
      (g_A 2 h l0 17).bind fun a37 =>
      (g_I 33 h a37 1).bind fun x39 =>
      if x39 ≤ l3 then
        (g_A 2 h l0 17).bind fun a42 =>
        (g_I 33 h a42 1).bind fun x44 =>
        if ¬ l3 = (x44 + (1 : Int32)) then
          fX3_line_b83 N (fX3_line_b33 N n) l0 l2 l3 h
        else
          (k_ok 2 h l0).bind fun _ =>
          (fX3_rowGlue l0 (8 : Int32) h).bind fun q48 =>
          fX3_line_b83 N (fX3_line_b33 N n) l0 l2 l3 q48.2
      else
        (g_A 2 h l0 18).bind fun a49 =>
        (g_A 2 h l0 17).bind fun a51 =>
        (k_ok 33 h a49).bind fun _ =>
        (fX34_copy a49 a51 l3 h).bind fun q54 =>
        fX3_line_b83 N (fX3_line_b33 N n) l0 l2 l3 q54.2
theorem pX3_line_b33 {w : eW} {d : Nat} (hd : 15 ≤ d + 1) {N : Nat} : ∀ (n : Nat) l0 l2 l3 h q, fX3_line_b33 N n l0 l2 l3 h = some q → wp w (d + 1) YX3_line 33 [some (.ref l0), none, some (.int l2), some (.int l3), none] [] h (e_is (e_rt c_V q)) := by
  intro n
  induction n with
  | zero => intro l0 l2 l3 h q hf; simp [fX3_line_b33] at hf
  | succ n ih =>
    intro l0 l2 l3 h q hf
    rw [fX3_line_b33] at hf
    refine w_iload_n dX3_line_33 rfl rfl ?_
    refine w_iload_n dX3_line_34 rfl rfl ?_
    refine w_icmp_ge 89 dX3_line_35 (by decide) (fun c1 => ?_) (fun c1 => ?_)
    · replace hf := (if_pos (show l2 ≤ l3 from c1)).symm.trans hf
      refine w_iload_n dX3_line_89 rfl rfl ?_
      refine w_aload_n dX3_line_90 rfl rfl ?_
      obtain ⟨a2, b3, hf⟩ := Option.bind_eq_some_iff.mp hf
      refine GX3_130 b3 dX3_line_91 rfl ?_
      obtain ⟨x4, b5, hf⟩ := Option.bind_eq_some_iff.mp hf
      refine GX3_210 b5 dX3_line_94 rfl ?_
      refine w_icmp_ge 184 dX3_line_97 (by decide) (fun c6 => ?_) (fun c6 => ?_)
      · replace hf := (if_pos (show x4 ≤ l2 from c6)).symm.trans hf
        exact (pX3_line_b184 hd hf).to ⟨rfl, trivial⟩
      · replace hf := (if_neg (show ¬ (x4 ≤ l2) from c6)).symm.trans hf
        refine w_aload_n dX3_line_100 rfl rfl ?_
        obtain ⟨a7, b8, hf⟩ := Option.bind_eq_some_iff.mp hf
        refine GX3_130 b8 dX3_line_101 rfl ?_
        refine w_iload_n dX3_line_104 rfl rfl ?_
        obtain ⟨_, b9, hf⟩ := Option.bind_eq_some_iff.mp hf
        refine x_cnI hf (e_stV (Yc := YX34_kind) (ci := 33) (av := [.int l2]) (st := []) dX3_line_105 q3157 mX34_kind rfl (k_ok_some b9).1 (k_ok_some b9).2) mX34_kind.2.2.1 mX34_kind.2.2.2.2.1 (Nat.le_of_ble_eq_true rfl) (Nat.le_of_ble_eq_true rfl) (fun q hq => pX34_kind (by omega) hq) (fun q10 hf => ?_)
        refine w_bipush dX3_line_108 (v := 6) (by decide) ?_
        refine w_icmp_ne 184 dX3_line_110 (by decide) (fun c11 => ?_) (fun c11 => ?_)
        · replace hf := (if_pos (show ¬ q10.1 = (6 : Int32) from c11)).symm.trans hf
          exact (pX3_line_b184 hd hf).to ⟨rfl, trivial⟩
        · replace hf := (if_neg (show ¬ (¬ q10.1 = (6 : Int32)) from (fun z => z c11))).symm.trans hf
          refine w_aload_n dX3_line_113 rfl rfl ?_
          obtain ⟨a12, b13, hf⟩ := Option.bind_eq_some_iff.mp hf
          refine GX3_130 b13 dX3_line_114 rfl ?_
          refine w_iload_n dX3_line_117 rfl rfl ?_
          refine w_iconst dX3_line_118 (v := 3) (by decide) ?_
          obtain ⟨_, b14, hf⟩ := Option.bind_eq_some_iff.mp hf
          refine x_cnI hf (e_stV (Yc := YX34_of) (ci := 33) (av := [.int l2, .int (3 : Int32)]) (st := []) dX3_line_119 q3161 mX34_of rfl (k_ok_some b14).1 (k_ok_some b14).2) mX34_of.2.2.1 mX34_of.2.2.2.2.1 (Nat.le_of_ble_eq_true rfl) (Nat.le_of_ble_eq_true rfl) (fun q hq => pX34_of (by omega) hq) (fun q15 hf => ?_)
          refine w_iconst dX3_line_122 (v := 1) (by decide) ?_
          refine w_icmp_ne 184 dX3_line_123 (by decide) (fun c16 => ?_) (fun c16 => ?_)
          · replace hf := (if_pos (show ¬ q15.1 = (1 : Int32) from c16)).symm.trans hf
            exact (pX3_line_b184 hd hf).to ⟨rfl, trivial⟩
          · replace hf := (if_neg (show ¬ (¬ q15.1 = (1 : Int32)) from (fun z => z c16))).symm.trans hf
            refine w_aload_n dX3_line_126 rfl rfl ?_
            obtain ⟨a17, b18, hf⟩ := Option.bind_eq_some_iff.mp hf
            refine GX3_130 b18 dX3_line_127 rfl ?_
            refine w_iload_n dX3_line_130 rfl rfl ?_
            refine w_iconst dX3_line_131 (v := 1) (by decide) ?_
            obtain ⟨_, b19, hf⟩ := Option.bind_eq_some_iff.mp hf
            refine x_cnI hf (e_stV (Yc := YX34_of) (ci := 33) (av := [.int l2, .int (1 : Int32)]) (st := []) dX3_line_132 q3161 mX34_of rfl (k_ok_some b19).1 (k_ok_some b19).2) mX34_of.2.2.1 mX34_of.2.2.2.2.1 (Nat.le_of_ble_eq_true rfl) (Nat.le_of_ble_eq_true rfl) (fun q hq => pX34_of (by omega) hq) (fun q20 hf => ?_)
            refine w_istore_n dX3_line_135 rfl (by decide) (ls' := [some (.ref l0), none, some (.int l2), some (.int q20.1), none]) rfl ?_
            refine w_aload_n dX3_line_136 rfl rfl ?_
            obtain ⟨a21, b22, hf⟩ := Option.bind_eq_some_iff.mp hf
            refine GX3_23 b22 dX3_line_137 rfl ?_
            obtain ⟨a23, b24, hf⟩ := Option.bind_eq_some_iff.mp hf
            refine GX3_448 b24 dX3_line_140 rfl ?_
            refine w_iload_n dX3_line_143 rfl rfl ?_
            refine w_bipush dX3_line_144 (v := 8) (by decide) ?_
            refine w_ishr dX3_line_146 ?_
            obtain ⟨a25, b26, hf⟩ := Option.bind_eq_some_iff.mp hf
            refine x_rA (c := 105) (by decide) b26 dX3_line_147 ?_
            refine w_astore dX3_line_148 (by decide) (ls' := [some (.ref l0), none, some (.int l2), some (.int q20.1), some (.ref a25)]) rfl ?_
            refine w_aload_n dX3_line_150 rfl rfl ?_
            obtain ⟨a27, b28, hf⟩ := Option.bind_eq_some_iff.mp hf
            refine GX3_133 b28 dX3_line_151 rfl ?_
            refine w_iconst dX3_line_154 (v := 0) (by decide) ?_
            refine w_iload_n dX3_line_155 rfl rfl ?_
            refine w_aload dX3_line_156 rfl ?_
            refine w_bipush dX3_line_158 (v := 45) (by decide) ?_
            refine w_iconst dX3_line_160 (v := 0) (by decide) ?_
            obtain ⟨_, b29, hf⟩ := Option.bind_eq_some_iff.mp hf
            refine x_cnI hf (e_stV (Yc := YX6_of) (ci := 5) (av := [.int (45 : Int32), .int (0 : Int32)]) (st := [.int q20.1, .int (0 : Int32), .ref a27]) dX3_line_161 q2842 mX6_of rfl (k_ok_some b29).1 (k_ok_some b29).2) mX6_of.2.2.1 mX6_of.2.2.2.2.1 (Nat.le_of_ble_eq_true rfl) (Nat.le_of_ble_eq_true rfl) (fun q hq => pX6_of (by omega) hq) (fun q30 hf => ?_)
            refine w_aload dX3_line_164 rfl ?_
            refine w_bipush dX3_line_166 (v := 45) (by decide) ?_
            refine w_iconst dX3_line_168 (v := 1) (by decide) ?_
            obtain ⟨_, b31, hf⟩ := Option.bind_eq_some_iff.mp hf
            refine x_cnI hf (e_stV (Yc := YX6_of) (ci := 5) (av := [.int (45 : Int32), .int (1 : Int32)]) (st := [.int q30.1, .int q20.1, .int (0 : Int32), .ref a27]) dX3_line_169 q2842 mX6_of rfl (k_ok_some b31).1 (k_ok_some b31).2) mX6_of.2.2.1 mX6_of.2.2.2.2.1 (Nat.le_of_ble_eq_true rfl) (Nat.le_of_ble_eq_true rfl) (fun q hq => pX6_of (by omega) hq) (fun q32 hf => ?_)
            refine w_aload dX3_line_172 rfl ?_
            refine w_bipush dX3_line_174 (v := 45) (by decide) ?_
            refine w_iconst dX3_line_176 (v := 2) (by decide) ?_
            obtain ⟨_, b33, hf⟩ := Option.bind_eq_some_iff.mp hf
            refine x_cnI hf (e_stV (Yc := YX6_of) (ci := 5) (av := [.int (45 : Int32), .int (2 : Int32)]) (st := [.int q32.1, .int q30.1, .int q20.1, .int (0 : Int32), .ref a27]) dX3_line_177 q2842 mX6_of rfl (k_ok_some b33).1 (k_ok_some b33).2) mX6_of.2.2.1 mX6_of.2.2.2.2.1 (Nat.le_of_ble_eq_true rfl) (Nat.le_of_ble_eq_true rfl) (fun q hq => pX6_of (by omega) hq) (fun q34 hf => ?_)
            refine w_iconst dX3_line_180 (v := 0) (by decide) ?_
            obtain ⟨_, b35, hf⟩ := Option.bind_eq_some_iff.mp hf
            refine x_cnV hf (e_stV (Yc := YX34_add) (ci := 33) (av := [.int (0 : Int32), .int q20.1, .int q30.1, .int q32.1, .int q34.1, .int (0 : Int32)]) (st := []) dX3_line_181 q2837 mX34_add rfl (k_ok_some b35).1 (k_ok_some b35).2) mX34_add.2.2.1 mX34_add.2.2.2.2.1 (Nat.le_of_ble_eq_true rfl) (Nat.le_of_ble_eq_true rfl) (fun q hq => pX34_add (by omega) hq) (fun q36 hf => ?_)
            exact (pX3_line_b184 hd hf).to ⟨rfl, trivial⟩
    · replace hf := (if_neg (show ¬ (l2 ≤ l3) from c1)).symm.trans hf
      refine w_iload_n dX3_line_38 rfl rfl ?_
      refine w_aload_n dX3_line_39 rfl rfl ?_
      obtain ⟨a37, b38, hf⟩ := Option.bind_eq_some_iff.mp hf
      refine GX3_130 b38 dX3_line_40 rfl ?_
      obtain ⟨x39, b40, hf⟩ := Option.bind_eq_some_iff.mp hf
      refine GX3_210 b40 dX3_line_43 rfl ?_
      refine w_icmp_ge 64 dX3_line_46 (by decide) (fun c41 => ?_) (fun c41 => ?_)
      · replace hf := (if_pos (show x39 ≤ l3 from c41)).symm.trans hf
        refine w_iload_n dX3_line_64 rfl rfl ?_
        refine w_aload_n dX3_line_65 rfl rfl ?_
        obtain ⟨a42, b43, hf⟩ := Option.bind_eq_some_iff.mp hf
        refine GX3_130 b43 dX3_line_66 rfl ?_
        obtain ⟨x44, b45, hf⟩ := Option.bind_eq_some_iff.mp hf
        refine GX3_210 b45 dX3_line_69 rfl ?_
        refine w_iconst dX3_line_72 (v := 1) (by decide) ?_
        refine w_iadd dX3_line_73 ?_
        refine w_icmp_ne 83 dX3_line_74 (by decide) (fun c46 => ?_) (fun c46 => ?_)
        · replace hf := (if_pos (show ¬ l3 = (x44 + (1 : Int32)) from c46)).symm.trans hf
          exact (pX3_line_b83 hd ih hf).to ⟨rfl, rfl, rfl, trivial⟩
        · replace hf := (if_neg (show ¬ (¬ l3 = (x44 + (1 : Int32))) from (fun z => z c46))).symm.trans hf
          refine w_aload_n dX3_line_77 rfl rfl ?_
          refine w_bipush dX3_line_78 (v := 8) (by decide) ?_
          obtain ⟨_, b47, hf⟩ := Option.bind_eq_some_iff.mp hf
          refine x_cnV hf (e_stV (Yc := YX3_rowGlue) (ci := 2) (av := [.int (8 : Int32)]) (st := []) dX3_line_80 q3844 mX3_rowGlue rfl (k_ok_some b47).1 (k_ok_some b47).2) mX3_rowGlue.2.2.1 mX3_rowGlue.2.2.2.2.1 (Nat.le_of_ble_eq_true rfl) (Nat.le_of_ble_eq_true rfl) (fun q hq => pX3_rowGlue (by omega) hq) (fun q48 hf => ?_)
          exact (pX3_line_b83 hd ih hf).to ⟨rfl, rfl, rfl, trivial⟩
      · replace hf := (if_neg (show ¬ (x39 ≤ l3) from c41)).symm.trans hf
        refine w_aload_n dX3_line_49 rfl rfl ?_
        obtain ⟨a49, b50, hf⟩ := Option.bind_eq_some_iff.mp hf
        refine GX3_133 b50 dX3_line_50 rfl ?_
        refine w_aload_n dX3_line_53 rfl rfl ?_
        obtain ⟨a51, b52, hf⟩ := Option.bind_eq_some_iff.mp hf
        refine GX3_130 b52 dX3_line_54 rfl ?_
        refine w_iload_n dX3_line_57 rfl rfl ?_
        obtain ⟨_, b53, hf⟩ := Option.bind_eq_some_iff.mp hf
        refine x_cnV hf (e_stV (Yc := YX34_copy) (ci := 33) (av := [.ref a51, .int l3]) (st := []) dX3_line_58 q3665 mX34_copy rfl (k_ok_some b53).1 (k_ok_some b53).2) mX34_copy.2.2.1 mX34_copy.2.2.2.2.1 (Nat.le_of_ble_eq_true rfl) (Nat.le_of_ble_eq_true rfl) (fun q hq => pX34_copy (by omega) hq) (fun q54 hf => ?_)
        refine w_goto 83 dX3_line_61 (by decide) ?_
        exact (pX3_line_b83 hd ih hf).to ⟨rfl, rfl, rfl, trivial⟩
def fX3_line (N : Nat) (this : Nat) (p0 : Int32) (h : eH) : Option ((Unit ⊕ Nat) × eH) :=
  (g_A 2 h this 18).bind fun a1 =>
  (p_V 33 h a1 1 (.int (0 : Int32))).bind fun h3 =>
  (k_ok 2 h3 this).bind fun _ =>
  (fX3_rowGlue this (0 : Int32) h3).bind fun q6 =>
  (g_A 2 q6.2 this 11).bind fun a7 =>
  (g_A 20 q6.2 a7 8).bind fun a9 =>
  (r_I 100 q6.2 a9 p0).bind fun x11 =>
  (g_A 2 q6.2 this 11).bind fun a13 =>
  (g_A 20 q6.2 a13 9).bind fun a15 =>
  (r_I 100 q6.2 a15 p0).bind fun x17 =>
  fX3_line_b33 N N this x11 x17 q6.2
theorem pX3_line {w : eW} {d : Nat} (hd : 15 ≤ d) {N : Nat} {this : Nat} {p0 : Int32} {h : eH} {q} (hf : fX3_line N this p0 h = some q) : wm w d YX3_line [.ref this, .int p0] h (e_is (e_rt c_V q)) := by
  obtain ⟨d, rfl⟩ : ∃ e, d = e + 1 := ⟨d - 1, by omega⟩
  show wp w (d + 1) YX3_line 0 [some (.ref this), some (.int p0), none, none, none] [] h _
  unfold fX3_line at hf
  refine w_aload_n dX3_line_0 rfl rfl ?_
  obtain ⟨a1, b2, hf⟩ := Option.bind_eq_some_iff.mp hf
  refine GX3_133 b2 dX3_line_1 rfl ?_
  refine w_iconst dX3_line_4 (v := 0) (by decide) ?_
  obtain ⟨h3, b4, hf⟩ := Option.bind_eq_some_iff.mp hf
  refine SX3_210 b4 dX3_line_5 rfl ?_
  refine w_aload_n dX3_line_8 rfl rfl ?_
  refine w_iconst dX3_line_9 (v := 0) (by decide) ?_
  obtain ⟨_, b5, hf⟩ := Option.bind_eq_some_iff.mp hf
  refine x_cnV hf (e_stV (Yc := YX3_rowGlue) (ci := 2) (av := [.int (0 : Int32)]) (st := []) dX3_line_10 q3844 mX3_rowGlue rfl (k_ok_some b5).1 (k_ok_some b5).2) mX3_rowGlue.2.2.1 mX3_rowGlue.2.2.2.2.1 (Nat.le_of_ble_eq_true rfl) (Nat.le_of_ble_eq_true rfl) (fun q hq => pX3_rowGlue (by omega) hq) (fun q6 hf => ?_)
  refine w_aload_n dX3_line_13 rfl rfl ?_
  obtain ⟨a7, b8, hf⟩ := Option.bind_eq_some_iff.mp hf
  refine GX3_87 b8 dX3_line_14 rfl ?_
  obtain ⟨a9, b10, hf⟩ := Option.bind_eq_some_iff.mp hf
  refine GX3_559 b10 dX3_line_17 rfl ?_
  refine w_iload_n dX3_line_20 rfl rfl ?_
  obtain ⟨x11, b12, hf⟩ := Option.bind_eq_some_iff.mp hf
  refine x_rI b12 dX3_line_21 ?_
  refine w_istore_n dX3_line_22 rfl (by decide) (ls' := [some (.ref this), some (.int p0), some (.int x11), none, none]) rfl ?_
  refine w_aload_n dX3_line_23 rfl rfl ?_
  obtain ⟨a13, b14, hf⟩ := Option.bind_eq_some_iff.mp hf
  refine GX3_87 b14 dX3_line_24 rfl ?_
  obtain ⟨a15, b16, hf⟩ := Option.bind_eq_some_iff.mp hf
  refine GX3_561 b16 dX3_line_27 rfl ?_
  refine w_iload_n dX3_line_30 rfl rfl ?_
  obtain ⟨x17, b18, hf⟩ := Option.bind_eq_some_iff.mp hf
  refine x_rI b18 dX3_line_31 ?_
  refine w_istore_n dX3_line_32 rfl (by decide) (ls' := [some (.ref this), some (.int p0), some (.int x11), some (.int x17), none]) rfl ?_
  exact (pX3_line_b33 hd N _ _ _ _ _ hf).to ⟨rfl, rfl, rfl, trivial⟩
abbrev cX3_clipped : ByteArray := prog_26_method_15_code
def yX3_clipped : MethodName := ⟨RX3, "clipped", "(J)I"⟩
def YX3_clipped : eY := (yX3_clipped, cX3_clipped, 2, (Option.some FieldType.int), [])
theorem mX3_clipped : e_ms YX3_clipped 1 := ⟨q3867, q428, q3868, by decide, by decide +kernel, (e_sig (by decide +kernel))⟩
theorem dX3_clipped_0 : decode cX3_clipped 0 = .ok (.ldc2_w 336, 3) := dc_20 (a := 1) (b := 80) (n := 336) (by decide +kernel)
theorem dX3_clipped_3 : decode cX3_clipped 3 = .ok (.ldc2_w 338, 3) := dc_20 (a := 1) (b := 82) (n := 338) (by decide +kernel)
theorem dX3_clipped_6 : decode cX3_clipped 6 = .ok (.lload_n 0, 1) := dc_30 (by decide +kernel)
theorem dX3_clipped_7 : decode cX3_clipped 7 = .ok (.invokestatic 340, 3) := dc_184 (a := 1) (b := 84) (n := 340) (by decide +kernel)
theorem dX3_clipped_10 : decode cX3_clipped 10 = .ok (.invokestatic 346, 3) := dc_184 (a := 1) (b := 90) (n := 346) (by decide +kernel)
theorem dX3_clipped_13 : decode cX3_clipped 13 = .ok (.l2i, 1) := dc_136 (by decide +kernel)
theorem dX3_clipped_14 : decode cX3_clipped 14 = .ok (.ireturn, 1) := dc_172 (by decide +kernel)
def fX3_clipped (p0 : Int64) (h : eH) : Option (Int32 × eH) :=
  some (((m_maxJ (-10000 : Int64) (m_minJ (10000 : Int64) p0))).toInt32, h)
theorem pX3_clipped {w : eW} {d : Nat} (hd : 1 ≤ d) {p0 : Int64} {h : eH} {q} (hf : fX3_clipped p0 h = some q) : wm w d YX3_clipped [.long p0] h (e_is (e_rn c_I q)) := by
  obtain ⟨d, rfl⟩ : ∃ e, d = e + 1 := ⟨d - 1, by omega⟩
  show wp w (d + 1) YX3_clipped 0 [some (.long p0), none] [] h _
  unfold fX3_clipped at hf
  refine w_ldc2 dX3_clipped_0 q3869 ?_
  refine w_ldc2 dX3_clipped_3 q3870 ?_
  refine w_lload_n dX3_clipped_6 rfl rfl ?_
  refine x_minJ dX3_clipped_7 q3313 q3314 q478 q3315 (Nat.le_of_ble_eq_true rfl) ?_
  refine x_maxJ dX3_clipped_10 q3311 q3239 q478 q3240 (Nat.le_of_ble_eq_true rfl) ?_
  refine w_l2i dX3_clipped_13 ?_
  cases hf
  exact w_iret dX3_clipped_14 rfl rfl rfl
abbrev cX3_between : ByteArray := prog_26_method_36_code
def yX3_between : MethodName := ⟨RX3, "between", "(I)V"⟩
def YX3_between : eY := (yX3_between, cX3_between, 5, none, [])
theorem mX3_between : e_mv YX3_between RX3 1 := ⟨q3864, qs183, q3865, by decide, by decide +kernel, (e_sig (by decide +kernel))⟩
theorem dX3_between_0 : decode cX3_between 0 = .ok (.aload_n 0, 1) := dc_42 (by decide +kernel)
theorem dX3_between_1 : decode cX3_between 1 = .ok (.getfield 53, 3) := dc_180 (a := 0) (b := 53) (n := 53) (by decide +kernel)
theorem dX3_between_4 : decode cX3_between 4 = .ok (.getfield 311, 3) := dc_180 (a := 1) (b := 55) (n := 311) (by decide +kernel)
theorem dX3_between_7 : decode cX3_between 7 = .ok (.astore_n 2, 1) := dc_77 (by decide +kernel)
theorem dX3_between_8 : decode cX3_between 8 = .ok (.aload_n 2, 1) := dc_44 (by decide +kernel)
theorem dX3_between_9 : decode cX3_between 9 = .ok (.sipush 264, 3) := dc_17 (a := 1) (b := 8) (v := 264) (by decide +kernel)
theorem dX3_between_12 : decode cX3_between 12 = .ok (.iaload, 1) := dc_46 (by decide +kernel)
theorem dX3_between_13 : decode cX3_between 13 = .ok (.i2l, 1) := dc_133 (by decide +kernel)
theorem dX3_between_14 : decode cX3_between 14 = .ok (.lstore_n 3, 1) := dc_66 (by decide +kernel)
theorem dX3_between_15 : decode cX3_between 15 = .ok (.lload_n 3, 1) := dc_33 (by decide +kernel)
theorem dX3_between_16 : decode cX3_between 16 = .ok (.iload_n 1, 1) := dc_27 (by decide +kernel)
theorem dX3_between_17 : decode cX3_between 17 = .ok (.ifCond .ne 12, 3) := dc_154 (a := 0) (b := 12) (v := 12) (by decide +kernel)
theorem dX3_between_20 : decode cX3_between 20 = .ok (.aload_n 2, 1) := dc_44 (by decide +kernel)
theorem dX3_between_21 : decode cX3_between 21 = .ok (.sipush 261, 3) := dc_17 (a := 1) (b := 5) (v := 261) (by decide +kernel)
theorem dX3_between_24 : decode cX3_between 24 = .ok (.iaload, 1) := dc_46 (by decide +kernel)
theorem dX3_between_25 : decode cX3_between 25 = .ok (.i2l, 1) := dc_133 (by decide +kernel)
theorem dX3_between_26 : decode cX3_between 26 = .ok (.goto 4, 3) := dc_167 (a := 0) (b := 4) (v := 4) (by decide +kernel)
theorem dX3_between_29 : decode cX3_between 29 = .ok (.lconst 0, 1) := dc_9 (by decide +kernel)
theorem dX3_between_30 : decode cX3_between 30 = .ok (.ladd, 1) := dc_97 (by decide +kernel)
theorem dX3_between_31 : decode cX3_between 31 = .ok (.lstore_n 3, 1) := dc_66 (by decide +kernel)
theorem dX3_between_32 : decode cX3_between 32 = .ok (.lload_n 3, 1) := dc_33 (by decide +kernel)
theorem dX3_between_33 : decode cX3_between 33 = .ok (.iload_n 1, 1) := dc_27 (by decide +kernel)
theorem dX3_between_34 : decode cX3_between 34 = .ok (.aload_n 0, 1) := dc_42 (by decide +kernel)
theorem dX3_between_35 : decode cX3_between 35 = .ok (.getfield 87, 3) := dc_180 (a := 0) (b := 87) (n := 87) (by decide +kernel)
theorem dX3_between_38 : decode cX3_between 38 = .ok (.getfield 539, 3) := dc_180 (a := 2) (b := 27) (n := 539) (by decide +kernel)
theorem dX3_between_41 : decode cX3_between 41 = .ok (.iconst 2, 1) := dc_5 (by decide +kernel)
theorem dX3_between_42 : decode cX3_between 42 = .ok (.isub, 1) := dc_100 (by decide +kernel)
theorem dX3_between_43 : decode cX3_between 43 = .ok (.if_icmp .ne 12, 3) := dc_160 (a := 0) (b := 12) (v := 12) (by decide +kernel)
theorem dX3_between_46 : decode cX3_between 46 = .ok (.aload_n 2, 1) := dc_44 (by decide +kernel)
theorem dX3_between_47 : decode cX3_between 47 = .ok (.sipush 262, 3) := dc_17 (a := 1) (b := 6) (v := 262) (by decide +kernel)
theorem dX3_between_50 : decode cX3_between 50 = .ok (.iaload, 1) := dc_46 (by decide +kernel)
theorem dX3_between_51 : decode cX3_between 51 = .ok (.i2l, 1) := dc_133 (by decide +kernel)
theorem dX3_between_52 : decode cX3_between 52 = .ok (.goto 4, 3) := dc_167 (a := 0) (b := 4) (v := 4) (by decide +kernel)
theorem dX3_between_55 : decode cX3_between 55 = .ok (.lconst 0, 1) := dc_9 (by decide +kernel)
theorem dX3_between_56 : decode cX3_between 56 = .ok (.ladd, 1) := dc_97 (by decide +kernel)
theorem dX3_between_57 : decode cX3_between 57 = .ok (.lstore_n 3, 1) := dc_66 (by decide +kernel)
theorem dX3_between_58 : decode cX3_between 58 = .ok (.lload_n 3, 1) := dc_33 (by decide +kernel)
theorem dX3_between_59 : decode cX3_between 59 = .ok (.aload_n 0, 1) := dc_42 (by decide +kernel)
theorem dX3_between_60 : decode cX3_between 60 = .ok (.getfield 87, 3) := dc_180 (a := 0) (b := 87) (n := 87) (by decide +kernel)
theorem dX3_between_63 : decode cX3_between 63 = .ok (.iload_n 1, 1) := dc_27 (by decide +kernel)
theorem dX3_between_64 : decode cX3_between 64 = .ok (.invokevirtual 545, 3) := dc_182 (a := 2) (b := 33) (n := 545) (by decide +kernel)
theorem dX3_between_67 : decode cX3_between 67 = .ok (.ifCond .eq 12, 3) := dc_153 (a := 0) (b := 12) (v := 12) (by decide +kernel)
theorem dX3_between_70 : decode cX3_between 70 = .ok (.aload_n 2, 1) := dc_44 (by decide +kernel)
theorem dX3_between_71 : decode cX3_between 71 = .ok (.sipush 263, 3) := dc_17 (a := 1) (b := 7) (v := 263) (by decide +kernel)
theorem dX3_between_74 : decode cX3_between 74 = .ok (.iaload, 1) := dc_46 (by decide +kernel)
theorem dX3_between_75 : decode cX3_between 75 = .ok (.i2l, 1) := dc_133 (by decide +kernel)
theorem dX3_between_76 : decode cX3_between 76 = .ok (.goto 4, 3) := dc_167 (a := 0) (b := 4) (v := 4) (by decide +kernel)
theorem dX3_between_79 : decode cX3_between 79 = .ok (.lconst 0, 1) := dc_9 (by decide +kernel)
theorem dX3_between_80 : decode cX3_between 80 = .ok (.ladd, 1) := dc_97 (by decide +kernel)
theorem dX3_between_81 : decode cX3_between 81 = .ok (.lstore_n 3, 1) := dc_66 (by decide +kernel)
theorem dX3_between_82 : decode cX3_between 82 = .ok (.lload_n 3, 1) := dc_33 (by decide +kernel)
theorem dX3_between_83 : decode cX3_between 83 = .ok (.lconst 0, 1) := dc_9 (by decide +kernel)
theorem dX3_between_84 : decode cX3_between 84 = .ok (.lcmp, 1) := dc_148 (by decide +kernel)
theorem dX3_between_85 : decode cX3_between 85 = .ok (.ifCond .eq 15, 3) := dc_153 (a := 0) (b := 15) (v := 15) (by decide +kernel)
theorem dX3_between_88 : decode cX3_between 88 = .ok (.aload_n 0, 1) := dc_42 (by decide +kernel)
theorem dX3_between_89 : decode cX3_between 89 = .ok (.iconst 5, 1) := dc_8 (by decide +kernel)
theorem dX3_between_90 : decode cX3_between 90 = .ok (.lload_n 3, 1) := dc_33 (by decide +kernel)
theorem dX3_between_91 : decode cX3_between 91 = .ok (.invokestatic 567, 3) := dc_184 (a := 2) (b := 55) (n := 567) (by decide +kernel)
theorem dX3_between_94 : decode cX3_between 94 = .ok (.iconst 0, 1) := dc_3 (by decide +kernel)
theorem dX3_between_95 : decode cX3_between 95 = .ok (.iconst 0, 1) := dc_3 (by decide +kernel)
theorem dX3_between_96 : decode cX3_between 96 = .ok (.iconst 0, 1) := dc_3 (by decide +kernel)
theorem dX3_between_97 : decode cX3_between 97 = .ok (.invokevirtual 294, 3) := dc_182 (a := 1) (b := 38) (n := 294) (by decide +kernel)
theorem dX3_between_100 : decode cX3_between 100 = .ok (.return_, 1) := dc_177 (by decide +kernel)
theorem GX3_539 {w : eW} {d : Nat} {Y : eY} {pc : Nat} {ls : eL} {st : List Value} {h : eH} {Q : eO → eH → Prop} {a : Nat} {x : Int32} (hf : g_I 20 h a 7 = some x) (hd : decode Y.2.1 pc = .ok (.getfield 539, 3)) (hY : Y.1.cls = RX3) (kk : wp w d Y (pc + 3) ls (.int x :: st) h Q) : wp w d Y pc ls (.ref a :: st) h Q := x_gIN (ci := 20) (k := 7) hf hd rfl (by decide) (by rw [hY]; exact q1459) kk
def fX3_between_b100 (N : Nat)  (h : eH) : Option ((Unit ⊕ Nat) × eH) :=
  some (.inl (), h)
theorem pX3_between_b100 {w : eW} {d : Nat} (hd : 12 ≤ d + 1) {N : Nat}  {h : eH} {q} (hf : fX3_between_b100 N h = some q) : wp w (d + 1) YX3_between 100 [none, none, none, none, none] [] h (e_is (e_rt c_V q)) := by
  unfold fX3_between_b100 at hf
  cases hf
  exact w_vret dX3_between_100 rfl rfl
def fX3_between_b80 (N : Nat) (l0 : Nat) (s0 : Int64) (s1 : Int64) (h : eH) : Option ((Unit ⊕ Nat) × eH) :=
  if (lg_cmp (s0 + s1) (0 : Int64)) = 0 then
    fX3_between_b100 N h
  else
    (fX3_clipped (s0 + s1) h).bind fun q2 =>
    (k_ok 2 q2.2 l0).bind fun _ =>
    t_B (fX3_addVertical N l0 (5 : Int32) q2.1 (0 : Int32) (0 : Int32) (0 : Int32) q2.2) fun x4 h5 =>
    fX3_between_b100 N h5
theorem pX3_between_b80 {w : eW} {d : Nat} (hd : 12 ≤ d + 1) {N : Nat} {l0 : Nat} {s0 : Int64} {s1 : Int64} {h : eH} {q} (hf : fX3_between_b80 N l0 s0 s1 h = some q) : wp w (d + 1) YX3_between 80 [some (.ref l0), none, none, none, none] [.long s1, .long s0] h (e_is (e_rt c_V q)) := by
  unfold fX3_between_b80 at hf
  refine w_ladd dX3_between_80 ?_
  refine w_lstore_n dX3_between_81 rfl (by decide) (ls' := [some (.ref l0), none, none, some (.long (s0 + s1)), none]) rfl ?_
  refine w_lload_n dX3_between_82 rfl rfl ?_
  refine w_lconst dX3_between_83 (v := 0) (by decide) ?_
  refine w_lcmp dX3_between_84 ?_
  refine w_if_eq 100 dX3_between_85 (by decide) (fun c1 => ?_) (fun c1 => ?_)
  · replace hf := (if_pos (show (lg_cmp (s0 + s1) (0 : Int64)) = 0 from c1)).symm.trans hf
    exact (pX3_between_b100 hd hf).to trivial
  · replace hf := (if_neg (show ¬ ((lg_cmp (s0 + s1) (0 : Int64)) = 0) from c1)).symm.trans hf
    refine w_aload_n dX3_between_88 rfl rfl ?_
    refine w_iconst dX3_between_89 (v := 5) (by decide) ?_
    refine w_lload_n dX3_between_90 rfl rfl ?_
    refine x_cnI hf (e_stS (Yc := YX3_clipped) (av := [.long (s0 + s1)]) (st := [.int (5 : Int32), .ref l0]) dX3_between_91 q3866 mX3_clipped) mX3_clipped.2.2.1 mX3_clipped.2.2.2.2.1 (Nat.le_of_ble_eq_true rfl) (Nat.le_of_ble_eq_true rfl) (fun q hq => pX3_clipped (by omega) hq) (fun q2 hf => ?_)
    refine w_iconst dX3_between_94 (v := 0) (by decide) ?_
    refine w_iconst dX3_between_95 (v := 0) (by decide) ?_
    refine w_iconst dX3_between_96 (v := 0) (by decide) ?_
    obtain ⟨_, b3, hf⟩ := Option.bind_eq_some_iff.mp hf
    refine x_ctV hf (e_stV (Yc := YX3_addVertical) (ci := 2) (av := [.int (5 : Int32), .int q2.1, .int (0 : Int32), .int (0 : Int32), .int (0 : Int32)]) (st := []) dX3_between_97 q3198 mX3_addVertical rfl (k_ok_some b3).1 (k_ok_some b3).2) mX3_addVertical.2.2.1 mX3_addVertical.2.2.2.2.1 (Nat.le_of_ble_eq_true rfl) (Nat.le_of_ble_eq_true rfl) rfl (fun q hq => pX3_addVertical (by omega) hq) (fun x4 h5 hf => ?_)
    exact (pX3_between_b100 hd hf).to trivial
def fX3_between_b56 (N : Nat) (l0 : Nat) (l1 : Int32) (l2 : Nat) (s0 : Int64) (s1 : Int64) (h : eH) : Option ((Unit ⊕ Nat) × eH) :=
  (g_A 2 h l0 11).bind fun a1 =>
  (k_ok 20 h a1).bind fun _ =>
  (fX21_isHyphen a1 l1 h).bind fun q4 =>
  if q4.1 = 0 then
    fX3_between_b80 N l0 (s0 + s1) (0 : Int64) q4.2
  else
    (r_I 100 q4.2 l2 (263 : Int32)).bind fun x6 =>
    fX3_between_b80 N l0 (s0 + s1) (x6).toInt64 q4.2
theorem pX3_between_b56 {w : eW} {d : Nat} (hd : 12 ≤ d + 1) {N : Nat} {l0 : Nat} {l1 : Int32} {l2 : Nat} {s0 : Int64} {s1 : Int64} {h : eH} {q} (hf : fX3_between_b56 N l0 l1 l2 s0 s1 h = some q) : wp w (d + 1) YX3_between 56 [some (.ref l0), some (.int l1), some (.ref l2), none, none] [.long s1, .long s0] h (e_is (e_rt c_V q)) := by
  unfold fX3_between_b56 at hf
  refine w_ladd dX3_between_56 ?_
  refine w_lstore_n dX3_between_57 rfl (by decide) (ls' := [some (.ref l0), some (.int l1), some (.ref l2), some (.long (s0 + s1)), none]) rfl ?_
  refine w_lload_n dX3_between_58 rfl rfl ?_
  refine w_aload_n dX3_between_59 rfl rfl ?_
  obtain ⟨a1, b2, hf⟩ := Option.bind_eq_some_iff.mp hf
  refine GX3_87 b2 dX3_between_60 rfl ?_
  refine w_iload_n dX3_between_63 rfl rfl ?_
  obtain ⟨_, b3, hf⟩ := Option.bind_eq_some_iff.mp hf
  refine x_cnI hf (e_stV (Yc := YX21_isHyphen) (ci := 20) (av := [.int l1]) (st := [.long (s0 + s1)]) dX3_between_64 q3836 mX21_isHyphen rfl (k_ok_some b3).1 (k_ok_some b3).2) mX21_isHyphen.2.2.1 mX21_isHyphen.2.2.2.2.1 (Nat.le_of_ble_eq_true rfl) (Nat.le_of_ble_eq_true rfl) (fun q hq => pX21_isHyphen (by omega) hq) (fun q4 hf => ?_)
  refine w_if_eq 79 dX3_between_67 (by decide) (fun c5 => ?_) (fun c5 => ?_)
  · replace hf := (if_pos (show q4.1 = 0 from c5)).symm.trans hf
    refine w_lconst dX3_between_79 (v := 0) (by decide) ?_
    exact (pX3_between_b80 hd hf).to ⟨rfl, trivial⟩
  · replace hf := (if_neg (show ¬ (q4.1 = 0) from c5)).symm.trans hf
    refine w_aload_n dX3_between_70 rfl rfl ?_
    refine w_sipush dX3_between_71 (v := 263) (by decide) ?_
    obtain ⟨x6, b7, hf⟩ := Option.bind_eq_some_iff.mp hf
    refine x_rI b7 dX3_between_74 ?_
    refine w_i2l dX3_between_75 ?_
    refine w_goto 80 dX3_between_76 (by decide) ?_
    exact (pX3_between_b80 hd hf).to ⟨rfl, trivial⟩
def fX3_between_b30 (N : Nat) (l0 : Nat) (l1 : Int32) (l2 : Nat) (s0 : Int64) (s1 : Int64) (h : eH) : Option ((Unit ⊕ Nat) × eH) :=
  (g_A 2 h l0 11).bind fun a1 =>
  (g_I 20 h a1 7).bind fun x3 =>
  if ¬ l1 = (x3 - (2 : Int32)) then
    fX3_between_b56 N l0 l1 l2 (s0 + s1) (0 : Int64) h
  else
    (r_I 100 h l2 (262 : Int32)).bind fun x6 =>
    fX3_between_b56 N l0 l1 l2 (s0 + s1) (x6).toInt64 h
theorem pX3_between_b30 {w : eW} {d : Nat} (hd : 12 ≤ d + 1) {N : Nat} {l0 : Nat} {l1 : Int32} {l2 : Nat} {s0 : Int64} {s1 : Int64} {h : eH} {q} (hf : fX3_between_b30 N l0 l1 l2 s0 s1 h = some q) : wp w (d + 1) YX3_between 30 [some (.ref l0), some (.int l1), some (.ref l2), none, none] [.long s1, .long s0] h (e_is (e_rt c_V q)) := by
  unfold fX3_between_b30 at hf
  refine w_ladd dX3_between_30 ?_
  refine w_lstore_n dX3_between_31 rfl (by decide) (ls' := [some (.ref l0), some (.int l1), some (.ref l2), some (.long (s0 + s1)), none]) rfl ?_
  refine w_lload_n dX3_between_32 rfl rfl ?_
  refine w_iload_n dX3_between_33 rfl rfl ?_
  refine w_aload_n dX3_between_34 rfl rfl ?_
  obtain ⟨a1, b2, hf⟩ := Option.bind_eq_some_iff.mp hf
  refine GX3_87 b2 dX3_between_35 rfl ?_
  obtain ⟨x3, b4, hf⟩ := Option.bind_eq_some_iff.mp hf
  refine GX3_539 b4 dX3_between_38 rfl ?_
  refine w_iconst dX3_between_41 (v := 2) (by decide) ?_
  refine w_isub dX3_between_42 ?_
  refine w_icmp_ne 55 dX3_between_43 (by decide) (fun c5 => ?_) (fun c5 => ?_)
  · replace hf := (if_pos (show ¬ l1 = (x3 - (2 : Int32)) from c5)).symm.trans hf
    refine w_lconst dX3_between_55 (v := 0) (by decide) ?_
    exact (pX3_between_b56 hd hf).to ⟨rfl, rfl, rfl, trivial⟩
  · replace hf := (if_neg (show ¬ (¬ l1 = (x3 - (2 : Int32))) from (fun z => z c5))).symm.trans hf
    refine w_aload_n dX3_between_46 rfl rfl ?_
    refine w_sipush dX3_between_47 (v := 262) (by decide) ?_
    obtain ⟨x6, b7, hf⟩ := Option.bind_eq_some_iff.mp hf
    refine x_rI b7 dX3_between_50 ?_
    refine w_i2l dX3_between_51 ?_
    refine w_goto 56 dX3_between_52 (by decide) ?_
    exact (pX3_between_b56 hd hf).to ⟨rfl, rfl, rfl, trivial⟩
def fX3_between (N : Nat) (this : Nat) (p0 : Int32) (h : eH) : Option ((Unit ⊕ Nat) × eH) :=
  (g_A 2 h this 6).bind fun a1 =>
  (g_A 8 h a1 3).bind fun a3 =>
  (r_I 100 h a3 (264 : Int32)).bind fun x5 =>
  if ¬ p0 = 0 then
    fX3_between_b30 N this p0 a3 (x5).toInt64 (0 : Int64) h
  else
    (r_I 100 h a3 (261 : Int32)).bind fun x8 =>
    fX3_between_b30 N this p0 a3 (x5).toInt64 (x8).toInt64 h
theorem pX3_between {w : eW} {d : Nat} (hd : 12 ≤ d) {N : Nat} {this : Nat} {p0 : Int32} {h : eH} {q} (hf : fX3_between N this p0 h = some q) : wm w d YX3_between [.ref this, .int p0] h (e_is (e_rt c_V q)) := by
  obtain ⟨d, rfl⟩ : ∃ e, d = e + 1 := ⟨d - 1, by omega⟩
  show wp w (d + 1) YX3_between 0 [some (.ref this), some (.int p0), none, none, none] [] h _
  unfold fX3_between at hf
  refine w_aload_n dX3_between_0 rfl rfl ?_
  obtain ⟨a1, b2, hf⟩ := Option.bind_eq_some_iff.mp hf
  refine GX3_53 b2 dX3_between_1 rfl ?_
  obtain ⟨a3, b4, hf⟩ := Option.bind_eq_some_iff.mp hf
  refine GX3_311 b4 dX3_between_4 rfl ?_
  refine w_astore_n dX3_between_7 rfl (by decide) (ls' := [some (.ref this), some (.int p0), some (.ref a3), none, none]) rfl ?_
  refine w_aload_n dX3_between_8 rfl rfl ?_
  refine w_sipush dX3_between_9 (v := 264) (by decide) ?_
  obtain ⟨x5, b6, hf⟩ := Option.bind_eq_some_iff.mp hf
  refine x_rI b6 dX3_between_12 ?_
  refine w_i2l dX3_between_13 ?_
  refine w_lstore_n dX3_between_14 rfl (by decide) (ls' := [some (.ref this), some (.int p0), some (.ref a3), some (.long (x5).toInt64), none]) rfl ?_
  refine w_lload_n dX3_between_15 rfl rfl ?_
  refine w_iload_n dX3_between_16 rfl rfl ?_
  refine w_if_ne 29 dX3_between_17 (by decide) (fun c7 => ?_) (fun c7 => ?_)
  · replace hf := (if_pos (show ¬ p0 = 0 from c7)).symm.trans hf
    refine w_lconst dX3_between_29 (v := 0) (by decide) ?_
    exact (pX3_between_b30 hd hf).to ⟨rfl, rfl, rfl, trivial⟩
  · replace hf := (if_neg (show ¬ (¬ p0 = 0) from (fun z => z c7))).symm.trans hf
    refine w_aload_n dX3_between_20 rfl rfl ?_
    refine w_sipush dX3_between_21 (v := 261) (by decide) ?_
    obtain ⟨x8, b9, hf⟩ := Option.bind_eq_some_iff.mp hf
    refine x_rI b9 dX3_between_24 ?_
    refine w_i2l dX3_between_25 ?_
    refine w_goto 30 dX3_between_26 (by decide) ?_
    exact (pX3_between_b30 hd hf).to ⟨rfl, rfl, rfl, trivial⟩
abbrev cX3_endParagraph : ByteArray := prog_26_method_33_code
def yX3_endParagraph : MethodName := ⟨RX3, "endParagraph", "()V"⟩
def YX3_endParagraph : eY := (yX3_endParagraph, cX3_endParagraph, 3, none, [])
theorem mX3_endParagraph : e_mv YX3_endParagraph RX3 0 := ⟨q3663, qs159, q3664, by decide, by decide +kernel, (e_sig (by decide +kernel))⟩
theorem dX3_endParagraph_0 : decode cX3_endParagraph 0 = .ok (.aload_n 0, 1) := dc_42 (by decide +kernel)
theorem dX3_endParagraph_1 : decode cX3_endParagraph 1 = .ok (.getfield 130, 3) := dc_180 (a := 0) (b := 130) (n := 130) (by decide +kernel)
theorem dX3_endParagraph_4 : decode cX3_endParagraph 4 = .ok (.iconst 0, 1) := dc_3 (by decide +kernel)
theorem dX3_endParagraph_5 : decode cX3_endParagraph 5 = .ok (.putfield 210, 3) := dc_181 (a := 0) (b := 210) (n := 210) (by decide +kernel)
theorem dX3_endParagraph_8 : decode cX3_endParagraph 8 = .ok (.aload_n 0, 1) := dc_42 (by decide +kernel)
theorem dX3_endParagraph_9 : decode cX3_endParagraph 9 = .ok (.getfield 140, 3) := dc_180 (a := 0) (b := 140) (n := 140) (by decide +kernel)
theorem dX3_endParagraph_12 : decode cX3_endParagraph 12 = .ok (.aload_n 0, 1) := dc_42 (by decide +kernel)
theorem dX3_endParagraph_13 : decode cX3_endParagraph 13 = .ok (.getfield 211, 3) := dc_180 (a := 0) (b := 211) (n := 211) (by decide +kernel)
theorem dX3_endParagraph_16 : decode cX3_endParagraph 16 = .ok (.iaload, 1) := dc_46 (by decide +kernel)
theorem dX3_endParagraph_17 : decode cX3_endParagraph 17 = .ok (.istore_n 1, 1) := dc_60 (by decide +kernel)
theorem dX3_endParagraph_18 : decode cX3_endParagraph 18 = .ok (.iload_n 1, 1) := dc_27 (by decide +kernel)
theorem dX3_endParagraph_19 : decode cX3_endParagraph 19 = .ok (.aload_n 0, 1) := dc_42 (by decide +kernel)
theorem dX3_endParagraph_20 : decode cX3_endParagraph 20 = .ok (.getfield 126, 3) := dc_180 (a := 0) (b := 126) (n := 126) (by decide +kernel)
theorem dX3_endParagraph_23 : decode cX3_endParagraph 23 = .ok (.getfield 210, 3) := dc_180 (a := 0) (b := 210) (n := 210) (by decide +kernel)
theorem dX3_endParagraph_26 : decode cX3_endParagraph 26 = .ok (.if_icmp .ge 21, 3) := dc_162 (a := 0) (b := 21) (v := 21) (by decide +kernel)
theorem dX3_endParagraph_29 : decode cX3_endParagraph 29 = .ok (.aload_n 0, 1) := dc_42 (by decide +kernel)
theorem dX3_endParagraph_30 : decode cX3_endParagraph 30 = .ok (.getfield 130, 3) := dc_180 (a := 0) (b := 130) (n := 130) (by decide +kernel)
theorem dX3_endParagraph_33 : decode cX3_endParagraph 33 = .ok (.aload_n 0, 1) := dc_42 (by decide +kernel)
theorem dX3_endParagraph_34 : decode cX3_endParagraph 34 = .ok (.getfield 126, 3) := dc_180 (a := 0) (b := 126) (n := 126) (by decide +kernel)
theorem dX3_endParagraph_37 : decode cX3_endParagraph 37 = .ok (.iload_n 1, 1) := dc_27 (by decide +kernel)
theorem dX3_endParagraph_38 : decode cX3_endParagraph 38 = .ok (.invokevirtual 521, 3) := dc_182 (a := 2) (b := 9) (n := 521) (by decide +kernel)
theorem dX3_endParagraph_41 : decode cX3_endParagraph 41 = .ok (.iinc 1 1, 3) := dc_132 (a := 1) (b := 1) (v := 1) (by decide +kernel)
theorem dX3_endParagraph_44 : decode cX3_endParagraph 44 = .ok (.goto (-26), 3) := dc_167 (a := 255) (b := 230) (v := -26) (by decide +kernel)
theorem dX3_endParagraph_47 : decode cX3_endParagraph 47 = .ok (.aload_n 0, 1) := dc_42 (by decide +kernel)
theorem dX3_endParagraph_48 : decode cX3_endParagraph 48 = .ok (.invokevirtual 441, 3) := dc_182 (a := 1) (b := 185) (n := 441) (by decide +kernel)
theorem dX3_endParagraph_51 : decode cX3_endParagraph 51 = .ok (.aload_n 0, 1) := dc_42 (by decide +kernel)
theorem dX3_endParagraph_52 : decode cX3_endParagraph 52 = .ok (.getfield 130, 3) := dc_180 (a := 0) (b := 130) (n := 130) (by decide +kernel)
theorem dX3_endParagraph_55 : decode cX3_endParagraph 55 = .ok (.getfield 210, 3) := dc_180 (a := 0) (b := 210) (n := 210) (by decide +kernel)
theorem dX3_endParagraph_58 : decode cX3_endParagraph 58 = .ok (.ifCond .ne 4, 3) := dc_154 (a := 0) (b := 4) (v := 4) (by decide +kernel)
theorem dX3_endParagraph_61 : decode cX3_endParagraph 61 = .ok (.return_, 1) := dc_177 (by decide +kernel)
theorem dX3_endParagraph_62 : decode cX3_endParagraph 62 = .ok (.aload_n 0, 1) := dc_42 (by decide +kernel)
theorem dX3_endParagraph_63 : decode cX3_endParagraph 63 = .ok (.getfield 14, 3) := dc_180 (a := 0) (b := 14) (n := 14) (by decide +kernel)
theorem dX3_endParagraph_66 : decode cX3_endParagraph 66 = .ok (.aload_n 0, 1) := dc_42 (by decide +kernel)
theorem dX3_endParagraph_67 : decode cX3_endParagraph 67 = .ok (.getfield 130, 3) := dc_180 (a := 0) (b := 130) (n := 130) (by decide +kernel)
theorem dX3_endParagraph_70 : decode cX3_endParagraph 70 = .ok (.getfield 210, 3) := dc_180 (a := 0) (b := 210) (n := 210) (by decide +kernel)
theorem dX3_endParagraph_73 : decode cX3_endParagraph 73 = .ok (.sipush 2000, 3) := dc_17 (a := 7) (b := 208) (v := 2000) (by decide +kernel)
theorem dX3_endParagraph_76 : decode cX3_endParagraph 76 = .ok (.if_icmp .gt 7, 3) := dc_163 (a := 0) (b := 7) (v := 7) (by decide +kernel)
theorem dX3_endParagraph_79 : decode cX3_endParagraph 79 = .ok (.iconst 1, 1) := dc_4 (by decide +kernel)
theorem dX3_endParagraph_80 : decode cX3_endParagraph 80 = .ok (.goto 4, 3) := dc_167 (a := 0) (b := 4) (v := 4) (by decide +kernel)
theorem dX3_endParagraph_83 : decode cX3_endParagraph 83 = .ok (.iconst 0, 1) := dc_3 (by decide +kernel)
theorem dX3_endParagraph_84 : decode cX3_endParagraph 84 = .ok (.iconst 2, 1) := dc_5 (by decide +kernel)
theorem dX3_endParagraph_85 : decode cX3_endParagraph 85 = .ok (.invokevirtual 289, 3) := dc_182 (a := 1) (b := 33) (n := 289) (by decide +kernel)
theorem dX3_endParagraph_88 : decode cX3_endParagraph 88 = .ok (.aload_n 0, 1) := dc_42 (by decide +kernel)
theorem dX3_endParagraph_89 : decode cX3_endParagraph 89 = .ok (.getfield 87, 3) := dc_180 (a := 0) (b := 87) (n := 87) (by decide +kernel)
theorem dX3_endParagraph_92 : decode cX3_endParagraph 92 = .ok (.aload_n 0, 1) := dc_42 (by decide +kernel)
theorem dX3_endParagraph_93 : decode cX3_endParagraph 93 = .ok (.getfield 53, 3) := dc_180 (a := 0) (b := 53) (n := 53) (by decide +kernel)
theorem dX3_endParagraph_96 : decode cX3_endParagraph 96 = .ok (.getfield 311, 3) := dc_180 (a := 1) (b := 55) (n := 311) (by decide +kernel)
theorem dX3_endParagraph_99 : decode cX3_endParagraph 99 = .ok (.invokevirtual 525, 3) := dc_182 (a := 2) (b := 13) (n := 525) (by decide +kernel)
theorem dX3_endParagraph_102 : decode cX3_endParagraph 102 = .ok (.iconst 0, 1) := dc_3 (by decide +kernel)
theorem dX3_endParagraph_103 : decode cX3_endParagraph 103 = .ok (.istore_n 1, 1) := dc_60 (by decide +kernel)
theorem dX3_endParagraph_104 : decode cX3_endParagraph 104 = .ok (.iload_n 1, 1) := dc_27 (by decide +kernel)
theorem dX3_endParagraph_105 : decode cX3_endParagraph 105 = .ok (.aload_n 0, 1) := dc_42 (by decide +kernel)
theorem dX3_endParagraph_106 : decode cX3_endParagraph 106 = .ok (.getfield 130, 3) := dc_180 (a := 0) (b := 130) (n := 130) (by decide +kernel)
theorem dX3_endParagraph_109 : decode cX3_endParagraph 109 = .ok (.getfield 210, 3) := dc_180 (a := 0) (b := 210) (n := 210) (by decide +kernel)
theorem dX3_endParagraph_112 : decode cX3_endParagraph 112 = .ok (.if_icmp .ge 18, 3) := dc_162 (a := 0) (b := 18) (v := 18) (by decide +kernel)
theorem dX3_endParagraph_115 : decode cX3_endParagraph 115 = .ok (.aload_n 0, 1) := dc_42 (by decide +kernel)
theorem dX3_endParagraph_116 : decode cX3_endParagraph 116 = .ok (.aload_n 0, 1) := dc_42 (by decide +kernel)
theorem dX3_endParagraph_117 : decode cX3_endParagraph 117 = .ok (.getfield 130, 3) := dc_180 (a := 0) (b := 130) (n := 130) (by decide +kernel)
theorem dX3_endParagraph_120 : decode cX3_endParagraph 120 = .ok (.iload_n 1, 1) := dc_27 (by decide +kernel)
theorem dX3_endParagraph_121 : decode cX3_endParagraph 121 = .ok (.invokevirtual 529, 3) := dc_182 (a := 2) (b := 17) (n := 529) (by decide +kernel)
theorem dX3_endParagraph_124 : decode cX3_endParagraph 124 = .ok (.iinc 1 1, 3) := dc_132 (a := 1) (b := 1) (v := 1) (by decide +kernel)
theorem dX3_endParagraph_127 : decode cX3_endParagraph 127 = .ok (.goto (-23), 3) := dc_167 (a := 255) (b := 233) (v := -23) (by decide +kernel)
theorem dX3_endParagraph_130 : decode cX3_endParagraph 130 = .ok (.aload_n 0, 1) := dc_42 (by decide +kernel)
theorem dX3_endParagraph_131 : decode cX3_endParagraph 131 = .ok (.getfield 14, 3) := dc_180 (a := 0) (b := 14) (n := 14) (by decide +kernel)
theorem dX3_endParagraph_134 : decode cX3_endParagraph 134 = .ok (.aload_n 0, 1) := dc_42 (by decide +kernel)
theorem dX3_endParagraph_135 : decode cX3_endParagraph 135 = .ok (.getfield 87, 3) := dc_180 (a := 0) (b := 87) (n := 87) (by decide +kernel)
theorem dX3_endParagraph_138 : decode cX3_endParagraph 138 = .ok (.invokevirtual 532, 3) := dc_182 (a := 2) (b := 20) (n := 532) (by decide +kernel)
theorem dX3_endParagraph_141 : decode cX3_endParagraph 141 = .ok (.bipush 16, 2) := dc_16 (a := 16) (v := 16) (by decide +kernel)
theorem dX3_endParagraph_143 : decode cX3_endParagraph 143 = .ok (.invokevirtual 289, 3) := dc_182 (a := 1) (b := 33) (n := 289) (by decide +kernel)
theorem dX3_endParagraph_146 : decode cX3_endParagraph 146 = .ok (.aload_n 0, 1) := dc_42 (by decide +kernel)
theorem dX3_endParagraph_147 : decode cX3_endParagraph 147 = .ok (.getfield 130, 3) := dc_180 (a := 0) (b := 130) (n := 130) (by decide +kernel)
theorem dX3_endParagraph_150 : decode cX3_endParagraph 150 = .ok (.aload_n 0, 1) := dc_42 (by decide +kernel)
theorem dX3_endParagraph_151 : decode cX3_endParagraph 151 = .ok (.getfield 130, 3) := dc_180 (a := 0) (b := 130) (n := 130) (by decide +kernel)
theorem dX3_endParagraph_154 : decode cX3_endParagraph 154 = .ok (.getfield 210, 3) := dc_180 (a := 0) (b := 210) (n := 210) (by decide +kernel)
theorem dX3_endParagraph_157 : decode cX3_endParagraph 157 = .ok (.iconst 1, 1) := dc_4 (by decide +kernel)
theorem dX3_endParagraph_158 : decode cX3_endParagraph 158 = .ok (.isub, 1) := dc_100 (by decide +kernel)
theorem dX3_endParagraph_159 : decode cX3_endParagraph 159 = .ok (.invokevirtual 359, 3) := dc_182 (a := 1) (b := 103) (n := 359) (by decide +kernel)
theorem dX3_endParagraph_162 : decode cX3_endParagraph 162 = .ok (.iconst 2, 1) := dc_5 (by decide +kernel)
theorem dX3_endParagraph_163 : decode cX3_endParagraph 163 = .ok (.if_icmp .ne 7, 3) := dc_160 (a := 0) (b := 7) (v := 7) (by decide +kernel)
theorem dX3_endParagraph_166 : decode cX3_endParagraph 166 = .ok (.iconst 1, 1) := dc_4 (by decide +kernel)
theorem dX3_endParagraph_167 : decode cX3_endParagraph 167 = .ok (.goto 4, 3) := dc_167 (a := 0) (b := 4) (v := 4) (by decide +kernel)
theorem dX3_endParagraph_170 : decode cX3_endParagraph 170 = .ok (.iconst 0, 1) := dc_3 (by decide +kernel)
theorem dX3_endParagraph_171 : decode cX3_endParagraph 171 = .ok (.istore_n 1, 1) := dc_60 (by decide +kernel)
theorem dX3_endParagraph_172 : decode cX3_endParagraph 172 = .ok (.aload_n 0, 1) := dc_42 (by decide +kernel)
theorem dX3_endParagraph_173 : decode cX3_endParagraph 173 = .ok (.getfield 130, 3) := dc_180 (a := 0) (b := 130) (n := 130) (by decide +kernel)
theorem dX3_endParagraph_176 : decode cX3_endParagraph 176 = .ok (.dup, 1) := dc_89 (by decide +kernel)
theorem dX3_endParagraph_177 : decode cX3_endParagraph 177 = .ok (.getfield 210, 3) := dc_180 (a := 0) (b := 210) (n := 210) (by decide +kernel)
theorem dX3_endParagraph_180 : decode cX3_endParagraph 180 = .ok (.iload_n 1, 1) := dc_27 (by decide +kernel)
theorem dX3_endParagraph_181 : decode cX3_endParagraph 181 = .ok (.isub, 1) := dc_100 (by decide +kernel)
theorem dX3_endParagraph_182 : decode cX3_endParagraph 182 = .ok (.putfield 210, 3) := dc_181 (a := 0) (b := 210) (n := 210) (by decide +kernel)
theorem dX3_endParagraph_185 : decode cX3_endParagraph 185 = .ok (.aload_n 0, 1) := dc_42 (by decide +kernel)
theorem dX3_endParagraph_186 : decode cX3_endParagraph 186 = .ok (.getfield 87, 3) := dc_180 (a := 0) (b := 87) (n := 87) (by decide +kernel)
theorem dX3_endParagraph_189 : decode cX3_endParagraph 189 = .ok (.getfield 510, 3) := dc_180 (a := 1) (b := 254) (n := 510) (by decide +kernel)
theorem dX3_endParagraph_192 : decode cX3_endParagraph 192 = .ok (.dup, 1) := dc_89 (by decide +kernel)
theorem dX3_endParagraph_193 : decode cX3_endParagraph 193 = .ok (.getfield 535, 3) := dc_180 (a := 2) (b := 23) (n := 535) (by decide +kernel)
theorem dX3_endParagraph_196 : decode cX3_endParagraph 196 = .ok (.iload_n 1, 1) := dc_27 (by decide +kernel)
theorem dX3_endParagraph_197 : decode cX3_endParagraph 197 = .ok (.isub, 1) := dc_100 (by decide +kernel)
theorem dX3_endParagraph_198 : decode cX3_endParagraph 198 = .ok (.putfield 535, 3) := dc_181 (a := 2) (b := 23) (n := 535) (by decide +kernel)
theorem dX3_endParagraph_201 : decode cX3_endParagraph 201 = .ok (.aload_n 0, 1) := dc_42 (by decide +kernel)
theorem dX3_endParagraph_202 : decode cX3_endParagraph 202 = .ok (.getfield 14, 3) := dc_180 (a := 0) (b := 14) (n := 14) (by decide +kernel)
theorem dX3_endParagraph_205 : decode cX3_endParagraph 205 = .ok (.aload_n 0, 1) := dc_42 (by decide +kernel)
theorem dX3_endParagraph_206 : decode cX3_endParagraph 206 = .ok (.getfield 87, 3) := dc_180 (a := 0) (b := 87) (n := 87) (by decide +kernel)
theorem dX3_endParagraph_209 : decode cX3_endParagraph 209 = .ok (.invokevirtual 536, 3) := dc_182 (a := 2) (b := 24) (n := 536) (by decide +kernel)
theorem dX3_endParagraph_212 : decode cX3_endParagraph 212 = .ok (.iconst 2, 1) := dc_5 (by decide +kernel)
theorem dX3_endParagraph_213 : decode cX3_endParagraph 213 = .ok (.invokevirtual 289, 3) := dc_182 (a := 1) (b := 33) (n := 289) (by decide +kernel)
theorem dX3_endParagraph_216 : decode cX3_endParagraph 216 = .ok (.aload_n 0, 1) := dc_42 (by decide +kernel)
theorem dX3_endParagraph_217 : decode cX3_endParagraph 217 = .ok (.getfield 53, 3) := dc_180 (a := 0) (b := 53) (n := 53) (by decide +kernel)
theorem dX3_endParagraph_220 : decode cX3_endParagraph 220 = .ok (.sipush 268, 3) := dc_17 (a := 1) (b := 12) (v := 268) (by decide +kernel)
theorem dX3_endParagraph_223 : decode cX3_endParagraph 223 = .ok (.iconst 0, 1) := dc_3 (by decide +kernel)
theorem dX3_endParagraph_224 : decode cX3_endParagraph 224 = .ok (.iconst 0, 1) := dc_3 (by decide +kernel)
theorem dX3_endParagraph_225 : decode cX3_endParagraph 225 = .ok (.invokevirtual 434, 3) := dc_182 (a := 1) (b := 178) (n := 434) (by decide +kernel)
theorem dX3_endParagraph_228 : decode cX3_endParagraph 228 = .ok (.aload_n 0, 1) := dc_42 (by decide +kernel)
theorem dX3_endParagraph_229 : decode cX3_endParagraph 229 = .ok (.getfield 178, 3) := dc_180 (a := 0) (b := 178) (n := 178) (by decide +kernel)
theorem dX3_endParagraph_232 : decode cX3_endParagraph 232 = .ok (.iconst 4, 1) := dc_7 (by decide +kernel)
theorem dX3_endParagraph_233 : decode cX3_endParagraph 233 = .ok (.dup2, 1) := dc_92 (by decide +kernel)
theorem dX3_endParagraph_234 : decode cX3_endParagraph 234 = .ok (.iaload, 1) := dc_46 (by decide +kernel)
theorem dX3_endParagraph_235 : decode cX3_endParagraph 235 = .ok (.aload_n 0, 1) := dc_42 (by decide +kernel)
theorem dX3_endParagraph_236 : decode cX3_endParagraph 236 = .ok (.getfield 87, 3) := dc_180 (a := 0) (b := 87) (n := 87) (by decide +kernel)
theorem dX3_endParagraph_239 : decode cX3_endParagraph 239 = .ok (.getfield 539, 3) := dc_180 (a := 2) (b := 27) (n := 539) (by decide +kernel)
theorem dX3_endParagraph_242 : decode cX3_endParagraph 242 = .ok (.iadd, 1) := dc_96 (by decide +kernel)
theorem dX3_endParagraph_243 : decode cX3_endParagraph 243 = .ok (.iastore, 1) := dc_79 (by decide +kernel)
theorem dX3_endParagraph_244 : decode cX3_endParagraph 244 = .ok (.aload_n 0, 1) := dc_42 (by decide +kernel)
theorem dX3_endParagraph_245 : decode cX3_endParagraph 245 = .ok (.getfield 178, 3) := dc_180 (a := 0) (b := 178) (n := 178) (by decide +kernel)
theorem dX3_endParagraph_248 : decode cX3_endParagraph 248 = .ok (.bipush 7, 2) := dc_16 (a := 7) (v := 7) (by decide +kernel)
theorem dX3_endParagraph_250 : decode cX3_endParagraph 250 = .ok (.dup2, 1) := dc_92 (by decide +kernel)
theorem dX3_endParagraph_251 : decode cX3_endParagraph 251 = .ok (.iaload, 1) := dc_46 (by decide +kernel)
theorem dX3_endParagraph_252 : decode cX3_endParagraph 252 = .ok (.aload_n 0, 1) := dc_42 (by decide +kernel)
theorem dX3_endParagraph_253 : decode cX3_endParagraph 253 = .ok (.getfield 87, 3) := dc_180 (a := 0) (b := 87) (n := 87) (by decide +kernel)
theorem dX3_endParagraph_256 : decode cX3_endParagraph 256 = .ok (.getfield 542, 3) := dc_180 (a := 2) (b := 30) (n := 542) (by decide +kernel)
theorem dX3_endParagraph_259 : decode cX3_endParagraph 259 = .ok (.iadd, 1) := dc_96 (by decide +kernel)
theorem dX3_endParagraph_260 : decode cX3_endParagraph 260 = .ok (.iastore, 1) := dc_79 (by decide +kernel)
theorem dX3_endParagraph_261 : decode cX3_endParagraph 261 = .ok (.iconst 0, 1) := dc_3 (by decide +kernel)
theorem dX3_endParagraph_262 : decode cX3_endParagraph 262 = .ok (.istore_n 2, 1) := dc_61 (by decide +kernel)
theorem dX3_endParagraph_263 : decode cX3_endParagraph 263 = .ok (.iload_n 2, 1) := dc_28 (by decide +kernel)
theorem dX3_endParagraph_264 : decode cX3_endParagraph 264 = .ok (.aload_n 0, 1) := dc_42 (by decide +kernel)
theorem dX3_endParagraph_265 : decode cX3_endParagraph 265 = .ok (.getfield 87, 3) := dc_180 (a := 0) (b := 87) (n := 87) (by decide +kernel)
theorem dX3_endParagraph_268 : decode cX3_endParagraph 268 = .ok (.getfield 539, 3) := dc_180 (a := 2) (b := 27) (n := 539) (by decide +kernel)
theorem dX3_endParagraph_271 : decode cX3_endParagraph 271 = .ok (.if_icmp .ge 35, 3) := dc_162 (a := 0) (b := 35) (v := 35) (by decide +kernel)
theorem dX3_endParagraph_274 : decode cX3_endParagraph 274 = .ok (.aload_n 0, 1) := dc_42 (by decide +kernel)
theorem dX3_endParagraph_275 : decode cX3_endParagraph 275 = .ok (.getfield 178, 3) := dc_180 (a := 0) (b := 178) (n := 178) (by decide +kernel)
theorem dX3_endParagraph_278 : decode cX3_endParagraph 278 = .ok (.bipush 6, 2) := dc_16 (a := 6) (v := 6) (by decide +kernel)
theorem dX3_endParagraph_280 : decode cX3_endParagraph 280 = .ok (.dup2, 1) := dc_92 (by decide +kernel)
theorem dX3_endParagraph_281 : decode cX3_endParagraph 281 = .ok (.iaload, 1) := dc_46 (by decide +kernel)
theorem dX3_endParagraph_282 : decode cX3_endParagraph 282 = .ok (.aload_n 0, 1) := dc_42 (by decide +kernel)
theorem dX3_endParagraph_283 : decode cX3_endParagraph 283 = .ok (.getfield 87, 3) := dc_180 (a := 0) (b := 87) (n := 87) (by decide +kernel)
theorem dX3_endParagraph_286 : decode cX3_endParagraph 286 = .ok (.iload_n 2, 1) := dc_28 (by decide +kernel)
theorem dX3_endParagraph_287 : decode cX3_endParagraph 287 = .ok (.invokevirtual 545, 3) := dc_182 (a := 2) (b := 33) (n := 545) (by decide +kernel)
theorem dX3_endParagraph_290 : decode cX3_endParagraph 290 = .ok (.ifCond .eq 7, 3) := dc_153 (a := 0) (b := 7) (v := 7) (by decide +kernel)
theorem dX3_endParagraph_293 : decode cX3_endParagraph 293 = .ok (.iconst 1, 1) := dc_4 (by decide +kernel)
theorem dX3_endParagraph_294 : decode cX3_endParagraph 294 = .ok (.goto 4, 3) := dc_167 (a := 0) (b := 4) (v := 4) (by decide +kernel)
theorem dX3_endParagraph_297 : decode cX3_endParagraph 297 = .ok (.iconst 0, 1) := dc_3 (by decide +kernel)
theorem dX3_endParagraph_298 : decode cX3_endParagraph 298 = .ok (.iadd, 1) := dc_96 (by decide +kernel)
theorem dX3_endParagraph_299 : decode cX3_endParagraph 299 = .ok (.iastore, 1) := dc_79 (by decide +kernel)
theorem dX3_endParagraph_300 : decode cX3_endParagraph 300 = .ok (.iinc 2 1, 3) := dc_132 (a := 2) (b := 1) (v := 1) (by decide +kernel)
theorem dX3_endParagraph_303 : decode cX3_endParagraph 303 = .ok (.goto (-40), 3) := dc_167 (a := 255) (b := 216) (v := -40) (by decide +kernel)
theorem dX3_endParagraph_306 : decode cX3_endParagraph 306 = .ok (.iconst 0, 1) := dc_3 (by decide +kernel)
theorem dX3_endParagraph_307 : decode cX3_endParagraph 307 = .ok (.istore_n 2, 1) := dc_61 (by decide +kernel)
theorem dX3_endParagraph_308 : decode cX3_endParagraph 308 = .ok (.iload_n 2, 1) := dc_28 (by decide +kernel)
theorem dX3_endParagraph_309 : decode cX3_endParagraph 309 = .ok (.aload_n 0, 1) := dc_42 (by decide +kernel)
theorem dX3_endParagraph_310 : decode cX3_endParagraph 310 = .ok (.getfield 87, 3) := dc_180 (a := 0) (b := 87) (n := 87) (by decide +kernel)
theorem dX3_endParagraph_313 : decode cX3_endParagraph 313 = .ok (.getfield 539, 3) := dc_180 (a := 2) (b := 27) (n := 539) (by decide +kernel)
theorem dX3_endParagraph_316 : decode cX3_endParagraph 316 = .ok (.if_icmp .ge 32, 3) := dc_162 (a := 0) (b := 32) (v := 32) (by decide +kernel)
theorem dX3_endParagraph_319 : decode cX3_endParagraph 319 = .ok (.aload_n 0, 1) := dc_42 (by decide +kernel)
theorem dX3_endParagraph_320 : decode cX3_endParagraph 320 = .ok (.iload_n 2, 1) := dc_28 (by decide +kernel)
theorem dX3_endParagraph_321 : decode cX3_endParagraph 321 = .ok (.invokevirtual 548, 3) := dc_182 (a := 2) (b := 36) (n := 548) (by decide +kernel)
theorem dX3_endParagraph_324 : decode cX3_endParagraph 324 = .ok (.iload_n 2, 1) := dc_28 (by decide +kernel)
theorem dX3_endParagraph_325 : decode cX3_endParagraph 325 = .ok (.aload_n 0, 1) := dc_42 (by decide +kernel)
theorem dX3_endParagraph_326 : decode cX3_endParagraph 326 = .ok (.getfield 87, 3) := dc_180 (a := 0) (b := 87) (n := 87) (by decide +kernel)
theorem dX3_endParagraph_329 : decode cX3_endParagraph 329 = .ok (.getfield 539, 3) := dc_180 (a := 2) (b := 27) (n := 539) (by decide +kernel)
theorem dX3_endParagraph_332 : decode cX3_endParagraph 332 = .ok (.iconst 1, 1) := dc_4 (by decide +kernel)
theorem dX3_endParagraph_333 : decode cX3_endParagraph 333 = .ok (.isub, 1) := dc_100 (by decide +kernel)
theorem dX3_endParagraph_334 : decode cX3_endParagraph 334 = .ok (.if_icmp .ge 8, 3) := dc_162 (a := 0) (b := 8) (v := 8) (by decide +kernel)
theorem dX3_endParagraph_337 : decode cX3_endParagraph 337 = .ok (.aload_n 0, 1) := dc_42 (by decide +kernel)
theorem dX3_endParagraph_338 : decode cX3_endParagraph 338 = .ok (.iload_n 2, 1) := dc_28 (by decide +kernel)
theorem dX3_endParagraph_339 : decode cX3_endParagraph 339 = .ok (.invokevirtual 550, 3) := dc_182 (a := 2) (b := 38) (n := 550) (by decide +kernel)
theorem dX3_endParagraph_342 : decode cX3_endParagraph 342 = .ok (.iinc 2 1, 3) := dc_132 (a := 2) (b := 1) (v := 1) (by decide +kernel)
theorem dX3_endParagraph_345 : decode cX3_endParagraph 345 = .ok (.goto (-37), 3) := dc_167 (a := 255) (b := 219) (v := -37) (by decide +kernel)
theorem dX3_endParagraph_348 : decode cX3_endParagraph 348 = .ok (.return_, 1) := dc_177 (by decide +kernel)
theorem GX3_535 {w : eW} {d : Nat} {Y : eY} {pc : Nat} {ls : eL} {st : List Value} {h : eH} {Q : eO → eH → Prop} {a : Nat} {x : Int32} (hf : g_I 21 h a 5 = some x) (hd : decode Y.2.1 pc = .ok (.getfield 535, 3)) (hY : Y.1.cls = RX3) (kk : wp w d Y (pc + 3) ls (.int x :: st) h Q) : wp w d Y pc ls (.ref a :: st) h Q := x_gIN (ci := 21) (k := 5) hf hd rfl (by decide) (by rw [hY]; exact q1263) kk
theorem GX3_542 {w : eW} {d : Nat} {Y : eY} {pc : Nat} {ls : eL} {st : List Value} {h : eH} {Q : eO → eH → Prop} {a : Nat} {x : Int32} (hf : g_I 20 h a 6 = some x) (hd : decode Y.2.1 pc = .ok (.getfield 542, 3)) (hY : Y.1.cls = RX3) (kk : wp w d Y (pc + 3) ls (.int x :: st) h Q) : wp w d Y pc ls (.ref a :: st) h Q := x_gIN (ci := 20) (k := 6) hf hd rfl (by decide) (by rw [hY]; exact q1457) kk
theorem SX3_535 {w : eW} {d : Nat} {Y : eY} {pc : Nat} {ls : eL} {st : List Value} {h : eH} {Q : eO → eH → Prop} {a : Nat} {h' : eH} {x : Int32} (hf : p_V 21 h a 5 (.int x) = some h') (hd : decode Y.2.1 pc = .ok (.putfield 535, 3)) (hY : Y.1.cls = RX3) (kk : wp w d Y (pc + 3) ls st h' Q) : wp w d Y pc ls (.int x :: .ref a :: st) h Q := x_pIN (ci := 21) (k := 5) hf hd rfl (by decide) (by rw [hY]; exact q1263) rfl rfl kk
def fX3_endParagraph_b298 (N : Nat) (k263 : Nat → Int32 → eH → Option ((Unit ⊕ Nat) × eH)) (l0 : Nat) (l2 : Int32) (s0 : Nat) (s1 : Int32) (s2 : Int32) (s3 : Int32) (h : eH) : Option ((Unit ⊕ Nat) × eH) :=
  (q_V 100 h s0 s1 (.int (s2 + s3))).bind fun h1 =>
  k263 l0 (l2 + (1 : Int32)) h1
theorem pX3_endParagraph_b298 {w : eW} {d : Nat} (hd : 16 ≤ d + 1) {N : Nat} {k263 : Nat → Int32 → eH → Option ((Unit ⊕ Nat) × eH)} (hk263 : ∀ l0 l2 h q, k263 l0 l2 h = some q → wp w (d + 1) YX3_endParagraph 263 [some (.ref l0), none, some (.int l2)] [] h (e_is (e_rt c_V q))) {l0 : Nat} {l2 : Int32} {s0 : Nat} {s1 : Int32} {s2 : Int32} {s3 : Int32} {h : eH} {q} (hf : fX3_endParagraph_b298 N k263 l0 l2 s0 s1 s2 s3 h = some q) : wp w (d + 1) YX3_endParagraph 298 [some (.ref l0), none, some (.int l2)] [.int s3, .int s2, .int s1, .ref s0] h (e_is (e_rt c_V q)) := by
  unfold fX3_endParagraph_b298 at hf
  refine w_iadd dX3_endParagraph_298 ?_
  obtain ⟨h1, b2, hf⟩ := Option.bind_eq_some_iff.mp hf
  refine x_qI b2 dX3_endParagraph_299 ?_
  refine w_iinc dX3_endParagraph_300 (v := (l2 + (1 : Int32))) rfl rfl (by decide) (ls' := [some (.ref l0), none, some (.int (l2 + (1 : Int32)))]) rfl ?_
  refine w_goto 263 dX3_endParagraph_303 (by decide) ?_
  exact (hk263 _ _ _ _ hf).to ⟨rfl, rfl, trivial⟩
def fX3_endParagraph_b342 (N : Nat) (k308 : Nat → Int32 → eH → Option ((Unit ⊕ Nat) × eH)) (l0 : Nat) (l2 : Int32) (h : eH) : Option ((Unit ⊕ Nat) × eH) :=
  k308 l0 (l2 + (1 : Int32)) h
theorem pX3_endParagraph_b342 {w : eW} {d : Nat} (hd : 16 ≤ d + 1) {N : Nat} {k308 : Nat → Int32 → eH → Option ((Unit ⊕ Nat) × eH)} (hk308 : ∀ l0 l2 h q, k308 l0 l2 h = some q → wp w (d + 1) YX3_endParagraph 308 [some (.ref l0), none, some (.int l2)] [] h (e_is (e_rt c_V q))) {l0 : Nat} {l2 : Int32} {h : eH} {q} (hf : fX3_endParagraph_b342 N k308 l0 l2 h = some q) : wp w (d + 1) YX3_endParagraph 342 [some (.ref l0), none, some (.int l2)] [] h (e_is (e_rt c_V q)) := by
  unfold fX3_endParagraph_b342 at hf
  refine w_iinc dX3_endParagraph_342 (v := (l2 + (1 : Int32))) rfl rfl (by decide) (ls' := [some (.ref l0), none, some (.int (l2 + (1 : Int32)))]) rfl ?_
  refine w_goto 308 dX3_endParagraph_345 (by decide) ?_
  exact (hk308 _ _ _ _ hf).to ⟨rfl, rfl, trivial⟩
def fX3_endParagraph_b308 (N : Nat) : Nat → Nat → Int32 → eH → Option ((Unit ⊕ Nat) × eH)
  | 0, _, _, _ => none
  | n + 1, l0, l2, h =>
    (g_A 2 h l0 11).bind fun a1 =>
    (g_I 20 h a1 7).bind fun x3 =>
    if x3 ≤ l2 then
      some (.inl (), h)
    else
      (k_ok 2 h l0).bind fun _ =>
      t_B (fX3_line N l0 l2 h) fun x7 h8 =>
      (g_A 2 h8 l0 11).bind fun a9 =>
      (g_I 20 h8 a9 7).bind fun x11 =>
      if (x11 - (1 : Int32)) ≤ l2 then
        fX3_endParagraph_b342 N (fX3_endParagraph_b308 N n) l0 l2 h8
      else
        (k_ok 2 h8 l0).bind fun _ =>
        t_B (fX3_between N l0 l2 h8) fun x15 h16 =>
        fX3_endParagraph_b342 N (fX3_endParagraph_b308 N n) l0 l2 h16
theorem pX3_endParagraph_b308 {w : eW} {d : Nat} (hd : 16 ≤ d + 1) {N : Nat} : ∀ (n : Nat) l0 l2 h q, fX3_endParagraph_b308 N n l0 l2 h = some q → wp w (d + 1) YX3_endParagraph 308 [some (.ref l0), none, some (.int l2)] [] h (e_is (e_rt c_V q)) := by
  intro n
  induction n with
  | zero => intro l0 l2 h q hf; simp [fX3_endParagraph_b308] at hf
  | succ n ih =>
    intro l0 l2 h q hf
    rw [fX3_endParagraph_b308] at hf
    refine w_iload_n dX3_endParagraph_308 rfl rfl ?_
    refine w_aload_n dX3_endParagraph_309 rfl rfl ?_
    obtain ⟨a1, b2, hf⟩ := Option.bind_eq_some_iff.mp hf
    refine GX3_87 b2 dX3_endParagraph_310 rfl ?_
    obtain ⟨x3, b4, hf⟩ := Option.bind_eq_some_iff.mp hf
    refine GX3_539 b4 dX3_endParagraph_313 rfl ?_
    refine w_icmp_ge 348 dX3_endParagraph_316 (by decide) (fun c5 => ?_) (fun c5 => ?_)
    · replace hf := (if_pos (show x3 ≤ l2 from c5)).symm.trans hf
      cases hf
      exact w_vret dX3_endParagraph_348 rfl rfl
    · replace hf := (if_neg (show ¬ (x3 ≤ l2) from c5)).symm.trans hf
      refine w_aload_n dX3_endParagraph_319 rfl rfl ?_
      refine w_iload_n dX3_endParagraph_320 rfl rfl ?_
      obtain ⟨_, b6, hf⟩ := Option.bind_eq_some_iff.mp hf
      refine x_ctV hf (e_stV (Yc := YX3_line) (ci := 2) (av := [.int l2]) (st := []) dX3_endParagraph_321 q3840 mX3_line rfl (k_ok_some b6).1 (k_ok_some b6).2) mX3_line.2.2.1 mX3_line.2.2.2.2.1 (Nat.le_of_ble_eq_true rfl) (Nat.le_of_ble_eq_true rfl) rfl (fun q hq => pX3_line (by omega) hq) (fun x7 h8 hf => ?_)
      refine w_iload_n dX3_endParagraph_324 rfl rfl ?_
      refine w_aload_n dX3_endParagraph_325 rfl rfl ?_
      obtain ⟨a9, b10, hf⟩ := Option.bind_eq_some_iff.mp hf
      refine GX3_87 b10 dX3_endParagraph_326 rfl ?_
      obtain ⟨x11, b12, hf⟩ := Option.bind_eq_some_iff.mp hf
      refine GX3_539 b12 dX3_endParagraph_329 rfl ?_
      refine w_iconst dX3_endParagraph_332 (v := 1) (by decide) ?_
      refine w_isub dX3_endParagraph_333 ?_
      refine w_icmp_ge 342 dX3_endParagraph_334 (by decide) (fun c13 => ?_) (fun c13 => ?_)
      · replace hf := (if_pos (show (x11 - (1 : Int32)) ≤ l2 from c13)).symm.trans hf
        exact (pX3_endParagraph_b342 hd ih hf).to ⟨rfl, rfl, trivial⟩
      · replace hf := (if_neg (show ¬ ((x11 - (1 : Int32)) ≤ l2) from c13)).symm.trans hf
        refine w_aload_n dX3_endParagraph_337 rfl rfl ?_
        refine w_iload_n dX3_endParagraph_338 rfl rfl ?_
        obtain ⟨_, b14, hf⟩ := Option.bind_eq_some_iff.mp hf
        refine x_ctV hf (e_stV (Yc := YX3_between) (ci := 2) (av := [.int l2]) (st := []) dX3_endParagraph_339 q3862 mX3_between rfl (k_ok_some b14).1 (k_ok_some b14).2) mX3_between.2.2.1 mX3_between.2.2.2.2.1 (Nat.le_of_ble_eq_true rfl) (Nat.le_of_ble_eq_true rfl) rfl (fun q hq => pX3_between (by omega) hq) (fun x15 h16 hf => ?_)
        exact (pX3_endParagraph_b342 hd ih hf).to ⟨rfl, rfl, trivial⟩
def fX3_endParagraph_b263 (N : Nat) : Nat → Nat → Int32 → eH → Option ((Unit ⊕ Nat) × eH)
  | 0, _, _, _ => none
  | n + 1, l0, l2, h =>
    (g_A 2 h l0 11).bind fun a1 =>
    (g_I 20 h a1 7).bind fun x3 =>
    if x3 ≤ l2 then
      fX3_endParagraph_b308 N N l0 (0 : Int32) h
    else
      (g_A 2 h l0 36).bind fun a6 =>
      (r_I 100 h a6 (6 : Int32)).bind fun x8 =>
      (g_A 2 h l0 11).bind fun a10 =>
      (k_ok 20 h a10).bind fun _ =>
      (fX21_isHyphen a10 l2 h).bind fun q13 =>
      if q13.1 = 0 then
        fX3_endParagraph_b298 N (fX3_endParagraph_b263 N n) l0 l2 a6 (6 : Int32) x8 (0 : Int32) q13.2
      else
        fX3_endParagraph_b298 N (fX3_endParagraph_b263 N n) l0 l2 a6 (6 : Int32) x8 (1 : Int32) q13.2
theorem pX3_endParagraph_b263 {w : eW} {d : Nat} (hd : 16 ≤ d + 1) {N : Nat} : ∀ (n : Nat) l0 l2 h q, fX3_endParagraph_b263 N n l0 l2 h = some q → wp w (d + 1) YX3_endParagraph 263 [some (.ref l0), none, some (.int l2)] [] h (e_is (e_rt c_V q)) := by
  intro n
  induction n with
  | zero => intro l0 l2 h q hf; simp [fX3_endParagraph_b263] at hf
  | succ n ih =>
    intro l0 l2 h q hf
    rw [fX3_endParagraph_b263] at hf
    refine w_iload_n dX3_endParagraph_263 rfl rfl ?_
    refine w_aload_n dX3_endParagraph_264 rfl rfl ?_
    obtain ⟨a1, b2, hf⟩ := Option.bind_eq_some_iff.mp hf
    refine GX3_87 b2 dX3_endParagraph_265 rfl ?_
    obtain ⟨x3, b4, hf⟩ := Option.bind_eq_some_iff.mp hf
    refine GX3_539 b4 dX3_endParagraph_268 rfl ?_
    refine w_icmp_ge 306 dX3_endParagraph_271 (by decide) (fun c5 => ?_) (fun c5 => ?_)
    · replace hf := (if_pos (show x3 ≤ l2 from c5)).symm.trans hf
      refine w_iconst dX3_endParagraph_306 (v := 0) (by decide) ?_
      refine w_istore_n dX3_endParagraph_307 rfl (by decide) (ls' := [some (.ref l0), none, some (.int (0 : Int32))]) rfl ?_
      exact (pX3_endParagraph_b308 hd N _ _ _ _ hf).to ⟨rfl, rfl, trivial⟩
    · replace hf := (if_neg (show ¬ (x3 ≤ l2) from c5)).symm.trans hf
      refine w_aload_n dX3_endParagraph_274 rfl rfl ?_
      obtain ⟨a6, b7, hf⟩ := Option.bind_eq_some_iff.mp hf
      refine GX3_178 b7 dX3_endParagraph_275 rfl ?_
      refine w_bipush dX3_endParagraph_278 (v := 6) (by decide) ?_
      refine w_dup2_11 dX3_endParagraph_280 rfl rfl ?_
      obtain ⟨x8, b9, hf⟩ := Option.bind_eq_some_iff.mp hf
      refine x_rI b9 dX3_endParagraph_281 ?_
      refine w_aload_n dX3_endParagraph_282 rfl rfl ?_
      obtain ⟨a10, b11, hf⟩ := Option.bind_eq_some_iff.mp hf
      refine GX3_87 b11 dX3_endParagraph_283 rfl ?_
      refine w_iload_n dX3_endParagraph_286 rfl rfl ?_
      obtain ⟨_, b12, hf⟩ := Option.bind_eq_some_iff.mp hf
      refine x_cnI hf (e_stV (Yc := YX21_isHyphen) (ci := 20) (av := [.int l2]) (st := [.int x8, .int (6 : Int32), .ref a6]) dX3_endParagraph_287 q3836 mX21_isHyphen rfl (k_ok_some b12).1 (k_ok_some b12).2) mX21_isHyphen.2.2.1 mX21_isHyphen.2.2.2.2.1 (Nat.le_of_ble_eq_true rfl) (Nat.le_of_ble_eq_true rfl) (fun q hq => pX21_isHyphen (by omega) hq) (fun q13 hf => ?_)
      refine w_if_eq 297 dX3_endParagraph_290 (by decide) (fun c14 => ?_) (fun c14 => ?_)
      · replace hf := (if_pos (show q13.1 = 0 from c14)).symm.trans hf
        refine w_iconst dX3_endParagraph_297 (v := 0) (by decide) ?_
        exact (pX3_endParagraph_b298 hd ih hf).to ⟨rfl, rfl, trivial⟩
      · replace hf := (if_neg (show ¬ (q13.1 = 0) from c14)).symm.trans hf
        refine w_iconst dX3_endParagraph_293 (v := 1) (by decide) ?_
        refine w_goto 298 dX3_endParagraph_294 (by decide) ?_
        exact (pX3_endParagraph_b298 hd ih hf).to ⟨rfl, rfl, trivial⟩
def fX3_endParagraph_b171 (N : Nat) (l0 : Nat) (s0 : Int32) (h : eH) : Option ((Unit ⊕ Nat) × eH) :=
  (g_A 2 h l0 17).bind fun a1 =>
  (g_I 33 h a1 1).bind fun x3 =>
  (p_V 33 h a1 1 (.int (x3 - s0))).bind fun h5 =>
  (g_A 2 h5 l0 11).bind fun a7 =>
  (g_A 20 h5 a7 0).bind fun a9 =>
  (g_I 21 h5 a9 5).bind fun x11 =>
  (p_V 21 h5 a9 5 (.int (x11 - s0))).bind fun h13 =>
  (g_A 2 h13 l0 0).bind fun a15 =>
  (g_A 2 h13 l0 11).bind fun a17 =>
  (k_ok 20 h13 a17).bind fun _ =>
  (fX21_run N a17 h13).bind fun q20 =>
  (k_ok 3 q20.2 a15).bind fun _ =>
  t_B (fX4_want a15 q20.1 (2 : Int32) q20.2) fun x22 h23 =>
  (g_A 2 h23 l0 6).bind fun a24 =>
  (k_ok 8 h23 a24).bind fun _ =>
  (fX9_set N a24 (268 : Int32) (0 : Int32) (0 : Int32) h23).bind fun q27 =>
  (g_A 2 q27.2 l0 36).bind fun a28 =>
  (r_I 100 q27.2 a28 (4 : Int32)).bind fun x30 =>
  (g_A 2 q27.2 l0 11).bind fun a32 =>
  (g_I 20 q27.2 a32 7).bind fun x34 =>
  (q_V 100 q27.2 a28 (4 : Int32) (.int (x30 + x34))).bind fun h36 =>
  (g_A 2 h36 l0 36).bind fun a38 =>
  (r_I 100 h36 a38 (7 : Int32)).bind fun x40 =>
  (g_A 2 h36 l0 11).bind fun a42 =>
  (g_I 20 h36 a42 6).bind fun x44 =>
  (q_V 100 h36 a38 (7 : Int32) (.int (x40 + x44))).bind fun h46 =>
  fX3_endParagraph_b263 N N l0 (0 : Int32) h46
theorem pX3_endParagraph_b171 {w : eW} {d : Nat} (hd : 16 ≤ d + 1) {N : Nat} {l0 : Nat} {s0 : Int32} {h : eH} {q} (hf : fX3_endParagraph_b171 N l0 s0 h = some q) : wp w (d + 1) YX3_endParagraph 171 [some (.ref l0), none, none] [.int s0] h (e_is (e_rt c_V q)) := by
  unfold fX3_endParagraph_b171 at hf
  refine w_istore_n dX3_endParagraph_171 rfl (by decide) (ls' := [some (.ref l0), some (.int s0), none]) rfl ?_
  refine w_aload_n dX3_endParagraph_172 rfl rfl ?_
  obtain ⟨a1, b2, hf⟩ := Option.bind_eq_some_iff.mp hf
  refine GX3_130 b2 dX3_endParagraph_173 rfl ?_
  refine w_dup dX3_endParagraph_176 rfl ?_
  obtain ⟨x3, b4, hf⟩ := Option.bind_eq_some_iff.mp hf
  refine GX3_210 b4 dX3_endParagraph_177 rfl ?_
  refine w_iload_n dX3_endParagraph_180 rfl rfl ?_
  refine w_isub dX3_endParagraph_181 ?_
  obtain ⟨h5, b6, hf⟩ := Option.bind_eq_some_iff.mp hf
  refine SX3_210 b6 dX3_endParagraph_182 rfl ?_
  refine w_aload_n dX3_endParagraph_185 rfl rfl ?_
  obtain ⟨a7, b8, hf⟩ := Option.bind_eq_some_iff.mp hf
  refine GX3_87 b8 dX3_endParagraph_186 rfl ?_
  obtain ⟨a9, b10, hf⟩ := Option.bind_eq_some_iff.mp hf
  refine GX3_510 b10 dX3_endParagraph_189 rfl ?_
  refine w_dup dX3_endParagraph_192 rfl ?_
  obtain ⟨x11, b12, hf⟩ := Option.bind_eq_some_iff.mp hf
  refine GX3_535 b12 dX3_endParagraph_193 rfl ?_
  refine w_iload_n dX3_endParagraph_196 rfl rfl ?_
  refine w_isub dX3_endParagraph_197 ?_
  obtain ⟨h13, b14, hf⟩ := Option.bind_eq_some_iff.mp hf
  refine SX3_535 b14 dX3_endParagraph_198 rfl ?_
  refine w_aload_n dX3_endParagraph_201 rfl rfl ?_
  obtain ⟨a15, b16, hf⟩ := Option.bind_eq_some_iff.mp hf
  refine GX3_14 b16 dX3_endParagraph_202 rfl ?_
  refine w_aload_n dX3_endParagraph_205 rfl rfl ?_
  obtain ⟨a17, b18, hf⟩ := Option.bind_eq_some_iff.mp hf
  refine GX3_87 b18 dX3_endParagraph_206 rfl ?_
  obtain ⟨_, b19, hf⟩ := Option.bind_eq_some_iff.mp hf
  refine x_cnI hf (e_stV (Yc := YX21_run) (ci := 20) (av := []) (st := [.ref a15]) dX3_endParagraph_209 q3709 mX21_run rfl (k_ok_some b19).1 (k_ok_some b19).2) mX21_run.2.2.1 mX21_run.2.2.2.2.1 (Nat.le_of_ble_eq_true rfl) (Nat.le_of_ble_eq_true rfl) (fun q hq => pX21_run (by omega) hq) (fun q20 hf => ?_)
  refine w_iconst dX3_endParagraph_212 (v := 2) (by decide) ?_
  obtain ⟨_, b21, hf⟩ := Option.bind_eq_some_iff.mp hf
  refine x_ctV hf (e_stV (Yc := YX4_want) (ci := 3) (av := [.int q20.1, .int (2 : Int32)]) (st := []) dX3_endParagraph_213 q2846 mX4_want rfl (k_ok_some b21).1 (k_ok_some b21).2) mX4_want.2.2.1 mX4_want.2.2.2.2.1 (Nat.le_of_ble_eq_true rfl) (Nat.le_of_ble_eq_true rfl) rfl (fun q hq => pX4_want (by omega) hq) (fun x22 h23 hf => ?_)
  refine w_aload_n dX3_endParagraph_216 rfl rfl ?_
  obtain ⟨a24, b25, hf⟩ := Option.bind_eq_some_iff.mp hf
  refine GX3_53 b25 dX3_endParagraph_217 rfl ?_
  refine w_sipush dX3_endParagraph_220 (v := 268) (by decide) ?_
  refine w_iconst dX3_endParagraph_223 (v := 0) (by decide) ?_
  refine w_iconst dX3_endParagraph_224 (v := 0) (by decide) ?_
  obtain ⟨_, b26, hf⟩ := Option.bind_eq_some_iff.mp hf
  refine x_cnV hf (e_stV (Yc := YX9_set) (ci := 8) (av := [.int (268 : Int32), .int (0 : Int32), .int (0 : Int32)]) (st := []) dX3_endParagraph_225 q3474 mX9_set rfl (k_ok_some b26).1 (k_ok_some b26).2) mX9_set.2.2.1 mX9_set.2.2.2.2.1 (Nat.le_of_ble_eq_true rfl) (Nat.le_of_ble_eq_true rfl) (fun q hq => pX9_set (by omega) hq) (fun q27 hf => ?_)
  refine w_aload_n dX3_endParagraph_228 rfl rfl ?_
  obtain ⟨a28, b29, hf⟩ := Option.bind_eq_some_iff.mp hf
  refine GX3_178 b29 dX3_endParagraph_229 rfl ?_
  refine w_iconst dX3_endParagraph_232 (v := 4) (by decide) ?_
  refine w_dup2_11 dX3_endParagraph_233 rfl rfl ?_
  obtain ⟨x30, b31, hf⟩ := Option.bind_eq_some_iff.mp hf
  refine x_rI b31 dX3_endParagraph_234 ?_
  refine w_aload_n dX3_endParagraph_235 rfl rfl ?_
  obtain ⟨a32, b33, hf⟩ := Option.bind_eq_some_iff.mp hf
  refine GX3_87 b33 dX3_endParagraph_236 rfl ?_
  obtain ⟨x34, b35, hf⟩ := Option.bind_eq_some_iff.mp hf
  refine GX3_539 b35 dX3_endParagraph_239 rfl ?_
  refine w_iadd dX3_endParagraph_242 ?_
  obtain ⟨h36, b37, hf⟩ := Option.bind_eq_some_iff.mp hf
  refine x_qI b37 dX3_endParagraph_243 ?_
  refine w_aload_n dX3_endParagraph_244 rfl rfl ?_
  obtain ⟨a38, b39, hf⟩ := Option.bind_eq_some_iff.mp hf
  refine GX3_178 b39 dX3_endParagraph_245 rfl ?_
  refine w_bipush dX3_endParagraph_248 (v := 7) (by decide) ?_
  refine w_dup2_11 dX3_endParagraph_250 rfl rfl ?_
  obtain ⟨x40, b41, hf⟩ := Option.bind_eq_some_iff.mp hf
  refine x_rI b41 dX3_endParagraph_251 ?_
  refine w_aload_n dX3_endParagraph_252 rfl rfl ?_
  obtain ⟨a42, b43, hf⟩ := Option.bind_eq_some_iff.mp hf
  refine GX3_87 b43 dX3_endParagraph_253 rfl ?_
  obtain ⟨x44, b45, hf⟩ := Option.bind_eq_some_iff.mp hf
  refine GX3_542 b45 dX3_endParagraph_256 rfl ?_
  refine w_iadd dX3_endParagraph_259 ?_
  obtain ⟨h46, b47, hf⟩ := Option.bind_eq_some_iff.mp hf
  refine x_qI b47 dX3_endParagraph_260 ?_
  refine w_iconst dX3_endParagraph_261 (v := 0) (by decide) ?_
  refine w_istore_n dX3_endParagraph_262 rfl (by decide) (ls' := [some (.ref l0), some (.int s0), some (.int (0 : Int32))]) rfl ?_
  exact (pX3_endParagraph_b263 hd N _ _ _ _ hf).to ⟨rfl, rfl, trivial⟩
def fX3_endParagraph_b104 (N : Nat) : Nat → Nat → Int32 → eH → Option ((Unit ⊕ Nat) × eH)
  | 0, _, _, _ => none
  | n + 1, l0, l1, h =>
    (g_A 2 h l0 17).bind fun a1 =>
    (g_I 33 h a1 1).bind fun x3 =>
    if x3 ≤ l1 then
      (g_A 2 h l0 0).bind fun a6 =>
      (g_A 2 h l0 11).bind fun a8 =>
      (k_ok 20 h a8).bind fun _ =>
      (fX21_areSizes N a8 h).bind fun q11 =>
      (k_ok 3 q11.2 a6).bind fun _ =>
      t_B (fX4_want a6 q11.1 (16 : Int32) q11.2) fun x13 h14 =>
      (g_A 2 h14 l0 17).bind fun a15 =>
      (g_A 2 h14 l0 17).bind fun a17 =>
      (g_I 33 h14 a17 1).bind fun x19 =>
      (k_ok 33 h14 a15).bind fun _ =>
      (fX34_kind a15 (x19 - (1 : Int32)) h14).bind fun q22 =>
      if ¬ q22.1 = (2 : Int32) then
        fX3_endParagraph_b171 N l0 (0 : Int32) q22.2
      else
        fX3_endParagraph_b171 N l0 (1 : Int32) q22.2
    else
      (g_A 2 h l0 17).bind fun a24 =>
      (k_ok 2 h l0).bind fun _ =>
      (fX3_takeItem l0 a24 l1 h).bind fun q27 =>
      fX3_endParagraph_b104 N n l0 (l1 + (1 : Int32)) q27.2
theorem pX3_endParagraph_b104 {w : eW} {d : Nat} (hd : 16 ≤ d + 1) {N : Nat} : ∀ (n : Nat) l0 l1 h q, fX3_endParagraph_b104 N n l0 l1 h = some q → wp w (d + 1) YX3_endParagraph 104 [some (.ref l0), some (.int l1), none] [] h (e_is (e_rt c_V q)) := by
  intro n
  induction n with
  | zero => intro l0 l1 h q hf; simp [fX3_endParagraph_b104] at hf
  | succ n ih =>
    intro l0 l1 h q hf
    rw [fX3_endParagraph_b104] at hf
    refine w_iload_n dX3_endParagraph_104 rfl rfl ?_
    refine w_aload_n dX3_endParagraph_105 rfl rfl ?_
    obtain ⟨a1, b2, hf⟩ := Option.bind_eq_some_iff.mp hf
    refine GX3_130 b2 dX3_endParagraph_106 rfl ?_
    obtain ⟨x3, b4, hf⟩ := Option.bind_eq_some_iff.mp hf
    refine GX3_210 b4 dX3_endParagraph_109 rfl ?_
    refine w_icmp_ge 130 dX3_endParagraph_112 (by decide) (fun c5 => ?_) (fun c5 => ?_)
    · replace hf := (if_pos (show x3 ≤ l1 from c5)).symm.trans hf
      refine w_aload_n dX3_endParagraph_130 rfl rfl ?_
      obtain ⟨a6, b7, hf⟩ := Option.bind_eq_some_iff.mp hf
      refine GX3_14 b7 dX3_endParagraph_131 rfl ?_
      refine w_aload_n dX3_endParagraph_134 rfl rfl ?_
      obtain ⟨a8, b9, hf⟩ := Option.bind_eq_some_iff.mp hf
      refine GX3_87 b9 dX3_endParagraph_135 rfl ?_
      obtain ⟨_, b10, hf⟩ := Option.bind_eq_some_iff.mp hf
      refine x_cnI hf (e_stV (Yc := YX21_areSizes) (ci := 20) (av := []) (st := [.ref a6]) dX3_endParagraph_138 q3697 mX21_areSizes rfl (k_ok_some b10).1 (k_ok_some b10).2) mX21_areSizes.2.2.1 mX21_areSizes.2.2.2.2.1 (Nat.le_of_ble_eq_true rfl) (Nat.le_of_ble_eq_true rfl) (fun q hq => pX21_areSizes (by omega) hq) (fun q11 hf => ?_)
      refine w_bipush dX3_endParagraph_141 (v := 16) (by decide) ?_
      obtain ⟨_, b12, hf⟩ := Option.bind_eq_some_iff.mp hf
      refine x_ctV hf (e_stV (Yc := YX4_want) (ci := 3) (av := [.int q11.1, .int (16 : Int32)]) (st := []) dX3_endParagraph_143 q2846 mX4_want rfl (k_ok_some b12).1 (k_ok_some b12).2) mX4_want.2.2.1 mX4_want.2.2.2.2.1 (Nat.le_of_ble_eq_true rfl) (Nat.le_of_ble_eq_true rfl) rfl (fun q hq => pX4_want (by omega) hq) (fun x13 h14 hf => ?_)
      refine w_aload_n dX3_endParagraph_146 rfl rfl ?_
      obtain ⟨a15, b16, hf⟩ := Option.bind_eq_some_iff.mp hf
      refine GX3_130 b16 dX3_endParagraph_147 rfl ?_
      refine w_aload_n dX3_endParagraph_150 rfl rfl ?_
      obtain ⟨a17, b18, hf⟩ := Option.bind_eq_some_iff.mp hf
      refine GX3_130 b18 dX3_endParagraph_151 rfl ?_
      obtain ⟨x19, b20, hf⟩ := Option.bind_eq_some_iff.mp hf
      refine GX3_210 b20 dX3_endParagraph_154 rfl ?_
      refine w_iconst dX3_endParagraph_157 (v := 1) (by decide) ?_
      refine w_isub dX3_endParagraph_158 ?_
      obtain ⟨_, b21, hf⟩ := Option.bind_eq_some_iff.mp hf
      refine x_cnI hf (e_stV (Yc := YX34_kind) (ci := 33) (av := [.int (x19 - (1 : Int32))]) (st := []) dX3_endParagraph_159 q3157 mX34_kind rfl (k_ok_some b21).1 (k_ok_some b21).2) mX34_kind.2.2.1 mX34_kind.2.2.2.2.1 (Nat.le_of_ble_eq_true rfl) (Nat.le_of_ble_eq_true rfl) (fun q hq => pX34_kind (by omega) hq) (fun q22 hf => ?_)
      refine w_iconst dX3_endParagraph_162 (v := 2) (by decide) ?_
      refine w_icmp_ne 170 dX3_endParagraph_163 (by decide) (fun c23 => ?_) (fun c23 => ?_)
      · replace hf := (if_pos (show ¬ q22.1 = (2 : Int32) from c23)).symm.trans hf
        refine w_iconst dX3_endParagraph_170 (v := 0) (by decide) ?_
        exact (pX3_endParagraph_b171 hd hf).to ⟨rfl, trivial⟩
      · replace hf := (if_neg (show ¬ (¬ q22.1 = (2 : Int32)) from (fun z => z c23))).symm.trans hf
        refine w_iconst dX3_endParagraph_166 (v := 1) (by decide) ?_
        refine w_goto 171 dX3_endParagraph_167 (by decide) ?_
        exact (pX3_endParagraph_b171 hd hf).to ⟨rfl, trivial⟩
    · replace hf := (if_neg (show ¬ (x3 ≤ l1) from c5)).symm.trans hf
      refine w_aload_n dX3_endParagraph_115 rfl rfl ?_
      refine w_aload_n dX3_endParagraph_116 rfl rfl ?_
      obtain ⟨a24, b25, hf⟩ := Option.bind_eq_some_iff.mp hf
      refine GX3_130 b25 dX3_endParagraph_117 rfl ?_
      refine w_iload_n dX3_endParagraph_120 rfl rfl ?_
      obtain ⟨_, b26, hf⟩ := Option.bind_eq_some_iff.mp hf
      refine x_cnV hf (e_stV (Yc := YX3_takeItem) (ci := 2) (av := [.ref a24, .int l1]) (st := []) dX3_endParagraph_121 q3689 mX3_takeItem rfl (k_ok_some b26).1 (k_ok_some b26).2) mX3_takeItem.2.2.1 mX3_takeItem.2.2.2.2.1 (Nat.le_of_ble_eq_true rfl) (Nat.le_of_ble_eq_true rfl) (fun q hq => pX3_takeItem (by omega) hq) (fun q27 hf => ?_)
      refine w_iinc dX3_endParagraph_124 (v := (l1 + (1 : Int32))) rfl rfl (by decide) (ls' := [some (.ref l0), some (.int (l1 + (1 : Int32))), none]) rfl ?_
      refine w_goto 104 dX3_endParagraph_127 (by decide) ?_
      exact (ih _ _ _ _ hf).to ⟨rfl, rfl, trivial⟩
def fX3_endParagraph_b84 (N : Nat) (l0 : Nat) (s0 : Nat) (s1 : Int32) (h : eH) : Option ((Unit ⊕ Nat) × eH) :=
  (k_ok 3 h s0).bind fun _ =>
  t_B (fX4_want s0 s1 (2 : Int32) h) fun x2 h3 =>
  (g_A 2 h3 l0 11).bind fun a4 =>
  (g_A 2 h3 l0 6).bind fun a6 =>
  (g_A 8 h3 a6 3).bind fun a8 =>
  (k_ok 20 h3 a4).bind fun _ =>
  (fX21_prepare N a4 a8 h3).bind fun q11 =>
  fX3_endParagraph_b104 N N l0 (0 : Int32) q11.2
theorem pX3_endParagraph_b84 {w : eW} {d : Nat} (hd : 16 ≤ d + 1) {N : Nat} {l0 : Nat} {s0 : Nat} {s1 : Int32} {h : eH} {q} (hf : fX3_endParagraph_b84 N l0 s0 s1 h = some q) : wp w (d + 1) YX3_endParagraph 84 [some (.ref l0), none, none] [.int s1, .ref s0] h (e_is (e_rt c_V q)) := by
  unfold fX3_endParagraph_b84 at hf
  refine w_iconst dX3_endParagraph_84 (v := 2) (by decide) ?_
  obtain ⟨_, b1, hf⟩ := Option.bind_eq_some_iff.mp hf
  refine x_ctV hf (e_stV (Yc := YX4_want) (ci := 3) (av := [.int s1, .int (2 : Int32)]) (st := []) dX3_endParagraph_85 q2846 mX4_want rfl (k_ok_some b1).1 (k_ok_some b1).2) mX4_want.2.2.1 mX4_want.2.2.2.2.1 (Nat.le_of_ble_eq_true rfl) (Nat.le_of_ble_eq_true rfl) rfl (fun q hq => pX4_want (by omega) hq) (fun x2 h3 hf => ?_)
  refine w_aload_n dX3_endParagraph_88 rfl rfl ?_
  obtain ⟨a4, b5, hf⟩ := Option.bind_eq_some_iff.mp hf
  refine GX3_87 b5 dX3_endParagraph_89 rfl ?_
  refine w_aload_n dX3_endParagraph_92 rfl rfl ?_
  obtain ⟨a6, b7, hf⟩ := Option.bind_eq_some_iff.mp hf
  refine GX3_53 b7 dX3_endParagraph_93 rfl ?_
  obtain ⟨a8, b9, hf⟩ := Option.bind_eq_some_iff.mp hf
  refine GX3_311 b9 dX3_endParagraph_96 rfl ?_
  obtain ⟨_, b10, hf⟩ := Option.bind_eq_some_iff.mp hf
  refine x_cnV hf (e_stV (Yc := YX21_prepare) (ci := 20) (av := [.ref a8]) (st := []) dX3_endParagraph_99 q3674 mX21_prepare rfl (k_ok_some b10).1 (k_ok_some b10).2) mX21_prepare.2.2.1 mX21_prepare.2.2.2.2.1 (Nat.le_of_ble_eq_true rfl) (Nat.le_of_ble_eq_true rfl) (fun q hq => pX21_prepare (by omega) hq) (fun q11 hf => ?_)
  refine w_iconst dX3_endParagraph_102 (v := 0) (by decide) ?_
  refine w_istore_n dX3_endParagraph_103 rfl (by decide) (ls' := [some (.ref l0), some (.int (0 : Int32)), none]) rfl ?_
  exact (pX3_endParagraph_b104 hd N _ _ _ _ hf).to ⟨rfl, rfl, trivial⟩
def fX3_endParagraph_b18 (N : Nat) : Nat → Nat → Int32 → eH → Option ((Unit ⊕ Nat) × eH)
  | 0, _, _, _ => none
  | n + 1, l0, l1, h =>
    (g_A 2 h l0 16).bind fun a1 =>
    (g_I 33 h a1 1).bind fun x3 =>
    if x3 ≤ l1 then
      (k_ok 2 h l0).bind fun _ =>
      (fX3_pop l0 h).bind fun q7 =>
      (g_A 2 q7.2 l0 17).bind fun a8 =>
      (g_I 33 q7.2 a8 1).bind fun x10 =>
      if ¬ x10 = 0 then
        (g_A 2 q7.2 l0 0).bind fun a13 =>
        (g_A 2 q7.2 l0 17).bind fun a15 =>
        (g_I 33 q7.2 a15 1).bind fun x17 =>
        if (2000 : Int32) < x17 then
          fX3_endParagraph_b84 N l0 a13 (0 : Int32) q7.2
        else
          fX3_endParagraph_b84 N l0 a13 (1 : Int32) q7.2
      else
        some (.inl (), q7.2)
    else
      (g_A 2 h l0 17).bind fun a20 =>
      (g_A 2 h l0 16).bind fun a22 =>
      (k_ok 33 h a20).bind fun _ =>
      (fX34_copy a20 a22 l1 h).bind fun q25 =>
      fX3_endParagraph_b18 N n l0 (l1 + (1 : Int32)) q25.2
theorem pX3_endParagraph_b18 {w : eW} {d : Nat} (hd : 16 ≤ d + 1) {N : Nat} : ∀ (n : Nat) l0 l1 h q, fX3_endParagraph_b18 N n l0 l1 h = some q → wp w (d + 1) YX3_endParagraph 18 [some (.ref l0), some (.int l1), none] [] h (e_is (e_rt c_V q)) := by
  intro n
  induction n with
  | zero => intro l0 l1 h q hf; simp [fX3_endParagraph_b18] at hf
  | succ n ih =>
    intro l0 l1 h q hf
    rw [fX3_endParagraph_b18] at hf
    refine w_iload_n dX3_endParagraph_18 rfl rfl ?_
    refine w_aload_n dX3_endParagraph_19 rfl rfl ?_
    obtain ⟨a1, b2, hf⟩ := Option.bind_eq_some_iff.mp hf
    refine GX3_126 b2 dX3_endParagraph_20 rfl ?_
    obtain ⟨x3, b4, hf⟩ := Option.bind_eq_some_iff.mp hf
    refine GX3_210 b4 dX3_endParagraph_23 rfl ?_
    refine w_icmp_ge 47 dX3_endParagraph_26 (by decide) (fun c5 => ?_) (fun c5 => ?_)
    · replace hf := (if_pos (show x3 ≤ l1 from c5)).symm.trans hf
      refine w_aload_n dX3_endParagraph_47 rfl rfl ?_
      obtain ⟨_, b6, hf⟩ := Option.bind_eq_some_iff.mp hf
      refine x_cnV hf (e_stV (Yc := YX3_pop) (ci := 2) (av := []) (st := []) dX3_endParagraph_48 q3670 mX3_pop rfl (k_ok_some b6).1 (k_ok_some b6).2) mX3_pop.2.2.1 mX3_pop.2.2.2.2.1 (Nat.le_of_ble_eq_true rfl) (Nat.le_of_ble_eq_true rfl) (fun q hq => pX3_pop (by omega) hq) (fun q7 hf => ?_)
      refine w_aload_n dX3_endParagraph_51 rfl rfl ?_
      obtain ⟨a8, b9, hf⟩ := Option.bind_eq_some_iff.mp hf
      refine GX3_130 b9 dX3_endParagraph_52 rfl ?_
      obtain ⟨x10, b11, hf⟩ := Option.bind_eq_some_iff.mp hf
      refine GX3_210 b11 dX3_endParagraph_55 rfl ?_
      refine w_if_ne 62 dX3_endParagraph_58 (by decide) (fun c12 => ?_) (fun c12 => ?_)
      · replace hf := (if_pos (show ¬ x10 = 0 from c12)).symm.trans hf
        refine w_aload_n dX3_endParagraph_62 rfl rfl ?_
        obtain ⟨a13, b14, hf⟩ := Option.bind_eq_some_iff.mp hf
        refine GX3_14 b14 dX3_endParagraph_63 rfl ?_
        refine w_aload_n dX3_endParagraph_66 rfl rfl ?_
        obtain ⟨a15, b16, hf⟩ := Option.bind_eq_some_iff.mp hf
        refine GX3_130 b16 dX3_endParagraph_67 rfl ?_
        obtain ⟨x17, b18, hf⟩ := Option.bind_eq_some_iff.mp hf
        refine GX3_210 b18 dX3_endParagraph_70 rfl ?_
        refine w_sipush dX3_endParagraph_73 (v := 2000) (by decide) ?_
        refine w_icmp_gt 83 dX3_endParagraph_76 (by decide) (fun c19 => ?_) (fun c19 => ?_)
        · replace hf := (if_pos (show (2000 : Int32) < x17 from c19)).symm.trans hf
          refine w_iconst dX3_endParagraph_83 (v := 0) (by decide) ?_
          exact (pX3_endParagraph_b84 hd hf).to ⟨rfl, trivial⟩
        · replace hf := (if_neg (show ¬ ((2000 : Int32) < x17) from c19)).symm.trans hf
          refine w_iconst dX3_endParagraph_79 (v := 1) (by decide) ?_
          refine w_goto 84 dX3_endParagraph_80 (by decide) ?_
          exact (pX3_endParagraph_b84 hd hf).to ⟨rfl, trivial⟩
      · replace hf := (if_neg (show ¬ (¬ x10 = 0) from (fun z => z c12))).symm.trans hf
        cases hf
        exact w_vret dX3_endParagraph_61 rfl rfl
    · replace hf := (if_neg (show ¬ (x3 ≤ l1) from c5)).symm.trans hf
      refine w_aload_n dX3_endParagraph_29 rfl rfl ?_
      obtain ⟨a20, b21, hf⟩ := Option.bind_eq_some_iff.mp hf
      refine GX3_130 b21 dX3_endParagraph_30 rfl ?_
      refine w_aload_n dX3_endParagraph_33 rfl rfl ?_
      obtain ⟨a22, b23, hf⟩ := Option.bind_eq_some_iff.mp hf
      refine GX3_126 b23 dX3_endParagraph_34 rfl ?_
      refine w_iload_n dX3_endParagraph_37 rfl rfl ?_
      obtain ⟨_, b24, hf⟩ := Option.bind_eq_some_iff.mp hf
      refine x_cnV hf (e_stV (Yc := YX34_copy) (ci := 33) (av := [.ref a22, .int l1]) (st := []) dX3_endParagraph_38 q3665 mX34_copy rfl (k_ok_some b24).1 (k_ok_some b24).2) mX34_copy.2.2.1 mX34_copy.2.2.2.2.1 (Nat.le_of_ble_eq_true rfl) (Nat.le_of_ble_eq_true rfl) (fun q hq => pX34_copy (by omega) hq) (fun q25 hf => ?_)
      refine w_iinc dX3_endParagraph_41 (v := (l1 + (1 : Int32))) rfl rfl (by decide) (ls' := [some (.ref l0), some (.int (l1 + (1 : Int32))), none]) rfl ?_
      refine w_goto 18 dX3_endParagraph_44 (by decide) ?_
      exact (ih _ _ _ _ hf).to ⟨rfl, rfl, trivial⟩
def fX3_endParagraph (N : Nat) (this : Nat) (h : eH) : Option ((Unit ⊕ Nat) × eH) :=
  (g_A 2 h this 17).bind fun a1 =>
  (p_V 33 h a1 1 (.int (0 : Int32))).bind fun h3 =>
  (g_A 2 h3 this 20).bind fun a5 =>
  (g_I 2 h3 this 27).bind fun x7 =>
  (r_I 100 h3 a5 x7).bind fun x9 =>
  fX3_endParagraph_b18 N N this x9 h3
theorem pX3_endParagraph {w : eW} {d : Nat} (hd : 16 ≤ d) {N : Nat} {this : Nat} {h : eH} {q} (hf : fX3_endParagraph N this h = some q) : wm w d YX3_endParagraph [.ref this] h (e_is (e_rt c_V q)) := by
  obtain ⟨d, rfl⟩ : ∃ e, d = e + 1 := ⟨d - 1, by omega⟩
  show wp w (d + 1) YX3_endParagraph 0 [some (.ref this), none, none] [] h _
  unfold fX3_endParagraph at hf
  refine w_aload_n dX3_endParagraph_0 rfl rfl ?_
  obtain ⟨a1, b2, hf⟩ := Option.bind_eq_some_iff.mp hf
  refine GX3_130 b2 dX3_endParagraph_1 rfl ?_
  refine w_iconst dX3_endParagraph_4 (v := 0) (by decide) ?_
  obtain ⟨h3, b4, hf⟩ := Option.bind_eq_some_iff.mp hf
  refine SX3_210 b4 dX3_endParagraph_5 rfl ?_
  refine w_aload_n dX3_endParagraph_8 rfl rfl ?_
  obtain ⟨a5, b6, hf⟩ := Option.bind_eq_some_iff.mp hf
  refine GX3_140 b6 dX3_endParagraph_9 rfl ?_
  refine w_aload_n dX3_endParagraph_12 rfl rfl ?_
  obtain ⟨x7, b8, hf⟩ := Option.bind_eq_some_iff.mp hf
  refine GX3_211 b8 dX3_endParagraph_13 rfl ?_
  obtain ⟨x9, b10, hf⟩ := Option.bind_eq_some_iff.mp hf
  refine x_rI b10 dX3_endParagraph_16 ?_
  refine w_istore_n dX3_endParagraph_17 rfl (by decide) (ls' := [some (.ref this), some (.int x9), none]) rfl ?_
  exact (pX3_endParagraph_b18 hd N _ _ _ _ hf).to ⟨rfl, rfl, trivial⟩
abbrev cX9_close : ByteArray := prog_28_method_12_code
def yX9_close : MethodName := ⟨RX9, "close", "()V"⟩
def YX9_close : eY := (yX9_close, cX9_close, 4, none, [])
theorem mX9_close : e_mv YX9_close RX9 0 := ⟨q3872, q3873, q3874, by decide, by decide +kernel, (e_sig (by decide +kernel))⟩
theorem dX9_close_0 : decode cX9_close 0 = .ok (.aload_n 0, 1) := dc_42 (by decide +kernel)
theorem dX9_close_1 : decode cX9_close 1 = .ok (.dup, 1) := dc_89 (by decide +kernel)
theorem dX9_close_2 : decode cX9_close 2 = .ok (.getfield 58, 3) := dc_180 (a := 0) (b := 58) (n := 58) (by decide +kernel)
theorem dX9_close_5 : decode cX9_close 5 = .ok (.iconst 1, 1) := dc_4 (by decide +kernel)
theorem dX9_close_6 : decode cX9_close 6 = .ok (.isub, 1) := dc_100 (by decide +kernel)
theorem dX9_close_7 : decode cX9_close 7 = .ok (.putfield 58, 3) := dc_181 (a := 0) (b := 58) (n := 58) (by decide +kernel)
theorem dX9_close_10 : decode cX9_close 10 = .ok (.aload_n 0, 1) := dc_42 (by decide +kernel)
theorem dX9_close_11 : decode cX9_close 11 = .ok (.getfield 54, 3) := dc_180 (a := 0) (b := 54) (n := 54) (by decide +kernel)
theorem dX9_close_14 : decode cX9_close 14 = .ok (.aload_n 0, 1) := dc_42 (by decide +kernel)
theorem dX9_close_15 : decode cX9_close 15 = .ok (.getfield 39, 3) := dc_180 (a := 0) (b := 39) (n := 39) (by decide +kernel)
theorem dX9_close_18 : decode cX9_close 18 = .ok (.aload_n 0, 1) := dc_42 (by decide +kernel)
theorem dX9_close_19 : decode cX9_close 19 = .ok (.getfield 58, 3) := dc_180 (a := 0) (b := 58) (n := 58) (by decide +kernel)
theorem dX9_close_22 : decode cX9_close 22 = .ok (.iaload, 1) := dc_46 (by decide +kernel)
theorem dX9_close_23 : decode cX9_close 23 = .ok (.if_icmp .le 141, 3) := dc_164 (a := 0) (b := 141) (v := 141) (by decide +kernel)
theorem dX9_close_26 : decode cX9_close 26 = .ok (.aload_n 0, 1) := dc_42 (by decide +kernel)
theorem dX9_close_27 : decode cX9_close 27 = .ok (.dup, 1) := dc_89 (by decide +kernel)
theorem dX9_close_28 : decode cX9_close 28 = .ok (.getfield 54, 3) := dc_180 (a := 0) (b := 54) (n := 54) (by decide +kernel)
theorem dX9_close_31 : decode cX9_close 31 = .ok (.iconst 1, 1) := dc_4 (by decide +kernel)
theorem dX9_close_32 : decode cX9_close 32 = .ok (.isub, 1) := dc_100 (by decide +kernel)
theorem dX9_close_33 : decode cX9_close 33 = .ok (.putfield 54, 3) := dc_181 (a := 0) (b := 54) (n := 54) (by decide +kernel)
theorem dX9_close_36 : decode cX9_close 36 = .ok (.iconst 2, 1) := dc_5 (by decide +kernel)
theorem dX9_close_37 : decode cX9_close 37 = .ok (.aload_n 0, 1) := dc_42 (by decide +kernel)
theorem dX9_close_38 : decode cX9_close 38 = .ok (.getfield 54, 3) := dc_180 (a := 0) (b := 54) (n := 54) (by decide +kernel)
theorem dX9_close_41 : decode cX9_close 41 = .ok (.imul, 1) := dc_104 (by decide +kernel)
theorem dX9_close_42 : decode cX9_close 42 = .ok (.istore_n 1, 1) := dc_60 (by decide +kernel)
theorem dX9_close_43 : decode cX9_close 43 = .ok (.aload_n 0, 1) := dc_42 (by decide +kernel)
theorem dX9_close_44 : decode cX9_close 44 = .ok (.getfield 27, 3) := dc_180 (a := 0) (b := 27) (n := 27) (by decide +kernel)
theorem dX9_close_47 : decode cX9_close 47 = .ok (.iload_n 1, 1) := dc_27 (by decide +kernel)
theorem dX9_close_48 : decode cX9_close 48 = .ok (.iaload, 1) := dc_46 (by decide +kernel)
theorem dX9_close_49 : decode cX9_close 49 = .ok (.bipush 10, 2) := dc_16 (a := 10) (v := 10) (by decide +kernel)
theorem dX9_close_51 : decode cX9_close 51 = .ok (.ishr, 1) := dc_122 (by decide +kernel)
theorem dX9_close_52 : decode cX9_close 52 = .ok (.sipush 2200, 3) := dc_17 (a := 8) (b := 152) (v := 2200) (by decide +kernel)
theorem dX9_close_55 : decode cX9_close 55 = .ok (.isub, 1) := dc_100 (by decide +kernel)
theorem dX9_close_56 : decode cX9_close 56 = .ok (.istore_n 2, 1) := dc_61 (by decide +kernel)
theorem dX9_close_57 : decode cX9_close 57 = .ok (.aload_n 0, 1) := dc_42 (by decide +kernel)
theorem dX9_close_58 : decode cX9_close 58 = .ok (.getfield 27, 3) := dc_180 (a := 0) (b := 27) (n := 27) (by decide +kernel)
theorem dX9_close_61 : decode cX9_close 61 = .ok (.iload_n 1, 1) := dc_27 (by decide +kernel)
theorem dX9_close_62 : decode cX9_close 62 = .ok (.iaload, 1) := dc_46 (by decide +kernel)
theorem dX9_close_63 : decode cX9_close 63 = .ok (.iconst 3, 1) := dc_6 (by decide +kernel)
theorem dX9_close_64 : decode cX9_close 64 = .ok (.ishr, 1) := dc_122 (by decide +kernel)
theorem dX9_close_65 : decode cX9_close 65 = .ok (.bipush 127, 2) := dc_16 (a := 127) (v := 127) (by decide +kernel)
theorem dX9_close_67 : decode cX9_close 67 = .ok (.iand, 1) := dc_126 (by decide +kernel)
theorem dX9_close_68 : decode cX9_close 68 = .ok (.istore_n 3, 1) := dc_62 (by decide +kernel)
theorem dX9_close_69 : decode cX9_close 69 = .ok (.iload_n 2, 1) := dc_28 (by decide +kernel)
theorem dX9_close_70 : decode cX9_close 70 = .ok (.ifCond .lt 51, 3) := dc_155 (a := 0) (b := 51) (v := 51) (by decide +kernel)
theorem dX9_close_73 : decode cX9_close 73 = .ok (.aload_n 0, 1) := dc_42 (by decide +kernel)
theorem dX9_close_74 : decode cX9_close 74 = .ok (.getfield 18, 3) := dc_180 (a := 0) (b := 18) (n := 18) (by decide +kernel)
theorem dX9_close_77 : decode cX9_close 77 = .ok (.iload_n 2, 1) := dc_28 (by decide +kernel)
theorem dX9_close_78 : decode cX9_close 78 = .ok (.iaload, 1) := dc_46 (by decide +kernel)
theorem dX9_close_79 : decode cX9_close 79 = .ok (.ifCond .le 42, 3) := dc_158 (a := 0) (b := 42) (v := 42) (by decide +kernel)
theorem dX9_close_82 : decode cX9_close 82 = .ok (.aload_n 0, 1) := dc_42 (by decide +kernel)
theorem dX9_close_83 : decode cX9_close 83 = .ok (.getfield 9, 3) := dc_180 (a := 0) (b := 9) (n := 9) (by decide +kernel)
theorem dX9_close_86 : decode cX9_close 86 = .ok (.iload_n 2, 1) := dc_28 (by decide +kernel)
theorem dX9_close_87 : decode cX9_close 87 = .ok (.aload_n 0, 1) := dc_42 (by decide +kernel)
theorem dX9_close_88 : decode cX9_close 88 = .ok (.getfield 27, 3) := dc_180 (a := 0) (b := 27) (n := 27) (by decide +kernel)
theorem dX9_close_91 : decode cX9_close 91 = .ok (.iload_n 1, 1) := dc_27 (by decide +kernel)
theorem dX9_close_92 : decode cX9_close 92 = .ok (.iaload, 1) := dc_46 (by decide +kernel)
theorem dX9_close_93 : decode cX9_close 93 = .ok (.bipush 7, 2) := dc_16 (a := 7) (v := 7) (by decide +kernel)
theorem dX9_close_95 : decode cX9_close 95 = .ok (.iand, 1) := dc_126 (by decide +kernel)
theorem dX9_close_96 : decode cX9_close 96 = .ok (.iastore, 1) := dc_79 (by decide +kernel)
theorem dX9_close_97 : decode cX9_close 97 = .ok (.aload_n 0, 1) := dc_42 (by decide +kernel)
theorem dX9_close_98 : decode cX9_close 98 = .ok (.getfield 15, 3) := dc_180 (a := 0) (b := 15) (n := 15) (by decide +kernel)
theorem dX9_close_101 : decode cX9_close 101 = .ok (.iload_n 2, 1) := dc_28 (by decide +kernel)
theorem dX9_close_102 : decode cX9_close 102 = .ok (.aload_n 0, 1) := dc_42 (by decide +kernel)
theorem dX9_close_103 : decode cX9_close 103 = .ok (.getfield 27, 3) := dc_180 (a := 0) (b := 27) (n := 27) (by decide +kernel)
theorem dX9_close_106 : decode cX9_close 106 = .ok (.iload_n 1, 1) := dc_27 (by decide +kernel)
theorem dX9_close_107 : decode cX9_close 107 = .ok (.iconst 1, 1) := dc_4 (by decide +kernel)
theorem dX9_close_108 : decode cX9_close 108 = .ok (.iadd, 1) := dc_96 (by decide +kernel)
theorem dX9_close_109 : decode cX9_close 109 = .ok (.iaload, 1) := dc_46 (by decide +kernel)
theorem dX9_close_110 : decode cX9_close 110 = .ok (.iastore, 1) := dc_79 (by decide +kernel)
theorem dX9_close_111 : decode cX9_close 111 = .ok (.aload_n 0, 1) := dc_42 (by decide +kernel)
theorem dX9_close_112 : decode cX9_close 112 = .ok (.getfield 18, 3) := dc_180 (a := 0) (b := 18) (n := 18) (by decide +kernel)
theorem dX9_close_115 : decode cX9_close 115 = .ok (.iload_n 2, 1) := dc_28 (by decide +kernel)
theorem dX9_close_116 : decode cX9_close 116 = .ok (.iload_n 3, 1) := dc_29 (by decide +kernel)
theorem dX9_close_117 : decode cX9_close 117 = .ok (.iastore, 1) := dc_79 (by decide +kernel)
theorem dX9_close_118 : decode cX9_close 118 = .ok (.goto 43, 3) := dc_167 (a := 0) (b := 43) (v := 43) (by decide +kernel)
theorem dX9_close_121 : decode cX9_close 121 = .ok (.iload_n 2, 1) := dc_28 (by decide +kernel)
theorem dX9_close_122 : decode cX9_close 122 = .ok (.ifCond .ge 39, 3) := dc_156 (a := 0) (b := 39) (v := 39) (by decide +kernel)
theorem dX9_close_125 : decode cX9_close 125 = .ok (.aload_n 0, 1) := dc_42 (by decide +kernel)
theorem dX9_close_126 : decode cX9_close 126 = .ok (.getfield 24, 3) := dc_180 (a := 0) (b := 24) (n := 24) (by decide +kernel)
theorem dX9_close_129 : decode cX9_close 129 = .ok (.iconst (-1), 1) := dc_2 (by decide +kernel)
theorem dX9_close_130 : decode cX9_close 130 = .ok (.iload_n 2, 1) := dc_28 (by decide +kernel)
theorem dX9_close_131 : decode cX9_close 131 = .ok (.isub, 1) := dc_100 (by decide +kernel)
theorem dX9_close_132 : decode cX9_close 132 = .ok (.iaload, 1) := dc_46 (by decide +kernel)
theorem dX9_close_133 : decode cX9_close 133 = .ok (.ifCond .le 28, 3) := dc_158 (a := 0) (b := 28) (v := 28) (by decide +kernel)
theorem dX9_close_136 : decode cX9_close 136 = .ok (.aload_n 0, 1) := dc_42 (by decide +kernel)
theorem dX9_close_137 : decode cX9_close 137 = .ok (.getfield 21, 3) := dc_180 (a := 0) (b := 21) (n := 21) (by decide +kernel)
theorem dX9_close_140 : decode cX9_close 140 = .ok (.iconst (-1), 1) := dc_2 (by decide +kernel)
theorem dX9_close_141 : decode cX9_close 141 = .ok (.iload_n 2, 1) := dc_28 (by decide +kernel)
theorem dX9_close_142 : decode cX9_close 142 = .ok (.isub, 1) := dc_100 (by decide +kernel)
theorem dX9_close_143 : decode cX9_close 143 = .ok (.aload_n 0, 1) := dc_42 (by decide +kernel)
theorem dX9_close_144 : decode cX9_close 144 = .ok (.getfield 27, 3) := dc_180 (a := 0) (b := 27) (n := 27) (by decide +kernel)
theorem dX9_close_147 : decode cX9_close 147 = .ok (.iload_n 1, 1) := dc_27 (by decide +kernel)
theorem dX9_close_148 : decode cX9_close 148 = .ok (.iconst 1, 1) := dc_4 (by decide +kernel)
theorem dX9_close_149 : decode cX9_close 149 = .ok (.iadd, 1) := dc_96 (by decide +kernel)
theorem dX9_close_150 : decode cX9_close 150 = .ok (.iaload, 1) := dc_46 (by decide +kernel)
theorem dX9_close_151 : decode cX9_close 151 = .ok (.iastore, 1) := dc_79 (by decide +kernel)
theorem dX9_close_152 : decode cX9_close 152 = .ok (.aload_n 0, 1) := dc_42 (by decide +kernel)
theorem dX9_close_153 : decode cX9_close 153 = .ok (.getfield 24, 3) := dc_180 (a := 0) (b := 24) (n := 24) (by decide +kernel)
theorem dX9_close_156 : decode cX9_close 156 = .ok (.iconst (-1), 1) := dc_2 (by decide +kernel)
theorem dX9_close_157 : decode cX9_close 157 = .ok (.iload_n 2, 1) := dc_28 (by decide +kernel)
theorem dX9_close_158 : decode cX9_close 158 = .ok (.isub, 1) := dc_100 (by decide +kernel)
theorem dX9_close_159 : decode cX9_close 159 = .ok (.iload_n 3, 1) := dc_29 (by decide +kernel)
theorem dX9_close_160 : decode cX9_close 160 = .ok (.iastore, 1) := dc_79 (by decide +kernel)
theorem dX9_close_161 : decode cX9_close 161 = .ok (.goto (-151), 3) := dc_167 (a := 255) (b := 105) (v := -151) (by decide +kernel)
theorem dX9_close_164 : decode cX9_close 164 = .ok (.return_, 1) := dc_177 (by decide +kernel)
def fX9_close_b161 (N : Nat) (k10 : Nat → eH → Option (Unit × eH)) (l0 : Nat) (h : eH) : Option (Unit × eH) :=
  k10 l0 h
theorem pX9_close_b161 {w : eW} {d : Nat} (hd : 0 ≤ d) {N : Nat} {k10 : Nat → eH → Option (Unit × eH)} (hk10 : ∀ l0 h q, k10 l0 h = some q → wp w d YX9_close 10 [some (.ref l0), none, none, none] [] h (e_is (e_rn c_V q))) {l0 : Nat} {h : eH} {q} (hf : fX9_close_b161 N k10 l0 h = some q) : wp w d YX9_close 161 [some (.ref l0), none, none, none] [] h (e_is (e_rn c_V q)) := by
  unfold fX9_close_b161 at hf
  refine w_goto 10 dX9_close_161 (by decide) ?_
  exact (hk10 _ _ _ hf).to ⟨rfl, trivial⟩
def fX9_close_b121 (N : Nat) (k10 : Nat → eH → Option (Unit × eH)) (l0 : Nat) (l1 : Int32) (l2 : Int32) (l3 : Int32) (h : eH) : Option (Unit × eH) :=
  if 0 ≤ l2 then
    fX9_close_b161 N k10 l0 h
  else
    (g_A 8 h l0 4).bind fun a2 =>
    (r_I 100 h a2 ((-1 : Int32) - l2)).bind fun x4 =>
    if x4 ≤ 0 then
      fX9_close_b161 N k10 l0 h
    else
      (g_A 8 h l0 3).bind fun a7 =>
      (g_A 8 h l0 5).bind fun a9 =>
      (r_I 100 h a9 (l1 + (1 : Int32))).bind fun x11 =>
      (q_V 100 h a7 ((-1 : Int32) - l2) (.int x11)).bind fun h13 =>
      (g_A 8 h13 l0 4).bind fun a15 =>
      (q_V 100 h13 a15 ((-1 : Int32) - l2) (.int l3)).bind fun h17 =>
      fX9_close_b161 N k10 l0 h17
theorem pX9_close_b121 {w : eW} {d : Nat} (hd : 0 ≤ d) {N : Nat} {k10 : Nat → eH → Option (Unit × eH)} (hk10 : ∀ l0 h q, k10 l0 h = some q → wp w d YX9_close 10 [some (.ref l0), none, none, none] [] h (e_is (e_rn c_V q))) {l0 : Nat} {l1 : Int32} {l2 : Int32} {l3 : Int32} {h : eH} {q} (hf : fX9_close_b121 N k10 l0 l1 l2 l3 h = some q) : wp w d YX9_close 121 [some (.ref l0), some (.int l1), some (.int l2), some (.int l3)] [] h (e_is (e_rn c_V q)) := by
  unfold fX9_close_b121 at hf
  refine w_iload_n dX9_close_121 rfl rfl ?_
  refine w_if_ge 161 dX9_close_122 (by decide) (fun c1 => ?_) (fun c1 => ?_)
  · replace hf := (if_pos (show 0 ≤ l2 from c1)).symm.trans hf
    exact (pX9_close_b161 hd hk10 hf).to ⟨rfl, trivial⟩
  · replace hf := (if_neg (show ¬ (0 ≤ l2) from c1)).symm.trans hf
    refine w_aload_n dX9_close_125 rfl rfl ?_
    obtain ⟨a2, b3, hf⟩ := Option.bind_eq_some_iff.mp hf
    refine GX9_24 b3 dX9_close_126 rfl ?_
    refine w_iconst dX9_close_129 (v := -1) (by decide) ?_
    refine w_iload_n dX9_close_130 rfl rfl ?_
    refine w_isub dX9_close_131 ?_
    obtain ⟨x4, b5, hf⟩ := Option.bind_eq_some_iff.mp hf
    refine x_rI b5 dX9_close_132 ?_
    refine w_if_le 161 dX9_close_133 (by decide) (fun c6 => ?_) (fun c6 => ?_)
    · replace hf := (if_pos (show x4 ≤ 0 from c6)).symm.trans hf
      exact (pX9_close_b161 hd hk10 hf).to ⟨rfl, trivial⟩
    · replace hf := (if_neg (show ¬ (x4 ≤ 0) from c6)).symm.trans hf
      refine w_aload_n dX9_close_136 rfl rfl ?_
      obtain ⟨a7, b8, hf⟩ := Option.bind_eq_some_iff.mp hf
      refine GX9_21 b8 dX9_close_137 rfl ?_
      refine w_iconst dX9_close_140 (v := -1) (by decide) ?_
      refine w_iload_n dX9_close_141 rfl rfl ?_
      refine w_isub dX9_close_142 ?_
      refine w_aload_n dX9_close_143 rfl rfl ?_
      obtain ⟨a9, b10, hf⟩ := Option.bind_eq_some_iff.mp hf
      refine GX9_27 b10 dX9_close_144 rfl ?_
      refine w_iload_n dX9_close_147 rfl rfl ?_
      refine w_iconst dX9_close_148 (v := 1) (by decide) ?_
      refine w_iadd dX9_close_149 ?_
      obtain ⟨x11, b12, hf⟩ := Option.bind_eq_some_iff.mp hf
      refine x_rI b12 dX9_close_150 ?_
      obtain ⟨h13, b14, hf⟩ := Option.bind_eq_some_iff.mp hf
      refine x_qI b14 dX9_close_151 ?_
      refine w_aload_n dX9_close_152 rfl rfl ?_
      obtain ⟨a15, b16, hf⟩ := Option.bind_eq_some_iff.mp hf
      refine GX9_24 b16 dX9_close_153 rfl ?_
      refine w_iconst dX9_close_156 (v := -1) (by decide) ?_
      refine w_iload_n dX9_close_157 rfl rfl ?_
      refine w_isub dX9_close_158 ?_
      refine w_iload_n dX9_close_159 rfl rfl ?_
      obtain ⟨h17, b18, hf⟩ := Option.bind_eq_some_iff.mp hf
      refine x_qI b18 dX9_close_160 ?_
      exact (pX9_close_b161 hd hk10 hf).to ⟨rfl, trivial⟩
def fX9_close_b10 (N : Nat) : Nat → Nat → eH → Option (Unit × eH)
  | 0, _, _ => none
  | n + 1, l0, h =>
    (g_I 8 h l0 6).bind fun x1 =>
    (g_A 8 h l0 10).bind fun a3 =>
    (g_I 8 h l0 11).bind fun x5 =>
    (r_I 100 h a3 x5).bind fun x7 =>
    if x1 ≤ x7 then
      some ((), h)
    else
      (g_I 8 h l0 6).bind fun x10 =>
      (p_V 8 h l0 6 (.int (x10 - (1 : Int32)))).bind fun h12 =>
      (g_I 8 h12 l0 6).bind fun x14 =>
      (g_A 8 h12 l0 5).bind fun a16 =>
      (r_I 100 h12 a16 ((2 : Int32) * x14)).bind fun x18 =>
      (g_A 8 h12 l0 5).bind fun a20 =>
      (r_I 100 h12 a20 ((2 : Int32) * x14)).bind fun x22 =>
      if ((x18 >>> ((10 : Int32) &&& 31)) - (2200 : Int32)) < 0 then
        fX9_close_b121 N (fX9_close_b10 N n) l0 ((2 : Int32) * x14) ((x18 >>> ((10 : Int32) &&& 31)) - (2200 : Int32)) ((x22 >>> ((3 : Int32) &&& 31)) &&& (127 : Int32)) h12
      else
        (g_A 8 h12 l0 2).bind fun a25 =>
        (r_I 100 h12 a25 ((x18 >>> ((10 : Int32) &&& 31)) - (2200 : Int32))).bind fun x27 =>
        if x27 ≤ 0 then
          fX9_close_b121 N (fX9_close_b10 N n) l0 ((2 : Int32) * x14) ((x18 >>> ((10 : Int32) &&& 31)) - (2200 : Int32)) ((x22 >>> ((3 : Int32) &&& 31)) &&& (127 : Int32)) h12
        else
          (g_A 8 h12 l0 0).bind fun a30 =>
          (g_A 8 h12 l0 5).bind fun a32 =>
          (r_I 100 h12 a32 ((2 : Int32) * x14)).bind fun x34 =>
          (q_V 100 h12 a30 ((x18 >>> ((10 : Int32) &&& 31)) - (2200 : Int32)) (.int (x34 &&& (7 : Int32)))).bind fun h36 =>
          (g_A 8 h36 l0 1).bind fun a38 =>
          (g_A 8 h36 l0 5).bind fun a40 =>
          (r_I 100 h36 a40 (((2 : Int32) * x14) + (1 : Int32))).bind fun x42 =>
          (q_V 100 h36 a38 ((x18 >>> ((10 : Int32) &&& 31)) - (2200 : Int32)) (.int x42)).bind fun h44 =>
          (g_A 8 h44 l0 2).bind fun a46 =>
          (q_V 100 h44 a46 ((x18 >>> ((10 : Int32) &&& 31)) - (2200 : Int32)) (.int ((x22 >>> ((3 : Int32) &&& 31)) &&& (127 : Int32)))).bind fun h48 =>
          fX9_close_b161 N (fX9_close_b10 N n) l0 h48
theorem pX9_close_b10 {w : eW} {d : Nat} (hd : 0 ≤ d) {N : Nat} : ∀ (n : Nat) l0 h q, fX9_close_b10 N n l0 h = some q → wp w d YX9_close 10 [some (.ref l0), none, none, none] [] h (e_is (e_rn c_V q)) := by
  intro n
  induction n with
  | zero => intro l0 h q hf; simp [fX9_close_b10] at hf
  | succ n ih =>
    intro l0 h q hf
    rw [fX9_close_b10] at hf
    refine w_aload_n dX9_close_10 rfl rfl ?_
    obtain ⟨x1, b2, hf⟩ := Option.bind_eq_some_iff.mp hf
    refine GX9_54 b2 dX9_close_11 rfl ?_
    refine w_aload_n dX9_close_14 rfl rfl ?_
    obtain ⟨a3, b4, hf⟩ := Option.bind_eq_some_iff.mp hf
    refine GX9_39 b4 dX9_close_15 rfl ?_
    refine w_aload_n dX9_close_18 rfl rfl ?_
    obtain ⟨x5, b6, hf⟩ := Option.bind_eq_some_iff.mp hf
    refine GX9_58 b6 dX9_close_19 rfl ?_
    obtain ⟨x7, b8, hf⟩ := Option.bind_eq_some_iff.mp hf
    refine x_rI b8 dX9_close_22 ?_
    refine w_icmp_le 164 dX9_close_23 (by decide) (fun c9 => ?_) (fun c9 => ?_)
    · replace hf := (if_pos (show x1 ≤ x7 from c9)).symm.trans hf
      cases hf
      exact w_vret dX9_close_164 rfl rfl
    · replace hf := (if_neg (show ¬ (x1 ≤ x7) from c9)).symm.trans hf
      refine w_aload_n dX9_close_26 rfl rfl ?_
      refine w_dup dX9_close_27 rfl ?_
      obtain ⟨x10, b11, hf⟩ := Option.bind_eq_some_iff.mp hf
      refine GX9_54 b11 dX9_close_28 rfl ?_
      refine w_iconst dX9_close_31 (v := 1) (by decide) ?_
      refine w_isub dX9_close_32 ?_
      obtain ⟨h12, b13, hf⟩ := Option.bind_eq_some_iff.mp hf
      refine SX9_54 b13 dX9_close_33 rfl ?_
      refine w_iconst dX9_close_36 (v := 2) (by decide) ?_
      refine w_aload_n dX9_close_37 rfl rfl ?_
      obtain ⟨x14, b15, hf⟩ := Option.bind_eq_some_iff.mp hf
      refine GX9_54 b15 dX9_close_38 rfl ?_
      refine w_imul dX9_close_41 ?_
      refine w_istore_n dX9_close_42 rfl (by decide) (ls' := [some (.ref l0), some (.int ((2 : Int32) * x14)), none, none]) rfl ?_
      refine w_aload_n dX9_close_43 rfl rfl ?_
      obtain ⟨a16, b17, hf⟩ := Option.bind_eq_some_iff.mp hf
      refine GX9_27 b17 dX9_close_44 rfl ?_
      refine w_iload_n dX9_close_47 rfl rfl ?_
      obtain ⟨x18, b19, hf⟩ := Option.bind_eq_some_iff.mp hf
      refine x_rI b19 dX9_close_48 ?_
      refine w_bipush dX9_close_49 (v := 10) (by decide) ?_
      refine w_ishr dX9_close_51 ?_
      refine w_sipush dX9_close_52 (v := 2200) (by decide) ?_
      refine w_isub dX9_close_55 ?_
      refine w_istore_n dX9_close_56 rfl (by decide) (ls' := [some (.ref l0), some (.int ((2 : Int32) * x14)), some (.int ((x18 >>> ((10 : Int32) &&& 31)) - (2200 : Int32))), none]) rfl ?_
      refine w_aload_n dX9_close_57 rfl rfl ?_
      obtain ⟨a20, b21, hf⟩ := Option.bind_eq_some_iff.mp hf
      refine GX9_27 b21 dX9_close_58 rfl ?_
      refine w_iload_n dX9_close_61 rfl rfl ?_
      obtain ⟨x22, b23, hf⟩ := Option.bind_eq_some_iff.mp hf
      refine x_rI b23 dX9_close_62 ?_
      refine w_iconst dX9_close_63 (v := 3) (by decide) ?_
      refine w_ishr dX9_close_64 ?_
      refine w_bipush dX9_close_65 (v := 127) (by decide) ?_
      refine w_iand dX9_close_67 ?_
      refine w_istore_n dX9_close_68 rfl (by decide) (ls' := [some (.ref l0), some (.int ((2 : Int32) * x14)), some (.int ((x18 >>> ((10 : Int32) &&& 31)) - (2200 : Int32))), some (.int ((x22 >>> ((3 : Int32) &&& 31)) &&& (127 : Int32)))]) rfl ?_
      refine w_iload_n dX9_close_69 rfl rfl ?_
      refine w_if_lt 121 dX9_close_70 (by decide) (fun c24 => ?_) (fun c24 => ?_)
      · replace hf := (if_pos (show ((x18 >>> ((10 : Int32) &&& 31)) - (2200 : Int32)) < 0 from c24)).symm.trans hf
        exact (pX9_close_b121 hd ih hf).to ⟨rfl, rfl, rfl, rfl, trivial⟩
      · replace hf := (if_neg (show ¬ (((x18 >>> ((10 : Int32) &&& 31)) - (2200 : Int32)) < 0) from c24)).symm.trans hf
        refine w_aload_n dX9_close_73 rfl rfl ?_
        obtain ⟨a25, b26, hf⟩ := Option.bind_eq_some_iff.mp hf
        refine GX9_18 b26 dX9_close_74 rfl ?_
        refine w_iload_n dX9_close_77 rfl rfl ?_
        obtain ⟨x27, b28, hf⟩ := Option.bind_eq_some_iff.mp hf
        refine x_rI b28 dX9_close_78 ?_
        refine w_if_le 121 dX9_close_79 (by decide) (fun c29 => ?_) (fun c29 => ?_)
        · replace hf := (if_pos (show x27 ≤ 0 from c29)).symm.trans hf
          exact (pX9_close_b121 hd ih hf).to ⟨rfl, rfl, rfl, rfl, trivial⟩
        · replace hf := (if_neg (show ¬ (x27 ≤ 0) from c29)).symm.trans hf
          refine w_aload_n dX9_close_82 rfl rfl ?_
          obtain ⟨a30, b31, hf⟩ := Option.bind_eq_some_iff.mp hf
          refine GX9_9 b31 dX9_close_83 rfl ?_
          refine w_iload_n dX9_close_86 rfl rfl ?_
          refine w_aload_n dX9_close_87 rfl rfl ?_
          obtain ⟨a32, b33, hf⟩ := Option.bind_eq_some_iff.mp hf
          refine GX9_27 b33 dX9_close_88 rfl ?_
          refine w_iload_n dX9_close_91 rfl rfl ?_
          obtain ⟨x34, b35, hf⟩ := Option.bind_eq_some_iff.mp hf
          refine x_rI b35 dX9_close_92 ?_
          refine w_bipush dX9_close_93 (v := 7) (by decide) ?_
          refine w_iand dX9_close_95 ?_
          obtain ⟨h36, b37, hf⟩ := Option.bind_eq_some_iff.mp hf
          refine x_qI b37 dX9_close_96 ?_
          refine w_aload_n dX9_close_97 rfl rfl ?_
          obtain ⟨a38, b39, hf⟩ := Option.bind_eq_some_iff.mp hf
          refine GX9_15 b39 dX9_close_98 rfl ?_
          refine w_iload_n dX9_close_101 rfl rfl ?_
          refine w_aload_n dX9_close_102 rfl rfl ?_
          obtain ⟨a40, b41, hf⟩ := Option.bind_eq_some_iff.mp hf
          refine GX9_27 b41 dX9_close_103 rfl ?_
          refine w_iload_n dX9_close_106 rfl rfl ?_
          refine w_iconst dX9_close_107 (v := 1) (by decide) ?_
          refine w_iadd dX9_close_108 ?_
          obtain ⟨x42, b43, hf⟩ := Option.bind_eq_some_iff.mp hf
          refine x_rI b43 dX9_close_109 ?_
          obtain ⟨h44, b45, hf⟩ := Option.bind_eq_some_iff.mp hf
          refine x_qI b45 dX9_close_110 ?_
          refine w_aload_n dX9_close_111 rfl rfl ?_
          obtain ⟨a46, b47, hf⟩ := Option.bind_eq_some_iff.mp hf
          refine GX9_18 b47 dX9_close_112 rfl ?_
          refine w_iload_n dX9_close_115 rfl rfl ?_
          refine w_iload_n dX9_close_116 rfl rfl ?_
          obtain ⟨h48, b49, hf⟩ := Option.bind_eq_some_iff.mp hf
          refine x_qI b49 dX9_close_117 ?_
          refine w_goto 161 dX9_close_118 (by decide) ?_
          exact (pX9_close_b161 hd ih hf).to ⟨rfl, trivial⟩
def fX9_close (N : Nat) (this : Nat) (h : eH) : Option (Unit × eH) :=
  (g_I 8 h this 11).bind fun x1 =>
  (p_V 8 h this 11 (.int (x1 - (1 : Int32)))).bind fun h3 =>
  fX9_close_b10 N N this h3
theorem pX9_close {w : eW} {d : Nat} (hd : 0 ≤ d) {N : Nat} {this : Nat} {h : eH} {q} (hf : fX9_close N this h = some q) : wm w d YX9_close [.ref this] h (e_is (e_rn c_V q)) := by
  show wp w d YX9_close 0 [some (.ref this), none, none, none] [] h _
  unfold fX9_close at hf
  refine w_aload_n dX9_close_0 rfl rfl ?_
  refine w_dup dX9_close_1 rfl ?_
  obtain ⟨x1, b2, hf⟩ := Option.bind_eq_some_iff.mp hf
  refine GX9_58 b2 dX9_close_2 rfl ?_
  refine w_iconst dX9_close_5 (v := 1) (by decide) ?_
  refine w_isub dX9_close_6 ?_
  obtain ⟨h3, b4, hf⟩ := Option.bind_eq_some_iff.mp hf
  refine SX9_58 b4 dX9_close_7 rfl ?_
  exact (pX9_close_b10 hd N _ _ _ hf).to ⟨rfl, trivial⟩
abbrev cX3_deliver : ByteArray := prog_26_method_21_code
def yX3_deliver : MethodName := ⟨RX3, "deliver", "(IIIZ)V"⟩
def YX3_deliver : eY := (yX3_deliver, cX3_deliver, 5, none, [])
theorem mX3_deliver : e_mv YX3_deliver RX3 4 := ⟨q3877, qs184, q3878, by decide, by decide +kernel, (e_sig (by decide +kernel))⟩
theorem dX3_deliver_0 : decode cX3_deliver 0 = .ok (.iload_n 2, 1) := dc_28 (by decide +kernel)
theorem dX3_deliver_1 : decode cX3_deliver 1 = .ok (.ifCond .lt 21, 3) := dc_155 (a := 0) (b := 21) (v := 21) (by decide +kernel)
theorem dX3_deliver_4 : decode cX3_deliver 4 = .ok (.aload_n 0, 1) := dc_42 (by decide +kernel)
theorem dX3_deliver_5 : decode cX3_deliver 5 = .ok (.getfield 53, 3) := dc_180 (a := 0) (b := 53) (n := 53) (by decide +kernel)
theorem dX3_deliver_8 : decode cX3_deliver 8 = .ok (.sipush 1583, 3) := dc_17 (a := 6) (b := 47) (v := 1583) (by decide +kernel)
theorem dX3_deliver_11 : decode cX3_deliver 11 = .ok (.iload_n 2, 1) := dc_28 (by decide +kernel)
theorem dX3_deliver_12 : decode cX3_deliver 12 = .ok (.iadd, 1) := dc_96 (by decide +kernel)
theorem dX3_deliver_13 : decode cX3_deliver 13 = .ok (.iload_n 1, 1) := dc_27 (by decide +kernel)
theorem dX3_deliver_14 : decode cX3_deliver 14 = .ok (.iload 4, 2) := dc_21 (a := 4) (by decide +kernel)
theorem dX3_deliver_16 : decode cX3_deliver 16 = .ok (.invokevirtual 434, 3) := dc_182 (a := 1) (b := 178) (n := 434) (by decide +kernel)
theorem dX3_deliver_19 : decode cX3_deliver 19 = .ok (.goto 14, 3) := dc_167 (a := 0) (b := 14) (v := 14) (by decide +kernel)
theorem dX3_deliver_22 : decode cX3_deliver 22 = .ok (.iload_n 1, 1) := dc_27 (by decide +kernel)
theorem dX3_deliver_23 : decode cX3_deliver 23 = .ok (.iconst (-1), 1) := dc_2 (by decide +kernel)
theorem dX3_deliver_24 : decode cX3_deliver 24 = .ok (.if_icmp .eq 9, 3) := dc_159 (a := 0) (b := 9) (v := 9) (by decide +kernel)
theorem dX3_deliver_27 : decode cX3_deliver 27 = .ok (.aload_n 0, 1) := dc_42 (by decide +kernel)
theorem dX3_deliver_28 : decode cX3_deliver 28 = .ok (.iload_n 1, 1) := dc_27 (by decide +kernel)
theorem dX3_deliver_29 : decode cX3_deliver 29 = .ok (.iload_n 3, 1) := dc_29 (by decide +kernel)
theorem dX3_deliver_30 : decode cX3_deliver 30 = .ok (.invokevirtual 438, 3) := dc_182 (a := 1) (b := 182) (n := 438) (by decide +kernel)
theorem dX3_deliver_33 : decode cX3_deliver 33 = .ok (.return_, 1) := dc_177 (by decide +kernel)
def fX3_deliver_b33 (N : Nat)  (h : eH) : Option ((Unit ⊕ Nat) × eH) :=
  some (.inl (), h)
theorem pX3_deliver_b33 {w : eW} {d : Nat} (hd : 15 ≤ d + 1) {N : Nat}  {h : eH} {q} (hf : fX3_deliver_b33 N h = some q) : wp w (d + 1) YX3_deliver 33 [none, none, none, none, none] [] h (e_is (e_rt c_V q)) := by
  unfold fX3_deliver_b33 at hf
  cases hf
  exact w_vret dX3_deliver_33 rfl rfl
def fX3_deliver (N : Nat) (this : Nat) (p0 : Int32) (p1 : Int32) (p2 : Int32) (p3 : Int32) (h : eH) : Option ((Unit ⊕ Nat) × eH) :=
  if p1 < 0 then
    if p0 = (-1 : Int32) then
      fX3_deliver_b33 N h
    else
      (k_ok 2 h this).bind fun _ =>
      t_B (fX3_addBox N this p0 p2 h) fun x4 h5 =>
      fX3_deliver_b33 N h5
  else
    (g_A 2 h this 6).bind fun a6 =>
    (k_ok 8 h a6).bind fun _ =>
    (fX9_set N a6 ((1583 : Int32) + p1) p0 p3 h).bind fun q9 =>
    fX3_deliver_b33 N q9.2
theorem pX3_deliver {w : eW} {d : Nat} (hd : 15 ≤ d) {N : Nat} {this : Nat} {p0 : Int32} {p1 : Int32} {p2 : Int32} {p3 : Int32} {h : eH} {q} (hf : fX3_deliver N this p0 p1 p2 p3 h = some q) : wm w d YX3_deliver [.ref this, .int p0, .int p1, .int p2, .int p3] h (e_is (e_rt c_V q)) := by
  obtain ⟨d, rfl⟩ : ∃ e, d = e + 1 := ⟨d - 1, by omega⟩
  show wp w (d + 1) YX3_deliver 0 [some (.ref this), some (.int p0), some (.int p1), some (.int p2), some (.int p3)] [] h _
  unfold fX3_deliver at hf
  refine w_iload_n dX3_deliver_0 rfl rfl ?_
  refine w_if_lt 22 dX3_deliver_1 (by decide) (fun c1 => ?_) (fun c1 => ?_)
  · replace hf := (if_pos (show p1 < 0 from c1)).symm.trans hf
    refine w_iload_n dX3_deliver_22 rfl rfl ?_
    refine w_iconst dX3_deliver_23 (v := -1) (by decide) ?_
    refine w_icmp_eq 33 dX3_deliver_24 (by decide) (fun c2 => ?_) (fun c2 => ?_)
    · replace hf := (if_pos (show p0 = (-1 : Int32) from c2)).symm.trans hf
      exact (pX3_deliver_b33 hd hf).to trivial
    · replace hf := (if_neg (show ¬ (p0 = (-1 : Int32)) from c2)).symm.trans hf
      refine w_aload_n dX3_deliver_27 rfl rfl ?_
      refine w_iload_n dX3_deliver_28 rfl rfl ?_
      refine w_iload_n dX3_deliver_29 rfl rfl ?_
      obtain ⟨_, b3, hf⟩ := Option.bind_eq_some_iff.mp hf
      refine x_ctV hf (e_stV (Yc := YX3_addBox) (ci := 2) (av := [.int p0, .int p2]) (st := []) dX3_deliver_30 q3848 mX3_addBox rfl (k_ok_some b3).1 (k_ok_some b3).2) mX3_addBox.2.2.1 mX3_addBox.2.2.2.2.1 (Nat.le_of_ble_eq_true rfl) (Nat.le_of_ble_eq_true rfl) rfl (fun q hq => pX3_addBox (by omega) hq) (fun x4 h5 hf => ?_)
      exact (pX3_deliver_b33 hd hf).to trivial
  · replace hf := (if_neg (show ¬ (p1 < 0) from c1)).symm.trans hf
    refine w_aload_n dX3_deliver_4 rfl rfl ?_
    obtain ⟨a6, b7, hf⟩ := Option.bind_eq_some_iff.mp hf
    refine GX3_53 b7 dX3_deliver_5 rfl ?_
    refine w_sipush dX3_deliver_8 (v := 1583) (by decide) ?_
    refine w_iload_n dX3_deliver_11 rfl rfl ?_
    refine w_iadd dX3_deliver_12 ?_
    refine w_iload_n dX3_deliver_13 rfl rfl ?_
    refine w_iload dX3_deliver_14 rfl ?_
    obtain ⟨_, b8, hf⟩ := Option.bind_eq_some_iff.mp hf
    refine x_cnV hf (e_stV (Yc := YX9_set) (ci := 8) (av := [.int ((1583 : Int32) + p1), .int p0, .int p3]) (st := []) dX3_deliver_16 q3474 mX9_set rfl (k_ok_some b8).1 (k_ok_some b8).2) mX9_set.2.2.1 mX9_set.2.2.2.2.1 (Nat.le_of_ble_eq_true rfl) (Nat.le_of_ble_eq_true rfl) (fun q hq => pX9_set (by omega) hq) (fun q9 hf => ?_)
    refine w_goto 33 dX3_deliver_19 (by decide) ?_
    exact (pX3_deliver_b33 hd hf).to trivial
abbrev cX3_closeBox : ByteArray := prog_26_method_22_code
def yX3_closeBox : MethodName := ⟨RX3, "closeBox", "()V"⟩
def YX3_closeBox : eY := (yX3_closeBox, cX3_closeBox, 2, none, [])
theorem mX3_closeBox : e_mv YX3_closeBox RX3 0 := ⟨q3659, qs158, q3660, by decide, by decide +kernel, (e_sig (by decide +kernel))⟩
theorem dX3_closeBox_0 : decode cX3_closeBox 0 = .ok (.aload_n 0, 1) := dc_42 (by decide +kernel)
theorem dX3_closeBox_1 : decode cX3_closeBox 1 = .ok (.getfield 136, 3) := dc_180 (a := 0) (b := 136) (n := 136) (by decide +kernel)
theorem dX3_closeBox_4 : decode cX3_closeBox 4 = .ok (.aload_n 0, 1) := dc_42 (by decide +kernel)
theorem dX3_closeBox_5 : decode cX3_closeBox 5 = .ok (.getfield 211, 3) := dc_180 (a := 0) (b := 211) (n := 211) (by decide +kernel)
theorem dX3_closeBox_8 : decode cX3_closeBox 8 = .ok (.iaload, 1) := dc_46 (by decide +kernel)
theorem dX3_closeBox_9 : decode cX3_closeBox 9 = .ok (.iconst 2, 1) := dc_5 (by decide +kernel)
theorem dX3_closeBox_10 : decode cX3_closeBox 10 = .ok (.if_icmp .ne 7, 3) := dc_160 (a := 0) (b := 7) (v := 7) (by decide +kernel)
theorem dX3_closeBox_13 : decode cX3_closeBox 13 = .ok (.aload_n 0, 1) := dc_42 (by decide +kernel)
theorem dX3_closeBox_14 : decode cX3_closeBox 14 = .ok (.invokevirtual 283, 3) := dc_182 (a := 1) (b := 27) (n := 283) (by decide +kernel)
theorem dX3_closeBox_17 : decode cX3_closeBox 17 = .ok (.aload_n 0, 1) := dc_42 (by decide +kernel)
theorem dX3_closeBox_18 : decode cX3_closeBox 18 = .ok (.aload_n 0, 1) := dc_42 (by decide +kernel)
theorem dX3_closeBox_19 : decode cX3_closeBox 19 = .ok (.getfield 126, 3) := dc_180 (a := 0) (b := 126) (n := 126) (by decide +kernel)
theorem dX3_closeBox_22 : decode cX3_closeBox 22 = .ok (.aload_n 0, 1) := dc_42 (by decide +kernel)
theorem dX3_closeBox_23 : decode cX3_closeBox 23 = .ok (.getfield 140, 3) := dc_180 (a := 0) (b := 140) (n := 140) (by decide +kernel)
theorem dX3_closeBox_26 : decode cX3_closeBox 26 = .ok (.aload_n 0, 1) := dc_42 (by decide +kernel)
theorem dX3_closeBox_27 : decode cX3_closeBox 27 = .ok (.getfield 211, 3) := dc_180 (a := 0) (b := 211) (n := 211) (by decide +kernel)
theorem dX3_closeBox_30 : decode cX3_closeBox 30 = .ok (.iaload, 1) := dc_46 (by decide +kernel)
theorem dX3_closeBox_31 : decode cX3_closeBox 31 = .ok (.aload_n 0, 1) := dc_42 (by decide +kernel)
theorem dX3_closeBox_32 : decode cX3_closeBox 32 = .ok (.getfield 136, 3) := dc_180 (a := 0) (b := 136) (n := 136) (by decide +kernel)
theorem dX3_closeBox_35 : decode cX3_closeBox 35 = .ok (.aload_n 0, 1) := dc_42 (by decide +kernel)
theorem dX3_closeBox_36 : decode cX3_closeBox 36 = .ok (.getfield 211, 3) := dc_180 (a := 0) (b := 211) (n := 211) (by decide +kernel)
theorem dX3_closeBox_39 : decode cX3_closeBox 39 = .ok (.iaload, 1) := dc_46 (by decide +kernel)
theorem dX3_closeBox_40 : decode cX3_closeBox 40 = .ok (.iconst 1, 1) := dc_4 (by decide +kernel)
theorem dX3_closeBox_41 : decode cX3_closeBox 41 = .ok (.if_icmp .ne 7, 3) := dc_160 (a := 0) (b := 7) (v := 7) (by decide +kernel)
theorem dX3_closeBox_44 : decode cX3_closeBox 44 = .ok (.iconst 1, 1) := dc_4 (by decide +kernel)
theorem dX3_closeBox_45 : decode cX3_closeBox 45 = .ok (.goto 4, 3) := dc_167 (a := 0) (b := 4) (v := 4) (by decide +kernel)
theorem dX3_closeBox_48 : decode cX3_closeBox 48 = .ok (.iconst 0, 1) := dc_3 (by decide +kernel)
theorem dX3_closeBox_49 : decode cX3_closeBox 49 = .ok (.aload_n 0, 1) := dc_42 (by decide +kernel)
theorem dX3_closeBox_50 : decode cX3_closeBox 50 = .ok (.getfield 146, 3) := dc_180 (a := 0) (b := 146) (n := 146) (by decide +kernel)
theorem dX3_closeBox_53 : decode cX3_closeBox 53 = .ok (.aload_n 0, 1) := dc_42 (by decide +kernel)
theorem dX3_closeBox_54 : decode cX3_closeBox 54 = .ok (.getfield 211, 3) := dc_180 (a := 0) (b := 211) (n := 211) (by decide +kernel)
theorem dX3_closeBox_57 : decode cX3_closeBox 57 = .ok (.iaload, 1) := dc_46 (by decide +kernel)
theorem dX3_closeBox_58 : decode cX3_closeBox 58 = .ok (.aload_n 0, 1) := dc_42 (by decide +kernel)
theorem dX3_closeBox_59 : decode cX3_closeBox 59 = .ok (.getfield 149, 3) := dc_180 (a := 0) (b := 149) (n := 149) (by decide +kernel)
theorem dX3_closeBox_62 : decode cX3_closeBox 62 = .ok (.aload_n 0, 1) := dc_42 (by decide +kernel)
theorem dX3_closeBox_63 : decode cX3_closeBox 63 = .ok (.getfield 211, 3) := dc_180 (a := 0) (b := 211) (n := 211) (by decide +kernel)
theorem dX3_closeBox_66 : decode cX3_closeBox 66 = .ok (.iaload, 1) := dc_46 (by decide +kernel)
theorem dX3_closeBox_67 : decode cX3_closeBox 67 = .ok (.invokevirtual 314, 3) := dc_182 (a := 1) (b := 58) (n := 314) (by decide +kernel)
theorem dX3_closeBox_70 : decode cX3_closeBox 70 = .ok (.istore_n 1, 1) := dc_60 (by decide +kernel)
theorem dX3_closeBox_71 : decode cX3_closeBox 71 = .ok (.aload_n 0, 1) := dc_42 (by decide +kernel)
theorem dX3_closeBox_72 : decode cX3_closeBox 72 = .ok (.invokevirtual 441, 3) := dc_182 (a := 1) (b := 185) (n := 441) (by decide +kernel)
theorem dX3_closeBox_75 : decode cX3_closeBox 75 = .ok (.aload_n 0, 1) := dc_42 (by decide +kernel)
theorem dX3_closeBox_76 : decode cX3_closeBox 76 = .ok (.getfield 53, 3) := dc_180 (a := 0) (b := 53) (n := 53) (by decide +kernel)
theorem dX3_closeBox_79 : decode cX3_closeBox 79 = .ok (.invokevirtual 269, 3) := dc_182 (a := 1) (b := 13) (n := 269) (by decide +kernel)
theorem dX3_closeBox_82 : decode cX3_closeBox 82 = .ok (.aload_n 0, 1) := dc_42 (by decide +kernel)
theorem dX3_closeBox_83 : decode cX3_closeBox 83 = .ok (.iload_n 1, 1) := dc_27 (by decide +kernel)
theorem dX3_closeBox_84 : decode cX3_closeBox 84 = .ok (.aload_n 0, 1) := dc_42 (by decide +kernel)
theorem dX3_closeBox_85 : decode cX3_closeBox 85 = .ok (.getfield 152, 3) := dc_180 (a := 0) (b := 152) (n := 152) (by decide +kernel)
theorem dX3_closeBox_88 : decode cX3_closeBox 88 = .ok (.aload_n 0, 1) := dc_42 (by decide +kernel)
theorem dX3_closeBox_89 : decode cX3_closeBox 89 = .ok (.getfield 211, 3) := dc_180 (a := 0) (b := 211) (n := 211) (by decide +kernel)
theorem dX3_closeBox_92 : decode cX3_closeBox 92 = .ok (.iconst 1, 1) := dc_4 (by decide +kernel)
theorem dX3_closeBox_93 : decode cX3_closeBox 93 = .ok (.iadd, 1) := dc_96 (by decide +kernel)
theorem dX3_closeBox_94 : decode cX3_closeBox 94 = .ok (.iaload, 1) := dc_46 (by decide +kernel)
theorem dX3_closeBox_95 : decode cX3_closeBox 95 = .ok (.aload_n 0, 1) := dc_42 (by decide +kernel)
theorem dX3_closeBox_96 : decode cX3_closeBox 96 = .ok (.getfield 155, 3) := dc_180 (a := 0) (b := 155) (n := 155) (by decide +kernel)
theorem dX3_closeBox_99 : decode cX3_closeBox 99 = .ok (.aload_n 0, 1) := dc_42 (by decide +kernel)
theorem dX3_closeBox_100 : decode cX3_closeBox 100 = .ok (.getfield 211, 3) := dc_180 (a := 0) (b := 211) (n := 211) (by decide +kernel)
theorem dX3_closeBox_103 : decode cX3_closeBox 103 = .ok (.iconst 1, 1) := dc_4 (by decide +kernel)
theorem dX3_closeBox_104 : decode cX3_closeBox 104 = .ok (.iadd, 1) := dc_96 (by decide +kernel)
theorem dX3_closeBox_105 : decode cX3_closeBox 105 = .ok (.iaload, 1) := dc_46 (by decide +kernel)
theorem dX3_closeBox_106 : decode cX3_closeBox 106 = .ok (.aload_n 0, 1) := dc_42 (by decide +kernel)
theorem dX3_closeBox_107 : decode cX3_closeBox 107 = .ok (.getfield 158, 3) := dc_180 (a := 0) (b := 158) (n := 158) (by decide +kernel)
theorem dX3_closeBox_110 : decode cX3_closeBox 110 = .ok (.aload_n 0, 1) := dc_42 (by decide +kernel)
theorem dX3_closeBox_111 : decode cX3_closeBox 111 = .ok (.getfield 211, 3) := dc_180 (a := 0) (b := 211) (n := 211) (by decide +kernel)
theorem dX3_closeBox_114 : decode cX3_closeBox 114 = .ok (.iconst 1, 1) := dc_4 (by decide +kernel)
theorem dX3_closeBox_115 : decode cX3_closeBox 115 = .ok (.iadd, 1) := dc_96 (by decide +kernel)
theorem dX3_closeBox_116 : decode cX3_closeBox 116 = .ok (.baload, 1) := dc_51 (by decide +kernel)
theorem dX3_closeBox_117 : decode cX3_closeBox 117 = .ok (.invokevirtual 407, 3) := dc_182 (a := 1) (b := 151) (n := 407) (by decide +kernel)
theorem dX3_closeBox_120 : decode cX3_closeBox 120 = .ok (.return_, 1) := dc_177 (by decide +kernel)
theorem GX3_146 {w : eW} {d : Nat} {Y : eY} {pc : Nat} {ls : eL} {st : List Value} {h : eH} {Q : eO → eH → Prop} {a : Nat} {x : Nat} (hf : g_A 2 h a 22 = some x) (hd : decode Y.2.1 pc = .ok (.getfield 146, 3)) (hY : Y.1.cls = RX3) (kk : wp w d Y (pc + 3) ls (.ref x :: st) h Q) : wp w d Y pc ls (.ref a :: st) h Q := x_gA (ci := 2) (k := 22) hf hd rfl (by decide) (by rw [hY]; exact q1814) kk
theorem GX3_149 {w : eW} {d : Nat} {Y : eY} {pc : Nat} {ls : eL} {st : List Value} {h : eH} {Q : eO → eH → Prop} {a : Nat} {x : Nat} (hf : g_A 2 h a 23 = some x) (hd : decode Y.2.1 pc = .ok (.getfield 149, 3)) (hY : Y.1.cls = RX3) (kk : wp w d Y (pc + 3) ls (.ref x :: st) h Q) : wp w d Y pc ls (.ref a :: st) h Q := x_gA (ci := 2) (k := 23) hf hd rfl (by decide) (by rw [hY]; exact q1815) kk
theorem GX3_152 {w : eW} {d : Nat} {Y : eY} {pc : Nat} {ls : eL} {st : List Value} {h : eH} {Q : eO → eH → Prop} {a : Nat} {x : Nat} (hf : g_A 2 h a 24 = some x) (hd : decode Y.2.1 pc = .ok (.getfield 152, 3)) (hY : Y.1.cls = RX3) (kk : wp w d Y (pc + 3) ls (.ref x :: st) h Q) : wp w d Y pc ls (.ref a :: st) h Q := x_gA (ci := 2) (k := 24) hf hd rfl (by decide) (by rw [hY]; exact q1816) kk
theorem GX3_155 {w : eW} {d : Nat} {Y : eY} {pc : Nat} {ls : eL} {st : List Value} {h : eH} {Q : eO → eH → Prop} {a : Nat} {x : Nat} (hf : g_A 2 h a 25 = some x) (hd : decode Y.2.1 pc = .ok (.getfield 155, 3)) (hY : Y.1.cls = RX3) (kk : wp w d Y (pc + 3) ls (.ref x :: st) h Q) : wp w d Y pc ls (.ref a :: st) h Q := x_gA (ci := 2) (k := 25) hf hd rfl (by decide) (by rw [hY]; exact q1817) kk
theorem GX3_158 {w : eW} {d : Nat} {Y : eY} {pc : Nat} {ls : eL} {st : List Value} {h : eH} {Q : eO → eH → Prop} {a : Nat} {x : Nat} (hf : g_A 2 h a 26 = some x) (hd : decode Y.2.1 pc = .ok (.getfield 158, 3)) (hY : Y.1.cls = RX3) (kk : wp w d Y (pc + 3) ls (.ref x :: st) h Q) : wp w d Y pc ls (.ref a :: st) h Q := x_gA (ci := 2) (k := 26) hf hd rfl (by decide) (by rw [hY]; exact q1818) kk
def fX3_closeBox_b49 (N : Nat) (l0 : Nat) (s0 : Nat) (s1 : Nat) (s2 : Int32) (s3 : Int32) (h : eH) : Option ((Unit ⊕ Nat) × eH) :=
  (g_A 2 h l0 22).bind fun a1 =>
  (g_I 2 h l0 27).bind fun x3 =>
  (r_I 100 h a1 x3).bind fun x5 =>
  (g_A 2 h l0 23).bind fun a7 =>
  (g_I 2 h l0 27).bind fun x9 =>
  (r_I 100 h a7 x9).bind fun x11 =>
  (k_ok 2 h s0).bind fun _ =>
  t_B (fX3_pack N s0 s1 s2 s3 x5 x11 h) fun x14 h15 =>
  (k_ok 2 h15 l0).bind fun _ =>
  (fX3_pop l0 h15).bind fun q17 =>
  (g_A 2 q17.2 l0 6).bind fun a18 =>
  (k_ok 8 q17.2 a18).bind fun _ =>
  (fX9_close N a18 q17.2).bind fun q21 =>
  (g_A 2 q21.2 l0 24).bind fun a22 =>
  (g_I 2 q21.2 l0 27).bind fun x24 =>
  (r_I 100 q21.2 a22 (x24 + (1 : Int32))).bind fun x26 =>
  (g_A 2 q21.2 l0 25).bind fun a28 =>
  (g_I 2 q21.2 l0 27).bind fun x30 =>
  (r_I 100 q21.2 a28 (x30 + (1 : Int32))).bind fun x32 =>
  (g_A 2 q21.2 l0 26).bind fun a34 =>
  (g_I 2 q21.2 l0 27).bind fun x36 =>
  (r_I 103 q21.2 a34 (x36 + (1 : Int32))).bind fun x38 =>
  (k_ok 2 q21.2 l0).bind fun _ =>
  t_B (fX3_deliver N l0 x14 x26 x32 x38 q21.2) fun x41 h42 =>
  some (.inl (), h42)
theorem pX3_closeBox_b49 {w : eW} {d : Nat} (hd : 17 ≤ d + 1) {N : Nat} {l0 : Nat} {s0 : Nat} {s1 : Nat} {s2 : Int32} {s3 : Int32} {h : eH} {q} (hf : fX3_closeBox_b49 N l0 s0 s1 s2 s3 h = some q) : wp w (d + 1) YX3_closeBox 49 [some (.ref l0), none] [.int s3, .int s2, .ref s1, .ref s0] h (e_is (e_rt c_V q)) := by
  unfold fX3_closeBox_b49 at hf
  refine w_aload_n dX3_closeBox_49 rfl rfl ?_
  obtain ⟨a1, b2, hf⟩ := Option.bind_eq_some_iff.mp hf
  refine GX3_146 b2 dX3_closeBox_50 rfl ?_
  refine w_aload_n dX3_closeBox_53 rfl rfl ?_
  obtain ⟨x3, b4, hf⟩ := Option.bind_eq_some_iff.mp hf
  refine GX3_211 b4 dX3_closeBox_54 rfl ?_
  obtain ⟨x5, b6, hf⟩ := Option.bind_eq_some_iff.mp hf
  refine x_rI b6 dX3_closeBox_57 ?_
  refine w_aload_n dX3_closeBox_58 rfl rfl ?_
  obtain ⟨a7, b8, hf⟩ := Option.bind_eq_some_iff.mp hf
  refine GX3_149 b8 dX3_closeBox_59 rfl ?_
  refine w_aload_n dX3_closeBox_62 rfl rfl ?_
  obtain ⟨x9, b10, hf⟩ := Option.bind_eq_some_iff.mp hf
  refine GX3_211 b10 dX3_closeBox_63 rfl ?_
  obtain ⟨x11, b12, hf⟩ := Option.bind_eq_some_iff.mp hf
  refine x_rI b12 dX3_closeBox_66 ?_
  obtain ⟨_, b13, hf⟩ := Option.bind_eq_some_iff.mp hf
  refine x_ctI hf (e_stV (Yc := YX3_pack) (ci := 2) (av := [.ref s1, .int s2, .int s3, .int x5, .int x11]) (st := []) dX3_closeBox_67 q3486 mX3_pack rfl (k_ok_some b13).1 (k_ok_some b13).2) mX3_pack.2.2.1 mX3_pack.2.2.2.2.1 (Nat.le_of_ble_eq_true rfl) (Nat.le_of_ble_eq_true rfl) rfl (fun q hq => pX3_pack (by omega) hq) (fun x14 h15 hf => ?_)
  refine w_istore_n dX3_closeBox_70 rfl (by decide) (ls' := [some (.ref l0), some (.int x14)]) rfl ?_
  refine w_aload_n dX3_closeBox_71 rfl rfl ?_
  obtain ⟨_, b16, hf⟩ := Option.bind_eq_some_iff.mp hf
  refine x_cnV hf (e_stV (Yc := YX3_pop) (ci := 2) (av := []) (st := []) dX3_closeBox_72 q3670 mX3_pop rfl (k_ok_some b16).1 (k_ok_some b16).2) mX3_pop.2.2.1 mX3_pop.2.2.2.2.1 (Nat.le_of_ble_eq_true rfl) (Nat.le_of_ble_eq_true rfl) (fun q hq => pX3_pop (by omega) hq) (fun q17 hf => ?_)
  refine w_aload_n dX3_closeBox_75 rfl rfl ?_
  obtain ⟨a18, b19, hf⟩ := Option.bind_eq_some_iff.mp hf
  refine GX3_53 b19 dX3_closeBox_76 rfl ?_
  obtain ⟨_, b20, hf⟩ := Option.bind_eq_some_iff.mp hf
  refine x_cnV hf (e_stV (Yc := YX9_close) (ci := 8) (av := []) (st := []) dX3_closeBox_79 q3871 mX9_close rfl (k_ok_some b20).1 (k_ok_some b20).2) mX9_close.2.2.1 mX9_close.2.2.2.2.1 (Nat.le_of_ble_eq_true rfl) (Nat.le_of_ble_eq_true rfl) (fun q hq => pX9_close (by omega) hq) (fun q21 hf => ?_)
  refine w_aload_n dX3_closeBox_82 rfl rfl ?_
  refine w_iload_n dX3_closeBox_83 rfl rfl ?_
  refine w_aload_n dX3_closeBox_84 rfl rfl ?_
  obtain ⟨a22, b23, hf⟩ := Option.bind_eq_some_iff.mp hf
  refine GX3_152 b23 dX3_closeBox_85 rfl ?_
  refine w_aload_n dX3_closeBox_88 rfl rfl ?_
  obtain ⟨x24, b25, hf⟩ := Option.bind_eq_some_iff.mp hf
  refine GX3_211 b25 dX3_closeBox_89 rfl ?_
  refine w_iconst dX3_closeBox_92 (v := 1) (by decide) ?_
  refine w_iadd dX3_closeBox_93 ?_
  obtain ⟨x26, b27, hf⟩ := Option.bind_eq_some_iff.mp hf
  refine x_rI b27 dX3_closeBox_94 ?_
  refine w_aload_n dX3_closeBox_95 rfl rfl ?_
  obtain ⟨a28, b29, hf⟩ := Option.bind_eq_some_iff.mp hf
  refine GX3_155 b29 dX3_closeBox_96 rfl ?_
  refine w_aload_n dX3_closeBox_99 rfl rfl ?_
  obtain ⟨x30, b31, hf⟩ := Option.bind_eq_some_iff.mp hf
  refine GX3_211 b31 dX3_closeBox_100 rfl ?_
  refine w_iconst dX3_closeBox_103 (v := 1) (by decide) ?_
  refine w_iadd dX3_closeBox_104 ?_
  obtain ⟨x32, b33, hf⟩ := Option.bind_eq_some_iff.mp hf
  refine x_rI b33 dX3_closeBox_105 ?_
  refine w_aload_n dX3_closeBox_106 rfl rfl ?_
  obtain ⟨a34, b35, hf⟩ := Option.bind_eq_some_iff.mp hf
  refine GX3_158 b35 dX3_closeBox_107 rfl ?_
  refine w_aload_n dX3_closeBox_110 rfl rfl ?_
  obtain ⟨x36, b37, hf⟩ := Option.bind_eq_some_iff.mp hf
  refine GX3_211 b37 dX3_closeBox_111 rfl ?_
  refine w_iconst dX3_closeBox_114 (v := 1) (by decide) ?_
  refine w_iadd dX3_closeBox_115 ?_
  obtain ⟨x38, b39, hf⟩ := Option.bind_eq_some_iff.mp hf
  refine x_rZ b39 dX3_closeBox_116 ?_
  obtain ⟨_, b40, hf⟩ := Option.bind_eq_some_iff.mp hf
  refine x_ctV hf (e_stV (Yc := YX3_deliver) (ci := 2) (av := [.int x14, .int x26, .int x32, .int x38]) (st := []) dX3_closeBox_117 q3875 mX3_deliver rfl (k_ok_some b40).1 (k_ok_some b40).2) mX3_deliver.2.2.1 mX3_deliver.2.2.2.2.1 (Nat.le_of_ble_eq_true rfl) (Nat.le_of_ble_eq_true rfl) rfl (fun q hq => pX3_deliver (by omega) hq) (fun x41 h42 hf => ?_)
  cases hf
  exact w_vret dX3_closeBox_120 rfl rfl
def fX3_closeBox_b17 (N : Nat) (l0 : Nat) (h : eH) : Option ((Unit ⊕ Nat) × eH) :=
  (g_A 2 h l0 16).bind fun a1 =>
  (g_A 2 h l0 20).bind fun a3 =>
  (g_I 2 h l0 27).bind fun x5 =>
  (r_I 100 h a3 x5).bind fun x7 =>
  (g_A 2 h l0 19).bind fun a9 =>
  (g_I 2 h l0 27).bind fun x11 =>
  (r_I 100 h a9 x11).bind fun x13 =>
  if ¬ x13 = (1 : Int32) then
    fX3_closeBox_b49 N l0 l0 a1 x7 (0 : Int32) h
  else
    fX3_closeBox_b49 N l0 l0 a1 x7 (1 : Int32) h
theorem pX3_closeBox_b17 {w : eW} {d : Nat} (hd : 17 ≤ d + 1) {N : Nat} {l0 : Nat} {h : eH} {q} (hf : fX3_closeBox_b17 N l0 h = some q) : wp w (d + 1) YX3_closeBox 17 [some (.ref l0), none] [] h (e_is (e_rt c_V q)) := by
  unfold fX3_closeBox_b17 at hf
  refine w_aload_n dX3_closeBox_17 rfl rfl ?_
  refine w_aload_n dX3_closeBox_18 rfl rfl ?_
  obtain ⟨a1, b2, hf⟩ := Option.bind_eq_some_iff.mp hf
  refine GX3_126 b2 dX3_closeBox_19 rfl ?_
  refine w_aload_n dX3_closeBox_22 rfl rfl ?_
  obtain ⟨a3, b4, hf⟩ := Option.bind_eq_some_iff.mp hf
  refine GX3_140 b4 dX3_closeBox_23 rfl ?_
  refine w_aload_n dX3_closeBox_26 rfl rfl ?_
  obtain ⟨x5, b6, hf⟩ := Option.bind_eq_some_iff.mp hf
  refine GX3_211 b6 dX3_closeBox_27 rfl ?_
  obtain ⟨x7, b8, hf⟩ := Option.bind_eq_some_iff.mp hf
  refine x_rI b8 dX3_closeBox_30 ?_
  refine w_aload_n dX3_closeBox_31 rfl rfl ?_
  obtain ⟨a9, b10, hf⟩ := Option.bind_eq_some_iff.mp hf
  refine GX3_136 b10 dX3_closeBox_32 rfl ?_
  refine w_aload_n dX3_closeBox_35 rfl rfl ?_
  obtain ⟨x11, b12, hf⟩ := Option.bind_eq_some_iff.mp hf
  refine GX3_211 b12 dX3_closeBox_36 rfl ?_
  obtain ⟨x13, b14, hf⟩ := Option.bind_eq_some_iff.mp hf
  refine x_rI b14 dX3_closeBox_39 ?_
  refine w_iconst dX3_closeBox_40 (v := 1) (by decide) ?_
  refine w_icmp_ne 48 dX3_closeBox_41 (by decide) (fun c15 => ?_) (fun c15 => ?_)
  · replace hf := (if_pos (show ¬ x13 = (1 : Int32) from c15)).symm.trans hf
    refine w_iconst dX3_closeBox_48 (v := 0) (by decide) ?_
    exact (pX3_closeBox_b49 hd hf).to ⟨rfl, trivial⟩
  · replace hf := (if_neg (show ¬ (¬ x13 = (1 : Int32)) from (fun z => z c15))).symm.trans hf
    refine w_iconst dX3_closeBox_44 (v := 1) (by decide) ?_
    refine w_goto 49 dX3_closeBox_45 (by decide) ?_
    exact (pX3_closeBox_b49 hd hf).to ⟨rfl, trivial⟩
def fX3_closeBox (N : Nat) (this : Nat) (h : eH) : Option ((Unit ⊕ Nat) × eH) :=
  (g_A 2 h this 19).bind fun a1 =>
  (g_I 2 h this 27).bind fun x3 =>
  (r_I 100 h a1 x3).bind fun x5 =>
  if ¬ x5 = (2 : Int32) then
    fX3_closeBox_b17 N this h
  else
    (k_ok 2 h this).bind fun _ =>
    t_B (fX3_endParagraph N this h) fun x9 h10 =>
    fX3_closeBox_b17 N this h10
theorem pX3_closeBox {w : eW} {d : Nat} (hd : 17 ≤ d) {N : Nat} {this : Nat} {h : eH} {q} (hf : fX3_closeBox N this h = some q) : wm w d YX3_closeBox [.ref this] h (e_is (e_rt c_V q)) := by
  obtain ⟨d, rfl⟩ : ∃ e, d = e + 1 := ⟨d - 1, by omega⟩
  show wp w (d + 1) YX3_closeBox 0 [some (.ref this), none] [] h _
  unfold fX3_closeBox at hf
  refine w_aload_n dX3_closeBox_0 rfl rfl ?_
  obtain ⟨a1, b2, hf⟩ := Option.bind_eq_some_iff.mp hf
  refine GX3_136 b2 dX3_closeBox_1 rfl ?_
  refine w_aload_n dX3_closeBox_4 rfl rfl ?_
  obtain ⟨x3, b4, hf⟩ := Option.bind_eq_some_iff.mp hf
  refine GX3_211 b4 dX3_closeBox_5 rfl ?_
  obtain ⟨x5, b6, hf⟩ := Option.bind_eq_some_iff.mp hf
  refine x_rI b6 dX3_closeBox_8 ?_
  refine w_iconst dX3_closeBox_9 (v := 2) (by decide) ?_
  refine w_icmp_ne 17 dX3_closeBox_10 (by decide) (fun c7 => ?_) (fun c7 => ?_)
  · replace hf := (if_pos (show ¬ x5 = (2 : Int32) from c7)).symm.trans hf
    exact (pX3_closeBox_b17 hd hf).to ⟨rfl, trivial⟩
  · replace hf := (if_neg (show ¬ (¬ x5 = (2 : Int32)) from (fun z => z c7))).symm.trans hf
    refine w_aload_n dX3_closeBox_13 rfl rfl ?_
    obtain ⟨_, b8, hf⟩ := Option.bind_eq_some_iff.mp hf
    refine x_ctV hf (e_stV (Yc := YX3_endParagraph) (ci := 2) (av := []) (st := []) dX3_closeBox_14 q3661 mX3_endParagraph rfl (k_ok_some b8).1 (k_ok_some b8).2) mX3_endParagraph.2.2.1 mX3_endParagraph.2.2.2.2.1 (Nat.le_of_ble_eq_true rfl) (Nat.le_of_ble_eq_true rfl) rfl (fun q hq => pX3_endParagraph (by omega) hq) (fun x9 h10 hf => ?_)
    exact (pX3_closeBox_b17 hd hf).to ⟨rfl, trivial⟩
abbrev cX3_close : ByteArray := prog_26_method_45_code
def yX3_close : MethodName := ⟨RX3, "close", "(I)V"⟩
def YX3_close : eY := (yX3_close, cX3_close, 2, none, [])
theorem mX3_close : e_mv YX3_close RX3 1 := ⟨q3881, qs185, q3882, by decide, by decide +kernel, (e_sig (by decide +kernel))⟩
theorem dX3_close_0 : decode cX3_close 0 = .ok (.aload_n 0, 1) := dc_42 (by decide +kernel)
theorem dX3_close_1 : decode cX3_close 1 = .ok (.getfield 14, 3) := dc_180 (a := 0) (b := 14) (n := 14) (by decide +kernel)
theorem dX3_close_4 : decode cX3_close 4 = .ok (.aload_n 0, 1) := dc_42 (by decide +kernel)
theorem dX3_close_5 : decode cX3_close 5 = .ok (.getfield 53, 3) := dc_180 (a := 0) (b := 53) (n := 53) (by decide +kernel)
theorem dX3_close_8 : decode cX3_close 8 = .ok (.getfield 264, 3) := dc_180 (a := 1) (b := 8) (n := 264) (by decide +kernel)
theorem dX3_close_11 : decode cX3_close 11 = .ok (.ifCond .le 28, 3) := dc_158 (a := 0) (b := 28) (v := 28) (by decide +kernel)
theorem dX3_close_14 : decode cX3_close 14 = .ok (.aload_n 0, 1) := dc_42 (by decide +kernel)
theorem dX3_close_15 : decode cX3_close 15 = .ok (.getfield 53, 3) := dc_180 (a := 0) (b := 53) (n := 53) (by decide +kernel)
theorem dX3_close_18 : decode cX3_close 18 = .ok (.getfield 677, 3) := dc_180 (a := 2) (b := 165) (n := 677) (by decide +kernel)
theorem dX3_close_21 : decode cX3_close 21 = .ok (.aload_n 0, 1) := dc_42 (by decide +kernel)
theorem dX3_close_22 : decode cX3_close 22 = .ok (.getfield 53, 3) := dc_180 (a := 0) (b := 53) (n := 53) (by decide +kernel)
theorem dX3_close_25 : decode cX3_close 25 = .ok (.getfield 264, 3) := dc_180 (a := 1) (b := 8) (n := 264) (by decide +kernel)
theorem dX3_close_28 : decode cX3_close 28 = .ok (.iconst 1, 1) := dc_4 (by decide +kernel)
theorem dX3_close_29 : decode cX3_close 29 = .ok (.isub, 1) := dc_100 (by decide +kernel)
theorem dX3_close_30 : decode cX3_close 30 = .ok (.iaload, 1) := dc_46 (by decide +kernel)
theorem dX3_close_31 : decode cX3_close 31 = .ok (.iload_n 1, 1) := dc_27 (by decide +kernel)
theorem dX3_close_32 : decode cX3_close 32 = .ok (.if_icmp .ne 7, 3) := dc_160 (a := 0) (b := 7) (v := 7) (by decide +kernel)
theorem dX3_close_35 : decode cX3_close 35 = .ok (.iconst 1, 1) := dc_4 (by decide +kernel)
theorem dX3_close_36 : decode cX3_close 36 = .ok (.goto 4, 3) := dc_167 (a := 0) (b := 4) (v := 4) (by decide +kernel)
theorem dX3_close_39 : decode cX3_close 39 = .ok (.iconst 0, 1) := dc_3 (by decide +kernel)
theorem dX3_close_40 : decode cX3_close 40 = .ok (.bipush 13, 2) := dc_16 (a := 13) (v := 13) (by decide +kernel)
theorem dX3_close_42 : decode cX3_close 42 = .ok (.invokevirtual 289, 3) := dc_182 (a := 1) (b := 33) (n := 289) (by decide +kernel)
theorem dX3_close_45 : decode cX3_close 45 = .ok (.aload_n 0, 1) := dc_42 (by decide +kernel)
theorem dX3_close_46 : decode cX3_close 46 = .ok (.getfield 53, 3) := dc_180 (a := 0) (b := 53) (n := 53) (by decide +kernel)
theorem dX3_close_49 : decode cX3_close 49 = .ok (.invokevirtual 269, 3) := dc_182 (a := 1) (b := 13) (n := 269) (by decide +kernel)
theorem dX3_close_52 : decode cX3_close 52 = .ok (.return_, 1) := dc_177 (by decide +kernel)
theorem GX3_677 {w : eW} {d : Nat} {Y : eY} {pc : Nat} {ls : eL} {st : List Value} {h : eH} {Q : eO → eH → Prop} {a : Nat} {x : Nat} (hf : g_A 8 h a 9 = some x) (hd : decode Y.2.1 pc = .ok (.getfield 677, 3)) (hY : Y.1.cls = RX3) (kk : wp w d Y (pc + 3) ls (.ref x :: st) h Q) : wp w d Y pc ls (.ref a :: st) h Q := x_gAN (ci := 8) (k := 9) hf hd rfl (by decide) (by rw [hY]; exact q665) kk
def fX3_close_b40 (N : Nat) (l0 : Nat) (s0 : Nat) (s1 : Int32) (h : eH) : Option ((Unit ⊕ Nat) × eH) :=
  (k_ok 3 h s0).bind fun _ =>
  t_B (fX4_want s0 s1 (13 : Int32) h) fun x2 h3 =>
  (g_A 2 h3 l0 6).bind fun a4 =>
  (k_ok 8 h3 a4).bind fun _ =>
  (fX9_close N a4 h3).bind fun q7 =>
  some (.inl (), q7.2)
theorem pX3_close_b40 {w : eW} {d : Nat} (hd : 8 ≤ d + 1) {N : Nat} {l0 : Nat} {s0 : Nat} {s1 : Int32} {h : eH} {q} (hf : fX3_close_b40 N l0 s0 s1 h = some q) : wp w (d + 1) YX3_close 40 [some (.ref l0), none] [.int s1, .ref s0] h (e_is (e_rt c_V q)) := by
  unfold fX3_close_b40 at hf
  refine w_bipush dX3_close_40 (v := 13) (by decide) ?_
  obtain ⟨_, b1, hf⟩ := Option.bind_eq_some_iff.mp hf
  refine x_ctV hf (e_stV (Yc := YX4_want) (ci := 3) (av := [.int s1, .int (13 : Int32)]) (st := []) dX3_close_42 q2846 mX4_want rfl (k_ok_some b1).1 (k_ok_some b1).2) mX4_want.2.2.1 mX4_want.2.2.2.2.1 (Nat.le_of_ble_eq_true rfl) (Nat.le_of_ble_eq_true rfl) rfl (fun q hq => pX4_want (by omega) hq) (fun x2 h3 hf => ?_)
  refine w_aload_n dX3_close_45 rfl rfl ?_
  obtain ⟨a4, b5, hf⟩ := Option.bind_eq_some_iff.mp hf
  refine GX3_53 b5 dX3_close_46 rfl ?_
  obtain ⟨_, b6, hf⟩ := Option.bind_eq_some_iff.mp hf
  refine x_cnV hf (e_stV (Yc := YX9_close) (ci := 8) (av := []) (st := []) dX3_close_49 q3871 mX9_close rfl (k_ok_some b6).1 (k_ok_some b6).2) mX9_close.2.2.1 mX9_close.2.2.2.2.1 (Nat.le_of_ble_eq_true rfl) (Nat.le_of_ble_eq_true rfl) (fun q hq => pX9_close (by omega) hq) (fun q7 hf => ?_)
  cases hf
  exact w_vret dX3_close_52 rfl rfl
def fX3_close_b39 (N : Nat) (l0 : Nat) (s0 : Nat) (h : eH) : Option ((Unit ⊕ Nat) × eH) :=
  fX3_close_b40 N l0 s0 (0 : Int32) h
theorem pX3_close_b39 {w : eW} {d : Nat} (hd : 8 ≤ d + 1) {N : Nat} {l0 : Nat} {s0 : Nat} {h : eH} {q} (hf : fX3_close_b39 N l0 s0 h = some q) : wp w (d + 1) YX3_close 39 [some (.ref l0), none] [.ref s0] h (e_is (e_rt c_V q)) := by
  unfold fX3_close_b39 at hf
  refine w_iconst dX3_close_39 (v := 0) (by decide) ?_
  exact (pX3_close_b40 hd hf).to ⟨rfl, trivial⟩
def fX3_close (N : Nat) (this : Nat) (p0 : Int32) (h : eH) : Option ((Unit ⊕ Nat) × eH) :=
  (g_A 2 h this 0).bind fun a1 =>
  (g_A 2 h this 6).bind fun a3 =>
  (g_I 8 h a3 11).bind fun x5 =>
  if x5 ≤ 0 then
    fX3_close_b39 N this a1 h
  else
    (g_A 2 h this 6).bind fun a8 =>
    (g_A 8 h a8 9).bind fun a10 =>
    (g_A 2 h this 6).bind fun a12 =>
    (g_I 8 h a12 11).bind fun x14 =>
    (r_I 100 h a10 (x14 - (1 : Int32))).bind fun x16 =>
    if ¬ x16 = p0 then
      fX3_close_b39 N this a1 h
    else
      fX3_close_b40 N this a1 (1 : Int32) h
theorem pX3_close {w : eW} {d : Nat} (hd : 8 ≤ d) {N : Nat} {this : Nat} {p0 : Int32} {h : eH} {q} (hf : fX3_close N this p0 h = some q) : wm w d YX3_close [.ref this, .int p0] h (e_is (e_rt c_V q)) := by
  obtain ⟨d, rfl⟩ : ∃ e, d = e + 1 := ⟨d - 1, by omega⟩
  show wp w (d + 1) YX3_close 0 [some (.ref this), some (.int p0)] [] h _
  unfold fX3_close at hf
  refine w_aload_n dX3_close_0 rfl rfl ?_
  obtain ⟨a1, b2, hf⟩ := Option.bind_eq_some_iff.mp hf
  refine GX3_14 b2 dX3_close_1 rfl ?_
  refine w_aload_n dX3_close_4 rfl rfl ?_
  obtain ⟨a3, b4, hf⟩ := Option.bind_eq_some_iff.mp hf
  refine GX3_53 b4 dX3_close_5 rfl ?_
  obtain ⟨x5, b6, hf⟩ := Option.bind_eq_some_iff.mp hf
  refine GX3_264 b6 dX3_close_8 rfl ?_
  refine w_if_le 39 dX3_close_11 (by decide) (fun c7 => ?_) (fun c7 => ?_)
  · replace hf := (if_pos (show x5 ≤ 0 from c7)).symm.trans hf
    exact (pX3_close_b39 hd hf).to ⟨rfl, trivial⟩
  · replace hf := (if_neg (show ¬ (x5 ≤ 0) from c7)).symm.trans hf
    refine w_aload_n dX3_close_14 rfl rfl ?_
    obtain ⟨a8, b9, hf⟩ := Option.bind_eq_some_iff.mp hf
    refine GX3_53 b9 dX3_close_15 rfl ?_
    obtain ⟨a10, b11, hf⟩ := Option.bind_eq_some_iff.mp hf
    refine GX3_677 b11 dX3_close_18 rfl ?_
    refine w_aload_n dX3_close_21 rfl rfl ?_
    obtain ⟨a12, b13, hf⟩ := Option.bind_eq_some_iff.mp hf
    refine GX3_53 b13 dX3_close_22 rfl ?_
    obtain ⟨x14, b15, hf⟩ := Option.bind_eq_some_iff.mp hf
    refine GX3_264 b15 dX3_close_25 rfl ?_
    refine w_iconst dX3_close_28 (v := 1) (by decide) ?_
    refine w_isub dX3_close_29 ?_
    obtain ⟨x16, b17, hf⟩ := Option.bind_eq_some_iff.mp hf
    refine x_rI b17 dX3_close_30 ?_
    refine w_iload_n dX3_close_31 rfl rfl ?_
    refine w_icmp_ne 39 dX3_close_32 (by decide) (fun c18 => ?_) (fun c18 => ?_)
    · replace hf := (if_pos (show ¬ x16 = p0 from c18)).symm.trans hf
      exact (pX3_close_b39 hd hf).to ⟨rfl, trivial⟩
    · replace hf := (if_neg (show ¬ (¬ x16 = p0) from (fun z => z c18))).symm.trans hf
      refine w_iconst dX3_close_35 (v := 1) (by decide) ?_
      refine w_goto 40 dX3_close_36 (by decide) ?_
      exact (pX3_close_b40 hd hf).to ⟨rfl, trivial⟩
abbrev cX5_parameter : ByteArray := prog_9_method_5_code
def yX5_parameter : MethodName := ⟨RX5, "parameter", "(II)I"⟩
def YX5_parameter : eY := (yX5_parameter, cX5_parameter, 4, (Option.some FieldType.int), [])
theorem mX5_parameter : e_mv YX5_parameter RX5 2 := ⟨q2768, q2769, q2770, by decide, by decide +kernel, (e_sig (by decide +kernel))⟩
theorem dX5_parameter_0 : decode cX5_parameter 0 = .ok (.aload_n 0, 1) := dc_42 (by decide +kernel)
theorem dX5_parameter_1 : decode cX5_parameter 1 = .ok (.getfield 19, 3) := dc_180 (a := 0) (b := 19) (n := 19) (by decide +kernel)
theorem dX5_parameter_4 : decode cX5_parameter 4 = .ok (.iload_n 1, 1) := dc_27 (by decide +kernel)
theorem dX5_parameter_5 : decode cX5_parameter 5 = .ok (.aaload, 1) := dc_50 (by decide +kernel)
theorem dX5_parameter_6 : decode cX5_parameter 6 = .ok (.astore_n 3, 1) := dc_78 (by decide +kernel)
theorem dX5_parameter_7 : decode cX5_parameter 7 = .ok (.iload_n 2, 1) := dc_28 (by decide +kernel)
theorem dX5_parameter_8 : decode cX5_parameter 8 = .ok (.aload_n 3, 1) := dc_45 (by decide +kernel)
theorem dX5_parameter_9 : decode cX5_parameter 9 = .ok (.getfield 79, 3) := dc_180 (a := 0) (b := 79) (n := 79) (by decide +kernel)
theorem dX5_parameter_12 : decode cX5_parameter 12 = .ok (.bipush 9, 2) := dc_16 (a := 9) (v := 9) (by decide +kernel)
theorem dX5_parameter_14 : decode cX5_parameter 14 = .ok (.iaload, 1) := dc_46 (by decide +kernel)
theorem dX5_parameter_15 : decode cX5_parameter 15 = .ok (.if_icmp .le 7, 3) := dc_164 (a := 0) (b := 7) (v := 7) (by decide +kernel)
theorem dX5_parameter_18 : decode cX5_parameter 18 = .ok (.iconst 0, 1) := dc_3 (by decide +kernel)
theorem dX5_parameter_19 : decode cX5_parameter 19 = .ok (.goto 19, 3) := dc_167 (a := 0) (b := 19) (v := 19) (by decide +kernel)
theorem dX5_parameter_22 : decode cX5_parameter 22 = .ok (.aload_n 3, 1) := dc_45 (by decide +kernel)
theorem dX5_parameter_23 : decode cX5_parameter 23 = .ok (.getfield 82, 3) := dc_180 (a := 0) (b := 82) (n := 82) (by decide +kernel)
theorem dX5_parameter_26 : decode cX5_parameter 26 = .ok (.aload_n 3, 1) := dc_45 (by decide +kernel)
theorem dX5_parameter_27 : decode cX5_parameter 27 = .ok (.getfield 85, 3) := dc_180 (a := 0) (b := 85) (n := 85) (by decide +kernel)
theorem dX5_parameter_30 : decode cX5_parameter 30 = .ok (.bipush 9, 2) := dc_16 (a := 9) (v := 9) (by decide +kernel)
theorem dX5_parameter_32 : decode cX5_parameter 32 = .ok (.iaload, 1) := dc_46 (by decide +kernel)
theorem dX5_parameter_33 : decode cX5_parameter 33 = .ok (.iload_n 2, 1) := dc_28 (by decide +kernel)
theorem dX5_parameter_34 : decode cX5_parameter 34 = .ok (.iadd, 1) := dc_96 (by decide +kernel)
theorem dX5_parameter_35 : decode cX5_parameter 35 = .ok (.iconst 1, 1) := dc_4 (by decide +kernel)
theorem dX5_parameter_36 : decode cX5_parameter 36 = .ok (.isub, 1) := dc_100 (by decide +kernel)
theorem dX5_parameter_37 : decode cX5_parameter 37 = .ok (.iaload, 1) := dc_46 (by decide +kernel)
theorem dX5_parameter_38 : decode cX5_parameter 38 = .ok (.ireturn, 1) := dc_172 (by decide +kernel)
theorem GX5_79 {w : eW} {d : Nat} {Y : eY} {pc : Nat} {ls : eL} {st : List Value} {h : eH} {Q : eO → eH → Prop} {a : Nat} {x : Nat} (hf : g_A 5 h a 3 = some x) (hd : decode Y.2.1 pc = .ok (.getfield 79, 3)) (hY : Y.1.cls = RX5) (kk : wp w d Y (pc + 3) ls (.ref x :: st) h Q) : wp w d Y pc ls (.ref a :: st) h Q := x_gAN (ci := 5) (k := 3) hf hd rfl (by decide) (by rw [hY]; exact q547) kk
theorem GX5_82 {w : eW} {d : Nat} {Y : eY} {pc : Nat} {ls : eL} {st : List Value} {h : eH} {Q : eO → eH → Prop} {a : Nat} {x : Nat} (hf : g_A 5 h a 1 = some x) (hd : decode Y.2.1 pc = .ok (.getfield 82, 3)) (hY : Y.1.cls = RX5) (kk : wp w d Y (pc + 3) ls (.ref x :: st) h Q) : wp w d Y pc ls (.ref a :: st) h Q := x_gAN (ci := 5) (k := 1) hf hd rfl (by decide) (by rw [hY]; exact q543) kk
theorem GX5_85 {w : eW} {d : Nat} {Y : eY} {pc : Nat} {ls : eL} {st : List Value} {h : eH} {Q : eO → eH → Prop} {a : Nat} {x : Nat} (hf : g_A 5 h a 2 = some x) (hd : decode Y.2.1 pc = .ok (.getfield 85, 3)) (hY : Y.1.cls = RX5) (kk : wp w d Y (pc + 3) ls (.ref x :: st) h Q) : wp w d Y pc ls (.ref a :: st) h Q := x_gAN (ci := 5) (k := 2) hf hd rfl (by decide) (by rw [hY]; exact q545) kk
def fX5_parameter_b38 (s0 : Int32) (h : eH) : Option (Int32 × eH) :=
  some (s0, h)
theorem pX5_parameter_b38 {w : eW} {d : Nat} (hd : 0 ≤ d) {s0 : Int32} {h : eH} {q} (hf : fX5_parameter_b38 s0 h = some q) : wp w d YX5_parameter 38 [none, none, none, none] [.int s0] h (e_is (e_rn c_I q)) := by
  unfold fX5_parameter_b38 at hf
  cases hf
  exact w_iret dX5_parameter_38 rfl rfl rfl
def fX5_parameter (this : Nat) (p0 : Int32) (p1 : Int32) (h : eH) : Option (Int32 × eH) :=
  (g_A 4 h this 1).bind fun a1 =>
  (r_A 105 h a1 p0).bind fun a3 =>
  (g_A 5 h a3 3).bind fun a5 =>
  (r_I 100 h a5 (9 : Int32)).bind fun x7 =>
  if p1 ≤ x7 then
    (g_A 5 h a3 1).bind fun a10 =>
    (g_A 5 h a3 2).bind fun a12 =>
    (r_I 100 h a12 (9 : Int32)).bind fun x14 =>
    (r_I 100 h a10 ((x14 + p1) - (1 : Int32))).bind fun x16 =>
    fX5_parameter_b38 x16 h
  else
    fX5_parameter_b38 (0 : Int32) h
theorem pX5_parameter {w : eW} {d : Nat} (hd : 0 ≤ d) {this : Nat} {p0 : Int32} {p1 : Int32} {h : eH} {q} (hf : fX5_parameter this p0 p1 h = some q) : wm w d YX5_parameter [.ref this, .int p0, .int p1] h (e_is (e_rn c_I q)) := by
  show wp w d YX5_parameter 0 [some (.ref this), some (.int p0), some (.int p1), none] [] h _
  unfold fX5_parameter at hf
  refine w_aload_n dX5_parameter_0 rfl rfl ?_
  obtain ⟨a1, b2, hf⟩ := Option.bind_eq_some_iff.mp hf
  refine GX5_19 b2 dX5_parameter_1 rfl ?_
  refine w_iload_n dX5_parameter_4 rfl rfl ?_
  obtain ⟨a3, b4, hf⟩ := Option.bind_eq_some_iff.mp hf
  refine x_rA (c := 105) (by decide) b4 dX5_parameter_5 ?_
  refine w_astore_n dX5_parameter_6 rfl (by decide) (ls' := [some (.ref this), some (.int p0), some (.int p1), some (.ref a3)]) rfl ?_
  refine w_iload_n dX5_parameter_7 rfl rfl ?_
  refine w_aload_n dX5_parameter_8 rfl rfl ?_
  obtain ⟨a5, b6, hf⟩ := Option.bind_eq_some_iff.mp hf
  refine GX5_79 b6 dX5_parameter_9 rfl ?_
  refine w_bipush dX5_parameter_12 (v := 9) (by decide) ?_
  obtain ⟨x7, b8, hf⟩ := Option.bind_eq_some_iff.mp hf
  refine x_rI b8 dX5_parameter_14 ?_
  refine w_icmp_le 22 dX5_parameter_15 (by decide) (fun c9 => ?_) (fun c9 => ?_)
  · replace hf := (if_pos (show p1 ≤ x7 from c9)).symm.trans hf
    refine w_aload_n dX5_parameter_22 rfl rfl ?_
    obtain ⟨a10, b11, hf⟩ := Option.bind_eq_some_iff.mp hf
    refine GX5_82 b11 dX5_parameter_23 rfl ?_
    refine w_aload_n dX5_parameter_26 rfl rfl ?_
    obtain ⟨a12, b13, hf⟩ := Option.bind_eq_some_iff.mp hf
    refine GX5_85 b13 dX5_parameter_27 rfl ?_
    refine w_bipush dX5_parameter_30 (v := 9) (by decide) ?_
    obtain ⟨x14, b15, hf⟩ := Option.bind_eq_some_iff.mp hf
    refine x_rI b15 dX5_parameter_32 ?_
    refine w_iload_n dX5_parameter_33 rfl rfl ?_
    refine w_iadd dX5_parameter_34 ?_
    refine w_iconst dX5_parameter_35 (v := 1) (by decide) ?_
    refine w_isub dX5_parameter_36 ?_
    obtain ⟨x16, b17, hf⟩ := Option.bind_eq_some_iff.mp hf
    refine x_rI b17 dX5_parameter_37 ?_
    exact (pX5_parameter_b38 hd hf).to trivial
  · replace hf := (if_neg (show ¬ (p1 ≤ x7) from c9)).symm.trans hf
    refine w_iconst dX5_parameter_18 (v := 0) (by decide) ?_
    refine w_goto 38 dX5_parameter_19 (by decide) ?_
    exact (pX5_parameter_b38 hd hf).to trivial
abbrev cX3_space : ByteArray := prog_26_method_31_code
def yX3_space : MethodName := ⟨RX3, "space", "()V"⟩
def YX3_space : eY := (yX3_space, cX3_space, 2, none, [])
theorem mX3_space : e_mv YX3_space RX3 0 := ⟨q3885, qs186, q3886, by decide, by decide +kernel, (e_sig (by decide +kernel))⟩
theorem dX3_space_0 : decode cX3_space 0 = .ok (.aload_n 0, 1) := dc_42 (by decide +kernel)
theorem dX3_space_1 : decode cX3_space 1 = .ok (.getfield 53, 3) := dc_180 (a := 0) (b := 53) (n := 53) (by decide +kernel)
theorem dX3_space_4 : decode cX3_space 4 = .ok (.getfield 311, 3) := dc_180 (a := 1) (b := 55) (n := 311) (by decide +kernel)
theorem dX3_space_7 : decode cX3_space 7 = .ok (.sipush 2095, 3) := dc_17 (a := 8) (b := 47) (v := 2095) (by decide +kernel)
theorem dX3_space_10 : decode cX3_space 10 = .ok (.iaload, 1) := dc_46 (by decide +kernel)
theorem dX3_space_11 : decode cX3_space 11 = .ok (.istore_n 1, 1) := dc_60 (by decide +kernel)
theorem dX3_space_12 : decode cX3_space 12 = .ok (.aload_n 0, 1) := dc_42 (by decide +kernel)
theorem dX3_space_13 : decode cX3_space 13 = .ok (.getfield 14, 3) := dc_180 (a := 0) (b := 14) (n := 14) (by decide +kernel)
theorem dX3_space_16 : decode cX3_space 16 = .ok (.iload_n 1, 1) := dc_27 (by decide +kernel)
theorem dX3_space_17 : decode cX3_space 17 = .ok (.iconst (-1), 1) := dc_2 (by decide +kernel)
theorem dX3_space_18 : decode cX3_space 18 = .ok (.if_icmp .eq 7, 3) := dc_159 (a := 0) (b := 7) (v := 7) (by decide +kernel)
theorem dX3_space_21 : decode cX3_space 21 = .ok (.iconst 1, 1) := dc_4 (by decide +kernel)
theorem dX3_space_22 : decode cX3_space 22 = .ok (.goto 4, 3) := dc_167 (a := 0) (b := 4) (v := 4) (by decide +kernel)
theorem dX3_space_25 : decode cX3_space 25 = .ok (.iconst 0, 1) := dc_3 (by decide +kernel)
theorem dX3_space_26 : decode cX3_space 26 = .ok (.bipush 14, 2) := dc_16 (a := 14) (v := 14) (by decide +kernel)
theorem dX3_space_28 : decode cX3_space 28 = .ok (.invokevirtual 289, 3) := dc_182 (a := 1) (b := 33) (n := 289) (by decide +kernel)
theorem dX3_space_31 : decode cX3_space 31 = .ok (.aload_n 0, 1) := dc_42 (by decide +kernel)
theorem dX3_space_32 : decode cX3_space 32 = .ok (.iconst 2, 1) := dc_5 (by decide +kernel)
theorem dX3_space_33 : decode cX3_space 33 = .ok (.aload_n 0, 1) := dc_42 (by decide +kernel)
theorem dX3_space_34 : decode cX3_space 34 = .ok (.getfield 23, 3) := dc_180 (a := 0) (b := 23) (n := 23) (by decide +kernel)
theorem dX3_space_37 : decode cX3_space 37 = .ok (.iload_n 1, 1) := dc_27 (by decide +kernel)
theorem dX3_space_38 : decode cX3_space 38 = .ok (.iconst 2, 1) := dc_5 (by decide +kernel)
theorem dX3_space_39 : decode cX3_space 39 = .ok (.invokevirtual 507, 3) := dc_182 (a := 1) (b := 251) (n := 507) (by decide +kernel)
theorem dX3_space_42 : decode cX3_space 42 = .ok (.iconst 0, 1) := dc_3 (by decide +kernel)
theorem dX3_space_43 : decode cX3_space 43 = .ok (.aload_n 0, 1) := dc_42 (by decide +kernel)
theorem dX3_space_44 : decode cX3_space 44 = .ok (.getfield 23, 3) := dc_180 (a := 0) (b := 23) (n := 23) (by decide +kernel)
theorem dX3_space_47 : decode cX3_space 47 = .ok (.iload_n 1, 1) := dc_27 (by decide +kernel)
theorem dX3_space_48 : decode cX3_space 48 = .ok (.iconst 3, 1) := dc_6 (by decide +kernel)
theorem dX3_space_49 : decode cX3_space 49 = .ok (.invokevirtual 507, 3) := dc_182 (a := 1) (b := 251) (n := 507) (by decide +kernel)
theorem dX3_space_52 : decode cX3_space 52 = .ok (.invokestatic 370, 3) := dc_184 (a := 1) (b := 114) (n := 370) (by decide +kernel)
theorem dX3_space_55 : decode cX3_space 55 = .ok (.iconst 0, 1) := dc_3 (by decide +kernel)
theorem dX3_space_56 : decode cX3_space 56 = .ok (.iconst 0, 1) := dc_3 (by decide +kernel)
theorem dX3_space_57 : decode cX3_space 57 = .ok (.aload_n 0, 1) := dc_42 (by decide +kernel)
theorem dX3_space_58 : decode cX3_space 58 = .ok (.getfield 23, 3) := dc_180 (a := 0) (b := 23) (n := 23) (by decide +kernel)
theorem dX3_space_61 : decode cX3_space 61 = .ok (.iload_n 1, 1) := dc_27 (by decide +kernel)
theorem dX3_space_62 : decode cX3_space 62 = .ok (.iconst 4, 1) := dc_7 (by decide +kernel)
theorem dX3_space_63 : decode cX3_space 63 = .ok (.invokevirtual 507, 3) := dc_182 (a := 1) (b := 251) (n := 507) (by decide +kernel)
theorem dX3_space_66 : decode cX3_space 66 = .ok (.invokestatic 370, 3) := dc_184 (a := 1) (b := 114) (n := 370) (by decide +kernel)
theorem dX3_space_69 : decode cX3_space 69 = .ok (.iconst 0, 1) := dc_3 (by decide +kernel)
theorem dX3_space_70 : decode cX3_space 70 = .ok (.invokevirtual 318, 3) := dc_182 (a := 1) (b := 62) (n := 318) (by decide +kernel)
theorem dX3_space_73 : decode cX3_space 73 = .ok (.return_, 1) := dc_177 (by decide +kernel)
def fX3_space_b26 (l0 : Nat) (l1 : Int32) (s0 : Nat) (s1 : Int32) (h : eH) : Option ((Unit ⊕ Nat) × eH) :=
  (k_ok 3 h s0).bind fun _ =>
  t_B (fX4_want s0 s1 (14 : Int32) h) fun x2 h3 =>
  (g_A 2 h3 l0 1).bind fun a4 =>
  (k_ok 4 h3 a4).bind fun _ =>
  (fX5_parameter a4 l1 (2 : Int32) h3).bind fun q7 =>
  (g_A 2 q7.2 l0 1).bind fun a8 =>
  (k_ok 4 q7.2 a8).bind fun _ =>
  (fX5_parameter a8 l1 (3 : Int32) q7.2).bind fun q11 =>
  (g_A 2 q11.2 l0 1).bind fun a12 =>
  (k_ok 4 q11.2 a12).bind fun _ =>
  (fX5_parameter a12 l1 (4 : Int32) q11.2).bind fun q15 =>
  (k_ok 2 q15.2 l0).bind fun _ =>
  t_B (fX3_put l0 (2 : Int32) q7.1 (m_maxI (0 : Int32) q11.1) (0 : Int32) (m_maxI (0 : Int32) q15.1) (0 : Int32) q15.2) fun x17 h18 =>
  some (.inl (), h18)
theorem pX3_space_b26 {w : eW} {d : Nat} (hd : 9 ≤ d + 1) {l0 : Nat} {l1 : Int32} {s0 : Nat} {s1 : Int32} {h : eH} {q} (hf : fX3_space_b26 l0 l1 s0 s1 h = some q) : wp w (d + 1) YX3_space 26 [some (.ref l0), some (.int l1)] [.int s1, .ref s0] h (e_is (e_rt c_V q)) := by
  unfold fX3_space_b26 at hf
  refine w_bipush dX3_space_26 (v := 14) (by decide) ?_
  obtain ⟨_, b1, hf⟩ := Option.bind_eq_some_iff.mp hf
  refine x_ctV hf (e_stV (Yc := YX4_want) (ci := 3) (av := [.int s1, .int (14 : Int32)]) (st := []) dX3_space_28 q2846 mX4_want rfl (k_ok_some b1).1 (k_ok_some b1).2) mX4_want.2.2.1 mX4_want.2.2.2.2.1 (Nat.le_of_ble_eq_true rfl) (Nat.le_of_ble_eq_true rfl) rfl (fun q hq => pX4_want (by omega) hq) (fun x2 h3 hf => ?_)
  refine w_aload_n dX3_space_31 rfl rfl ?_
  refine w_iconst dX3_space_32 (v := 2) (by decide) ?_
  refine w_aload_n dX3_space_33 rfl rfl ?_
  obtain ⟨a4, b5, hf⟩ := Option.bind_eq_some_iff.mp hf
  refine GX3_23 b5 dX3_space_34 rfl ?_
  refine w_iload_n dX3_space_37 rfl rfl ?_
  refine w_iconst dX3_space_38 (v := 2) (by decide) ?_
  obtain ⟨_, b6, hf⟩ := Option.bind_eq_some_iff.mp hf
  refine x_cnI hf (e_stV (Yc := YX5_parameter) (ci := 4) (av := [.int l1, .int (2 : Int32)]) (st := [.int (2 : Int32), .ref l0]) dX3_space_39 q3887 mX5_parameter rfl (k_ok_some b6).1 (k_ok_some b6).2) mX5_parameter.2.2.1 mX5_parameter.2.2.2.2.1 (Nat.le_of_ble_eq_true rfl) (Nat.le_of_ble_eq_true rfl) (fun q hq => pX5_parameter (by omega) hq) (fun q7 hf => ?_)
  refine w_iconst dX3_space_42 (v := 0) (by decide) ?_
  refine w_aload_n dX3_space_43 rfl rfl ?_
  obtain ⟨a8, b9, hf⟩ := Option.bind_eq_some_iff.mp hf
  refine GX3_23 b9 dX3_space_44 rfl ?_
  refine w_iload_n dX3_space_47 rfl rfl ?_
  refine w_iconst dX3_space_48 (v := 3) (by decide) ?_
  obtain ⟨_, b10, hf⟩ := Option.bind_eq_some_iff.mp hf
  refine x_cnI hf (e_stV (Yc := YX5_parameter) (ci := 4) (av := [.int l1, .int (3 : Int32)]) (st := [.int (0 : Int32), .int q7.1, .int (2 : Int32), .ref l0]) dX3_space_49 q3887 mX5_parameter rfl (k_ok_some b10).1 (k_ok_some b10).2) mX5_parameter.2.2.1 mX5_parameter.2.2.2.2.1 (Nat.le_of_ble_eq_true rfl) (Nat.le_of_ble_eq_true rfl) (fun q hq => pX5_parameter (by omega) hq) (fun q11 hf => ?_)
  refine x_maxI dX3_space_52 q3216 q2912 q478 q2913 (Nat.le_of_ble_eq_true rfl) ?_
  refine w_iconst dX3_space_55 (v := 0) (by decide) ?_
  refine w_iconst dX3_space_56 (v := 0) (by decide) ?_
  refine w_aload_n dX3_space_57 rfl rfl ?_
  obtain ⟨a12, b13, hf⟩ := Option.bind_eq_some_iff.mp hf
  refine GX3_23 b13 dX3_space_58 rfl ?_
  refine w_iload_n dX3_space_61 rfl rfl ?_
  refine w_iconst dX3_space_62 (v := 4) (by decide) ?_
  obtain ⟨_, b14, hf⟩ := Option.bind_eq_some_iff.mp hf
  refine x_cnI hf (e_stV (Yc := YX5_parameter) (ci := 4) (av := [.int l1, .int (4 : Int32)]) (st := [.int (0 : Int32), .int (0 : Int32), .int (m_maxI (0 : Int32) q11.1), .int q7.1, .int (2 : Int32), .ref l0]) dX3_space_63 q3887 mX5_parameter rfl (k_ok_some b14).1 (k_ok_some b14).2) mX5_parameter.2.2.1 mX5_parameter.2.2.2.2.1 (Nat.le_of_ble_eq_true rfl) (Nat.le_of_ble_eq_true rfl) (fun q hq => pX5_parameter (by omega) hq) (fun q15 hf => ?_)
  refine x_maxI dX3_space_66 q3216 q2912 q478 q2913 (Nat.le_of_ble_eq_true rfl) ?_
  refine w_iconst dX3_space_69 (v := 0) (by decide) ?_
  obtain ⟨_, b16, hf⟩ := Option.bind_eq_some_iff.mp hf
  refine x_ctV hf (e_stV (Yc := YX3_put) (ci := 2) (av := [.int (2 : Int32), .int q7.1, .int (m_maxI (0 : Int32) q11.1), .int (0 : Int32), .int (m_maxI (0 : Int32) q15.1), .int (0 : Int32)]) (st := []) dX3_space_70 q3177 mX3_put rfl (k_ok_some b16).1 (k_ok_some b16).2) mX3_put.2.2.1 mX3_put.2.2.2.2.1 (Nat.le_of_ble_eq_true rfl) (Nat.le_of_ble_eq_true rfl) rfl (fun q hq => pX3_put (by omega) hq) (fun x17 h18 hf => ?_)
  cases hf
  exact w_vret dX3_space_73 rfl rfl
def fX3_space (this : Nat) (h : eH) : Option ((Unit ⊕ Nat) × eH) :=
  (g_A 2 h this 6).bind fun a1 =>
  (g_A 8 h a1 3).bind fun a3 =>
  (r_I 100 h a3 (2095 : Int32)).bind fun x5 =>
  (g_A 2 h this 0).bind fun a7 =>
  if x5 = (-1 : Int32) then
    fX3_space_b26 this x5 a7 (0 : Int32) h
  else
    fX3_space_b26 this x5 a7 (1 : Int32) h
theorem pX3_space {w : eW} {d : Nat} (hd : 9 ≤ d) {this : Nat} {h : eH} {q} (hf : fX3_space this h = some q) : wm w d YX3_space [.ref this] h (e_is (e_rt c_V q)) := by
  obtain ⟨d, rfl⟩ : ∃ e, d = e + 1 := ⟨d - 1, by omega⟩
  show wp w (d + 1) YX3_space 0 [some (.ref this), none] [] h _
  unfold fX3_space at hf
  refine w_aload_n dX3_space_0 rfl rfl ?_
  obtain ⟨a1, b2, hf⟩ := Option.bind_eq_some_iff.mp hf
  refine GX3_53 b2 dX3_space_1 rfl ?_
  obtain ⟨a3, b4, hf⟩ := Option.bind_eq_some_iff.mp hf
  refine GX3_311 b4 dX3_space_4 rfl ?_
  refine w_sipush dX3_space_7 (v := 2095) (by decide) ?_
  obtain ⟨x5, b6, hf⟩ := Option.bind_eq_some_iff.mp hf
  refine x_rI b6 dX3_space_10 ?_
  refine w_istore_n dX3_space_11 rfl (by decide) (ls' := [some (.ref this), some (.int x5)]) rfl ?_
  refine w_aload_n dX3_space_12 rfl rfl ?_
  obtain ⟨a7, b8, hf⟩ := Option.bind_eq_some_iff.mp hf
  refine GX3_14 b8 dX3_space_13 rfl ?_
  refine w_iload_n dX3_space_16 rfl rfl ?_
  refine w_iconst dX3_space_17 (v := -1) (by decide) ?_
  refine w_icmp_eq 25 dX3_space_18 (by decide) (fun c9 => ?_) (fun c9 => ?_)
  · replace hf := (if_pos (show x5 = (-1 : Int32) from c9)).symm.trans hf
    refine w_iconst dX3_space_25 (v := 0) (by decide) ?_
    exact (pX3_space_b26 hd hf).to ⟨rfl, rfl, trivial⟩
  · replace hf := (if_neg (show ¬ (x5 = (-1 : Int32)) from c9)).symm.trans hf
    refine w_iconst dX3_space_21 (v := 1) (by decide) ?_
    refine w_goto 26 dX3_space_22 (by decide) ?_
    exact (pX3_space_b26 hd hf).to ⟨rfl, rfl, trivial⟩
abbrev cX3_actCharacter : ByteArray := prog_26_method_47_code
def yX3_actCharacter : MethodName := ⟨RX3, "actCharacter", "(I)V"⟩
def YX3_actCharacter : eY := (yX3_actCharacter, cX3_actCharacter, 2, none, [])
theorem mX3_actCharacter : e_mv YX3_actCharacter RX3 1 := ⟨q3647, qs156, q3648, by decide, by decide +kernel, (e_sig (by decide +kernel))⟩
theorem dX3_actCharacter_0 : decode cX3_actCharacter 0 = .ok (.iload_n 1, 1) := dc_27 (by decide +kernel)
theorem dX3_actCharacter_1 : decode cX3_actCharacter 1 = .ok (.tableswitch 135 1 10 #[55, 63, 135, 135, 135, 109, 135, 135, 135, 121], 55) := by decide +kernel
theorem dX3_actCharacter_56 : decode cX3_actCharacter 56 = .ok (.aload_n 0, 1) := dc_42 (by decide +kernel)
theorem dX3_actCharacter_57 : decode cX3_actCharacter 57 = .ok (.iconst 1, 1) := dc_4 (by decide +kernel)
theorem dX3_actCharacter_58 : decode cX3_actCharacter 58 = .ok (.invokevirtual 431, 3) := dc_182 (a := 1) (b := 175) (n := 431) (by decide +kernel)
theorem dX3_actCharacter_61 : decode cX3_actCharacter 61 = .ok (.goto 84, 3) := dc_167 (a := 0) (b := 84) (v := 84) (by decide +kernel)
theorem dX3_actCharacter_64 : decode cX3_actCharacter 64 = .ok (.aload_n 0, 1) := dc_42 (by decide +kernel)
theorem dX3_actCharacter_65 : decode cX3_actCharacter 65 = .ok (.getfield 53, 3) := dc_180 (a := 0) (b := 53) (n := 53) (by decide +kernel)
theorem dX3_actCharacter_68 : decode cX3_actCharacter 68 = .ok (.getfield 264, 3) := dc_180 (a := 1) (b := 8) (n := 264) (by decide +kernel)
theorem dX3_actCharacter_71 : decode cX3_actCharacter 71 = .ok (.ifCond .le 31, 3) := dc_158 (a := 0) (b := 31) (v := 31) (by decide +kernel)
theorem dX3_actCharacter_74 : decode cX3_actCharacter 74 = .ok (.aload_n 0, 1) := dc_42 (by decide +kernel)
theorem dX3_actCharacter_75 : decode cX3_actCharacter 75 = .ok (.getfield 53, 3) := dc_180 (a := 0) (b := 53) (n := 53) (by decide +kernel)
theorem dX3_actCharacter_78 : decode cX3_actCharacter 78 = .ok (.getfield 677, 3) := dc_180 (a := 2) (b := 165) (n := 677) (by decide +kernel)
theorem dX3_actCharacter_81 : decode cX3_actCharacter 81 = .ok (.aload_n 0, 1) := dc_42 (by decide +kernel)
theorem dX3_actCharacter_82 : decode cX3_actCharacter 82 = .ok (.getfield 53, 3) := dc_180 (a := 0) (b := 53) (n := 53) (by decide +kernel)
theorem dX3_actCharacter_85 : decode cX3_actCharacter 85 = .ok (.getfield 264, 3) := dc_180 (a := 1) (b := 8) (n := 264) (by decide +kernel)
theorem dX3_actCharacter_88 : decode cX3_actCharacter 88 = .ok (.iconst 1, 1) := dc_4 (by decide +kernel)
theorem dX3_actCharacter_89 : decode cX3_actCharacter 89 = .ok (.isub, 1) := dc_100 (by decide +kernel)
theorem dX3_actCharacter_90 : decode cX3_actCharacter 90 = .ok (.iaload, 1) := dc_46 (by decide +kernel)
theorem dX3_actCharacter_91 : decode cX3_actCharacter 91 = .ok (.iconst 3, 1) := dc_6 (by decide +kernel)
theorem dX3_actCharacter_92 : decode cX3_actCharacter 92 = .ok (.if_icmp .ne 10, 3) := dc_160 (a := 0) (b := 10) (v := 10) (by decide +kernel)
theorem dX3_actCharacter_95 : decode cX3_actCharacter 95 = .ok (.aload_n 0, 1) := dc_42 (by decide +kernel)
theorem dX3_actCharacter_96 : decode cX3_actCharacter 96 = .ok (.invokevirtual 692, 3) := dc_182 (a := 2) (b := 180) (n := 692) (by decide +kernel)
theorem dX3_actCharacter_99 : decode cX3_actCharacter 99 = .ok (.goto 46, 3) := dc_167 (a := 0) (b := 46) (v := 46) (by decide +kernel)
theorem dX3_actCharacter_102 : decode cX3_actCharacter 102 = .ok (.aload_n 0, 1) := dc_42 (by decide +kernel)
theorem dX3_actCharacter_103 : decode cX3_actCharacter 103 = .ok (.iconst 1, 1) := dc_4 (by decide +kernel)
theorem dX3_actCharacter_104 : decode cX3_actCharacter 104 = .ok (.invokevirtual 695, 3) := dc_182 (a := 2) (b := 183) (n := 695) (by decide +kernel)
theorem dX3_actCharacter_107 : decode cX3_actCharacter 107 = .ok (.goto 38, 3) := dc_167 (a := 0) (b := 38) (v := 38) (by decide +kernel)
theorem dX3_actCharacter_110 : decode cX3_actCharacter 110 = .ok (.aload_n 0, 1) := dc_42 (by decide +kernel)
theorem dX3_actCharacter_111 : decode cX3_actCharacter 111 = .ok (.getfield 14, 3) := dc_180 (a := 0) (b := 14) (n := 14) (by decide +kernel)
theorem dX3_actCharacter_114 : decode cX3_actCharacter 114 = .ok (.bipush 12, 2) := dc_16 (a := 12) (v := 12) (by decide +kernel)
theorem dX3_actCharacter_116 : decode cX3_actCharacter 116 = .ok (.invokevirtual 680, 3) := dc_182 (a := 2) (b := 168) (n := 680) (by decide +kernel)
theorem dX3_actCharacter_119 : decode cX3_actCharacter 119 = .ok (.goto 26, 3) := dc_167 (a := 0) (b := 26) (v := 26) (by decide +kernel)
theorem dX3_actCharacter_122 : decode cX3_actCharacter 122 = .ok (.aload_n 0, 1) := dc_42 (by decide +kernel)
theorem dX3_actCharacter_123 : decode cX3_actCharacter 123 = .ok (.invokevirtual 298, 3) := dc_182 (a := 1) (b := 42) (n := 298) (by decide +kernel)
theorem dX3_actCharacter_126 : decode cX3_actCharacter 126 = .ok (.ifCond .ne 19, 3) := dc_154 (a := 0) (b := 19) (v := 19) (by decide +kernel)
theorem dX3_actCharacter_129 : decode cX3_actCharacter 129 = .ok (.aload_n 0, 1) := dc_42 (by decide +kernel)
theorem dX3_actCharacter_130 : decode cX3_actCharacter 130 = .ok (.invokevirtual 697, 3) := dc_182 (a := 2) (b := 185) (n := 697) (by decide +kernel)
theorem dX3_actCharacter_133 : decode cX3_actCharacter 133 = .ok (.goto 12, 3) := dc_167 (a := 0) (b := 12) (v := 12) (by decide +kernel)
theorem dX3_actCharacter_136 : decode cX3_actCharacter 136 = .ok (.aload_n 0, 1) := dc_42 (by decide +kernel)
theorem dX3_actCharacter_137 : decode cX3_actCharacter 137 = .ok (.getfield 14, 3) := dc_180 (a := 0) (b := 14) (n := 14) (by decide +kernel)
theorem dX3_actCharacter_140 : decode cX3_actCharacter 140 = .ok (.bipush 15, 2) := dc_16 (a := 15) (v := 15) (by decide +kernel)
theorem dX3_actCharacter_142 : decode cX3_actCharacter 142 = .ok (.invokevirtual 680, 3) := dc_182 (a := 2) (b := 168) (n := 680) (by decide +kernel)
theorem dX3_actCharacter_145 : decode cX3_actCharacter 145 = .ok (.return_, 1) := dc_177 (by decide +kernel)
def fX3_actCharacter_b145 (N : Nat)  (h : eH) : Option ((Unit ⊕ Nat) × eH) :=
  some (.inl (), h)
theorem pX3_actCharacter_b145 {w : eW} {d : Nat} (hd : 18 ≤ d + 1) {N : Nat}  {h : eH} {q} (hf : fX3_actCharacter_b145 N h = some q) : wp w (d + 1) YX3_actCharacter 145 [none, none] [] h (e_is (e_rt c_V q)) := by
  unfold fX3_actCharacter_b145 at hf
  cases hf
  exact w_vret dX3_actCharacter_145 rfl rfl
def fX3_actCharacter_b102 (N : Nat) (l0 : Nat) (h : eH) : Option ((Unit ⊕ Nat) × eH) :=
  (k_ok 2 h l0).bind fun _ =>
  t_B (fX3_close N l0 (1 : Int32) h) fun x2 h3 =>
  fX3_actCharacter_b145 N h3
theorem pX3_actCharacter_b102 {w : eW} {d : Nat} (hd : 18 ≤ d + 1) {N : Nat} {l0 : Nat} {h : eH} {q} (hf : fX3_actCharacter_b102 N l0 h = some q) : wp w (d + 1) YX3_actCharacter 102 [some (.ref l0), none] [] h (e_is (e_rt c_V q)) := by
  unfold fX3_actCharacter_b102 at hf
  refine w_aload_n dX3_actCharacter_102 rfl rfl ?_
  refine w_iconst dX3_actCharacter_103 (v := 1) (by decide) ?_
  obtain ⟨_, b1, hf⟩ := Option.bind_eq_some_iff.mp hf
  refine x_ctV hf (e_stV (Yc := YX3_close) (ci := 2) (av := [.int (1 : Int32)]) (st := []) dX3_actCharacter_104 q3879 mX3_close rfl (k_ok_some b1).1 (k_ok_some b1).2) mX3_close.2.2.1 mX3_close.2.2.2.2.1 (Nat.le_of_ble_eq_true rfl) (Nat.le_of_ble_eq_true rfl) rfl (fun q hq => pX3_close (by omega) hq) (fun x2 h3 hf => ?_)
  refine w_goto 145 dX3_actCharacter_107 (by decide) ?_
  exact (pX3_actCharacter_b145 hd hf).to trivial
def fX3_actCharacter (N : Nat) (this : Nat) (p0 : Int32) (h : eH) : Option ((Unit ⊕ Nat) × eH) :=
  if p0 = (1 : Int32) then
    (k_ok 2 h this).bind fun _ =>
    t_B (fX3_open this (1 : Int32) h) fun x3 h4 =>
    fX3_actCharacter_b145 N h4
  else
  if p0 = (2 : Int32) then
    (g_A 2 h this 6).bind fun a6 =>
    (g_I 8 h a6 11).bind fun x8 =>
    if x8 ≤ 0 then
      fX3_actCharacter_b102 N this h
    else
      (g_A 2 h this 6).bind fun a11 =>
      (g_A 8 h a11 9).bind fun a13 =>
      (g_A 2 h this 6).bind fun a15 =>
      (g_I 8 h a15 11).bind fun x17 =>
      (r_I 100 h a13 (x17 - (1 : Int32))).bind fun x19 =>
      if ¬ x19 = (3 : Int32) then
        fX3_actCharacter_b102 N this h
      else
        (k_ok 2 h this).bind fun _ =>
        t_B (fX3_closeBox N this h) fun x23 h24 =>
        fX3_actCharacter_b145 N h24
  else
  if p0 = (3 : Int32) then
    (g_A 2 h this 0).bind fun a26 =>
    (k_ok 3 h a26).bind fun _ =>
    t_B (fX4_fail a26 (15 : Int32) h) fun x29 h30 =>
    fX3_actCharacter_b145 N h30
  else
  if p0 = (4 : Int32) then
    (g_A 2 h this 0).bind fun a32 =>
    (k_ok 3 h a32).bind fun _ =>
    t_B (fX4_fail a32 (15 : Int32) h) fun x35 h36 =>
    fX3_actCharacter_b145 N h36
  else
  if p0 = (5 : Int32) then
    (g_A 2 h this 0).bind fun a38 =>
    (k_ok 3 h a38).bind fun _ =>
    t_B (fX4_fail a38 (15 : Int32) h) fun x41 h42 =>
    fX3_actCharacter_b145 N h42
  else
  if p0 = (6 : Int32) then
    (g_A 2 h this 0).bind fun a44 =>
    (k_ok 3 h a44).bind fun _ =>
    t_B (fX4_fail a44 (12 : Int32) h) fun x47 h48 =>
    fX3_actCharacter_b145 N h48
  else
  if p0 = (7 : Int32) then
    (g_A 2 h this 0).bind fun a50 =>
    (k_ok 3 h a50).bind fun _ =>
    t_B (fX4_fail a50 (15 : Int32) h) fun x53 h54 =>
    fX3_actCharacter_b145 N h54
  else
  if p0 = (8 : Int32) then
    (g_A 2 h this 0).bind fun a56 =>
    (k_ok 3 h a56).bind fun _ =>
    t_B (fX4_fail a56 (15 : Int32) h) fun x59 h60 =>
    fX3_actCharacter_b145 N h60
  else
  if p0 = (9 : Int32) then
    (g_A 2 h this 0).bind fun a62 =>
    (k_ok 3 h a62).bind fun _ =>
    t_B (fX4_fail a62 (15 : Int32) h) fun x65 h66 =>
    fX3_actCharacter_b145 N h66
  else
  if p0 = (10 : Int32) then
    (k_ok 2 h this).bind fun _ =>
    (fX3_isVertical this h).bind fun q69 =>
    if ¬ q69.1 = 0 then
      fX3_actCharacter_b145 N q69.2
    else
      (k_ok 2 q69.2 this).bind fun _ =>
      t_B (fX3_space this q69.2) fun x72 h73 =>
      fX3_actCharacter_b145 N h73
  else
  (g_A 2 h this 0).bind fun a74 =>
  (k_ok 3 h a74).bind fun _ =>
  t_B (fX4_fail a74 (15 : Int32) h) fun x77 h78 =>
  fX3_actCharacter_b145 N h78
theorem pX3_actCharacter {w : eW} {d : Nat} (hd : 18 ≤ d) {N : Nat} {this : Nat} {p0 : Int32} {h : eH} {q} (hf : fX3_actCharacter N this p0 h = some q) : wm w d YX3_actCharacter [.ref this, .int p0] h (e_is (e_rt c_V q)) := by
  obtain ⟨d, rfl⟩ : ∃ e, d = e + 1 := ⟨d - 1, by omega⟩
  show wp w (d + 1) YX3_actCharacter 0 [some (.ref this), some (.int p0)] [] h _
  unfold fX3_actCharacter at hf
  refine w_iload_n dX3_actCharacter_0 rfl rfl ?_
  by_cases c1 : p0 = (1 : Int32)
  · replace hf := (if_pos c1).symm.trans hf
    refine w_tableIn 56 dX3_actCharacter_1 (by rw [c1]; decide) (by rw [c1]; decide) (by rw [c1]; rfl) (by decide) ?_
    refine w_aload_n dX3_actCharacter_56 rfl rfl ?_
    refine w_iconst dX3_actCharacter_57 (v := 1) (by decide) ?_
    obtain ⟨_, b2, hf⟩ := Option.bind_eq_some_iff.mp hf
    refine x_ctV hf (e_stV (Yc := YX3_open) (ci := 2) (av := [.int (1 : Int32)]) (st := []) dX3_actCharacter_58 q3649 mX3_open rfl (k_ok_some b2).1 (k_ok_some b2).2) mX3_open.2.2.1 mX3_open.2.2.2.2.1 (Nat.le_of_ble_eq_true rfl) (Nat.le_of_ble_eq_true rfl) rfl (fun q hq => pX3_open (by omega) hq) (fun x3 h4 hf => ?_)
    refine w_goto 145 dX3_actCharacter_61 (by decide) ?_
    exact (pX3_actCharacter_b145 hd hf).to trivial
  replace hf := (if_neg c1).symm.trans hf
  by_cases c5 : p0 = (2 : Int32)
  · replace hf := (if_pos c5).symm.trans hf
    refine w_tableIn 64 dX3_actCharacter_1 (by rw [c5]; decide) (by rw [c5]; decide) (by rw [c5]; rfl) (by decide) ?_
    refine w_aload_n dX3_actCharacter_64 rfl rfl ?_
    obtain ⟨a6, b7, hf⟩ := Option.bind_eq_some_iff.mp hf
    refine GX3_53 b7 dX3_actCharacter_65 rfl ?_
    obtain ⟨x8, b9, hf⟩ := Option.bind_eq_some_iff.mp hf
    refine GX3_264 b9 dX3_actCharacter_68 rfl ?_
    refine w_if_le 102 dX3_actCharacter_71 (by decide) (fun c10 => ?_) (fun c10 => ?_)
    · replace hf := (if_pos (show x8 ≤ 0 from c10)).symm.trans hf
      exact (pX3_actCharacter_b102 hd hf).to ⟨rfl, trivial⟩
    · replace hf := (if_neg (show ¬ (x8 ≤ 0) from c10)).symm.trans hf
      refine w_aload_n dX3_actCharacter_74 rfl rfl ?_
      obtain ⟨a11, b12, hf⟩ := Option.bind_eq_some_iff.mp hf
      refine GX3_53 b12 dX3_actCharacter_75 rfl ?_
      obtain ⟨a13, b14, hf⟩ := Option.bind_eq_some_iff.mp hf
      refine GX3_677 b14 dX3_actCharacter_78 rfl ?_
      refine w_aload_n dX3_actCharacter_81 rfl rfl ?_
      obtain ⟨a15, b16, hf⟩ := Option.bind_eq_some_iff.mp hf
      refine GX3_53 b16 dX3_actCharacter_82 rfl ?_
      obtain ⟨x17, b18, hf⟩ := Option.bind_eq_some_iff.mp hf
      refine GX3_264 b18 dX3_actCharacter_85 rfl ?_
      refine w_iconst dX3_actCharacter_88 (v := 1) (by decide) ?_
      refine w_isub dX3_actCharacter_89 ?_
      obtain ⟨x19, b20, hf⟩ := Option.bind_eq_some_iff.mp hf
      refine x_rI b20 dX3_actCharacter_90 ?_
      refine w_iconst dX3_actCharacter_91 (v := 3) (by decide) ?_
      refine w_icmp_ne 102 dX3_actCharacter_92 (by decide) (fun c21 => ?_) (fun c21 => ?_)
      · replace hf := (if_pos (show ¬ x19 = (3 : Int32) from c21)).symm.trans hf
        exact (pX3_actCharacter_b102 hd hf).to ⟨rfl, trivial⟩
      · replace hf := (if_neg (show ¬ (¬ x19 = (3 : Int32)) from (fun z => z c21))).symm.trans hf
        refine w_aload_n dX3_actCharacter_95 rfl rfl ?_
        obtain ⟨_, b22, hf⟩ := Option.bind_eq_some_iff.mp hf
        refine x_ctV hf (e_stV (Yc := YX3_closeBox) (ci := 2) (av := []) (st := []) dX3_actCharacter_96 q3657 mX3_closeBox rfl (k_ok_some b22).1 (k_ok_some b22).2) mX3_closeBox.2.2.1 mX3_closeBox.2.2.2.2.1 (Nat.le_of_ble_eq_true rfl) (Nat.le_of_ble_eq_true rfl) rfl (fun q hq => pX3_closeBox (by omega) hq) (fun x23 h24 hf => ?_)
        refine w_goto 145 dX3_actCharacter_99 (by decide) ?_
        exact (pX3_actCharacter_b145 hd hf).to trivial
  replace hf := (if_neg c5).symm.trans hf
  by_cases c25 : p0 = (3 : Int32)
  · replace hf := (if_pos c25).symm.trans hf
    refine w_tableIn 136 dX3_actCharacter_1 (by rw [c25]; decide) (by rw [c25]; decide) (by rw [c25]; rfl) (by decide) ?_
    refine w_aload_n dX3_actCharacter_136 rfl rfl ?_
    obtain ⟨a26, b27, hf⟩ := Option.bind_eq_some_iff.mp hf
    refine GX3_14 b27 dX3_actCharacter_137 rfl ?_
    refine w_bipush dX3_actCharacter_140 (v := 15) (by decide) ?_
    obtain ⟨_, b28, hf⟩ := Option.bind_eq_some_iff.mp hf
    refine x_ctV hf (e_stV (Yc := YX4_fail) (ci := 3) (av := [.int (15 : Int32)]) (st := []) dX3_actCharacter_142 q3181 mX4_fail rfl (k_ok_some b28).1 (k_ok_some b28).2) mX4_fail.2.2.1 mX4_fail.2.2.2.2.1 (Nat.le_of_ble_eq_true rfl) (Nat.le_of_ble_eq_true rfl) rfl (fun q hq => pX4_fail (by omega) hq) (fun x29 h30 hf => ?_)
    exact (pX3_actCharacter_b145 hd hf).to trivial
  replace hf := (if_neg c25).symm.trans hf
  by_cases c31 : p0 = (4 : Int32)
  · replace hf := (if_pos c31).symm.trans hf
    refine w_tableIn 136 dX3_actCharacter_1 (by rw [c31]; decide) (by rw [c31]; decide) (by rw [c31]; rfl) (by decide) ?_
    refine w_aload_n dX3_actCharacter_136 rfl rfl ?_
    obtain ⟨a32, b33, hf⟩ := Option.bind_eq_some_iff.mp hf
    refine GX3_14 b33 dX3_actCharacter_137 rfl ?_
    refine w_bipush dX3_actCharacter_140 (v := 15) (by decide) ?_
    obtain ⟨_, b34, hf⟩ := Option.bind_eq_some_iff.mp hf
    refine x_ctV hf (e_stV (Yc := YX4_fail) (ci := 3) (av := [.int (15 : Int32)]) (st := []) dX3_actCharacter_142 q3181 mX4_fail rfl (k_ok_some b34).1 (k_ok_some b34).2) mX4_fail.2.2.1 mX4_fail.2.2.2.2.1 (Nat.le_of_ble_eq_true rfl) (Nat.le_of_ble_eq_true rfl) rfl (fun q hq => pX4_fail (by omega) hq) (fun x35 h36 hf => ?_)
    exact (pX3_actCharacter_b145 hd hf).to trivial
  replace hf := (if_neg c31).symm.trans hf
  by_cases c37 : p0 = (5 : Int32)
  · replace hf := (if_pos c37).symm.trans hf
    refine w_tableIn 136 dX3_actCharacter_1 (by rw [c37]; decide) (by rw [c37]; decide) (by rw [c37]; rfl) (by decide) ?_
    refine w_aload_n dX3_actCharacter_136 rfl rfl ?_
    obtain ⟨a38, b39, hf⟩ := Option.bind_eq_some_iff.mp hf
    refine GX3_14 b39 dX3_actCharacter_137 rfl ?_
    refine w_bipush dX3_actCharacter_140 (v := 15) (by decide) ?_
    obtain ⟨_, b40, hf⟩ := Option.bind_eq_some_iff.mp hf
    refine x_ctV hf (e_stV (Yc := YX4_fail) (ci := 3) (av := [.int (15 : Int32)]) (st := []) dX3_actCharacter_142 q3181 mX4_fail rfl (k_ok_some b40).1 (k_ok_some b40).2) mX4_fail.2.2.1 mX4_fail.2.2.2.2.1 (Nat.le_of_ble_eq_true rfl) (Nat.le_of_ble_eq_true rfl) rfl (fun q hq => pX4_fail (by omega) hq) (fun x41 h42 hf => ?_)
    exact (pX3_actCharacter_b145 hd hf).to trivial
  replace hf := (if_neg c37).symm.trans hf
  by_cases c43 : p0 = (6 : Int32)
  · replace hf := (if_pos c43).symm.trans hf
    refine w_tableIn 110 dX3_actCharacter_1 (by rw [c43]; decide) (by rw [c43]; decide) (by rw [c43]; rfl) (by decide) ?_
    refine w_aload_n dX3_actCharacter_110 rfl rfl ?_
    obtain ⟨a44, b45, hf⟩ := Option.bind_eq_some_iff.mp hf
    refine GX3_14 b45 dX3_actCharacter_111 rfl ?_
    refine w_bipush dX3_actCharacter_114 (v := 12) (by decide) ?_
    obtain ⟨_, b46, hf⟩ := Option.bind_eq_some_iff.mp hf
    refine x_ctV hf (e_stV (Yc := YX4_fail) (ci := 3) (av := [.int (12 : Int32)]) (st := []) dX3_actCharacter_116 q3181 mX4_fail rfl (k_ok_some b46).1 (k_ok_some b46).2) mX4_fail.2.2.1 mX4_fail.2.2.2.2.1 (Nat.le_of_ble_eq_true rfl) (Nat.le_of_ble_eq_true rfl) rfl (fun q hq => pX4_fail (by omega) hq) (fun x47 h48 hf => ?_)
    refine w_goto 145 dX3_actCharacter_119 (by decide) ?_
    exact (pX3_actCharacter_b145 hd hf).to trivial
  replace hf := (if_neg c43).symm.trans hf
  by_cases c49 : p0 = (7 : Int32)
  · replace hf := (if_pos c49).symm.trans hf
    refine w_tableIn 136 dX3_actCharacter_1 (by rw [c49]; decide) (by rw [c49]; decide) (by rw [c49]; rfl) (by decide) ?_
    refine w_aload_n dX3_actCharacter_136 rfl rfl ?_
    obtain ⟨a50, b51, hf⟩ := Option.bind_eq_some_iff.mp hf
    refine GX3_14 b51 dX3_actCharacter_137 rfl ?_
    refine w_bipush dX3_actCharacter_140 (v := 15) (by decide) ?_
    obtain ⟨_, b52, hf⟩ := Option.bind_eq_some_iff.mp hf
    refine x_ctV hf (e_stV (Yc := YX4_fail) (ci := 3) (av := [.int (15 : Int32)]) (st := []) dX3_actCharacter_142 q3181 mX4_fail rfl (k_ok_some b52).1 (k_ok_some b52).2) mX4_fail.2.2.1 mX4_fail.2.2.2.2.1 (Nat.le_of_ble_eq_true rfl) (Nat.le_of_ble_eq_true rfl) rfl (fun q hq => pX4_fail (by omega) hq) (fun x53 h54 hf => ?_)
    exact (pX3_actCharacter_b145 hd hf).to trivial
  replace hf := (if_neg c49).symm.trans hf
  by_cases c55 : p0 = (8 : Int32)
  · replace hf := (if_pos c55).symm.trans hf
    refine w_tableIn 136 dX3_actCharacter_1 (by rw [c55]; decide) (by rw [c55]; decide) (by rw [c55]; rfl) (by decide) ?_
    refine w_aload_n dX3_actCharacter_136 rfl rfl ?_
    obtain ⟨a56, b57, hf⟩ := Option.bind_eq_some_iff.mp hf
    refine GX3_14 b57 dX3_actCharacter_137 rfl ?_
    refine w_bipush dX3_actCharacter_140 (v := 15) (by decide) ?_
    obtain ⟨_, b58, hf⟩ := Option.bind_eq_some_iff.mp hf
    refine x_ctV hf (e_stV (Yc := YX4_fail) (ci := 3) (av := [.int (15 : Int32)]) (st := []) dX3_actCharacter_142 q3181 mX4_fail rfl (k_ok_some b58).1 (k_ok_some b58).2) mX4_fail.2.2.1 mX4_fail.2.2.2.2.1 (Nat.le_of_ble_eq_true rfl) (Nat.le_of_ble_eq_true rfl) rfl (fun q hq => pX4_fail (by omega) hq) (fun x59 h60 hf => ?_)
    exact (pX3_actCharacter_b145 hd hf).to trivial
  replace hf := (if_neg c55).symm.trans hf
  by_cases c61 : p0 = (9 : Int32)
  · replace hf := (if_pos c61).symm.trans hf
    refine w_tableIn 136 dX3_actCharacter_1 (by rw [c61]; decide) (by rw [c61]; decide) (by rw [c61]; rfl) (by decide) ?_
    refine w_aload_n dX3_actCharacter_136 rfl rfl ?_
    obtain ⟨a62, b63, hf⟩ := Option.bind_eq_some_iff.mp hf
    refine GX3_14 b63 dX3_actCharacter_137 rfl ?_
    refine w_bipush dX3_actCharacter_140 (v := 15) (by decide) ?_
    obtain ⟨_, b64, hf⟩ := Option.bind_eq_some_iff.mp hf
    refine x_ctV hf (e_stV (Yc := YX4_fail) (ci := 3) (av := [.int (15 : Int32)]) (st := []) dX3_actCharacter_142 q3181 mX4_fail rfl (k_ok_some b64).1 (k_ok_some b64).2) mX4_fail.2.2.1 mX4_fail.2.2.2.2.1 (Nat.le_of_ble_eq_true rfl) (Nat.le_of_ble_eq_true rfl) rfl (fun q hq => pX4_fail (by omega) hq) (fun x65 h66 hf => ?_)
    exact (pX3_actCharacter_b145 hd hf).to trivial
  replace hf := (if_neg c61).symm.trans hf
  by_cases c67 : p0 = (10 : Int32)
  · replace hf := (if_pos c67).symm.trans hf
    refine w_tableIn 122 dX3_actCharacter_1 (by rw [c67]; decide) (by rw [c67]; decide) (by rw [c67]; rfl) (by decide) ?_
    refine w_aload_n dX3_actCharacter_122 rfl rfl ?_
    obtain ⟨_, b68, hf⟩ := Option.bind_eq_some_iff.mp hf
    refine x_cnI hf (e_stV (Yc := YX3_isVertical) (ci := 2) (av := []) (st := []) dX3_actCharacter_123 q3190 mX3_isVertical rfl (k_ok_some b68).1 (k_ok_some b68).2) mX3_isVertical.2.2.1 mX3_isVertical.2.2.2.2.1 (Nat.le_of_ble_eq_true rfl) (Nat.le_of_ble_eq_true rfl) (fun q hq => pX3_isVertical (by omega) hq) (fun q69 hf => ?_)
    refine w_if_ne 145 dX3_actCharacter_126 (by decide) (fun c70 => ?_) (fun c70 => ?_)
    · replace hf := (if_pos (show ¬ q69.1 = 0 from c70)).symm.trans hf
      exact (pX3_actCharacter_b145 hd hf).to trivial
    · replace hf := (if_neg (show ¬ (¬ q69.1 = 0) from (fun z => z c70))).symm.trans hf
      refine w_aload_n dX3_actCharacter_129 rfl rfl ?_
      obtain ⟨_, b71, hf⟩ := Option.bind_eq_some_iff.mp hf
      refine x_ctV hf (e_stV (Yc := YX3_space) (ci := 2) (av := []) (st := []) dX3_actCharacter_130 q3883 mX3_space rfl (k_ok_some b71).1 (k_ok_some b71).2) mX3_space.2.2.1 mX3_space.2.2.2.2.1 (Nat.le_of_ble_eq_true rfl) (Nat.le_of_ble_eq_true rfl) rfl (fun q hq => pX3_space (by omega) hq) (fun x72 h73 hf => ?_)
      refine w_goto 145 dX3_actCharacter_133 (by decide) ?_
      exact (pX3_actCharacter_b145 hd hf).to trivial
  replace hf := (if_neg c67).symm.trans hf
  refine w_tableOut 136 dX3_actCharacter_1 (by have n0 := sw_ne c1 (by decide : (1 : Int32).toInt = 1); have n1 := sw_ne c5 (by decide : (2 : Int32).toInt = 2); have n2 := sw_ne c25 (by decide : (3 : Int32).toInt = 3); have n3 := sw_ne c31 (by decide : (4 : Int32).toInt = 4); have n4 := sw_ne c37 (by decide : (5 : Int32).toInt = 5); have n5 := sw_ne c43 (by decide : (6 : Int32).toInt = 6); have n6 := sw_ne c49 (by decide : (7 : Int32).toInt = 7); have n7 := sw_ne c55 (by decide : (8 : Int32).toInt = 8); have n8 := sw_ne c61 (by decide : (9 : Int32).toInt = 9); have n9 := sw_ne c67 (by decide : (10 : Int32).toInt = 10); omega) (by decide) ?_
  refine w_aload_n dX3_actCharacter_136 rfl rfl ?_
  obtain ⟨a74, b75, hf⟩ := Option.bind_eq_some_iff.mp hf
  refine GX3_14 b75 dX3_actCharacter_137 rfl ?_
  refine w_bipush dX3_actCharacter_140 (v := 15) (by decide) ?_
  obtain ⟨_, b76, hf⟩ := Option.bind_eq_some_iff.mp hf
  refine x_ctV hf (e_stV (Yc := YX4_fail) (ci := 3) (av := [.int (15 : Int32)]) (st := []) dX3_actCharacter_142 q3181 mX4_fail rfl (k_ok_some b76).1 (k_ok_some b76).2) mX4_fail.2.2.1 mX4_fail.2.2.2.2.1 (Nat.le_of_ble_eq_true rfl) (Nat.le_of_ble_eq_true rfl) rfl (fun q hq => pX4_fail (by omega) hq) (fun x77 h78 hf => ?_)
  exact (pX3_actCharacter_b145 hd hf).to trivial
abbrev cX8_number : ByteArray := prog_4_method_28_code
def yX8_number : MethodName := ⟨RX8, "number", "()I"⟩
def YX8_number : eY := (yX8_number, cX8_number, 4, (Option.some FieldType.int), [])
theorem mX8_number : e_mv YX8_number RX8 0 := ⟨q2592, qs64, q2593, by decide, by decide +kernel, (e_sig (by decide +kernel))⟩
theorem dX8_number_0 : decode cX8_number 0 = .ok (.aload_n 0, 1) := dc_42 (by decide +kernel)
theorem dX8_number_1 : decode cX8_number 1 = .ok (.getfield 51, 3) := dc_180 (a := 0) (b := 51) (n := 51) (by decide +kernel)
theorem dX8_number_4 : decode cX8_number 4 = .ok (.aload_n 0, 1) := dc_42 (by decide +kernel)
theorem dX8_number_5 : decode cX8_number 5 = .ok (.getfield 125, 3) := dc_180 (a := 0) (b := 125) (n := 125) (by decide +kernel)
theorem dX8_number_8 : decode cX8_number 8 = .ok (.bipush 40, 2) := dc_16 (a := 40) (v := 40) (by decide +kernel)
theorem dX8_number_10 : decode cX8_number 10 = .ok (.if_icmp .ge 7, 3) := dc_162 (a := 0) (b := 7) (v := 7) (by decide +kernel)
theorem dX8_number_13 : decode cX8_number 13 = .ok (.iconst 1, 1) := dc_4 (by decide +kernel)
theorem dX8_number_14 : decode cX8_number 14 = .ok (.goto 4, 3) := dc_167 (a := 0) (b := 4) (v := 4) (by decide +kernel)
theorem dX8_number_17 : decode cX8_number 17 = .ok (.iconst 0, 1) := dc_3 (by decide +kernel)
theorem dX8_number_18 : decode cX8_number 18 = .ok (.iconst 3, 1) := dc_6 (by decide +kernel)
theorem dX8_number_19 : decode cX8_number 19 = .ok (.invokevirtual 145, 3) := dc_182 (a := 0) (b := 145) (n := 145) (by decide +kernel)
theorem dX8_number_22 : decode cX8_number 22 = .ok (.aload_n 0, 1) := dc_42 (by decide +kernel)
theorem dX8_number_23 : decode cX8_number 23 = .ok (.dup, 1) := dc_89 (by decide +kernel)
theorem dX8_number_24 : decode cX8_number 24 = .ok (.getfield 125, 3) := dc_180 (a := 0) (b := 125) (n := 125) (by decide +kernel)
theorem dX8_number_27 : decode cX8_number 27 = .ok (.iconst 1, 1) := dc_4 (by decide +kernel)
theorem dX8_number_28 : decode cX8_number 28 = .ok (.iadd, 1) := dc_96 (by decide +kernel)
theorem dX8_number_29 : decode cX8_number 29 = .ok (.putfield 125, 3) := dc_181 (a := 0) (b := 125) (n := 125) (by decide +kernel)
theorem dX8_number_32 : decode cX8_number 32 = .ok (.iconst 0, 1) := dc_3 (by decide +kernel)
theorem dX8_number_33 : decode cX8_number 33 = .ok (.istore_n 1, 1) := dc_60 (by decide +kernel)
theorem dX8_number_34 : decode cX8_number 34 = .ok (.aload_n 0, 1) := dc_42 (by decide +kernel)
theorem dX8_number_35 : decode cX8_number 35 = .ok (.invokevirtual 335, 3) := dc_182 (a := 1) (b := 79) (n := 335) (by decide +kernel)
theorem dX8_number_38 : decode cX8_number 38 = .ok (.istore_n 2, 1) := dc_61 (by decide +kernel)
theorem dX8_number_39 : decode cX8_number 39 = .ok (.iload_n 2, 1) := dc_28 (by decide +kernel)
theorem dX8_number_40 : decode cX8_number 40 = .ok (.bipush 43, 2) := dc_16 (a := 43) (v := 43) (by decide +kernel)
theorem dX8_number_42 : decode cX8_number 42 = .ok (.invokestatic 255, 3) := dc_184 (a := 0) (b := 255) (n := 255) (by decide +kernel)
theorem dX8_number_45 : decode cX8_number 45 = .ok (.if_icmp .eq 12, 3) := dc_159 (a := 0) (b := 12) (v := 12) (by decide +kernel)
theorem dX8_number_48 : decode cX8_number 48 = .ok (.iload_n 2, 1) := dc_28 (by decide +kernel)
theorem dX8_number_49 : decode cX8_number 49 = .ok (.bipush 45, 2) := dc_16 (a := 45) (v := 45) (by decide +kernel)
theorem dX8_number_51 : decode cX8_number 51 = .ok (.invokestatic 255, 3) := dc_184 (a := 0) (b := 255) (n := 255) (by decide +kernel)
theorem dX8_number_54 : decode cX8_number 54 = .ok (.if_icmp .ne 28, 3) := dc_160 (a := 0) (b := 28) (v := 28) (by decide +kernel)
theorem dX8_number_57 : decode cX8_number 57 = .ok (.iload_n 1, 1) := dc_27 (by decide +kernel)
theorem dX8_number_58 : decode cX8_number 58 = .ok (.iload_n 2, 1) := dc_28 (by decide +kernel)
theorem dX8_number_59 : decode cX8_number 59 = .ok (.bipush 45, 2) := dc_16 (a := 45) (v := 45) (by decide +kernel)
theorem dX8_number_61 : decode cX8_number 61 = .ok (.invokestatic 255, 3) := dc_184 (a := 0) (b := 255) (n := 255) (by decide +kernel)
theorem dX8_number_64 : decode cX8_number 64 = .ok (.if_icmp .ne 7, 3) := dc_160 (a := 0) (b := 7) (v := 7) (by decide +kernel)
theorem dX8_number_67 : decode cX8_number 67 = .ok (.iconst 1, 1) := dc_4 (by decide +kernel)
theorem dX8_number_68 : decode cX8_number 68 = .ok (.goto 4, 3) := dc_167 (a := 0) (b := 4) (v := 4) (by decide +kernel)
theorem dX8_number_71 : decode cX8_number 71 = .ok (.iconst 0, 1) := dc_3 (by decide +kernel)
theorem dX8_number_72 : decode cX8_number 72 = .ok (.ixor, 1) := dc_130 (by decide +kernel)
theorem dX8_number_73 : decode cX8_number 73 = .ok (.istore_n 1, 1) := dc_60 (by decide +kernel)
theorem dX8_number_74 : decode cX8_number 74 = .ok (.aload_n 0, 1) := dc_42 (by decide +kernel)
theorem dX8_number_75 : decode cX8_number 75 = .ok (.invokevirtual 335, 3) := dc_182 (a := 1) (b := 79) (n := 335) (by decide +kernel)
theorem dX8_number_78 : decode cX8_number 78 = .ok (.istore_n 2, 1) := dc_61 (by decide +kernel)
theorem dX8_number_79 : decode cX8_number 79 = .ok (.goto (-40), 3) := dc_167 (a := 255) (b := 216) (v := -40) (by decide +kernel)
theorem dX8_number_82 : decode cX8_number 82 = .ok (.iload_n 2, 1) := dc_28 (by decide +kernel)
theorem dX8_number_83 : decode cX8_number 83 = .ok (.invokestatic 338, 3) := dc_184 (a := 1) (b := 82) (n := 338) (by decide +kernel)
theorem dX8_number_86 : decode cX8_number 86 = .ok (.ifCond .eq 11, 3) := dc_153 (a := 0) (b := 11) (v := 11) (by decide +kernel)
theorem dX8_number_89 : decode cX8_number 89 = .ok (.aload_n 0, 1) := dc_42 (by decide +kernel)
theorem dX8_number_90 : decode cX8_number 90 = .ok (.iload_n 2, 1) := dc_28 (by decide +kernel)
theorem dX8_number_91 : decode cX8_number 91 = .ok (.invokevirtual 341, 3) := dc_182 (a := 1) (b := 85) (n := 341) (by decide +kernel)
theorem dX8_number_94 : decode cX8_number 94 = .ok (.goto 40, 3) := dc_167 (a := 0) (b := 40) (v := 40) (by decide +kernel)
theorem dX8_number_97 : decode cX8_number 97 = .ok (.iload_n 2, 1) := dc_28 (by decide +kernel)
theorem dX8_number_98 : decode cX8_number 98 = .ok (.bipush 96, 2) := dc_16 (a := 96) (v := 96) (by decide +kernel)
theorem dX8_number_100 : decode cX8_number 100 = .ok (.invokestatic 255, 3) := dc_184 (a := 0) (b := 255) (n := 255) (by decide +kernel)
theorem dX8_number_103 : decode cX8_number 103 = .ok (.if_icmp .ne 10, 3) := dc_160 (a := 0) (b := 10) (v := 10) (by decide +kernel)
theorem dX8_number_106 : decode cX8_number 106 = .ok (.aload_n 0, 1) := dc_42 (by decide +kernel)
theorem dX8_number_107 : decode cX8_number 107 = .ok (.invokevirtual 344, 3) := dc_182 (a := 1) (b := 88) (n := 344) (by decide +kernel)
theorem dX8_number_110 : decode cX8_number 110 = .ok (.goto 24, 3) := dc_167 (a := 0) (b := 24) (v := 24) (by decide +kernel)
theorem dX8_number_113 : decode cX8_number 113 = .ok (.aload_n 0, 1) := dc_42 (by decide +kernel)
theorem dX8_number_114 : decode cX8_number 114 = .ok (.iload_n 2, 1) := dc_28 (by decide +kernel)
theorem dX8_number_115 : decode cX8_number 115 = .ok (.invokevirtual 269, 3) := dc_182 (a := 1) (b := 13) (n := 269) (by decide +kernel)
theorem dX8_number_118 : decode cX8_number 118 = .ok (.ifCond .eq 11, 3) := dc_153 (a := 0) (b := 11) (v := 11) (by decide +kernel)
theorem dX8_number_121 : decode cX8_number 121 = .ok (.aload_n 0, 1) := dc_42 (by decide +kernel)
theorem dX8_number_122 : decode cX8_number 122 = .ok (.iload_n 2, 1) := dc_28 (by decide +kernel)
theorem dX8_number_123 : decode cX8_number 123 = .ok (.invokevirtual 272, 3) := dc_182 (a := 1) (b := 16) (n := 272) (by decide +kernel)
theorem dX8_number_126 : decode cX8_number 126 = .ok (.goto 8, 3) := dc_167 (a := 0) (b := 8) (v := 8) (by decide +kernel)
theorem dX8_number_129 : decode cX8_number 129 = .ok (.aload_n 0, 1) := dc_42 (by decide +kernel)
theorem dX8_number_130 : decode cX8_number 130 = .ok (.iload_n 2, 1) := dc_28 (by decide +kernel)
theorem dX8_number_131 : decode cX8_number 131 = .ok (.invokevirtual 275, 3) := dc_182 (a := 1) (b := 19) (n := 275) (by decide +kernel)
theorem dX8_number_134 : decode cX8_number 134 = .ok (.istore_n 3, 1) := dc_62 (by decide +kernel)
theorem dX8_number_135 : decode cX8_number 135 = .ok (.aload_n 0, 1) := dc_42 (by decide +kernel)
theorem dX8_number_136 : decode cX8_number 136 = .ok (.dup, 1) := dc_89 (by decide +kernel)
theorem dX8_number_137 : decode cX8_number 137 = .ok (.getfield 125, 3) := dc_180 (a := 0) (b := 125) (n := 125) (by decide +kernel)
theorem dX8_number_140 : decode cX8_number 140 = .ok (.iconst 1, 1) := dc_4 (by decide +kernel)
theorem dX8_number_141 : decode cX8_number 141 = .ok (.isub, 1) := dc_100 (by decide +kernel)
theorem dX8_number_142 : decode cX8_number 142 = .ok (.putfield 125, 3) := dc_181 (a := 0) (b := 125) (n := 125) (by decide +kernel)
theorem dX8_number_145 : decode cX8_number 145 = .ok (.iload_n 1, 1) := dc_27 (by decide +kernel)
theorem dX8_number_146 : decode cX8_number 146 = .ok (.ifCond .eq 8, 3) := dc_153 (a := 0) (b := 8) (v := 8) (by decide +kernel)
theorem dX8_number_149 : decode cX8_number 149 = .ok (.iload_n 3, 1) := dc_29 (by decide +kernel)
theorem dX8_number_150 : decode cX8_number 150 = .ok (.ineg, 1) := dc_116 (by decide +kernel)
theorem dX8_number_151 : decode cX8_number 151 = .ok (.goto 4, 3) := dc_167 (a := 0) (b := 4) (v := 4) (by decide +kernel)
theorem dX8_number_154 : decode cX8_number 154 = .ok (.iload_n 3, 1) := dc_29 (by decide +kernel)
theorem dX8_number_155 : decode cX8_number 155 = .ok (.ireturn, 1) := dc_172 (by decide +kernel)
abbrev cX8_within : ByteArray := prog_4_method_31_code
def yX8_within : MethodName := ⟨RX8, "within", "(I)I"⟩
def YX8_within : eY := (yX8_within, cX8_within, 3, (Option.some FieldType.int), [])
theorem mX8_within : e_mv YX8_within RX8 1 := ⟨q2635, qs72, q2636, by decide, by decide +kernel, (e_sig (by decide +kernel))⟩
theorem dX8_within_0 : decode cX8_within 0 = .ok (.aload_n 0, 1) := dc_42 (by decide +kernel)
theorem dX8_within_1 : decode cX8_within 1 = .ok (.invokevirtual 225, 3) := dc_182 (a := 0) (b := 225) (n := 225) (by decide +kernel)
theorem dX8_within_4 : decode cX8_within 4 = .ok (.istore_n 2, 1) := dc_61 (by decide +kernel)
theorem dX8_within_5 : decode cX8_within 5 = .ok (.aload_n 0, 1) := dc_42 (by decide +kernel)
theorem dX8_within_6 : decode cX8_within 6 = .ok (.getfield 51, 3) := dc_180 (a := 0) (b := 51) (n := 51) (by decide +kernel)
theorem dX8_within_9 : decode cX8_within 9 = .ok (.iload_n 2, 1) := dc_28 (by decide +kernel)
theorem dX8_within_10 : decode cX8_within 10 = .ok (.ifCond .lt 12, 3) := dc_155 (a := 0) (b := 12) (v := 12) (by decide +kernel)
theorem dX8_within_13 : decode cX8_within 13 = .ok (.iload_n 2, 1) := dc_28 (by decide +kernel)
theorem dX8_within_14 : decode cX8_within 14 = .ok (.iload_n 1, 1) := dc_27 (by decide +kernel)
theorem dX8_within_15 : decode cX8_within 15 = .ok (.if_icmp .gt 7, 3) := dc_163 (a := 0) (b := 7) (v := 7) (by decide +kernel)
theorem dX8_within_18 : decode cX8_within 18 = .ok (.iconst 1, 1) := dc_4 (by decide +kernel)
theorem dX8_within_19 : decode cX8_within 19 = .ok (.goto 4, 3) := dc_167 (a := 0) (b := 4) (v := 4) (by decide +kernel)
theorem dX8_within_22 : decode cX8_within 22 = .ok (.iconst 0, 1) := dc_3 (by decide +kernel)
theorem dX8_within_23 : decode cX8_within 23 = .ok (.bipush 7, 2) := dc_16 (a := 7) (v := 7) (by decide +kernel)
theorem dX8_within_25 : decode cX8_within 25 = .ok (.invokevirtual 145, 3) := dc_182 (a := 0) (b := 145) (n := 145) (by decide +kernel)
theorem dX8_within_28 : decode cX8_within 28 = .ok (.iload_n 2, 1) := dc_28 (by decide +kernel)
theorem dX8_within_29 : decode cX8_within 29 = .ok (.ireturn, 1) := dc_172 (by decide +kernel)
def fX8_within_b23 (rN : Nat → eH → Option ((Int32 ⊕ Nat) × eH)) (l2 : Int32) (s0 : Nat) (s1 : Int32) (h : eH) : Option ((Int32 ⊕ Nat) × eH) :=
  (k_ok 3 h s0).bind fun _ =>
  t_B (fX4_want s0 s1 (7 : Int32) h) fun x2 h3 =>
  some (.inl l2, h3)
theorem pX8_within_b23 {w : eW} {d : Nat} {dr : Nat} (hd : dr + 8 ≤ d + 1) (hdr : 12 ≤ dr) {rN : Nat → eH → Option ((Int32 ⊕ Nat) × eH)} (hrN : ∀ a h q, rN a h = some q → wm w dr YX8_number [.ref a] h (e_is (e_rt c_I q))) {l2 : Int32} {s0 : Nat} {s1 : Int32} {h : eH} {q} (hf : fX8_within_b23 rN l2 s0 s1 h = some q) : wp w (d + 1) YX8_within 23 [none, none, some (.int l2)] [.int s1, .ref s0] h (e_is (e_rt c_I q)) := by
  unfold fX8_within_b23 at hf
  refine w_bipush dX8_within_23 (v := 7) (by decide) ?_
  obtain ⟨_, b1, hf⟩ := Option.bind_eq_some_iff.mp hf
  refine x_ctV hf (e_stV (Yc := YX4_want) (ci := 3) (av := [.int s1, .int (7 : Int32)]) (st := []) dX8_within_25 q2500 mX4_want rfl (k_ok_some b1).1 (k_ok_some b1).2) mX4_want.2.2.1 mX4_want.2.2.2.2.1 (Nat.le_of_ble_eq_true rfl) (Nat.le_of_ble_eq_true rfl) rfl (fun q hq => pX4_want (by omega) hq) (fun x2 h3 hf => ?_)
  refine w_iload_n dX8_within_28 rfl rfl ?_
  cases hf
  exact w_iret dX8_within_29 rfl rfl rfl
def fX8_within_b22 (rN : Nat → eH → Option ((Int32 ⊕ Nat) × eH)) (l2 : Int32) (s0 : Nat) (h : eH) : Option ((Int32 ⊕ Nat) × eH) :=
  fX8_within_b23 rN l2 s0 (0 : Int32) h
theorem pX8_within_b22 {w : eW} {d : Nat} {dr : Nat} (hd : dr + 8 ≤ d + 1) (hdr : 12 ≤ dr) {rN : Nat → eH → Option ((Int32 ⊕ Nat) × eH)} (hrN : ∀ a h q, rN a h = some q → wm w dr YX8_number [.ref a] h (e_is (e_rt c_I q))) {l2 : Int32} {s0 : Nat} {h : eH} {q} (hf : fX8_within_b22 rN l2 s0 h = some q) : wp w (d + 1) YX8_within 22 [none, none, some (.int l2)] [.ref s0] h (e_is (e_rt c_I q)) := by
  unfold fX8_within_b22 at hf
  refine w_iconst dX8_within_22 (v := 0) (by decide) ?_
  exact (pX8_within_b23 hd hdr hrN hf).to ⟨rfl, trivial⟩
def fX8_within (rN : Nat → eH → Option ((Int32 ⊕ Nat) × eH)) (this : Nat) (p0 : Int32) (h : eH) : Option ((Int32 ⊕ Nat) × eH) :=
  (k_ok 7 h this).bind fun _ =>
  t_B (rN this h) fun x2 h3 =>
  (g_A 7 h3 this 0).bind fun a4 =>
  if x2 < 0 then
    fX8_within_b22 rN x2 a4 h3
  else
    if p0 < x2 then
      fX8_within_b22 rN x2 a4 h3
    else
      fX8_within_b23 rN x2 a4 (1 : Int32) h3
theorem pX8_within {w : eW} {d : Nat} {dr : Nat} (hd : dr + 8 ≤ d) (hdr : 12 ≤ dr) {rN : Nat → eH → Option ((Int32 ⊕ Nat) × eH)} (hrN : ∀ a h q, rN a h = some q → wm w dr YX8_number [.ref a] h (e_is (e_rt c_I q))) {this : Nat} {p0 : Int32} {h : eH} {q} (hf : fX8_within rN this p0 h = some q) : wm w d YX8_within [.ref this, .int p0] h (e_is (e_rt c_I q)) := by
  obtain ⟨d, rfl⟩ : ∃ e, d = e + 1 := ⟨d - 1, by omega⟩
  show wp w (d + 1) YX8_within 0 [some (.ref this), some (.int p0), none] [] h _
  unfold fX8_within at hf
  refine w_aload_n dX8_within_0 rfl rfl ?_
  obtain ⟨_, b1, hf⟩ := Option.bind_eq_some_iff.mp hf
  refine x_ctI hf (e_stV (Yc := YX8_number) (ci := 7) (av := []) (st := []) dX8_within_1 q2590 mX8_number rfl (k_ok_some b1).1 (k_ok_some b1).2) mX8_number.2.2.1 mX8_number.2.2.2.2.1 (Nat.le_of_ble_eq_true rfl) (Nat.le_of_ble_eq_true rfl) rfl (fun q hq => (hrN _ _ _ hq).up (by omega)) (fun x2 h3 hf => ?_)
  refine w_istore_n dX8_within_4 rfl (by decide) (ls' := [some (.ref this), some (.int p0), some (.int x2)]) rfl ?_
  refine w_aload_n dX8_within_5 rfl rfl ?_
  obtain ⟨a4, b5, hf⟩ := Option.bind_eq_some_iff.mp hf
  refine GX8_51 b5 dX8_within_6 rfl ?_
  refine w_iload_n dX8_within_9 rfl rfl ?_
  refine w_if_lt 22 dX8_within_10 (by decide) (fun c6 => ?_) (fun c6 => ?_)
  · replace hf := (if_pos (show x2 < 0 from c6)).symm.trans hf
    exact (pX8_within_b22 hd hdr hrN hf).to ⟨rfl, trivial⟩
  · replace hf := (if_neg (show ¬ (x2 < 0) from c6)).symm.trans hf
    refine w_iload_n dX8_within_13 rfl rfl ?_
    refine w_iload_n dX8_within_14 rfl rfl ?_
    refine w_icmp_gt 22 dX8_within_15 (by decide) (fun c7 => ?_) (fun c7 => ?_)
    · replace hf := (if_pos (show p0 < x2 from c7)).symm.trans hf
      exact (pX8_within_b22 hd hdr hrN hf).to ⟨rfl, trivial⟩
    · replace hf := (if_neg (show ¬ (p0 < x2) from c7)).symm.trans hf
      refine w_iconst dX8_within_18 (v := 1) (by decide) ?_
      refine w_goto 23 dX8_within_19 (by decide) ?_
      exact (pX8_within_b23 hd hdr hrN hf).to ⟨rfl, trivial⟩
abbrev cX8_needExpanded : ByteArray := prog_4_method_13_code
def yX8_needExpanded : MethodName := ⟨RX8, "needExpanded", "()I"⟩
def YX8_needExpanded : eY := (yX8_needExpanded, cX8_needExpanded, 2, (Option.some FieldType.int), [])
theorem mX8_needExpanded : e_mv YX8_needExpanded RX8 0 := ⟨q2565, qs61, q2566, by decide, by decide +kernel, (e_sig (by decide +kernel))⟩
theorem dX8_needExpanded_0 : decode cX8_needExpanded 0 = .ok (.aload_n 0, 1) := dc_42 (by decide +kernel)
theorem dX8_needExpanded_1 : decode cX8_needExpanded 1 = .ok (.invokevirtual 187, 3) := dc_182 (a := 0) (b := 187) (n := 187) (by decide +kernel)
theorem dX8_needExpanded_4 : decode cX8_needExpanded 4 = .ok (.istore_n 1, 1) := dc_60 (by decide +kernel)
theorem dX8_needExpanded_5 : decode cX8_needExpanded 5 = .ok (.aload_n 0, 1) := dc_42 (by decide +kernel)
theorem dX8_needExpanded_6 : decode cX8_needExpanded 6 = .ok (.getfield 51, 3) := dc_180 (a := 0) (b := 51) (n := 51) (by decide +kernel)
theorem dX8_needExpanded_9 : decode cX8_needExpanded 9 = .ok (.iload_n 1, 1) := dc_27 (by decide +kernel)
theorem dX8_needExpanded_10 : decode cX8_needExpanded 10 = .ok (.iconst (-1), 1) := dc_2 (by decide +kernel)
theorem dX8_needExpanded_11 : decode cX8_needExpanded 11 = .ok (.if_icmp .eq 7, 3) := dc_159 (a := 0) (b := 7) (v := 7) (by decide +kernel)
theorem dX8_needExpanded_14 : decode cX8_needExpanded 14 = .ok (.iconst 1, 1) := dc_4 (by decide +kernel)
theorem dX8_needExpanded_15 : decode cX8_needExpanded 15 = .ok (.goto 4, 3) := dc_167 (a := 0) (b := 4) (v := 4) (by decide +kernel)
theorem dX8_needExpanded_18 : decode cX8_needExpanded 18 = .ok (.iconst 0, 1) := dc_3 (by decide +kernel)
theorem dX8_needExpanded_19 : decode cX8_needExpanded 19 = .ok (.bipush 9, 2) := dc_16 (a := 9) (v := 9) (by decide +kernel)
theorem dX8_needExpanded_21 : decode cX8_needExpanded 21 = .ok (.invokevirtual 145, 3) := dc_182 (a := 0) (b := 145) (n := 145) (by decide +kernel)
theorem dX8_needExpanded_24 : decode cX8_needExpanded 24 = .ok (.iload_n 1, 1) := dc_27 (by decide +kernel)
theorem dX8_needExpanded_25 : decode cX8_needExpanded 25 = .ok (.ireturn, 1) := dc_172 (by decide +kernel)
def fX8_needExpanded_b19 (N : Nat) (rE : Nat → Int32 → eH → Option ((Unit ⊕ Nat) × eH)) (l1 : Int32) (s0 : Nat) (s1 : Int32) (h : eH) : Option ((Int32 ⊕ Nat) × eH) :=
  (k_ok 3 h s0).bind fun _ =>
  t_B (fX4_want s0 s1 (9 : Int32) h) fun x2 h3 =>
  some (.inl l1, h3)
theorem pX8_needExpanded_b19 {w : eW} {d : Nat} {dr : Nat} (hd : dr + 14 ≤ d + 1) (hdr : 12 ≤ dr) {N : Nat} {rE : Nat → Int32 → eH → Option ((Unit ⊕ Nat) × eH)} (hrE : ∀ a t0 h q, rE a t0 h = some q → wm w dr YX8_expand [.ref a, .int t0] h (e_is (e_rt c_V q))) {l1 : Int32} {s0 : Nat} {s1 : Int32} {h : eH} {q} (hf : fX8_needExpanded_b19 N rE l1 s0 s1 h = some q) : wp w (d + 1) YX8_needExpanded 19 [none, some (.int l1)] [.int s1, .ref s0] h (e_is (e_rt c_I q)) := by
  unfold fX8_needExpanded_b19 at hf
  refine w_bipush dX8_needExpanded_19 (v := 9) (by decide) ?_
  obtain ⟨_, b1, hf⟩ := Option.bind_eq_some_iff.mp hf
  refine x_ctV hf (e_stV (Yc := YX4_want) (ci := 3) (av := [.int s1, .int (9 : Int32)]) (st := []) dX8_needExpanded_21 q2500 mX4_want rfl (k_ok_some b1).1 (k_ok_some b1).2) mX4_want.2.2.1 mX4_want.2.2.2.2.1 (Nat.le_of_ble_eq_true rfl) (Nat.le_of_ble_eq_true rfl) rfl (fun q hq => pX4_want (by omega) hq) (fun x2 h3 hf => ?_)
  refine w_iload_n dX8_needExpanded_24 rfl rfl ?_
  cases hf
  exact w_iret dX8_needExpanded_25 rfl rfl rfl
def fX8_needExpanded (N : Nat) (rE : Nat → Int32 → eH → Option ((Unit ⊕ Nat) × eH)) (this : Nat) (h : eH) : Option ((Int32 ⊕ Nat) × eH) :=
  (k_ok 7 h this).bind fun _ =>
  t_B (fX8_getExpanded N rE this h) fun x2 h3 =>
  (g_A 7 h3 this 0).bind fun a4 =>
  if x2 = (-1 : Int32) then
    fX8_needExpanded_b19 N rE x2 a4 (0 : Int32) h3
  else
    fX8_needExpanded_b19 N rE x2 a4 (1 : Int32) h3
theorem pX8_needExpanded {w : eW} {d : Nat} {dr : Nat} (hd : dr + 14 ≤ d) (hdr : 12 ≤ dr) {N : Nat} {rE : Nat → Int32 → eH → Option ((Unit ⊕ Nat) × eH)} (hrE : ∀ a t0 h q, rE a t0 h = some q → wm w dr YX8_expand [.ref a, .int t0] h (e_is (e_rt c_V q))) {this : Nat} {h : eH} {q} (hf : fX8_needExpanded N rE this h = some q) : wm w d YX8_needExpanded [.ref this] h (e_is (e_rt c_I q)) := by
  obtain ⟨d, rfl⟩ : ∃ e, d = e + 1 := ⟨d - 1, by omega⟩
  show wp w (d + 1) YX8_needExpanded 0 [some (.ref this), none] [] h _
  unfold fX8_needExpanded at hf
  refine w_aload_n dX8_needExpanded_0 rfl rfl ?_
  obtain ⟨_, b1, hf⟩ := Option.bind_eq_some_iff.mp hf
  refine x_ctI hf (e_stV (Yc := YX8_getExpanded) (ci := 7) (av := []) (st := []) dX8_needExpanded_1 q2567 mX8_getExpanded rfl (k_ok_some b1).1 (k_ok_some b1).2) mX8_getExpanded.2.2.1 mX8_getExpanded.2.2.2.2.1 (Nat.le_of_ble_eq_true rfl) (Nat.le_of_ble_eq_true rfl) rfl (fun q hq => pX8_getExpanded (by omega) hdr hrE hq) (fun x2 h3 hf => ?_)
  refine w_istore_n dX8_needExpanded_4 rfl (by decide) (ls' := [some (.ref this), some (.int x2)]) rfl ?_
  refine w_aload_n dX8_needExpanded_5 rfl rfl ?_
  obtain ⟨a4, b5, hf⟩ := Option.bind_eq_some_iff.mp hf
  refine GX8_51 b5 dX8_needExpanded_6 rfl ?_
  refine w_iload_n dX8_needExpanded_9 rfl rfl ?_
  refine w_iconst dX8_needExpanded_10 (v := -1) (by decide) ?_
  refine w_icmp_eq 18 dX8_needExpanded_11 (by decide) (fun c6 => ?_) (fun c6 => ?_)
  · replace hf := (if_pos (show x2 = (-1 : Int32) from c6)).symm.trans hf
    refine w_iconst dX8_needExpanded_18 (v := 0) (by decide) ?_
    exact (pX8_needExpanded_b19 hd hdr hrE hf).to ⟨rfl, trivial⟩
  · replace hf := (if_neg (show ¬ (x2 = (-1 : Int32)) from c6)).symm.trans hf
    refine w_iconst dX8_needExpanded_14 (v := 1) (by decide) ?_
    refine w_goto 19 dX8_needExpanded_15 (by decide) ?_
    exact (pX8_needExpanded_b19 hd hdr hrE hf).to ⟨rfl, trivial⟩
abbrev cX1_is : ByteArray := prog_1_method_6_code
def yX1_is : MethodName := ⟨RX1, "is", "(II)Z"⟩
def YX1_is : eY := (yX1_is, cX1_is, 2, (Option.some FieldType.boolean), [])
theorem mX1_is : e_ms YX1_is 2 := ⟨q2519, q426, q2520, by decide, by decide +kernel, (e_sig (by decide +kernel))⟩
theorem dX1_is_0 : decode cX1_is 0 = .ok (.iload_n 0, 1) := dc_26 (by decide +kernel)
theorem dX1_is_1 : decode cX1_is 1 = .ok (.invokestatic 16, 3) := dc_184 (a := 0) (b := 16) (n := 16) (by decide +kernel)
theorem dX1_is_4 : decode cX1_is 4 = .ok (.ifCond .eq 15, 3) := dc_153 (a := 0) (b := 15) (v := 15) (by decide +kernel)
theorem dX1_is_7 : decode cX1_is 7 = .ok (.iload_n 0, 1) := dc_26 (by decide +kernel)
theorem dX1_is_8 : decode cX1_is 8 = .ok (.invokestatic 20, 3) := dc_184 (a := 0) (b := 20) (n := 20) (by decide +kernel)
theorem dX1_is_11 : decode cX1_is 11 = .ok (.iload_n 1, 1) := dc_27 (by decide +kernel)
theorem dX1_is_12 : decode cX1_is 12 = .ok (.if_icmp .ne 7, 3) := dc_160 (a := 0) (b := 7) (v := 7) (by decide +kernel)
theorem dX1_is_15 : decode cX1_is 15 = .ok (.iconst 1, 1) := dc_4 (by decide +kernel)
theorem dX1_is_16 : decode cX1_is 16 = .ok (.goto 4, 3) := dc_167 (a := 0) (b := 4) (v := 4) (by decide +kernel)
theorem dX1_is_19 : decode cX1_is 19 = .ok (.iconst 0, 1) := dc_3 (by decide +kernel)
theorem dX1_is_20 : decode cX1_is 20 = .ok (.ireturn, 1) := dc_172 (by decide +kernel)
def fX1_is_b20 (s0 : Int32) (h : eH) : Option (Int32 × eH) :=
  z_r s0 (s0, h)
theorem pX1_is_b20 {w : eW} {d : Nat} (hd : 1 ≤ d + 1) {s0 : Int32} {h : eH} {q} (hf : fX1_is_b20 s0 h = some q) : wp w (d + 1) YX1_is 20 [none, none] [.int s0] h (e_is (e_rn c_I q)) := by
  unfold fX1_is_b20 at hf
  obtain ⟨b1, rfl⟩ := z_r_some hf
  exact w_iret dX1_is_20 rfl b1 rfl
def fX1_is_b19  (h : eH) : Option (Int32 × eH) :=
  fX1_is_b20 (0 : Int32) h
theorem pX1_is_b19 {w : eW} {d : Nat} (hd : 1 ≤ d + 1)  {h : eH} {q} (hf : fX1_is_b19  h = some q) : wp w (d + 1) YX1_is 19 [none, none] [] h (e_is (e_rn c_I q)) := by
  unfold fX1_is_b19 at hf
  refine w_iconst dX1_is_19 (v := 0) (by decide) ?_
  exact (pX1_is_b20 hd hf).to trivial
def fX1_is (p0 : Int32) (p1 : Int32) (h : eH) : Option (Int32 × eH) :=
  (fX1_isCharacter p0 h).bind fun q1 =>
  if q1.1 = 0 then
    fX1_is_b19 q1.2
  else
    (fX1_category p0 q1.2).bind fun q3 =>
    if ¬ q3.1 = p1 then
      fX1_is_b19 q3.2
    else
      fX1_is_b20 (1 : Int32) q3.2
theorem pX1_is {w : eW} {d : Nat} (hd : 1 ≤ d) {p0 : Int32} {p1 : Int32} {h : eH} {q} (hf : fX1_is p0 p1 h = some q) : wm w d YX1_is [.int p0, .int p1] h (e_is (e_rn c_I q)) := by
  obtain ⟨d, rfl⟩ : ∃ e, d = e + 1 := ⟨d - 1, by omega⟩
  show wp w (d + 1) YX1_is 0 [some (.int p0), some (.int p1)] [] h _
  unfold fX1_is at hf
  refine w_iload_n dX1_is_0 rfl rfl ?_
  refine x_cnI hf (e_stS (Yc := YX1_isCharacter) (av := [.int p0]) (st := []) dX1_is_1 q2521 mX1_isCharacter) mX1_isCharacter.2.2.1 mX1_isCharacter.2.2.2.2.1 (Nat.le_of_ble_eq_true rfl) (Nat.le_of_ble_eq_true rfl) (fun q hq => pX1_isCharacter (by omega) hq) (fun q1 hf => ?_)
  refine w_if_eq 19 dX1_is_4 (by decide) (fun c2 => ?_) (fun c2 => ?_)
  · replace hf := (if_pos (show q1.1 = 0 from c2)).symm.trans hf
    exact (pX1_is_b19 hd hf).to trivial
  · replace hf := (if_neg (show ¬ (q1.1 = 0) from c2)).symm.trans hf
    refine w_iload_n dX1_is_7 rfl rfl ?_
    refine x_cnI hf (e_stS (Yc := YX1_category) (av := [.int p0]) (st := []) dX1_is_8 q2522 mX1_category) mX1_category.2.2.1 mX1_category.2.2.2.2.1 (Nat.le_of_ble_eq_true rfl) (Nat.le_of_ble_eq_true rfl) (fun q hq => pX1_category (by omega) hq) (fun q3 hf => ?_)
    refine w_iload_n dX1_is_11 rfl rfl ?_
    refine w_icmp_ne 19 dX1_is_12 (by decide) (fun c4 => ?_) (fun c4 => ?_)
    · replace hf := (if_pos (show ¬ q3.1 = p1 from c4)).symm.trans hf
      exact (pX1_is_b19 hd hf).to trivial
    · replace hf := (if_neg (show ¬ (¬ q3.1 = p1) from (fun z => z c4))).symm.trans hf
      refine w_iconst dX1_is_15 (v := 1) (by decide) ?_
      refine w_goto 20 dX1_is_16 (by decide) ?_
      exact (pX1_is_b20 hd hf).to trivial
abbrev cX8_primitive : ByteArray := prog_4_method_10_code
def yX8_primitive : MethodName := ⟨RX8, "primitive", "(I)I"⟩
def YX8_primitive : eY := (yX8_primitive, cX8_primitive, 2, (Option.some FieldType.int), [])
theorem mX8_primitive : e_mv YX8_primitive RX8 1 := ⟨q2570, qs62, q2571, by decide, by decide +kernel, (e_sig (by decide +kernel))⟩
theorem dX8_primitive_0 : decode cX8_primitive 0 = .ok (.iload_n 1, 1) := dc_27 (by decide +kernel)
theorem dX8_primitive_1 : decode cX8_primitive 1 = .ok (.iconst (-1), 1) := dc_2 (by decide +kernel)
theorem dX8_primitive_2 : decode cX8_primitive 2 = .ok (.if_icmp .eq 20, 3) := dc_159 (a := 0) (b := 20) (v := 20) (by decide +kernel)
theorem dX8_primitive_5 : decode cX8_primitive 5 = .ok (.aload_n 0, 1) := dc_42 (by decide +kernel)
theorem dX8_primitive_6 : decode cX8_primitive 6 = .ok (.iload_n 1, 1) := dc_27 (by decide +kernel)
theorem dX8_primitive_7 : decode cX8_primitive 7 = .ok (.invokevirtual 174, 3) := dc_182 (a := 0) (b := 174) (n := 174) (by decide +kernel)
theorem dX8_primitive_10 : decode cX8_primitive 10 = .ok (.iconst 1, 1) := dc_4 (by decide +kernel)
theorem dX8_primitive_11 : decode cX8_primitive 11 = .ok (.if_icmp .ne 11, 3) := dc_160 (a := 0) (b := 11) (v := 11) (by decide +kernel)
theorem dX8_primitive_14 : decode cX8_primitive 14 = .ok (.aload_n 0, 1) := dc_42 (by decide +kernel)
theorem dX8_primitive_15 : decode cX8_primitive 15 = .ok (.iload_n 1, 1) := dc_27 (by decide +kernel)
theorem dX8_primitive_16 : decode cX8_primitive 16 = .ok (.invokevirtual 178, 3) := dc_182 (a := 0) (b := 178) (n := 178) (by decide +kernel)
theorem dX8_primitive_19 : decode cX8_primitive 19 = .ok (.goto 4, 3) := dc_167 (a := 0) (b := 4) (v := 4) (by decide +kernel)
theorem dX8_primitive_22 : decode cX8_primitive 22 = .ok (.iconst (-1), 1) := dc_2 (by decide +kernel)
theorem dX8_primitive_23 : decode cX8_primitive 23 = .ok (.ireturn, 1) := dc_172 (by decide +kernel)
def fX8_primitive_b23 (s0 : Int32) (h : eH) : Option (Int32 × eH) :=
  some (s0, h)
theorem pX8_primitive_b23 {w : eW} {d : Nat} (hd : 2 ≤ d + 1) {s0 : Int32} {h : eH} {q} (hf : fX8_primitive_b23 s0 h = some q) : wp w (d + 1) YX8_primitive 23 [none, none] [.int s0] h (e_is (e_rn c_I q)) := by
  unfold fX8_primitive_b23 at hf
  cases hf
  exact w_iret dX8_primitive_23 rfl rfl rfl
def fX8_primitive_b22  (h : eH) : Option (Int32 × eH) :=
  fX8_primitive_b23 (-1 : Int32) h
theorem pX8_primitive_b22 {w : eW} {d : Nat} (hd : 2 ≤ d + 1)  {h : eH} {q} (hf : fX8_primitive_b22  h = some q) : wp w (d + 1) YX8_primitive 22 [none, none] [] h (e_is (e_rn c_I q)) := by
  unfold fX8_primitive_b22 at hf
  refine w_iconst dX8_primitive_22 (v := -1) (by decide) ?_
  exact (pX8_primitive_b23 hd hf).to trivial
def fX8_primitive (this : Nat) (p0 : Int32) (h : eH) : Option (Int32 × eH) :=
  if p0 = (-1 : Int32) then
    fX8_primitive_b22 h
  else
    (k_ok 7 h this).bind fun _ =>
    (fX8_kind this p0 h).bind fun q3 =>
    if ¬ q3.1 = (1 : Int32) then
      fX8_primitive_b22 q3.2
    else
      (k_ok 7 q3.2 this).bind fun _ =>
      (fX8_value this p0 q3.2).bind fun q6 =>
      fX8_primitive_b23 q6.1 q6.2
theorem pX8_primitive {w : eW} {d : Nat} (hd : 2 ≤ d) {this : Nat} {p0 : Int32} {h : eH} {q} (hf : fX8_primitive this p0 h = some q) : wm w d YX8_primitive [.ref this, .int p0] h (e_is (e_rn c_I q)) := by
  obtain ⟨d, rfl⟩ : ∃ e, d = e + 1 := ⟨d - 1, by omega⟩
  show wp w (d + 1) YX8_primitive 0 [some (.ref this), some (.int p0)] [] h _
  unfold fX8_primitive at hf
  refine w_iload_n dX8_primitive_0 rfl rfl ?_
  refine w_iconst dX8_primitive_1 (v := -1) (by decide) ?_
  refine w_icmp_eq 22 dX8_primitive_2 (by decide) (fun c1 => ?_) (fun c1 => ?_)
  · replace hf := (if_pos (show p0 = (-1 : Int32) from c1)).symm.trans hf
    exact (pX8_primitive_b22 hd hf).to trivial
  · replace hf := (if_neg (show ¬ (p0 = (-1 : Int32)) from c1)).symm.trans hf
    refine w_aload_n dX8_primitive_5 rfl rfl ?_
    refine w_iload_n dX8_primitive_6 rfl rfl ?_
    obtain ⟨_, b2, hf⟩ := Option.bind_eq_some_iff.mp hf
    refine x_cnI hf (e_stV (Yc := YX8_kind) (ci := 7) (av := [.int p0]) (st := []) dX8_primitive_7 q2477 mX8_kind rfl (k_ok_some b2).1 (k_ok_some b2).2) mX8_kind.2.2.1 mX8_kind.2.2.2.2.1 (Nat.le_of_ble_eq_true rfl) (Nat.le_of_ble_eq_true rfl) (fun q hq => pX8_kind (by omega) hq) (fun q3 hf => ?_)
    refine w_iconst dX8_primitive_10 (v := 1) (by decide) ?_
    refine w_icmp_ne 22 dX8_primitive_11 (by decide) (fun c4 => ?_) (fun c4 => ?_)
    · replace hf := (if_pos (show ¬ q3.1 = (1 : Int32) from c4)).symm.trans hf
      exact (pX8_primitive_b22 hd hf).to trivial
    · replace hf := (if_neg (show ¬ (¬ q3.1 = (1 : Int32)) from (fun z => z c4))).symm.trans hf
      refine w_aload_n dX8_primitive_14 rfl rfl ?_
      refine w_iload_n dX8_primitive_15 rfl rfl ?_
      obtain ⟨_, b5, hf⟩ := Option.bind_eq_some_iff.mp hf
      refine x_cnI hf (e_stV (Yc := YX8_value) (ci := 7) (av := [.int p0]) (st := []) dX8_primitive_16 q2488 mX8_value rfl (k_ok_some b5).1 (k_ok_some b5).2) mX8_value.2.2.1 mX8_value.2.2.2.2.1 (Nat.le_of_ble_eq_true rfl) (Nat.le_of_ble_eq_true rfl) (fun q hq => pX8_value (by omega) hq) (fun q6 hf => ?_)
      refine w_goto 23 dX8_primitive_19 (by decide) ?_
      exact (pX8_primitive_b23 hd hf).to trivial
abbrev cX3_solid : ByteArray := prog_26_method_19_code
def yX3_solid : MethodName := ⟨RX3, "solid", "()I"⟩
def YX3_solid : eY := (yX3_solid, cX3_solid, 2, (Option.some FieldType.int), [])
theorem mX3_solid : e_mv YX3_solid RX3 0 := ⟨q3899, qs189, q3900, by decide, by decide +kernel, (e_sig (by decide +kernel))⟩
theorem dX3_solid_0 : decode cX3_solid 0 = .ok (.aload_n 0, 1) := dc_42 (by decide +kernel)
theorem dX3_solid_1 : decode cX3_solid 1 = .ok (.getfield 45, 3) := dc_180 (a := 0) (b := 45) (n := 45) (by decide +kernel)
theorem dX3_solid_4 : decode cX3_solid 4 = .ok (.invokevirtual 394, 3) := dc_182 (a := 1) (b := 138) (n := 394) (by decide +kernel)
theorem dX3_solid_7 : decode cX3_solid 7 = .ok (.istore_n 1, 1) := dc_60 (by decide +kernel)
theorem dX3_solid_8 : decode cX3_solid 8 = .ok (.iload_n 1, 1) := dc_27 (by decide +kernel)
theorem dX3_solid_9 : decode cX3_solid 9 = .ok (.bipush 10, 2) := dc_16 (a := 10) (v := 10) (by decide +kernel)
theorem dX3_solid_11 : decode cX3_solid 11 = .ok (.invokestatic 397, 3) := dc_184 (a := 1) (b := 141) (n := 397) (by decide +kernel)
theorem dX3_solid_14 : decode cX3_solid 14 = .ok (.ifCond .ne 16, 3) := dc_154 (a := 0) (b := 16) (v := 16) (by decide +kernel)
theorem dX3_solid_17 : decode cX3_solid 17 = .ok (.aload_n 0, 1) := dc_42 (by decide +kernel)
theorem dX3_solid_18 : decode cX3_solid 18 = .ok (.getfield 45, 3) := dc_180 (a := 0) (b := 45) (n := 45) (by decide +kernel)
theorem dX3_solid_21 : decode cX3_solid 21 = .ok (.iload_n 1, 1) := dc_27 (by decide +kernel)
theorem dX3_solid_22 : decode cX3_solid 22 = .ok (.invokevirtual 401, 3) := dc_182 (a := 1) (b := 145) (n := 401) (by decide +kernel)
theorem dX3_solid_25 : decode cX3_solid 25 = .ok (.bipush 22, 2) := dc_16 (a := 22) (v := 22) (by decide +kernel)
theorem dX3_solid_27 : decode cX3_solid 27 = .ok (.if_icmp .ne 14, 3) := dc_160 (a := 0) (b := 14) (v := 14) (by decide +kernel)
theorem dX3_solid_30 : decode cX3_solid 30 = .ok (.aload_n 0, 1) := dc_42 (by decide +kernel)
theorem dX3_solid_31 : decode cX3_solid 31 = .ok (.getfield 45, 3) := dc_180 (a := 0) (b := 45) (n := 45) (by decide +kernel)
theorem dX3_solid_34 : decode cX3_solid 34 = .ok (.invokevirtual 394, 3) := dc_182 (a := 1) (b := 138) (n := 394) (by decide +kernel)
theorem dX3_solid_37 : decode cX3_solid 37 = .ok (.istore_n 1, 1) := dc_60 (by decide +kernel)
theorem dX3_solid_38 : decode cX3_solid 38 = .ok (.goto (-30), 3) := dc_167 (a := 255) (b := 226) (v := -30) (by decide +kernel)
theorem dX3_solid_41 : decode cX3_solid 41 = .ok (.iload_n 1, 1) := dc_27 (by decide +kernel)
theorem dX3_solid_42 : decode cX3_solid 42 = .ok (.ireturn, 1) := dc_172 (by decide +kernel)
def fX3_solid_b30 (N : Nat) (rE : Nat → Int32 → eH → Option ((Unit ⊕ Nat) × eH)) (k8 : Nat → Int32 → eH → Option ((Int32 ⊕ Nat) × eH)) (l0 : Nat) (h : eH) : Option ((Int32 ⊕ Nat) × eH) :=
  (g_A 2 h l0 5).bind fun a1 =>
  (k_ok 7 h a1).bind fun _ =>
  t_B (fX8_needExpanded N rE a1 h) fun x4 h5 =>
  k8 l0 x4 h5
theorem pX3_solid_b30 {w : eW} {d : Nat} {dr : Nat} (hd : dr + 15 ≤ d + 1) (hdr : 12 ≤ dr) {N : Nat} {rE : Nat → Int32 → eH → Option ((Unit ⊕ Nat) × eH)} (hrE : ∀ a t0 h q, rE a t0 h = some q → wm w dr YX8_expand [.ref a, .int t0] h (e_is (e_rt c_V q))) {k8 : Nat → Int32 → eH → Option ((Int32 ⊕ Nat) × eH)} (hk8 : ∀ l0 l1 h q, k8 l0 l1 h = some q → wp w (d + 1) YX3_solid 8 [some (.ref l0), some (.int l1)] [] h (e_is (e_rt c_I q))) {l0 : Nat} {h : eH} {q} (hf : fX3_solid_b30 N rE k8 l0 h = some q) : wp w (d + 1) YX3_solid 30 [some (.ref l0), none] [] h (e_is (e_rt c_I q)) := by
  unfold fX3_solid_b30 at hf
  refine w_aload_n dX3_solid_30 rfl rfl ?_
  obtain ⟨a1, b2, hf⟩ := Option.bind_eq_some_iff.mp hf
  refine GX3_45 b2 dX3_solid_31 rfl ?_
  obtain ⟨_, b3, hf⟩ := Option.bind_eq_some_iff.mp hf
  refine x_ctI hf (e_stVN (Yc := YX8_needExpanded) (ci := 7) (av := []) (st := []) dX3_solid_34 q3901 mX8_needExpanded rfl (k_ok_some b3).1 (k_ok_some b3).2) mX8_needExpanded.2.2.1 mX8_needExpanded.2.2.2.2.1 (Nat.le_of_ble_eq_true rfl) (Nat.le_of_ble_eq_true rfl) rfl (fun q hq => pX8_needExpanded (by omega) hdr hrE hq) (fun x4 h5 hf => ?_)
  refine w_istore_n dX3_solid_37 rfl (by decide) (ls' := [some (.ref l0), some (.int x4)]) rfl ?_
  refine w_goto 8 dX3_solid_38 (by decide) ?_
  exact (hk8 _ _ _ _ hf).to ⟨rfl, rfl, trivial⟩
def fX3_solid_b8 (N : Nat) (rE : Nat → Int32 → eH → Option ((Unit ⊕ Nat) × eH)) : Nat → Nat → Int32 → eH → Option ((Int32 ⊕ Nat) × eH)
  | 0, _, _, _ => none
  | n + 1, l0, l1, h =>
    (fX1_is l1 (10 : Int32) h).bind fun q1 =>
    if ¬ q1.1 = 0 then
      fX3_solid_b30 N rE (fX3_solid_b8 N rE n) l0 q1.2
    else
      (g_A 2 q1.2 l0 5).bind fun a3 =>
      (k_ok 7 q1.2 a3).bind fun _ =>
      (fX8_primitive a3 l1 q1.2).bind fun q6 =>
      if ¬ q6.1 = (22 : Int32) then
        some (.inl l1, q6.2)
      else
        fX3_solid_b30 N rE (fX3_solid_b8 N rE n) l0 q6.2
theorem pX3_solid_b8 {w : eW} {d : Nat} {dr : Nat} (hd : dr + 15 ≤ d + 1) (hdr : 12 ≤ dr) {N : Nat} {rE : Nat → Int32 → eH → Option ((Unit ⊕ Nat) × eH)} (hrE : ∀ a t0 h q, rE a t0 h = some q → wm w dr YX8_expand [.ref a, .int t0] h (e_is (e_rt c_V q))) : ∀ (n : Nat) l0 l1 h q, fX3_solid_b8 N rE n l0 l1 h = some q → wp w (d + 1) YX3_solid 8 [some (.ref l0), some (.int l1)] [] h (e_is (e_rt c_I q)) := by
  intro n
  induction n with
  | zero => intro l0 l1 h q hf; simp [fX3_solid_b8] at hf
  | succ n ih =>
    intro l0 l1 h q hf
    rw [fX3_solid_b8] at hf
    refine w_iload_n dX3_solid_8 rfl rfl ?_
    refine w_bipush dX3_solid_9 (v := 10) (by decide) ?_
    refine x_cnI hf (e_stSN (Yc := YX1_is) (av := [.int l1, .int (10 : Int32)]) (st := []) dX3_solid_11 q3902 mX1_is) mX1_is.2.2.1 mX1_is.2.2.2.2.1 (Nat.le_of_ble_eq_true rfl) (Nat.le_of_ble_eq_true rfl) (fun q hq => pX1_is (by omega) hq) (fun q1 hf => ?_)
    refine w_if_ne 30 dX3_solid_14 (by decide) (fun c2 => ?_) (fun c2 => ?_)
    · replace hf := (if_pos (show ¬ q1.1 = 0 from c2)).symm.trans hf
      exact (pX3_solid_b30 hd hdr hrE ih hf).to ⟨rfl, trivial⟩
    · replace hf := (if_neg (show ¬ (¬ q1.1 = 0) from (fun z => z c2))).symm.trans hf
      refine w_aload_n dX3_solid_17 rfl rfl ?_
      obtain ⟨a3, b4, hf⟩ := Option.bind_eq_some_iff.mp hf
      refine GX3_45 b4 dX3_solid_18 rfl ?_
      refine w_iload_n dX3_solid_21 rfl rfl ?_
      obtain ⟨_, b5, hf⟩ := Option.bind_eq_some_iff.mp hf
      refine x_cnI hf (e_stVN (Yc := YX8_primitive) (ci := 7) (av := [.int l1]) (st := []) dX3_solid_22 q3903 mX8_primitive rfl (k_ok_some b5).1 (k_ok_some b5).2) mX8_primitive.2.2.1 mX8_primitive.2.2.2.2.1 (Nat.le_of_ble_eq_true rfl) (Nat.le_of_ble_eq_true rfl) (fun q hq => pX8_primitive (by omega) hq) (fun q6 hf => ?_)
      refine w_bipush dX3_solid_25 (v := 22) (by decide) ?_
      refine w_icmp_ne 41 dX3_solid_27 (by decide) (fun c7 => ?_) (fun c7 => ?_)
      · replace hf := (if_pos (show ¬ q6.1 = (22 : Int32) from c7)).symm.trans hf
        refine w_iload_n dX3_solid_41 rfl rfl ?_
        cases hf
        exact w_iret dX3_solid_42 rfl rfl rfl
      · replace hf := (if_neg (show ¬ (¬ q6.1 = (22 : Int32)) from (fun z => z c7))).symm.trans hf
        exact (pX3_solid_b30 hd hdr hrE ih hf).to ⟨rfl, trivial⟩
def fX3_solid (N : Nat) (rE : Nat → Int32 → eH → Option ((Unit ⊕ Nat) × eH)) (this : Nat) (h : eH) : Option ((Int32 ⊕ Nat) × eH) :=
  (g_A 2 h this 5).bind fun a1 =>
  (k_ok 7 h a1).bind fun _ =>
  t_B (fX8_needExpanded N rE a1 h) fun x4 h5 =>
  fX3_solid_b8 N rE N this x4 h5
theorem pX3_solid {w : eW} {d : Nat} {dr : Nat} (hd : dr + 15 ≤ d) (hdr : 12 ≤ dr) {N : Nat} {rE : Nat → Int32 → eH → Option ((Unit ⊕ Nat) × eH)} (hrE : ∀ a t0 h q, rE a t0 h = some q → wm w dr YX8_expand [.ref a, .int t0] h (e_is (e_rt c_V q))) {this : Nat} {h : eH} {q} (hf : fX3_solid N rE this h = some q) : wm w d YX3_solid [.ref this] h (e_is (e_rt c_I q)) := by
  obtain ⟨d, rfl⟩ : ∃ e, d = e + 1 := ⟨d - 1, by omega⟩
  show wp w (d + 1) YX3_solid 0 [some (.ref this), none] [] h _
  unfold fX3_solid at hf
  refine w_aload_n dX3_solid_0 rfl rfl ?_
  obtain ⟨a1, b2, hf⟩ := Option.bind_eq_some_iff.mp hf
  refine GX3_45 b2 dX3_solid_1 rfl ?_
  obtain ⟨_, b3, hf⟩ := Option.bind_eq_some_iff.mp hf
  refine x_ctI hf (e_stVN (Yc := YX8_needExpanded) (ci := 7) (av := []) (st := []) dX3_solid_4 q3901 mX8_needExpanded rfl (k_ok_some b3).1 (k_ok_some b3).2) mX8_needExpanded.2.2.1 mX8_needExpanded.2.2.2.2.1 (Nat.le_of_ble_eq_true rfl) (Nat.le_of_ble_eq_true rfl) rfl (fun q hq => pX8_needExpanded (by omega) hdr hrE hq) (fun x4 h5 hf => ?_)
  refine w_istore_n dX3_solid_7 rfl (by decide) (ls' := [some (.ref this), some (.int x4)]) rfl ?_
  exact (pX3_solid_b8 hd hdr hrE N _ _ _ _ hf).to ⟨rfl, rfl, trivial⟩
abbrev cX8_need : ByteArray := prog_4_method_5_code
def yX8_need : MethodName := ⟨RX8, "need", "()I"⟩
def YX8_need : eY := (yX8_need, cX8_need, 2, (Option.some FieldType.int), [])
theorem mX8_need : e_mv YX8_need RX8 0 := ⟨q2508, qs54, q2509, by decide, by decide +kernel, (e_sig (by decide +kernel))⟩
theorem dX8_need_0 : decode cX8_need 0 = .ok (.aload_n 0, 1) := dc_42 (by decide +kernel)
theorem dX8_need_1 : decode cX8_need 1 = .ok (.invokevirtual 158, 3) := dc_182 (a := 0) (b := 158) (n := 158) (by decide +kernel)
theorem dX8_need_4 : decode cX8_need 4 = .ok (.istore_n 1, 1) := dc_60 (by decide +kernel)
theorem dX8_need_5 : decode cX8_need 5 = .ok (.aload_n 0, 1) := dc_42 (by decide +kernel)
theorem dX8_need_6 : decode cX8_need 6 = .ok (.getfield 51, 3) := dc_180 (a := 0) (b := 51) (n := 51) (by decide +kernel)
theorem dX8_need_9 : decode cX8_need 9 = .ok (.iload_n 1, 1) := dc_27 (by decide +kernel)
theorem dX8_need_10 : decode cX8_need 10 = .ok (.iconst (-1), 1) := dc_2 (by decide +kernel)
theorem dX8_need_11 : decode cX8_need 11 = .ok (.if_icmp .eq 7, 3) := dc_159 (a := 0) (b := 7) (v := 7) (by decide +kernel)
theorem dX8_need_14 : decode cX8_need 14 = .ok (.iconst 1, 1) := dc_4 (by decide +kernel)
theorem dX8_need_15 : decode cX8_need 15 = .ok (.goto 4, 3) := dc_167 (a := 0) (b := 4) (v := 4) (by decide +kernel)
theorem dX8_need_18 : decode cX8_need 18 = .ok (.iconst 0, 1) := dc_3 (by decide +kernel)
theorem dX8_need_19 : decode cX8_need 19 = .ok (.bipush 9, 2) := dc_16 (a := 9) (v := 9) (by decide +kernel)
theorem dX8_need_21 : decode cX8_need 21 = .ok (.invokevirtual 145, 3) := dc_182 (a := 0) (b := 145) (n := 145) (by decide +kernel)
theorem dX8_need_24 : decode cX8_need 24 = .ok (.iload_n 1, 1) := dc_27 (by decide +kernel)
theorem dX8_need_25 : decode cX8_need 25 = .ok (.ireturn, 1) := dc_172 (by decide +kernel)
def fX8_need_b19 (N : Nat) (l1 : Int32) (s0 : Nat) (s1 : Int32) (h : eH) : Option ((Int32 ⊕ Nat) × eH) :=
  (k_ok 3 h s0).bind fun _ =>
  t_B (fX4_want s0 s1 (9 : Int32) h) fun x2 h3 =>
  some (.inl l1, h3)
theorem pX8_need_b19 {w : eW} {d : Nat} (hd : 13 ≤ d + 1) {N : Nat} {l1 : Int32} {s0 : Nat} {s1 : Int32} {h : eH} {q} (hf : fX8_need_b19 N l1 s0 s1 h = some q) : wp w (d + 1) YX8_need 19 [none, some (.int l1)] [.int s1, .ref s0] h (e_is (e_rt c_I q)) := by
  unfold fX8_need_b19 at hf
  refine w_bipush dX8_need_19 (v := 9) (by decide) ?_
  obtain ⟨_, b1, hf⟩ := Option.bind_eq_some_iff.mp hf
  refine x_ctV hf (e_stV (Yc := YX4_want) (ci := 3) (av := [.int s1, .int (9 : Int32)]) (st := []) dX8_need_21 q2500 mX4_want rfl (k_ok_some b1).1 (k_ok_some b1).2) mX4_want.2.2.1 mX4_want.2.2.2.2.1 (Nat.le_of_ble_eq_true rfl) (Nat.le_of_ble_eq_true rfl) rfl (fun q hq => pX4_want (by omega) hq) (fun x2 h3 hf => ?_)
  refine w_iload_n dX8_need_24 rfl rfl ?_
  cases hf
  exact w_iret dX8_need_25 rfl rfl rfl
def fX8_need (N : Nat) (this : Nat) (h : eH) : Option ((Int32 ⊕ Nat) × eH) :=
  (k_ok 7 h this).bind fun _ =>
  t_B (fX8_get N this h) fun x2 h3 =>
  (g_A 7 h3 this 0).bind fun a4 =>
  if x2 = (-1 : Int32) then
    fX8_need_b19 N x2 a4 (0 : Int32) h3
  else
    fX8_need_b19 N x2 a4 (1 : Int32) h3
theorem pX8_need {w : eW} {d : Nat} (hd : 13 ≤ d) {N : Nat} {this : Nat} {h : eH} {q} (hf : fX8_need N this h = some q) : wm w d YX8_need [.ref this] h (e_is (e_rt c_I q)) := by
  obtain ⟨d, rfl⟩ : ∃ e, d = e + 1 := ⟨d - 1, by omega⟩
  show wp w (d + 1) YX8_need 0 [some (.ref this), none] [] h _
  unfold fX8_need at hf
  refine w_aload_n dX8_need_0 rfl rfl ?_
  obtain ⟨_, b1, hf⟩ := Option.bind_eq_some_iff.mp hf
  refine x_ctI hf (e_stV (Yc := YX8_get) (ci := 7) (av := []) (st := []) dX8_need_1 q2417 mX8_get rfl (k_ok_some b1).1 (k_ok_some b1).2) mX8_get.2.2.1 mX8_get.2.2.2.2.1 (Nat.le_of_ble_eq_true rfl) (Nat.le_of_ble_eq_true rfl) rfl (fun q hq => pX8_get (by omega) hq) (fun x2 h3 hf => ?_)
  refine w_istore_n dX8_need_4 rfl (by decide) (ls' := [some (.ref this), some (.int x2)]) rfl ?_
  refine w_aload_n dX8_need_5 rfl rfl ?_
  obtain ⟨a4, b5, hf⟩ := Option.bind_eq_some_iff.mp hf
  refine GX8_51 b5 dX8_need_6 rfl ?_
  refine w_iload_n dX8_need_9 rfl rfl ?_
  refine w_iconst dX8_need_10 (v := -1) (by decide) ?_
  refine w_icmp_eq 18 dX8_need_11 (by decide) (fun c6 => ?_) (fun c6 => ?_)
  · replace hf := (if_pos (show x2 = (-1 : Int32) from c6)).symm.trans hf
    refine w_iconst dX8_need_18 (v := 0) (by decide) ?_
    exact (pX8_need_b19 hd hf).to ⟨rfl, trivial⟩
  · replace hf := (if_neg (show ¬ (x2 = (-1 : Int32)) from c6)).symm.trans hf
    refine w_iconst dX8_need_14 (v := 1) (by decide) ?_
    refine w_goto 19 dX8_need_15 (by decide) ?_
    exact (pX8_need_b19 hd hf).to ⟨rfl, trivial⟩
abbrev cX8_bare : ByteArray := prog_4_method_7_code
def yX8_bare : MethodName := ⟨RX8, "bare", "(I)I"⟩
def YX8_bare : eY := (yX8_bare, cX8_bare, 1, (Option.some FieldType.int), [])
theorem mX8_bare : e_ms YX8_bare 1 := ⟨q2511, q433, q2512, by decide, by decide +kernel, (e_sig (by decide +kernel))⟩
theorem dX8_bare_0 : decode cX8_bare 0 = .ok (.iload_n 0, 1) := dc_26 (by decide +kernel)
theorem dX8_bare_1 : decode cX8_bare 1 = .ok (.iconst (-1), 1) := dc_2 (by decide +kernel)
theorem dX8_bare_2 : decode cX8_bare 2 = .ok (.if_icmp .ne 7, 3) := dc_160 (a := 0) (b := 7) (v := 7) (by decide +kernel)
theorem dX8_bare_5 : decode cX8_bare 5 = .ok (.iload_n 0, 1) := dc_26 (by decide +kernel)
theorem dX8_bare_6 : decode cX8_bare 6 = .ok (.goto 7, 3) := dc_167 (a := 0) (b := 7) (v := 7) (by decide +kernel)
theorem dX8_bare_9 : decode cX8_bare 9 = .ok (.iload_n 0, 1) := dc_26 (by decide +kernel)
theorem dX8_bare_10 : decode cX8_bare 10 = .ok (.ldc 160, 2) := dc_18 (a := 160) (by decide +kernel)
theorem dX8_bare_12 : decode cX8_bare 12 = .ok (.iand, 1) := dc_126 (by decide +kernel)
theorem dX8_bare_13 : decode cX8_bare 13 = .ok (.ireturn, 1) := dc_172 (by decide +kernel)
def fX8_bare_b13 (s0 : Int32) (h : eH) : Option (Int32 × eH) :=
  some (s0, h)
theorem pX8_bare_b13 {w : eW} {d : Nat} (hd : 0 ≤ d) {s0 : Int32} {h : eH} {q} (hf : fX8_bare_b13 s0 h = some q) : wp w d YX8_bare 13 [none] [.int s0] h (e_is (e_rn c_I q)) := by
  unfold fX8_bare_b13 at hf
  cases hf
  exact w_iret dX8_bare_13 rfl rfl rfl
def fX8_bare (p0 : Int32) (h : eH) : Option (Int32 × eH) :=
  if ¬ p0 = (-1 : Int32) then
    fX8_bare_b13 (p0 &&& (1048575 : Int32)) h
  else
    fX8_bare_b13 p0 h
theorem pX8_bare {w : eW} {d : Nat} (hd : 0 ≤ d) {p0 : Int32} {h : eH} {q} (hf : fX8_bare p0 h = some q) : wm w d YX8_bare [.int p0] h (e_is (e_rn c_I q)) := by
  show wp w d YX8_bare 0 [some (.int p0)] [] h _
  unfold fX8_bare at hf
  refine w_iload_n dX8_bare_0 rfl rfl ?_
  refine w_iconst dX8_bare_1 (v := -1) (by decide) ?_
  refine w_icmp_ne 9 dX8_bare_2 (by decide) (fun c1 => ?_) (fun c1 => ?_)
  · replace hf := (if_pos (show ¬ p0 = (-1 : Int32) from c1)).symm.trans hf
    refine w_iload_n dX8_bare_9 rfl rfl ?_
    refine w_ldc dX8_bare_10 q2513 ?_
    refine w_iand dX8_bare_12 ?_
    exact (pX8_bare_b13 hd hf).to trivial
  · replace hf := (if_neg (show ¬ (¬ p0 = (-1 : Int32)) from (fun z => z c1))).symm.trans hf
    refine w_iload_n dX8_bare_5 rfl rfl ?_
    refine w_goto 13 dX8_bare_6 (by decide) ?_
    exact (pX8_bare_b13 hd hf).to trivial
