set_option maxRecDepth 100000
set_option maxHeartbeats 4000000
theorem q551 : (Jvm.Cond.fieldLink "TypeHouse$Font" (125 : Nat) "TypeHouse$Font" "size" "I") ∈ lw_all := lw_g (lw_at lw_m1 126 rfl) rfl
theorem q553 : (Jvm.Cond.fieldLink "TypeHouse$Font" (116 : Nat) "TypeHouse$Font" "design" "I") ∈ lw_all := lw_g (lw_at lw_m1 128 rfl) rfl
theorem q558 : (Jvm.Cond.fieldLink "TypeHouse$Font" (131 : Nat) "TypeHouse$Font" "loaded" "Z") ∈ lw_all := lw_g (lw_at lw_m1 133 rfl) rfl
theorem q585 : (Jvm.Cond.fieldLinkNest "TypeHouse$Press" (763 : Nat) "TypeHouse$FontTable" "slots" "[LTypeHouse$FontFile;" "TypeHouse") ∈ lw_tbl := lw_at lw_m1 160 rfl
theorem q658 : (Jvm.Cond.fieldLinkNest "TypeHouse$Expander" (357 : Nat) "TypeHouse$Settings" "cells" "[I" "TypeHouse") ∈ lw_tbl := lw_at lw_m1 233 rfl
theorem q704 : (Jvm.Cond.fieldLinkNest "TypeHouse$Expander" (258 : Nat) "TypeHouse$Names" "sizes" "[I" "TypeHouse") ∈ lw_tbl := lw_at lw_m2 39 rfl
theorem q863 : (Jvm.Cond.fieldLink "TypeHouse$Expander" (389 : Nat) "TypeHouse$Expander" "factor" "J") ∈ lw_all := lw_g (lw_at lw_m2 198 rfl) rfl
theorem q864 : (Jvm.Cond.fieldLink "TypeHouse$Expander" (393 : Nat) "TypeHouse$Expander" "decimals" "J") ∈ lw_all := lw_g (lw_at lw_m2 199 rfl) rfl
theorem q865 : (Jvm.Cond.fieldLink "TypeHouse$Expander" (459 : Nat) "TypeHouse$Expander" "less" "Z") ∈ lw_all := lw_g (lw_at lw_m2 200 rfl) rfl
theorem q866 : (Jvm.Cond.fieldLink "TypeHouse$Expander" (480 : Nat) "TypeHouse$Expander" "order" "I") ∈ lw_all := lw_g (lw_at lw_m2 201 rfl) rfl
theorem q2506 : (Jvm.Cond.methodLink "TypeHouse$Expander" (213 : Nat) ({ cls := "TypeHouse$Expander", name := "need", desc := "()I" } : Jvm.MethodName)) ∈ lw_all := lw_g (lw_at lw_m9 161 rfl) rfl
theorem q2510 : (Jvm.Cond.methodLink "TypeHouse$Expander" (219 : Nat) ({ cls := "TypeHouse$Expander", name := "bare", desc := "(I)I" } : Jvm.MethodName)) ∈ lw_all := lw_g (lw_at lw_m9 165 rfl) rfl
theorem q2518 : (Jvm.Cond.methodLinkNest "TypeHouse$Expander" (193 : Nat) ({ cls := "TypeHouse", name := "is", desc := "(II)Z" } : Jvm.MethodName) "TypeHouse") ∈ lw_tbl := lw_at lw_m9 173 rfl
theorem q2544 : (Jvm.Cond.constantLong "TypeHouse$Expander" (318 : Nat) (10000 : Int64)) ∈ lw_all := lw_g (lw_at lw_m9 199 rfl) rfl
theorem q2550 : (Jvm.Cond.instanceMethod ({ cls := "TypeHouse$Tokens", name := "put", desc := "(I)V" } : Jvm.MethodName)) ∈ lw_all := lw_g (lw_at lw_m9 205 rfl) rfl
theorem q2551 : (Jvm.Cond.selects "TypeHouse$Tokens" ({ cls := "TypeHouse$Tokens", name := "put", desc := "(I)V" } : Jvm.MethodName) ({ cls := "TypeHouse$Tokens", name := "put", desc := "(I)V" } : Jvm.MethodName)) ∈ lw_all := lw_g (lw_at lw_m9 206 rfl) rfl
theorem q2552 : (Jvm.Cond.code ({ cls := "TypeHouse$Tokens", name := "put", desc := "(I)V" } : Jvm.MethodName) prog_31_method_3_code (2 : Nat) (Option.none : Option Jvm.ClassFile.FieldType)) ∈ lw_all := lw_g (lw_at lw_m9 207 rfl) rfl
theorem q2553 : (Jvm.Cond.methodLinkNest "TypeHouse$Tokens" (27 : Nat) ({ cls := "TypeHouse", name := "grown", desc := "([II)[I" } : Jvm.MethodName) "TypeHouse") ∈ lw_tbl := lw_at lw_m9 208 rfl
theorem q2558 : (Jvm.Cond.methodLink "TypeHouse$Expander" (197 : Nat) ({ cls := "TypeHouse$Tokens", name := "put", desc := "(I)V" } : Jvm.MethodName)) ∈ lw_all := lw_g (lw_at lw_m9 213 rfl) rfl
theorem q2563 : (Jvm.Cond.methodLink "TypeHouse$Expander" (190 : Nat) ({ cls := "TypeHouse$Expander", name := "needExpanded", desc := "()I" } : Jvm.MethodName)) ∈ lw_all := lw_g (lw_at lw_m9 218 rfl) rfl
theorem q2568 : (Jvm.Cond.methodLink "TypeHouse$Expander" (243 : Nat) ({ cls := "TypeHouse$Expander", name := "primitive", desc := "(I)I" } : Jvm.MethodName)) ∈ lw_all := lw_g (lw_at lw_m9 223 rfl) rfl
theorem q2579 : (Jvm.Cond.methodLinkNest "TypeHouse$Expander" (255 : Nat) ({ cls := "TypeHouse", name := "other", desc := "(I)I" } : Jvm.MethodName) "TypeHouse") ∈ lw_tbl := lw_at lw_m9 234 rfl
theorem q2580 : (Jvm.Cond.static ({ cls := "TypeHouse", name := "other", desc := "(I)I" } : Jvm.MethodName)) ∈ lw_all := lw_g (lw_at lw_m9 235 rfl) rfl
theorem q2581 : (Jvm.Cond.code ({ cls := "TypeHouse", name := "other", desc := "(I)I" } : Jvm.MethodName) prog_1_method_7_code (1 : Nat) (Option.some Jvm.ClassFile.FieldType.int)) ∈ lw_all := lw_g (lw_at lw_m9 236 rfl) rfl
theorem q2582 : (Jvm.Cond.methodLink "TypeHouse$Expander" (261 : Nat) ({ cls := "TypeHouse$Names", name := "letter", desc := "(II)I" } : Jvm.MethodName)) ∈ lw_all := lw_g (lw_at lw_m9 237 rfl) rfl
theorem q2583 : (Jvm.Cond.instanceMethod ({ cls := "TypeHouse$Names", name := "letter", desc := "(II)I" } : Jvm.MethodName)) ∈ lw_all := lw_g (lw_at lw_m9 238 rfl) rfl
theorem q2584 : (Jvm.Cond.selects "TypeHouse$Names" ({ cls := "TypeHouse$Names", name := "letter", desc := "(II)I" } : Jvm.MethodName) ({ cls := "TypeHouse$Names", name := "letter", desc := "(II)I" } : Jvm.MethodName)) ∈ lw_all := lw_g (lw_at lw_m9 239 rfl) rfl
theorem q2585 : (Jvm.Cond.code ({ cls := "TypeHouse$Names", name := "letter", desc := "(II)I" } : Jvm.MethodName) prog_17_method_9_code (3 : Nat) (Option.some Jvm.ClassFile.FieldType.int)) ∈ lw_all := lw_g (lw_at lw_m10 0 rfl) rfl
theorem q2594 : (Jvm.Cond.methodLink "TypeHouse$Expander" (335 : Nat) ({ cls := "TypeHouse$Expander", name := "needSolid", desc := "()I" } : Jvm.MethodName)) ∈ lw_all := lw_g (lw_at lw_m10 9 rfl) rfl
theorem q2596 : (Jvm.Cond.instanceMethod ({ cls := "TypeHouse$Expander", name := "needSolid", desc := "()I" } : Jvm.MethodName)) ∈ lw_all := lw_g (lw_at lw_m10 11 rfl) rfl
theorem q2597 : (Jvm.Cond.code ({ cls := "TypeHouse$Expander", name := "needSolid", desc := "()I" } : Jvm.MethodName) prog_4_method_14_code (2 : Nat) (Option.some Jvm.ClassFile.FieldType.int)) ∈ lw_all := lw_g (lw_at lw_m10 12 rfl) rfl
theorem q2598 : (Jvm.Cond.methodLinkNest "TypeHouse$Expander" (338 : Nat) ({ cls := "TypeHouse", name := "isDigit", desc := "(I)Z" } : Jvm.MethodName) "TypeHouse") ∈ lw_tbl := lw_at lw_m10 13 rfl
theorem q2599 : (Jvm.Cond.static ({ cls := "TypeHouse", name := "isDigit", desc := "(I)Z" } : Jvm.MethodName)) ∈ lw_all := lw_g (lw_at lw_m10 14 rfl) rfl
theorem q2600 : (Jvm.Cond.code ({ cls := "TypeHouse", name := "isDigit", desc := "(I)Z" } : Jvm.MethodName) prog_1_method_8_code (1 : Nat) (Option.some Jvm.ClassFile.FieldType.boolean)) ∈ lw_all := lw_g (lw_at lw_m10 15 rfl) rfl
theorem q2605 : (Jvm.Cond.constantLong "TypeHouse$Expander" (278 : Nat) (10 : Int64)) ∈ lw_all := lw_g (lw_at lw_m10 20 rfl) rfl
theorem q2606 : (Jvm.Cond.constantLong "TypeHouse$Expander" (349 : Nat) (2147483647 : Int64)) ∈ lw_all := lw_g (lw_at lw_m10 21 rfl) rfl
theorem q2607 : (Jvm.Cond.methodLink "TypeHouse$Expander" (351 : Nat) ({ cls := "TypeHouse$Expander", name := "putBack", desc := "(I)V" } : Jvm.MethodName)) ∈ lw_all := lw_g (lw_at lw_m10 22 rfl) rfl
theorem q2609 : (Jvm.Cond.instanceMethod ({ cls := "TypeHouse$Expander", name := "putBack", desc := "(I)V" } : Jvm.MethodName)) ∈ lw_all := lw_g (lw_at lw_m10 24 rfl) rfl
theorem q2610 : (Jvm.Cond.code ({ cls := "TypeHouse$Expander", name := "putBack", desc := "(I)V" } : Jvm.MethodName) prog_4_method_15_code (2 : Nat) (Option.none : Option Jvm.ClassFile.FieldType)) ∈ lw_all := lw_g (lw_at lw_m10 25 rfl) rfl
theorem q2611 : (Jvm.Cond.methodLink "TypeHouse$Expander" (344 : Nat) ({ cls := "TypeHouse$Expander", name := "quoted", desc := "()I" } : Jvm.MethodName)) ∈ lw_all := lw_g (lw_at lw_m10 26 rfl) rfl
theorem q2613 : (Jvm.Cond.instanceMethod ({ cls := "TypeHouse$Expander", name := "quoted", desc := "()I" } : Jvm.MethodName)) ∈ lw_all := lw_g (lw_at lw_m10 28 rfl) rfl
theorem q2614 : (Jvm.Cond.code ({ cls := "TypeHouse$Expander", name := "quoted", desc := "()I" } : Jvm.MethodName) prog_4_method_30_code (4 : Nat) (Option.some Jvm.ClassFile.FieldType.int)) ∈ lw_all := lw_g (lw_at lw_m10 29 rfl) rfl
theorem q2615 : (Jvm.Cond.methodLink "TypeHouse$Expander" (269 : Nat) ({ cls := "TypeHouse$Expander", name := "isSized", desc := "(I)Z" } : Jvm.MethodName)) ∈ lw_all := lw_g (lw_at lw_m10 30 rfl) rfl
theorem q2617 : (Jvm.Cond.instanceMethod ({ cls := "TypeHouse$Expander", name := "isSized", desc := "(I)Z" } : Jvm.MethodName)) ∈ lw_all := lw_g (lw_at lw_m10 32 rfl) rfl
theorem q2618 : (Jvm.Cond.code ({ cls := "TypeHouse$Expander", name := "isSized", desc := "(I)Z" } : Jvm.MethodName) prog_4_method_36_code (3 : Nat) (Option.some Jvm.ClassFile.FieldType.boolean)) ∈ lw_all := lw_g (lw_at lw_m10 33 rfl) rfl
theorem q2619 : (Jvm.Cond.methodLink "TypeHouse$Expander" (369 : Nat) ({ cls := "TypeHouse$Expander", name := "isLength", desc := "(I)Z" } : Jvm.MethodName)) ∈ lw_all := lw_g (lw_at lw_m10 34 rfl) rfl
theorem q2620 : (Jvm.Cond.static ({ cls := "TypeHouse$Expander", name := "isLength", desc := "(I)Z" } : Jvm.MethodName)) ∈ lw_all := lw_g (lw_at lw_m10 35 rfl) rfl
theorem q2621 : (Jvm.Cond.code ({ cls := "TypeHouse$Expander", name := "isLength", desc := "(I)Z" } : Jvm.MethodName) prog_4_method_34_code (1 : Nat) (Option.some Jvm.ClassFile.FieldType.boolean)) ∈ lw_all := lw_g (lw_at lw_m10 36 rfl) rfl
theorem q2622 : (Jvm.Cond.methodLink "TypeHouse$Expander" (372 : Nat) ({ cls := "TypeHouse$Expander", name := "isGlue", desc := "(I)Z" } : Jvm.MethodName)) ∈ lw_all := lw_g (lw_at lw_m10 37 rfl) rfl
theorem q2623 : (Jvm.Cond.static ({ cls := "TypeHouse$Expander", name := "isGlue", desc := "(I)Z" } : Jvm.MethodName)) ∈ lw_all := lw_g (lw_at lw_m10 38 rfl) rfl
theorem q2624 : (Jvm.Cond.code ({ cls := "TypeHouse$Expander", name := "isGlue", desc := "(I)Z" } : Jvm.MethodName) prog_4_method_35_code (1 : Nat) (Option.some Jvm.ClassFile.FieldType.boolean)) ∈ lw_all := lw_g (lw_at lw_m10 39 rfl) rfl
theorem q2625 : (Jvm.Cond.methodLink "TypeHouse$Expander" (272 : Nat) ({ cls := "TypeHouse$Expander", name := "sized", desc := "(I)I" } : Jvm.MethodName)) ∈ lw_all := lw_g (lw_at lw_m10 40 rfl) rfl
theorem q2627 : (Jvm.Cond.instanceMethod ({ cls := "TypeHouse$Expander", name := "sized", desc := "(I)I" } : Jvm.MethodName)) ∈ lw_all := lw_g (lw_at lw_m10 42 rfl) rfl
theorem q2628 : (Jvm.Cond.code ({ cls := "TypeHouse$Expander", name := "sized", desc := "(I)I" } : Jvm.MethodName) prog_4_method_38_code (4 : Nat) (Option.some Jvm.ClassFile.FieldType.int)) ∈ lw_all := lw_g (lw_at lw_m10 43 rfl) rfl
theorem q2629 : (Jvm.Cond.methodLink "TypeHouse$Expander" (360 : Nat) ({ cls := "TypeHouse$Expander", name := "cellOf", desc := "(I)I" } : Jvm.MethodName)) ∈ lw_all := lw_g (lw_at lw_m10 44 rfl) rfl
theorem q2631 : (Jvm.Cond.instanceMethod ({ cls := "TypeHouse$Expander", name := "cellOf", desc := "(I)I" } : Jvm.MethodName)) ∈ lw_all := lw_g (lw_at lw_m10 46 rfl) rfl
theorem q2632 : (Jvm.Cond.code ({ cls := "TypeHouse$Expander", name := "cellOf", desc := "(I)I" } : Jvm.MethodName) prog_4_method_37_code (2 : Nat) (Option.some Jvm.ClassFile.FieldType.int)) ∈ lw_all := lw_g (lw_at lw_m10 47 rfl) rfl
theorem q2633 : (Jvm.Cond.methodLink "TypeHouse$Expander" (363 : Nat) ({ cls := "TypeHouse$Expander", name := "within", desc := "(I)I" } : Jvm.MethodName)) ∈ lw_all := lw_g (lw_at lw_m10 48 rfl) rfl
theorem q2637 : (Jvm.Cond.methodLinkNest "TypeHouse$Expander" (375 : Nat) ({ cls := "TypeHouse$Box", name := "of", desc := "(I)I" } : Jvm.MethodName) "TypeHouse") ∈ lw_tbl := lw_at lw_m10 52 rfl
theorem q2639 : (Jvm.Cond.instanceMethod ({ cls := "TypeHouse$Box", name := "of", desc := "(I)I" } : Jvm.MethodName)) ∈ lw_all := lw_g (lw_at lw_m10 54 rfl) rfl
theorem q2641 : (Jvm.Cond.code ({ cls := "TypeHouse$Box", name := "of", desc := "(I)I" } : Jvm.MethodName) prog_2_method_2_code (2 : Nat) (Option.some Jvm.ClassFile.FieldType.int)) ∈ lw_all := lw_g (lw_at lw_m10 56 rfl) rfl
theorem q2642 : (Jvm.Cond.methodLink "TypeHouse$Expander" (275 : Nat) ({ cls := "TypeHouse$Expander", name := "valued", desc := "(I)I" } : Jvm.MethodName)) ∈ lw_all := lw_g (lw_at lw_m10 57 rfl) rfl
theorem q2644 : (Jvm.Cond.instanceMethod ({ cls := "TypeHouse$Expander", name := "valued", desc := "(I)I" } : Jvm.MethodName)) ∈ lw_all := lw_g (lw_at lw_m10 59 rfl) rfl
theorem q2645 : (Jvm.Cond.code ({ cls := "TypeHouse$Expander", name := "valued", desc := "(I)I" } : Jvm.MethodName) prog_4_method_32_code (3 : Nat) (Option.some Jvm.ClassFile.FieldType.int)) ∈ lw_all := lw_g (lw_at lw_m10 60 rfl) rfl
theorem q2646 : (Jvm.Cond.methodLink "TypeHouse$Expander" (354 : Nat) ({ cls := "TypeHouse$Expander", name := "isCounter", desc := "(I)Z" } : Jvm.MethodName)) ∈ lw_all := lw_g (lw_at lw_m10 61 rfl) rfl
theorem q2647 : (Jvm.Cond.static ({ cls := "TypeHouse$Expander", name := "isCounter", desc := "(I)Z" } : Jvm.MethodName)) ∈ lw_all := lw_g (lw_at lw_m10 62 rfl) rfl
theorem q2648 : (Jvm.Cond.code ({ cls := "TypeHouse$Expander", name := "isCounter", desc := "(I)Z" } : Jvm.MethodName) prog_4_method_33_code (1 : Nat) (Option.some Jvm.ClassFile.FieldType.boolean)) ∈ lw_all := lw_g (lw_at lw_m10 63 rfl) rfl
theorem q2649 : (Jvm.Cond.methodLink "TypeHouse$Expander" (366 : Nat) ({ cls := "TypeHouse$Settings", name := "category", desc := "(I)I" } : Jvm.MethodName)) ∈ lw_all := lw_g (lw_at lw_m10 64 rfl) rfl
theorem q2659 : (Jvm.Cond.methodLink "TypeHouse$Expander" (282 : Nat) ({ cls := "java/lang/String", name := "charAt", desc := "(I)C" } : Jvm.MethodName)) ∈ lw_all := lw_g (lw_at lw_m10 74 rfl) rfl
theorem q2712 : (Jvm.Cond.instanceMethod ({ cls := "TypeHouse$Expander", name := "dimension", desc := "()I" } : Jvm.MethodName)) ∈ lw_all := lw_g (lw_at lw_m10 127 rfl) rfl
theorem q2713 : (Jvm.Cond.code ({ cls := "TypeHouse$Expander", name := "dimension", desc := "()I" } : Jvm.MethodName) prog_4_method_50_code (2 : Nat) (Option.some Jvm.ClassFile.FieldType.int)) ∈ lw_all := lw_g (lw_at lw_m10 128 rfl) rfl
theorem q2714 : (Jvm.Cond.methodLink "TypeHouse$Expander" (463 : Nat) ({ cls := "TypeHouse$Expander", name := "signed", desc := "()I" } : Jvm.MethodName)) ∈ lw_all := lw_g (lw_at lw_m10 129 rfl) rfl
theorem q2716 : (Jvm.Cond.instanceMethod ({ cls := "TypeHouse$Expander", name := "signed", desc := "()I" } : Jvm.MethodName)) ∈ lw_all := lw_g (lw_at lw_m10 131 rfl) rfl
theorem q2717 : (Jvm.Cond.code ({ cls := "TypeHouse$Expander", name := "signed", desc := "()I" } : Jvm.MethodName) prog_4_method_49_code (3 : Nat) (Option.some Jvm.ClassFile.FieldType.int)) ∈ lw_all := lw_g (lw_at lw_m10 132 rfl) rfl
theorem q2718 : (Jvm.Cond.methodLink "TypeHouse$Expander" (466 : Nat) ({ cls := "TypeHouse$Expander", name := "dimension", desc := "(IZ)I" } : Jvm.MethodName)) ∈ lw_all := lw_g (lw_at lw_m10 133 rfl) rfl
theorem q2720 : (Jvm.Cond.instanceMethod ({ cls := "TypeHouse$Expander", name := "dimension", desc := "(IZ)I" } : Jvm.MethodName)) ∈ lw_all := lw_g (lw_at lw_m10 135 rfl) rfl
theorem q2721 : (Jvm.Cond.code ({ cls := "TypeHouse$Expander", name := "dimension", desc := "(IZ)I" } : Jvm.MethodName) prog_4_method_51_code (5 : Nat) (Option.some Jvm.ClassFile.FieldType.int)) ∈ lw_all := lw_g (lw_at lw_m10 136 rfl) rfl
theorem q2722 : (Jvm.Cond.methodLink "TypeHouse$Expander" (470 : Nat) ({ cls := "TypeHouse$Expander", name := "factor", desc := "(I)V" } : Jvm.MethodName)) ∈ lw_all := lw_g (lw_at lw_m10 137 rfl) rfl
theorem q2724 : (Jvm.Cond.instanceMethod ({ cls := "TypeHouse$Expander", name := "factor", desc := "(I)V" } : Jvm.MethodName)) ∈ lw_all := lw_g (lw_at lw_m10 139 rfl) rfl
theorem q2725 : (Jvm.Cond.code ({ cls := "TypeHouse$Expander", name := "factor", desc := "(I)V" } : Jvm.MethodName) prog_4_method_43_code (7 : Nat) (Option.none : Option Jvm.ClassFile.FieldType)) ∈ lw_all := lw_g (lw_at lw_m10 140 rfl) rfl
theorem q2726 : (Jvm.Cond.methodLink "TypeHouse$Expander" (386 : Nat) ({ cls := "TypeHouse$Expander", name := "isPoint", desc := "(I)Z" } : Jvm.MethodName)) ∈ lw_all := lw_g (lw_at lw_m10 141 rfl) rfl
theorem q2727 : (Jvm.Cond.static ({ cls := "TypeHouse$Expander", name := "isPoint", desc := "(I)Z" } : Jvm.MethodName)) ∈ lw_all := lw_g (lw_at lw_m10 142 rfl) rfl
theorem q2728 : (Jvm.Cond.code ({ cls := "TypeHouse$Expander", name := "isPoint", desc := "(I)Z" } : Jvm.MethodName) prog_4_method_42_code (1 : Nat) (Option.some Jvm.ClassFile.FieldType.boolean)) ∈ lw_all := lw_g (lw_at lw_m10 143 rfl) rfl
theorem q2729 : (Jvm.Cond.methodLink "TypeHouse$Expander" (472 : Nat) ({ cls := "TypeHouse$Expander", name := "united", desc := "()J" } : Jvm.MethodName)) ∈ lw_all := lw_g (lw_at lw_m10 144 rfl) rfl
theorem q2731 : (Jvm.Cond.instanceMethod ({ cls := "TypeHouse$Expander", name := "united", desc := "()J" } : Jvm.MethodName)) ∈ lw_all := lw_g (lw_at lw_m10 146 rfl) rfl
theorem q2732 : (Jvm.Cond.code ({ cls := "TypeHouse$Expander", name := "united", desc := "()J" } : Jvm.MethodName) prog_4_method_48_code (11 : Nat) (Option.some Jvm.ClassFile.FieldType.long)) ∈ lw_all := lw_g (lw_at lw_m10 147 rfl) rfl
theorem q2733 : (Jvm.Cond.constantLong "TypeHouse$Expander" (405 : Nat) (32768 : Int64)) ∈ lw_all := lw_g (lw_at lw_m10 148 rfl) rfl
theorem q2734 : (Jvm.Cond.methodLink "TypeHouse$Expander" (407 : Nat) ({ cls := "TypeHouse$Expander", name := "below", desc := "(JJJ)V" } : Jvm.MethodName)) ∈ lw_all := lw_g (lw_at lw_m10 149 rfl) rfl
theorem q2736 : (Jvm.Cond.instanceMethod ({ cls := "TypeHouse$Expander", name := "below", desc := "(JJJ)V" } : Jvm.MethodName)) ∈ lw_all := lw_g (lw_at lw_m10 151 rfl) rfl
theorem q2737 : (Jvm.Cond.code ({ cls := "TypeHouse$Expander", name := "below", desc := "(JJJ)V" } : Jvm.MethodName) prog_4_method_44_code (7 : Nat) (Option.none : Option Jvm.ClassFile.FieldType)) ∈ lw_all := lw_g (lw_at lw_m10 152 rfl) rfl
theorem q2738 : (Jvm.Cond.methodLink "TypeHouse$Expander" (411 : Nat) ({ cls := "TypeHouse$Expander", name := "nearest", desc := "(JJJ)J" } : Jvm.MethodName)) ∈ lw_all := lw_g (lw_at lw_m10 153 rfl) rfl
theorem q2739 : (Jvm.Cond.static ({ cls := "TypeHouse$Expander", name := "nearest", desc := "(JJJ)J" } : Jvm.MethodName)) ∈ lw_all := lw_g (lw_at lw_m10 154 rfl) rfl
theorem q2740 : (Jvm.Cond.code ({ cls := "TypeHouse$Expander", name := "nearest", desc := "(JJJ)J" } : Jvm.MethodName) prog_4_method_45_code (12 : Nat) (Option.some Jvm.ClassFile.FieldType.long)) ∈ lw_all := lw_g (lw_at lw_m10 155 rfl) rfl
theorem q2741 : (Jvm.Cond.constantLong "TypeHouse$Expander" (415 : Nat) (65536 : Int64)) ∈ lw_all := lw_g (lw_at lw_m10 156 rfl) rfl
theorem q2743 : (Jvm.Cond.methodLink "TypeHouse$Expander" (419 : Nat) ({ cls := "TypeHouse$Expander", name := "keyword", desc := "(Ljava/lang/String;)Z" } : Jvm.MethodName)) ∈ lw_all := lw_g (lw_at lw_m10 158 rfl) rfl
theorem q2745 : (Jvm.Cond.instanceMethod ({ cls := "TypeHouse$Expander", name := "keyword", desc := "(Ljava/lang/String;)Z" } : Jvm.MethodName)) ∈ lw_all := lw_g (lw_at lw_m10 160 rfl) rfl
theorem q2746 : (Jvm.Cond.code ({ cls := "TypeHouse$Expander", name := "keyword", desc := "(Ljava/lang/String;)Z" } : Jvm.MethodName) prog_4_method_40_code (6 : Nat) (Option.some Jvm.ClassFile.FieldType.boolean)) ∈ lw_all := lw_g (lw_at lw_m10 161 rfl) rfl
theorem q2747 : (Jvm.Cond.methodLink "TypeHouse$Expander" (380 : Nat) ({ cls := "TypeHouse$Expander", name := "isLetter", desc := "(IC)Z" } : Jvm.MethodName)) ∈ lw_all := lw_g (lw_at lw_m10 162 rfl) rfl
theorem q2748 : (Jvm.Cond.static ({ cls := "TypeHouse$Expander", name := "isLetter", desc := "(IC)Z" } : Jvm.MethodName)) ∈ lw_all := lw_g (lw_at lw_m10 163 rfl) rfl
theorem q2749 : (Jvm.Cond.code ({ cls := "TypeHouse$Expander", name := "isLetter", desc := "(IC)Z" } : Jvm.MethodName) prog_4_method_39_code (2 : Nat) (Option.some Jvm.ClassFile.FieldType.boolean)) ∈ lw_all := lw_g (lw_at lw_m10 164 rfl) rfl
theorem q2750 : (Jvm.Cond.methodLink "TypeHouse$Expander" (384 : Nat) ({ cls := "java/lang/String", name := "length", desc := "()I" } : Jvm.MethodName)) ∈ lw_all := lw_g (lw_at lw_m10 165 rfl) rfl
theorem q2752 : (Jvm.Cond.constantLong "TypeHouse$Expander" (425 : Nat) (786432 : Int64)) ∈ lw_all := lw_g (lw_at lw_m10 167 rfl) rfl
theorem q2754 : (Jvm.Cond.constantLong "TypeHouse$Expander" (429 : Nat) (100 : Int64)) ∈ lw_all := lw_g (lw_at lw_m10 169 rfl) rfl
theorem q2756 : (Jvm.Cond.constantLong "TypeHouse$Expander" (433 : Nat) (7200 : Int64)) ∈ lw_all := lw_g (lw_at lw_m10 171 rfl) rfl
theorem q2758 : (Jvm.Cond.constantLong "TypeHouse$Expander" (437 : Nat) (254 : Int64)) ∈ lw_all := lw_g (lw_at lw_m10 173 rfl) rfl
theorem q2760 : (Jvm.Cond.constantLong "TypeHouse$Expander" (441 : Nat) (2540 : Int64)) ∈ lw_all := lw_g (lw_at lw_m10 175 rfl) rfl
theorem q2763 : (Jvm.Cond.methodLink "TypeHouse$Expander" (447 : Nat) ({ cls := "TypeHouse$Expander", name := "parameter", desc := "(I)I" } : Jvm.MethodName)) ∈ lw_all := lw_g (lw_at lw_m10 178 rfl) rfl
theorem q2765 : (Jvm.Cond.instanceMethod ({ cls := "TypeHouse$Expander", name := "parameter", desc := "(I)I" } : Jvm.MethodName)) ∈ lw_all := lw_g (lw_at lw_m10 180 rfl) rfl
theorem q2766 : (Jvm.Cond.code ({ cls := "TypeHouse$Expander", name := "parameter", desc := "(I)I" } : Jvm.MethodName) prog_4_method_47_code (3 : Nat) (Option.some Jvm.ClassFile.FieldType.int)) ∈ lw_all := lw_g (lw_at lw_m10 181 rfl) rfl
theorem q2767 : (Jvm.Cond.methodLink "TypeHouse$Expander" (400 : Nat) ({ cls := "TypeHouse$FontTable", name := "parameter", desc := "(II)I" } : Jvm.MethodName)) ∈ lw_all := lw_g (lw_at lw_m10 182 rfl) rfl
theorem q2772 : (Jvm.Cond.methodLink "TypeHouse$Expander" (451 : Nat) ({ cls := "TypeHouse$Trouble", name := "fail", desc := "(I)V" } : Jvm.MethodName)) ∈ lw_all := lw_g (lw_at lw_m10 187 rfl) rfl
theorem q2773 : (Jvm.Cond.constantLong "TypeHouse$Expander" (454 : Nat) (473628672 : Int64)) ∈ lw_all := lw_g (lw_at lw_m10 188 rfl) rfl
theorem q2774 : (Jvm.Cond.methodLink "TypeHouse$Expander" (456 : Nat) ({ cls := "TypeHouse$Expander", name := "dropSpace", desc := "()V" } : Jvm.MethodName)) ∈ lw_all := lw_g (lw_at lw_m10 189 rfl) rfl
theorem q2776 : (Jvm.Cond.instanceMethod ({ cls := "TypeHouse$Expander", name := "dropSpace", desc := "()V" } : Jvm.MethodName)) ∈ lw_all := lw_g (lw_at lw_m10 191 rfl) rfl
theorem q2777 : (Jvm.Cond.code ({ cls := "TypeHouse$Expander", name := "dropSpace", desc := "()V" } : Jvm.MethodName) prog_4_method_41_code (2 : Nat) (Option.none : Option Jvm.ClassFile.FieldType)) ∈ lw_all := lw_g (lw_at lw_m10 192 rfl) rfl
theorem q2778 : (Jvm.Cond.methodLink "TypeHouse$Expander" (476 : Nat) ({ cls := "TypeHouse$Expander", name := "size", desc := "(J)I" } : Jvm.MethodName)) ∈ lw_all := lw_g (lw_at lw_m10 193 rfl) rfl
theorem q2780 : (Jvm.Cond.instanceMethod ({ cls := "TypeHouse$Expander", name := "size", desc := "(J)I" } : Jvm.MethodName)) ∈ lw_all := lw_g (lw_at lw_m10 195 rfl) rfl
theorem q2781 : (Jvm.Cond.code ({ cls := "TypeHouse$Expander", name := "size", desc := "(J)I" } : Jvm.MethodName) prog_4_method_46_code (3 : Nat) (Option.some Jvm.ClassFile.FieldType.int)) ∈ lw_all := lw_g (lw_at lw_m10 196 rfl) rfl
theorem q2782 : (Jvm.Cond.constantLong "TypeHouse$Expander" (396 : Nat) (-1073741823 : Int64)) ∈ lw_all := lw_g (lw_at lw_m10 197 rfl) rfl
theorem q2783 : (Jvm.Cond.constantLong "TypeHouse$Expander" (398 : Nat) (1073741823 : Int64)) ∈ lw_all := lw_g (lw_at lw_m10 198 rfl) rfl
theorem q3504 : (Jvm.Cond.fieldLink "TypeHouse$Box" (40 : Nat) "TypeHouse$Box" "from" "I") ∈ lw_all := lw_g (lw_at lw_m13 199 rfl) rfl
theorem q3507 : (Jvm.Cond.fieldLink "TypeHouse$Box" (37 : Nat) "TypeHouse$Box" "to" "I") ∈ lw_all := lw_g (lw_at lw_m13 202 rfl) rfl
theorem q3514 : (Jvm.Cond.fieldLink "TypeHouse$Box" (7 : Nat) "TypeHouse$Box" "width" "I") ∈ lw_all := lw_g (lw_at lw_m13 209 rfl) rfl
theorem q3518 : (Jvm.Cond.fieldLink "TypeHouse$Box" (13 : Nat) "TypeHouse$Box" "height" "I") ∈ lw_all := lw_g (lw_at lw_m13 213 rfl) rfl
theorem q3522 : (Jvm.Cond.fieldLink "TypeHouse$Box" (16 : Nat) "TypeHouse$Box" "depth" "I") ∈ lw_all := lw_g (lw_at lw_m13 217 rfl) rfl
theorem q3526 : (Jvm.Cond.fieldLink "TypeHouse$Box" (19 : Nat) "TypeHouse$Box" "excess" "I") ∈ lw_all := lw_g (lw_at lw_m13 221 rfl) rfl
theorem q3528 : (Jvm.Cond.fieldLink "TypeHouse$Box" (22 : Nat) "TypeHouse$Box" "order" "I") ∈ lw_all := lw_g (lw_at lw_m13 223 rfl) rfl
theorem q3530 : (Jvm.Cond.fieldLink "TypeHouse$Box" (25 : Nat) "TypeHouse$Box" "total" "I") ∈ lw_all := lw_g (lw_at lw_m13 225 rfl) rfl
theorem q3532 : (Jvm.Cond.fieldLink "TypeHouse$Box" (28 : Nat) "TypeHouse$Box" "badness" "I") ∈ lw_all := lw_g (lw_at lw_m13 227 rfl) rfl
theorem q3534 : (Jvm.Cond.fieldLink "TypeHouse$Box" (31 : Nat) "TypeHouse$Box" "overfull" "I") ∈ lw_all := lw_g (lw_at lw_m13 229 rfl) rfl
theorem q3537 : (Jvm.Cond.fieldLink "TypeHouse$Box" (34 : Nat) "TypeHouse$Box" "deep" "I") ∈ lw_all := lw_g (lw_at lw_m13 232 rfl) rfl
theorem q3540 : (Jvm.Cond.fieldLink "TypeHouse$Box" (43 : Nat) "TypeHouse$Box" "all" "I") ∈ lw_all := lw_g (lw_at lw_m13 235 rfl) rfl
theorem q3892 : (Jvm.Cond.methodLinkNest "TypeHouse$Press" (404 : Nat) ({ cls := "TypeHouse$Expander", name := "within", desc := "(I)I" } : Jvm.MethodName) "TypeHouse") ∈ lw_tbl := lw_at lw_m15 107 rfl
theorem q3910 : (Jvm.Cond.instanceMethod ({ cls := "TypeHouse$Expander", name := "let", desc := "(Z)V" } : Jvm.MethodName)) ∈ lw_all := lw_g (lw_at lw_m15 125 rfl) rfl
theorem q3911 : (Jvm.Cond.code ({ cls := "TypeHouse$Expander", name := "let", desc := "(Z)V" } : Jvm.MethodName) prog_4_method_57_code (4 : Nat) (Option.none : Option Jvm.ClassFile.FieldType)) ∈ lw_all := lw_g (lw_at lw_m15 126 rfl) rfl
theorem q3912 : (Jvm.Cond.methodLink "TypeHouse$Expander" (501 : Nat) ({ cls := "TypeHouse$Expander", name := "target", desc := "()I" } : Jvm.MethodName)) ∈ lw_all := lw_g (lw_at lw_m15 127 rfl) rfl
theorem q3914 : (Jvm.Cond.instanceMethod ({ cls := "TypeHouse$Expander", name := "target", desc := "()I" } : Jvm.MethodName)) ∈ lw_all := lw_g (lw_at lw_m15 129 rfl) rfl
theorem q3915 : (Jvm.Cond.code ({ cls := "TypeHouse$Expander", name := "target", desc := "()I" } : Jvm.MethodName) prog_4_method_55_code (2 : Nat) (Option.some Jvm.ClassFile.FieldType.int)) ∈ lw_all := lw_g (lw_at lw_m15 130 rfl) rfl
theorem q3916 : (Jvm.Cond.methodLinkNest "TypeHouse$Press" (744 : Nat) ({ cls := "TypeHouse$Expander", name := "target", desc := "()I" } : Jvm.MethodName) "TypeHouse") ∈ lw_tbl := lw_at lw_m15 131 rfl
theorem q3917 : (Jvm.Cond.methodLinkNest "TypeHouse$Press" (747 : Nat) ({ cls := "TypeHouse$Expander", name := "equals", desc := "()V" } : Jvm.MethodName) "TypeHouse") ∈ lw_tbl := lw_at lw_m15 132 rfl
theorem q3919 : (Jvm.Cond.instanceMethod ({ cls := "TypeHouse$Expander", name := "equals", desc := "()V" } : Jvm.MethodName)) ∈ lw_all := lw_g (lw_at lw_m15 134 rfl) rfl
theorem q3920 : (Jvm.Cond.code ({ cls := "TypeHouse$Expander", name := "equals", desc := "()V" } : Jvm.MethodName) prog_4_method_56_code (2 : Nat) (Option.none : Option Jvm.ClassFile.FieldType)) ∈ lw_all := lw_g (lw_at lw_m15 135 rfl) rfl
theorem q3921 : (Jvm.Cond.methodLink "TypeHouse$Press" (750 : Nat) ({ cls := "TypeHouse$Settings", name := "mean", desc := "(IIIZ)V" } : Jvm.MethodName)) ∈ lw_all := lw_g (lw_at lw_m15 136 rfl) rfl
theorem q3924 : (Jvm.Cond.instanceMethod ({ cls := "TypeHouse$Press", name := "newFont", desc := "(Z)V" } : Jvm.MethodName)) ∈ lw_all := lw_g (lw_at lw_m15 139 rfl) rfl
theorem q3925 : (Jvm.Cond.code ({ cls := "TypeHouse$Press", name := "newFont", desc := "(Z)V" } : Jvm.MethodName) prog_26_method_56_code (6 : Nat) (Option.none : Option Jvm.ClassFile.FieldType)) ∈ lw_all := lw_g (lw_at lw_m15 140 rfl) rfl
theorem q3927 : (Jvm.Cond.methodLinkNest "TypeHouse$Press" (412 : Nat) ({ cls := "TypeHouse$Expander", name := "keyword", desc := "(Ljava/lang/String;)Z" } : Jvm.MethodName) "TypeHouse") ∈ lw_tbl := lw_at lw_m15 142 rfl
theorem q3928 : (Jvm.Cond.methodLinkNest "TypeHouse$Press" (418 : Nat) ({ cls := "TypeHouse$Expander", name := "dimension", desc := "()I" } : Jvm.MethodName) "TypeHouse") ∈ lw_tbl := lw_at lw_m15 143 rfl
theorem q3929 : (Jvm.Cond.constant "TypeHouse$Press" (769 : Nat) (134217727 : Int32)) ∈ lw_all := lw_g (lw_at lw_m15 144 rfl) rfl
theorem q3930 : (Jvm.Cond.methodLink "TypeHouse$Press" (770 : Nat) ({ cls := "TypeHouse$FontTable", name := "find", desc := "(II)I" } : Jvm.MethodName)) ∈ lw_all := lw_g (lw_at lw_m15 145 rfl) rfl
theorem q3931 : (Jvm.Cond.instanceMethod ({ cls := "TypeHouse$FontTable", name := "find", desc := "(II)I" } : Jvm.MethodName)) ∈ lw_all := lw_g (lw_at lw_m15 146 rfl) rfl
theorem q3932 : (Jvm.Cond.selects "TypeHouse$FontTable" ({ cls := "TypeHouse$FontTable", name := "find", desc := "(II)I" } : Jvm.MethodName) ({ cls := "TypeHouse$FontTable", name := "find", desc := "(II)I" } : Jvm.MethodName)) ∈ lw_all := lw_g (lw_at lw_m15 147 rfl) rfl
theorem q3933 : (Jvm.Cond.code ({ cls := "TypeHouse$FontTable", name := "find", desc := "(II)I" } : Jvm.MethodName) prog_9_method_4_code (5 : Nat) (Option.some Jvm.ClassFile.FieldType.int)) ∈ lw_all := lw_g (lw_at lw_m15 148 rfl) rfl
theorem q3934 : (Jvm.Cond.methodLink "TypeHouse$FontTable" (61 : Nat) ({ cls := "TypeHouse$FontFile", name := "whole", desc := "(I)I" } : Jvm.MethodName)) ∈ lw_all := lw_g (lw_at lw_m15 149 rfl) rfl
theorem q3935 : (Jvm.Cond.constant "TypeHouse$FontTable" (65 : Nat) (134217727 : Int32)) ∈ lw_all := lw_g (lw_at lw_m15 150 rfl) rfl
theorem q3936 : (Jvm.Cond.methodLink "TypeHouse$FontTable" (66 : Nat) ({ cls := "java/lang/Math", name := "min", desc := "(II)I" } : Jvm.MethodName)) ∈ lw_all := lw_g (lw_at lw_m15 151 rfl) rfl
theorem q3937 : (Jvm.Cond.methodLink "TypeHouse$FontTable" (75 : Nat) ({ cls := "TypeHouse$Font", name := "take", desc := "(LTypeHouse$FontFile;I)I" } : Jvm.MethodName)) ∈ lw_all := lw_g (lw_at lw_m15 152 rfl) rfl
theorem q3938 : (Jvm.Cond.instanceMethod ({ cls := "TypeHouse$Font", name := "take", desc := "(LTypeHouse$FontFile;I)I" } : Jvm.MethodName)) ∈ lw_all := lw_g (lw_at lw_m15 153 rfl) rfl
theorem q3939 : (Jvm.Cond.selects "TypeHouse$Font" ({ cls := "TypeHouse$Font", name := "take", desc := "(LTypeHouse$FontFile;I)I" } : Jvm.MethodName) ({ cls := "TypeHouse$Font", name := "take", desc := "(LTypeHouse$FontFile;I)I" } : Jvm.MethodName)) ∈ lw_all := lw_g (lw_at lw_m15 154 rfl) rfl
theorem q3940 : (Jvm.Cond.code ({ cls := "TypeHouse$Font", name := "take", desc := "(LTypeHouse$FontFile;I)I" } : Jvm.MethodName) prog_7_method_22_code (8 : Nat) (Option.some Jvm.ClassFile.FieldType.int)) ∈ lw_all := lw_g (lw_at lw_m15 155 rfl) rfl
theorem q3941 : (Jvm.Cond.methodLink "TypeHouse$Font" (113 : Nat) ({ cls := "TypeHouse$Font", name := "check", desc := "(LTypeHouse$FontFile;)I" } : Jvm.MethodName)) ∈ lw_all := lw_g (lw_at lw_m15 156 rfl) rfl
theorem q3942 : (Jvm.Cond.constant "TypeHouse$Font" (119 : Nat) (134217727 : Int32)) ∈ lw_all := lw_g (lw_at lw_m15 157 rfl) rfl
theorem q3943 : (Jvm.Cond.methodLink "TypeHouse$Font" (120 : Nat) ({ cls := "java/lang/Math", name := "min", desc := "(II)I" } : Jvm.MethodName)) ∈ lw_all := lw_g (lw_at lw_m15 158 rfl) rfl
theorem q3944 : (Jvm.Cond.constant "TypeHouse$Font" (126 : Nat) (8388608 : Int32)) ∈ lw_all := lw_g (lw_at lw_m15 159 rfl) rfl
theorem q3945 : (Jvm.Cond.methodLink "TypeHouse$Font" (127 : Nat) ({ cls := "TypeHouse$Font", name := "scale", desc := "(III)I" } : Jvm.MethodName)) ∈ lw_all := lw_g (lw_at lw_m15 160 rfl) rfl
theorem q3946 : (Jvm.Cond.static ({ cls := "TypeHouse$Font", name := "scale", desc := "(III)I" } : Jvm.MethodName)) ∈ lw_all := lw_g (lw_at lw_m15 161 rfl) rfl
theorem q3947 : (Jvm.Cond.code ({ cls := "TypeHouse$Font", name := "scale", desc := "(III)I" } : Jvm.MethodName) prog_7_method_23_code (5 : Nat) (Option.some Jvm.ClassFile.FieldType.int)) ∈ lw_all := lw_g (lw_at lw_m15 162 rfl) rfl
theorem q3959 : (Jvm.Cond.instanceMethod ({ cls := "TypeHouse$Expander", name := "counter", desc := "(J)I" } : Jvm.MethodName)) ∈ lw_all := lw_g (lw_at lw_m15 174 rfl) rfl
theorem q3960 : (Jvm.Cond.code ({ cls := "TypeHouse$Expander", name := "counter", desc := "(J)I" } : Jvm.MethodName) prog_4_method_60_code (3 : Nat) (Option.some Jvm.ClassFile.FieldType.int)) ∈ lw_all := lw_g (lw_at lw_m15 175 rfl) rfl
theorem q3961 : (Jvm.Cond.constantLong "TypeHouse$Expander" (518 : Nat) (-2147483647 : Int64)) ∈ lw_all := lw_g (lw_at lw_m15 176 rfl) rfl
theorem q3970 : (Jvm.Cond.instanceMethod ({ cls := "TypeHouse$Expander", name := "stretch", desc := "()I" } : Jvm.MethodName)) ∈ lw_all := lw_g (lw_at lw_m15 185 rfl) rfl
theorem q3971 : (Jvm.Cond.code ({ cls := "TypeHouse$Expander", name := "stretch", desc := "()I" } : Jvm.MethodName) prog_4_method_52_code (10 : Nat) (Option.some Jvm.ClassFile.FieldType.int)) ∈ lw_all := lw_g (lw_at lw_m15 186 rfl) rfl
theorem q3972 : (Jvm.Cond.methodLink "TypeHouse$Expander" (483 : Nat) ({ cls := "TypeHouse$Expander", name := "more", desc := "(I)I" } : Jvm.MethodName)) ∈ lw_all := lw_g (lw_at lw_m15 187 rfl) rfl
theorem q3974 : (Jvm.Cond.instanceMethod ({ cls := "TypeHouse$Expander", name := "more", desc := "(I)I" } : Jvm.MethodName)) ∈ lw_all := lw_g (lw_at lw_m15 189 rfl) rfl
theorem q3975 : (Jvm.Cond.code ({ cls := "TypeHouse$Expander", name := "more", desc := "(I)I" } : Jvm.MethodName) prog_4_method_53_code (2 : Nat) (Option.some Jvm.ClassFile.FieldType.int)) ∈ lw_all := lw_g (lw_at lw_m15 190 rfl) rfl
theorem q3978 : (Jvm.Cond.constantLong "TypeHouse$Expander" (490 : Nat) (16384 : Int64)) ∈ lw_all := lw_g (lw_at lw_m15 193 rfl) rfl
abbrev cX8_target : ByteArray := prog_4_method_55_code
def yX8_target : MethodName := ⟨RX8, "target", "()I"⟩
def YX8_target : eY := (yX8_target, cX8_target, 2, (Option.some FieldType.int), [])
theorem mX8_target : e_mv YX8_target RX8 0 := ⟨q3914, qs192, q3915, by decide, by decide +kernel, (e_sig (by decide +kernel))⟩
theorem dX8_target_0 : decode cX8_target 0 = .ok (.aload_n 0, 1) := dc_42 (by decide +kernel)
theorem dX8_target_1 : decode cX8_target 1 = .ok (.invokevirtual 213, 3) := dc_182 (a := 0) (b := 213) (n := 213) (by decide +kernel)
theorem dX8_target_4 : decode cX8_target 4 = .ok (.istore_n 1, 1) := dc_60 (by decide +kernel)
theorem dX8_target_5 : decode cX8_target 5 = .ok (.iload_n 1, 1) := dc_27 (by decide +kernel)
theorem dX8_target_6 : decode cX8_target 6 = .ok (.bipush 10, 2) := dc_16 (a := 10) (v := 10) (by decide +kernel)
theorem dX8_target_8 : decode cX8_target 8 = .ok (.invokestatic 193, 3) := dc_184 (a := 0) (b := 193) (n := 193) (by decide +kernel)
theorem dX8_target_11 : decode cX8_target 11 = .ok (.ifCond .eq 11, 3) := dc_153 (a := 0) (b := 11) (v := 11) (by decide +kernel)
theorem dX8_target_14 : decode cX8_target 14 = .ok (.aload_n 0, 1) := dc_42 (by decide +kernel)
theorem dX8_target_15 : decode cX8_target 15 = .ok (.invokevirtual 213, 3) := dc_182 (a := 0) (b := 213) (n := 213) (by decide +kernel)
theorem dX8_target_18 : decode cX8_target 18 = .ok (.istore_n 1, 1) := dc_60 (by decide +kernel)
theorem dX8_target_19 : decode cX8_target 19 = .ok (.goto (-14), 3) := dc_167 (a := 255) (b := 242) (v := -14) (by decide +kernel)
theorem dX8_target_22 : decode cX8_target 22 = .ok (.aload_n 0, 1) := dc_42 (by decide +kernel)
theorem dX8_target_23 : decode cX8_target 23 = .ok (.getfield 51, 3) := dc_180 (a := 0) (b := 51) (n := 51) (by decide +kernel)
theorem dX8_target_26 : decode cX8_target 26 = .ok (.iload_n 1, 1) := dc_27 (by decide +kernel)
theorem dX8_target_27 : decode cX8_target 27 = .ok (.invokestatic 165, 3) := dc_184 (a := 0) (b := 165) (n := 165) (by decide +kernel)
theorem dX8_target_30 : decode cX8_target 30 = .ok (.ifCond .ne 7, 3) := dc_154 (a := 0) (b := 7) (v := 7) (by decide +kernel)
theorem dX8_target_33 : decode cX8_target 33 = .ok (.iconst 1, 1) := dc_4 (by decide +kernel)
theorem dX8_target_34 : decode cX8_target 34 = .ok (.goto 4, 3) := dc_167 (a := 0) (b := 4) (v := 4) (by decide +kernel)
theorem dX8_target_37 : decode cX8_target 37 = .ok (.iconst 0, 1) := dc_3 (by decide +kernel)
theorem dX8_target_38 : decode cX8_target 38 = .ok (.bipush 6, 2) := dc_16 (a := 6) (v := 6) (by decide +kernel)
theorem dX8_target_40 : decode cX8_target 40 = .ok (.invokevirtual 145, 3) := dc_182 (a := 0) (b := 145) (n := 145) (by decide +kernel)
theorem dX8_target_43 : decode cX8_target 43 = .ok (.iload_n 1, 1) := dc_27 (by decide +kernel)
theorem dX8_target_44 : decode cX8_target 44 = .ok (.invokestatic 219, 3) := dc_184 (a := 0) (b := 219) (n := 219) (by decide +kernel)
theorem dX8_target_47 : decode cX8_target 47 = .ok (.sipush 4096, 3) := dc_17 (a := 16) (b := 0) (v := 4096) (by decide +kernel)
theorem dX8_target_50 : decode cX8_target 50 = .ok (.isub, 1) := dc_100 (by decide +kernel)
theorem dX8_target_51 : decode cX8_target 51 = .ok (.ireturn, 1) := dc_172 (by decide +kernel)
def fX8_target_b38 (N : Nat) (l1 : Int32) (s0 : Nat) (s1 : Int32) (h : eH) : Option ((Int32 ⊕ Nat) × eH) :=
  (k_ok 3 h s0).bind fun _ =>
  t_B (fX4_want s0 s1 (6 : Int32) h) fun x2 h3 =>
  (fX8_bare l1 h3).bind fun q4 =>
  some (.inl (q4.1 - (4096 : Int32)), q4.2)
theorem pX8_target_b38 {w : eW} {d : Nat} (hd : 14 ≤ d + 1) {N : Nat} {l1 : Int32} {s0 : Nat} {s1 : Int32} {h : eH} {q} (hf : fX8_target_b38 N l1 s0 s1 h = some q) : wp w (d + 1) YX8_target 38 [none, some (.int l1)] [.int s1, .ref s0] h (e_is (e_rt c_I q)) := by
  unfold fX8_target_b38 at hf
  refine w_bipush dX8_target_38 (v := 6) (by decide) ?_
  obtain ⟨_, b1, hf⟩ := Option.bind_eq_some_iff.mp hf
  refine x_ctV hf (e_stV (Yc := YX4_want) (ci := 3) (av := [.int s1, .int (6 : Int32)]) (st := []) dX8_target_40 q2500 mX4_want rfl (k_ok_some b1).1 (k_ok_some b1).2) mX4_want.2.2.1 mX4_want.2.2.2.2.1 (Nat.le_of_ble_eq_true rfl) (Nat.le_of_ble_eq_true rfl) rfl (fun q hq => pX4_want (by omega) hq) (fun x2 h3 hf => ?_)
  refine w_iload_n dX8_target_43 rfl rfl ?_
  refine x_cnI hf (e_stS (Yc := YX8_bare) (av := [.int l1]) (st := []) dX8_target_44 q2510 mX8_bare) mX8_bare.2.2.1 mX8_bare.2.2.2.2.1 (Nat.le_of_ble_eq_true rfl) (Nat.le_of_ble_eq_true rfl) (fun q hq => pX8_bare (by omega) hq) (fun q4 hf => ?_)
  refine w_sipush dX8_target_47 (v := 4096) (by decide) ?_
  refine w_isub dX8_target_50 ?_
  cases hf
  exact w_iret dX8_target_51 rfl rfl rfl
def fX8_target_b5 (N : Nat) : Nat → Nat → Int32 → eH → Option ((Int32 ⊕ Nat) × eH)
  | 0, _, _, _ => none
  | n + 1, l0, l1, h =>
    (fX1_is l1 (10 : Int32) h).bind fun q1 =>
    if q1.1 = 0 then
      (g_A 7 q1.2 l0 0).bind fun a3 =>
      (fX1_isCharacter l1 q1.2).bind fun q5 =>
      if ¬ q5.1 = 0 then
        fX8_target_b38 N l1 a3 (0 : Int32) q5.2
      else
        fX8_target_b38 N l1 a3 (1 : Int32) q5.2
    else
      (k_ok 7 q1.2 l0).bind fun _ =>
      t_B (fX8_need N l0 q1.2) fun x8 h9 =>
      fX8_target_b5 N n l0 x8 h9
theorem pX8_target_b5 {w : eW} {d : Nat} (hd : 14 ≤ d + 1) {N : Nat} : ∀ (n : Nat) l0 l1 h q, fX8_target_b5 N n l0 l1 h = some q → wp w (d + 1) YX8_target 5 [some (.ref l0), some (.int l1)] [] h (e_is (e_rt c_I q)) := by
  intro n
  induction n with
  | zero => intro l0 l1 h q hf; simp [fX8_target_b5] at hf
  | succ n ih =>
    intro l0 l1 h q hf
    rw [fX8_target_b5] at hf
    refine w_iload_n dX8_target_5 rfl rfl ?_
    refine w_bipush dX8_target_6 (v := 10) (by decide) ?_
    refine x_cnI hf (e_stSN (Yc := YX1_is) (av := [.int l1, .int (10 : Int32)]) (st := []) dX8_target_8 q2518 mX1_is) mX1_is.2.2.1 mX1_is.2.2.2.2.1 (Nat.le_of_ble_eq_true rfl) (Nat.le_of_ble_eq_true rfl) (fun q hq => pX1_is (by omega) hq) (fun q1 hf => ?_)
    refine w_if_eq 22 dX8_target_11 (by decide) (fun c2 => ?_) (fun c2 => ?_)
    · replace hf := (if_pos (show q1.1 = 0 from c2)).symm.trans hf
      refine w_aload_n dX8_target_22 rfl rfl ?_
      obtain ⟨a3, b4, hf⟩ := Option.bind_eq_some_iff.mp hf
      refine GX8_51 b4 dX8_target_23 rfl ?_
      refine w_iload_n dX8_target_26 rfl rfl ?_
      refine x_cnI hf (e_stSN (Yc := YX1_isCharacter) (av := [.int l1]) (st := [.ref a3]) dX8_target_27 q2485 mX1_isCharacter) mX1_isCharacter.2.2.1 mX1_isCharacter.2.2.2.2.1 (Nat.le_of_ble_eq_true rfl) (Nat.le_of_ble_eq_true rfl) (fun q hq => pX1_isCharacter (by omega) hq) (fun q5 hf => ?_)
      refine w_if_ne 37 dX8_target_30 (by decide) (fun c6 => ?_) (fun c6 => ?_)
      · replace hf := (if_pos (show ¬ q5.1 = 0 from c6)).symm.trans hf
        refine w_iconst dX8_target_37 (v := 0) (by decide) ?_
        exact (pX8_target_b38 hd hf).to ⟨rfl, trivial⟩
      · replace hf := (if_neg (show ¬ (¬ q5.1 = 0) from (fun z => z c6))).symm.trans hf
        refine w_iconst dX8_target_33 (v := 1) (by decide) ?_
        refine w_goto 38 dX8_target_34 (by decide) ?_
        exact (pX8_target_b38 hd hf).to ⟨rfl, trivial⟩
    · replace hf := (if_neg (show ¬ (q1.1 = 0) from c2)).symm.trans hf
      refine w_aload_n dX8_target_14 rfl rfl ?_
      obtain ⟨_, b7, hf⟩ := Option.bind_eq_some_iff.mp hf
      refine x_ctI hf (e_stV (Yc := YX8_need) (ci := 7) (av := []) (st := []) dX8_target_15 q2506 mX8_need rfl (k_ok_some b7).1 (k_ok_some b7).2) mX8_need.2.2.1 mX8_need.2.2.2.2.1 (Nat.le_of_ble_eq_true rfl) (Nat.le_of_ble_eq_true rfl) rfl (fun q hq => pX8_need (by omega) hq) (fun x8 h9 hf => ?_)
      refine w_istore_n dX8_target_18 rfl (by decide) (ls' := [some (.ref l0), some (.int x8)]) rfl ?_
      refine w_goto 5 dX8_target_19 (by decide) ?_
      exact (ih _ _ _ _ hf).to ⟨rfl, rfl, trivial⟩
def fX8_target (N : Nat) (this : Nat) (h : eH) : Option ((Int32 ⊕ Nat) × eH) :=
  (k_ok 7 h this).bind fun _ =>
  t_B (fX8_need N this h) fun x2 h3 =>
  fX8_target_b5 N N this x2 h3
theorem pX8_target {w : eW} {d : Nat} (hd : 14 ≤ d) {N : Nat} {this : Nat} {h : eH} {q} (hf : fX8_target N this h = some q) : wm w d YX8_target [.ref this] h (e_is (e_rt c_I q)) := by
  obtain ⟨d, rfl⟩ : ∃ e, d = e + 1 := ⟨d - 1, by omega⟩
  show wp w (d + 1) YX8_target 0 [some (.ref this), none] [] h _
  unfold fX8_target at hf
  refine w_aload_n dX8_target_0 rfl rfl ?_
  obtain ⟨_, b1, hf⟩ := Option.bind_eq_some_iff.mp hf
  refine x_ctI hf (e_stV (Yc := YX8_need) (ci := 7) (av := []) (st := []) dX8_target_1 q2506 mX8_need rfl (k_ok_some b1).1 (k_ok_some b1).2) mX8_need.2.2.1 mX8_need.2.2.2.2.1 (Nat.le_of_ble_eq_true rfl) (Nat.le_of_ble_eq_true rfl) rfl (fun q hq => pX8_need (by omega) hq) (fun x2 h3 hf => ?_)
  refine w_istore_n dX8_target_4 rfl (by decide) (ls' := [some (.ref this), some (.int x2)]) rfl ?_
  exact (pX8_target_b5 hd N _ _ _ _ hf).to ⟨rfl, rfl, trivial⟩
abbrev cX1_other : ByteArray := prog_1_method_7_code
def yX1_other : MethodName := ⟨RX1, "other", "(I)I"⟩
def YX1_other : eY := (yX1_other, cX1_other, 1, (Option.some FieldType.int), [])
theorem mX1_other : e_ms YX1_other 1 := ⟨q2580, q426, q2581, by decide, by decide +kernel, (e_sig (by decide +kernel))⟩
theorem dX1_other_0 : decode cX1_other 0 = .ok (.iload_n 0, 1) := dc_26 (by decide +kernel)
theorem dX1_other_1 : decode cX1_other 1 = .ok (.bipush 32, 2) := dc_16 (a := 32) (v := 32) (by decide +kernel)
theorem dX1_other_3 : decode cX1_other 3 = .ok (.if_icmp .ne 8, 3) := dc_160 (a := 0) (b := 8) (v := 8) (by decide +kernel)
theorem dX1_other_6 : decode cX1_other 6 = .ok (.bipush 10, 2) := dc_16 (a := 10) (v := 10) (by decide +kernel)
theorem dX1_other_8 : decode cX1_other 8 = .ok (.goto 5, 3) := dc_167 (a := 0) (b := 5) (v := 5) (by decide +kernel)
theorem dX1_other_11 : decode cX1_other 11 = .ok (.bipush 12, 2) := dc_16 (a := 12) (v := 12) (by decide +kernel)
theorem dX1_other_13 : decode cX1_other 13 = .ok (.bipush 8, 2) := dc_16 (a := 8) (v := 8) (by decide +kernel)
theorem dX1_other_15 : decode cX1_other 15 = .ok (.ishl, 1) := dc_120 (by decide +kernel)
theorem dX1_other_16 : decode cX1_other 16 = .ok (.iload_n 0, 1) := dc_26 (by decide +kernel)
theorem dX1_other_17 : decode cX1_other 17 = .ok (.ior, 1) := dc_128 (by decide +kernel)
theorem dX1_other_18 : decode cX1_other 18 = .ok (.ireturn, 1) := dc_172 (by decide +kernel)
def fX1_other_b13 (l0 : Int32) (s0 : Int32) (h : eH) : Option (Int32 × eH) :=
  some (((s0 <<< ((8 : Int32) &&& 31)) ||| l0), h)
theorem pX1_other_b13 {w : eW} {d : Nat} (hd : 0 ≤ d) {l0 : Int32} {s0 : Int32} {h : eH} {q} (hf : fX1_other_b13 l0 s0 h = some q) : wp w d YX1_other 13 [some (.int l0)] [.int s0] h (e_is (e_rn c_I q)) := by
  unfold fX1_other_b13 at hf
  refine w_bipush dX1_other_13 (v := 8) (by decide) ?_
  refine w_ishl dX1_other_15 ?_
  refine w_iload_n dX1_other_16 rfl rfl ?_
  refine w_ior dX1_other_17 ?_
  cases hf
  exact w_iret dX1_other_18 rfl rfl rfl
def fX1_other (p0 : Int32) (h : eH) : Option (Int32 × eH) :=
  if ¬ p0 = (32 : Int32) then
    fX1_other_b13 p0 (12 : Int32) h
  else
    fX1_other_b13 p0 (10 : Int32) h
theorem pX1_other {w : eW} {d : Nat} (hd : 0 ≤ d) {p0 : Int32} {h : eH} {q} (hf : fX1_other p0 h = some q) : wm w d YX1_other [.int p0] h (e_is (e_rn c_I q)) := by
  show wp w d YX1_other 0 [some (.int p0)] [] h _
  unfold fX1_other at hf
  refine w_iload_n dX1_other_0 rfl rfl ?_
  refine w_bipush dX1_other_1 (v := 32) (by decide) ?_
  refine w_icmp_ne 11 dX1_other_3 (by decide) (fun c1 => ?_) (fun c1 => ?_)
  · replace hf := (if_pos (show ¬ p0 = (32 : Int32) from c1)).symm.trans hf
    refine w_bipush dX1_other_11 (v := 12) (by decide) ?_
    exact (pX1_other_b13 hd hf).to ⟨rfl, trivial⟩
  · replace hf := (if_neg (show ¬ (¬ p0 = (32 : Int32)) from (fun z => z c1))).symm.trans hf
    refine w_bipush dX1_other_6 (v := 10) (by decide) ?_
    refine w_goto 13 dX1_other_8 (by decide) ?_
    exact (pX1_other_b13 hd hf).to ⟨rfl, trivial⟩
abbrev cX8_let : ByteArray := prog_4_method_57_code
def yX8_let : MethodName := ⟨RX8, "let", "(Z)V"⟩
def YX8_let : eY := (yX8_let, cX8_let, 4, none, [])
theorem mX8_let : e_mv YX8_let RX8 1 := ⟨q3910, qs191, q3911, by decide, by decide +kernel, (e_sig (by decide +kernel))⟩
theorem dX8_let_0 : decode cX8_let 0 = .ok (.aload_n 0, 1) := dc_42 (by decide +kernel)
theorem dX8_let_1 : decode cX8_let 1 = .ok (.invokevirtual 501, 3) := dc_182 (a := 1) (b := 245) (n := 501) (by decide +kernel)
theorem dX8_let_4 : decode cX8_let 4 = .ok (.istore_n 2, 1) := dc_61 (by decide +kernel)
theorem dX8_let_5 : decode cX8_let 5 = .ok (.aload_n 0, 1) := dc_42 (by decide +kernel)
theorem dX8_let_6 : decode cX8_let 6 = .ok (.invokevirtual 213, 3) := dc_182 (a := 0) (b := 213) (n := 213) (by decide +kernel)
theorem dX8_let_9 : decode cX8_let 9 = .ok (.istore_n 3, 1) := dc_62 (by decide +kernel)
theorem dX8_let_10 : decode cX8_let 10 = .ok (.iload_n 3, 1) := dc_29 (by decide +kernel)
theorem dX8_let_11 : decode cX8_let 11 = .ok (.bipush 10, 2) := dc_16 (a := 10) (v := 10) (by decide +kernel)
theorem dX8_let_13 : decode cX8_let 13 = .ok (.invokestatic 193, 3) := dc_184 (a := 0) (b := 193) (n := 193) (by decide +kernel)
theorem dX8_let_16 : decode cX8_let 16 = .ok (.ifCond .eq 11, 3) := dc_153 (a := 0) (b := 11) (v := 11) (by decide +kernel)
theorem dX8_let_19 : decode cX8_let 19 = .ok (.aload_n 0, 1) := dc_42 (by decide +kernel)
theorem dX8_let_20 : decode cX8_let 20 = .ok (.invokevirtual 213, 3) := dc_182 (a := 0) (b := 213) (n := 213) (by decide +kernel)
theorem dX8_let_23 : decode cX8_let 23 = .ok (.istore_n 3, 1) := dc_62 (by decide +kernel)
theorem dX8_let_24 : decode cX8_let 24 = .ok (.goto (-14), 3) := dc_167 (a := 255) (b := 242) (v := -14) (by decide +kernel)
theorem dX8_let_27 : decode cX8_let 27 = .ok (.iload_n 3, 1) := dc_29 (by decide +kernel)
theorem dX8_let_28 : decode cX8_let 28 = .ok (.bipush 61, 2) := dc_16 (a := 61) (v := 61) (by decide +kernel)
theorem dX8_let_30 : decode cX8_let 30 = .ok (.invokestatic 255, 3) := dc_184 (a := 0) (b := 255) (n := 255) (by decide +kernel)
theorem dX8_let_33 : decode cX8_let 33 = .ok (.if_icmp .ne 22, 3) := dc_160 (a := 0) (b := 22) (v := 22) (by decide +kernel)
theorem dX8_let_36 : decode cX8_let 36 = .ok (.aload_n 0, 1) := dc_42 (by decide +kernel)
theorem dX8_let_37 : decode cX8_let 37 = .ok (.invokevirtual 213, 3) := dc_182 (a := 0) (b := 213) (n := 213) (by decide +kernel)
theorem dX8_let_40 : decode cX8_let 40 = .ok (.istore_n 3, 1) := dc_62 (by decide +kernel)
theorem dX8_let_41 : decode cX8_let 41 = .ok (.iload_n 3, 1) := dc_29 (by decide +kernel)
theorem dX8_let_42 : decode cX8_let 42 = .ok (.bipush 10, 2) := dc_16 (a := 10) (v := 10) (by decide +kernel)
theorem dX8_let_44 : decode cX8_let 44 = .ok (.invokestatic 193, 3) := dc_184 (a := 0) (b := 193) (n := 193) (by decide +kernel)
theorem dX8_let_47 : decode cX8_let 47 = .ok (.ifCond .eq 8, 3) := dc_153 (a := 0) (b := 8) (v := 8) (by decide +kernel)
theorem dX8_let_50 : decode cX8_let 50 = .ok (.aload_n 0, 1) := dc_42 (by decide +kernel)
theorem dX8_let_51 : decode cX8_let 51 = .ok (.invokevirtual 213, 3) := dc_182 (a := 0) (b := 213) (n := 213) (by decide +kernel)
theorem dX8_let_54 : decode cX8_let 54 = .ok (.istore_n 3, 1) := dc_62 (by decide +kernel)
theorem dX8_let_55 : decode cX8_let 55 = .ok (.aload_n 0, 1) := dc_42 (by decide +kernel)
theorem dX8_let_56 : decode cX8_let 56 = .ok (.getfield 12, 3) := dc_180 (a := 0) (b := 12) (n := 12) (by decide +kernel)
theorem dX8_let_59 : decode cX8_let 59 = .ok (.iload_n 2, 1) := dc_28 (by decide +kernel)
theorem dX8_let_60 : decode cX8_let 60 = .ok (.aload_n 0, 1) := dc_42 (by decide +kernel)
theorem dX8_let_61 : decode cX8_let 61 = .ok (.iload_n 3, 1) := dc_29 (by decide +kernel)
theorem dX8_let_62 : decode cX8_let 62 = .ok (.invokevirtual 174, 3) := dc_182 (a := 0) (b := 174) (n := 174) (by decide +kernel)
theorem dX8_let_65 : decode cX8_let 65 = .ok (.aload_n 0, 1) := dc_42 (by decide +kernel)
theorem dX8_let_66 : decode cX8_let 66 = .ok (.iload_n 3, 1) := dc_29 (by decide +kernel)
theorem dX8_let_67 : decode cX8_let 67 = .ok (.invokevirtual 178, 3) := dc_182 (a := 0) (b := 178) (n := 178) (by decide +kernel)
theorem dX8_let_70 : decode cX8_let 70 = .ok (.iload_n 1, 1) := dc_27 (by decide +kernel)
theorem dX8_let_71 : decode cX8_let 71 = .ok (.invokevirtual 107, 3) := dc_182 (a := 0) (b := 107) (n := 107) (by decide +kernel)
theorem dX8_let_74 : decode cX8_let 74 = .ok (.return_, 1) := dc_177 (by decide +kernel)
def fX8_let_b55 (N : Nat) (l0 : Nat) (l1 : Int32) (l2 : Int32) (l3 : Int32) (h : eH) : Option ((Unit ⊕ Nat) × eH) :=
  (g_A 7 h l0 4).bind fun a1 =>
  (k_ok 7 h l0).bind fun _ =>
  (fX8_kind l0 l3 h).bind fun q4 =>
  (k_ok 7 q4.2 l0).bind fun _ =>
  (fX8_value l0 l3 q4.2).bind fun q6 =>
  (k_ok 8 q6.2 a1).bind fun _ =>
  (fX9_mean N a1 l2 q4.1 q6.1 l1 q6.2).bind fun q8 =>
  some (.inl (), q8.2)
theorem pX8_let_b55 {w : eW} {d : Nat} (hd : 15 ≤ d + 1) {N : Nat} {l0 : Nat} {l1 : Int32} {l2 : Int32} {l3 : Int32} {h : eH} {q} (hf : fX8_let_b55 N l0 l1 l2 l3 h = some q) : wp w (d + 1) YX8_let 55 [some (.ref l0), some (.int l1), some (.int l2), some (.int l3)] [] h (e_is (e_rt c_V q)) := by
  unfold fX8_let_b55 at hf
  refine w_aload_n dX8_let_55 rfl rfl ?_
  obtain ⟨a1, b2, hf⟩ := Option.bind_eq_some_iff.mp hf
  refine GX8_12 b2 dX8_let_56 rfl ?_
  refine w_iload_n dX8_let_59 rfl rfl ?_
  refine w_aload_n dX8_let_60 rfl rfl ?_
  refine w_iload_n dX8_let_61 rfl rfl ?_
  obtain ⟨_, b3, hf⟩ := Option.bind_eq_some_iff.mp hf
  refine x_cnI hf (e_stV (Yc := YX8_kind) (ci := 7) (av := [.int l3]) (st := [.int l2, .ref a1]) dX8_let_62 q2477 mX8_kind rfl (k_ok_some b3).1 (k_ok_some b3).2) mX8_kind.2.2.1 mX8_kind.2.2.2.2.1 (Nat.le_of_ble_eq_true rfl) (Nat.le_of_ble_eq_true rfl) (fun q hq => pX8_kind (by omega) hq) (fun q4 hf => ?_)
  refine w_aload_n dX8_let_65 rfl rfl ?_
  refine w_iload_n dX8_let_66 rfl rfl ?_
  obtain ⟨_, b5, hf⟩ := Option.bind_eq_some_iff.mp hf
  refine x_cnI hf (e_stV (Yc := YX8_value) (ci := 7) (av := [.int l3]) (st := [.int q4.1, .int l2, .ref a1]) dX8_let_67 q2488 mX8_value rfl (k_ok_some b5).1 (k_ok_some b5).2) mX8_value.2.2.1 mX8_value.2.2.2.2.1 (Nat.le_of_ble_eq_true rfl) (Nat.le_of_ble_eq_true rfl) (fun q hq => pX8_value (by omega) hq) (fun q6 hf => ?_)
  refine w_iload_n dX8_let_70 rfl rfl ?_
  obtain ⟨_, b7, hf⟩ := Option.bind_eq_some_iff.mp hf
  refine x_cnV hf (e_stV (Yc := YX9_mean) (ci := 8) (av := [.int l2, .int q4.1, .int q6.1, .int l1]) (st := []) dX8_let_71 q2011 mX9_mean rfl (k_ok_some b7).1 (k_ok_some b7).2) mX9_mean.2.2.1 mX9_mean.2.2.2.2.1 (Nat.le_of_ble_eq_true rfl) (Nat.le_of_ble_eq_true rfl) (fun q hq => pX9_mean (by omega) hq) (fun q8 hf => ?_)
  cases hf
  exact w_vret dX8_let_74 rfl rfl
def fX8_let_b10 (N : Nat) : Nat → Nat → Int32 → Int32 → Int32 → eH → Option ((Unit ⊕ Nat) × eH)
  | 0, _, _, _, _, _ => none
  | n + 1, l0, l1, l2, l3, h =>
    (fX1_is l3 (10 : Int32) h).bind fun q1 =>
    if q1.1 = 0 then
      (fX1_other (61 : Int32) q1.2).bind fun q3 =>
      if ¬ l3 = q3.1 then
        fX8_let_b55 N l0 l1 l2 l3 q3.2
      else
        (k_ok 7 q3.2 l0).bind fun _ =>
        t_B (fX8_need N l0 q3.2) fun x6 h7 =>
        (fX1_is x6 (10 : Int32) h7).bind fun q8 =>
        if q8.1 = 0 then
          fX8_let_b55 N l0 l1 l2 x6 q8.2
        else
          (k_ok 7 q8.2 l0).bind fun _ =>
          t_B (fX8_need N l0 q8.2) fun x11 h12 =>
          fX8_let_b55 N l0 l1 l2 x11 h12
    else
      (k_ok 7 q1.2 l0).bind fun _ =>
      t_B (fX8_need N l0 q1.2) fun x14 h15 =>
      fX8_let_b10 N n l0 l1 l2 x14 h15
theorem pX8_let_b10 {w : eW} {d : Nat} (hd : 15 ≤ d + 1) {N : Nat} : ∀ (n : Nat) l0 l1 l2 l3 h q, fX8_let_b10 N n l0 l1 l2 l3 h = some q → wp w (d + 1) YX8_let 10 [some (.ref l0), some (.int l1), some (.int l2), some (.int l3)] [] h (e_is (e_rt c_V q)) := by
  intro n
  induction n with
  | zero => intro l0 l1 l2 l3 h q hf; simp [fX8_let_b10] at hf
  | succ n ih =>
    intro l0 l1 l2 l3 h q hf
    rw [fX8_let_b10] at hf
    refine w_iload_n dX8_let_10 rfl rfl ?_
    refine w_bipush dX8_let_11 (v := 10) (by decide) ?_
    refine x_cnI hf (e_stSN (Yc := YX1_is) (av := [.int l3, .int (10 : Int32)]) (st := []) dX8_let_13 q2518 mX1_is) mX1_is.2.2.1 mX1_is.2.2.2.2.1 (Nat.le_of_ble_eq_true rfl) (Nat.le_of_ble_eq_true rfl) (fun q hq => pX1_is (by omega) hq) (fun q1 hf => ?_)
    refine w_if_eq 27 dX8_let_16 (by decide) (fun c2 => ?_) (fun c2 => ?_)
    · replace hf := (if_pos (show q1.1 = 0 from c2)).symm.trans hf
      refine w_iload_n dX8_let_27 rfl rfl ?_
      refine w_bipush dX8_let_28 (v := 61) (by decide) ?_
      refine x_cnI hf (e_stSN (Yc := YX1_other) (av := [.int (61 : Int32)]) (st := [.int l3]) dX8_let_30 q2579 mX1_other) mX1_other.2.2.1 mX1_other.2.2.2.2.1 (Nat.le_of_ble_eq_true rfl) (Nat.le_of_ble_eq_true rfl) (fun q hq => pX1_other (by omega) hq) (fun q3 hf => ?_)
      refine w_icmp_ne 55 dX8_let_33 (by decide) (fun c4 => ?_) (fun c4 => ?_)
      · replace hf := (if_pos (show ¬ l3 = q3.1 from c4)).symm.trans hf
        exact (pX8_let_b55 hd hf).to ⟨rfl, rfl, rfl, rfl, trivial⟩
      · replace hf := (if_neg (show ¬ (¬ l3 = q3.1) from (fun z => z c4))).symm.trans hf
        refine w_aload_n dX8_let_36 rfl rfl ?_
        obtain ⟨_, b5, hf⟩ := Option.bind_eq_some_iff.mp hf
        refine x_ctI hf (e_stV (Yc := YX8_need) (ci := 7) (av := []) (st := []) dX8_let_37 q2506 mX8_need rfl (k_ok_some b5).1 (k_ok_some b5).2) mX8_need.2.2.1 mX8_need.2.2.2.2.1 (Nat.le_of_ble_eq_true rfl) (Nat.le_of_ble_eq_true rfl) rfl (fun q hq => pX8_need (by omega) hq) (fun x6 h7 hf => ?_)
        refine w_istore_n dX8_let_40 rfl (by decide) (ls' := [some (.ref l0), some (.int l1), some (.int l2), some (.int x6)]) rfl ?_
        refine w_iload_n dX8_let_41 rfl rfl ?_
        refine w_bipush dX8_let_42 (v := 10) (by decide) ?_
        refine x_cnI hf (e_stSN (Yc := YX1_is) (av := [.int x6, .int (10 : Int32)]) (st := []) dX8_let_44 q2518 mX1_is) mX1_is.2.2.1 mX1_is.2.2.2.2.1 (Nat.le_of_ble_eq_true rfl) (Nat.le_of_ble_eq_true rfl) (fun q hq => pX1_is (by omega) hq) (fun q8 hf => ?_)
        refine w_if_eq 55 dX8_let_47 (by decide) (fun c9 => ?_) (fun c9 => ?_)
        · replace hf := (if_pos (show q8.1 = 0 from c9)).symm.trans hf
          exact (pX8_let_b55 hd hf).to ⟨rfl, rfl, rfl, rfl, trivial⟩
        · replace hf := (if_neg (show ¬ (q8.1 = 0) from c9)).symm.trans hf
          refine w_aload_n dX8_let_50 rfl rfl ?_
          obtain ⟨_, b10, hf⟩ := Option.bind_eq_some_iff.mp hf
          refine x_ctI hf (e_stV (Yc := YX8_need) (ci := 7) (av := []) (st := []) dX8_let_51 q2506 mX8_need rfl (k_ok_some b10).1 (k_ok_some b10).2) mX8_need.2.2.1 mX8_need.2.2.2.2.1 (Nat.le_of_ble_eq_true rfl) (Nat.le_of_ble_eq_true rfl) rfl (fun q hq => pX8_need (by omega) hq) (fun x11 h12 hf => ?_)
          refine w_istore_n dX8_let_54 rfl (by decide) (ls' := [some (.ref l0), some (.int l1), some (.int l2), some (.int x11)]) rfl ?_
          exact (pX8_let_b55 hd hf).to ⟨rfl, rfl, rfl, rfl, trivial⟩
    · replace hf := (if_neg (show ¬ (q1.1 = 0) from c2)).symm.trans hf
      refine w_aload_n dX8_let_19 rfl rfl ?_
      obtain ⟨_, b13, hf⟩ := Option.bind_eq_some_iff.mp hf
      refine x_ctI hf (e_stV (Yc := YX8_need) (ci := 7) (av := []) (st := []) dX8_let_20 q2506 mX8_need rfl (k_ok_some b13).1 (k_ok_some b13).2) mX8_need.2.2.1 mX8_need.2.2.2.2.1 (Nat.le_of_ble_eq_true rfl) (Nat.le_of_ble_eq_true rfl) rfl (fun q hq => pX8_need (by omega) hq) (fun x14 h15 hf => ?_)
      refine w_istore_n dX8_let_23 rfl (by decide) (ls' := [some (.ref l0), some (.int l1), some (.int l2), some (.int x14)]) rfl ?_
      refine w_goto 10 dX8_let_24 (by decide) ?_
      exact (ih _ _ _ _ _ _ hf).to ⟨rfl, rfl, rfl, rfl, trivial⟩
def fX8_let (N : Nat) (this : Nat) (p0 : Int32) (h : eH) : Option ((Unit ⊕ Nat) × eH) :=
  (k_ok 7 h this).bind fun _ =>
  t_B (fX8_target N this h) fun x2 h3 =>
  (k_ok 7 h3 this).bind fun _ =>
  t_B (fX8_need N this h3) fun x5 h6 =>
  fX8_let_b10 N N this p0 x2 x5 h6
theorem pX8_let {w : eW} {d : Nat} (hd : 15 ≤ d) {N : Nat} {this : Nat} {p0 : Int32} {h : eH} {q} (hf : fX8_let N this p0 h = some q) : wm w d YX8_let [.ref this, .int p0] h (e_is (e_rt c_V q)) := by
  obtain ⟨d, rfl⟩ : ∃ e, d = e + 1 := ⟨d - 1, by omega⟩
  show wp w (d + 1) YX8_let 0 [some (.ref this), some (.int p0), none, none] [] h _
  unfold fX8_let at hf
  refine w_aload_n dX8_let_0 rfl rfl ?_
  obtain ⟨_, b1, hf⟩ := Option.bind_eq_some_iff.mp hf
  refine x_ctI hf (e_stV (Yc := YX8_target) (ci := 7) (av := []) (st := []) dX8_let_1 q3912 mX8_target rfl (k_ok_some b1).1 (k_ok_some b1).2) mX8_target.2.2.1 mX8_target.2.2.2.2.1 (Nat.le_of_ble_eq_true rfl) (Nat.le_of_ble_eq_true rfl) rfl (fun q hq => pX8_target (by omega) hq) (fun x2 h3 hf => ?_)
  refine w_istore_n dX8_let_4 rfl (by decide) (ls' := [some (.ref this), some (.int p0), some (.int x2), none]) rfl ?_
  refine w_aload_n dX8_let_5 rfl rfl ?_
  obtain ⟨_, b4, hf⟩ := Option.bind_eq_some_iff.mp hf
  refine x_ctI hf (e_stV (Yc := YX8_need) (ci := 7) (av := []) (st := []) dX8_let_6 q2506 mX8_need rfl (k_ok_some b4).1 (k_ok_some b4).2) mX8_need.2.2.1 mX8_need.2.2.2.2.1 (Nat.le_of_ble_eq_true rfl) (Nat.le_of_ble_eq_true rfl) rfl (fun q hq => pX8_need (by omega) hq) (fun x5 h6 hf => ?_)
  refine w_istore_n dX8_let_9 rfl (by decide) (ls' := [some (.ref this), some (.int p0), some (.int x2), some (.int x5)]) rfl ?_
  exact (pX8_let_b10 hd N _ _ _ _ _ _ hf).to ⟨rfl, rfl, rfl, rfl, trivial⟩
abbrev cX13_put : ByteArray := prog_31_method_3_code
def yX13_put : MethodName := ⟨RX13, "put", "(I)V"⟩
def YX13_put : eY := (yX13_put, cX13_put, 2, none, [])
theorem mX13_put : e_mv YX13_put RX13 1 := ⟨q2550, q2551, q2552, by decide, by decide +kernel, (e_sig (by decide +kernel))⟩
theorem dX13_put_0 : decode cX13_put 0 = .ok (.aload_n 0, 1) := dc_42 (by decide +kernel)
theorem dX13_put_1 : decode cX13_put 1 = .ok (.aload_n 0, 1) := dc_42 (by decide +kernel)
theorem dX13_put_2 : decode cX13_put 2 = .ok (.getfield 9, 3) := dc_180 (a := 0) (b := 9) (n := 9) (by decide +kernel)
theorem dX13_put_5 : decode cX13_put 5 = .ok (.aload_n 0, 1) := dc_42 (by decide +kernel)
theorem dX13_put_6 : decode cX13_put 6 = .ok (.getfield 23, 3) := dc_180 (a := 0) (b := 23) (n := 23) (by decide +kernel)
theorem dX13_put_9 : decode cX13_put 9 = .ok (.iconst 1, 1) := dc_4 (by decide +kernel)
theorem dX13_put_10 : decode cX13_put 10 = .ok (.iadd, 1) := dc_96 (by decide +kernel)
theorem dX13_put_11 : decode cX13_put 11 = .ok (.invokestatic 27, 3) := dc_184 (a := 0) (b := 27) (n := 27) (by decide +kernel)
theorem dX13_put_14 : decode cX13_put 14 = .ok (.putfield 9, 3) := dc_181 (a := 0) (b := 9) (n := 9) (by decide +kernel)
theorem dX13_put_17 : decode cX13_put 17 = .ok (.aload_n 0, 1) := dc_42 (by decide +kernel)
theorem dX13_put_18 : decode cX13_put 18 = .ok (.getfield 9, 3) := dc_180 (a := 0) (b := 9) (n := 9) (by decide +kernel)
theorem dX13_put_21 : decode cX13_put 21 = .ok (.aload_n 0, 1) := dc_42 (by decide +kernel)
theorem dX13_put_22 : decode cX13_put 22 = .ok (.dup, 1) := dc_89 (by decide +kernel)
theorem dX13_put_23 : decode cX13_put 23 = .ok (.getfield 23, 3) := dc_180 (a := 0) (b := 23) (n := 23) (by decide +kernel)
theorem dX13_put_26 : decode cX13_put 26 = .ok (.dup_x1, 1) := dc_90 (by decide +kernel)
theorem dX13_put_27 : decode cX13_put 27 = .ok (.iconst 1, 1) := dc_4 (by decide +kernel)
theorem dX13_put_28 : decode cX13_put 28 = .ok (.iadd, 1) := dc_96 (by decide +kernel)
theorem dX13_put_29 : decode cX13_put 29 = .ok (.putfield 23, 3) := dc_181 (a := 0) (b := 23) (n := 23) (by decide +kernel)
theorem dX13_put_32 : decode cX13_put 32 = .ok (.iload_n 1, 1) := dc_27 (by decide +kernel)
theorem dX13_put_33 : decode cX13_put 33 = .ok (.iastore, 1) := dc_79 (by decide +kernel)
theorem dX13_put_34 : decode cX13_put 34 = .ok (.return_, 1) := dc_177 (by decide +kernel)
def fX13_put (this : Nat) (p0 : Int32) (h : eH) : Option (Unit × eH) :=
  (g_A 12 h this 2).bind fun a1 =>
  (g_I 12 h this 3).bind fun x3 =>
  (fX1_grown a1 (x3 + (1 : Int32)) h).bind fun q5 =>
  (p_V 12 q5.2 this 2 (.ref q5.1)).bind fun h6 =>
  (g_A 12 h6 this 2).bind fun a8 =>
  (g_I 12 h6 this 3).bind fun x10 =>
  (p_V 12 h6 this 3 (.int (x10 + (1 : Int32)))).bind fun h12 =>
  (q_V 100 h12 a8 x10 (.int p0)).bind fun h14 =>
  some ((), h14)
theorem pX13_put {w : eW} {d : Nat} (hd : 2 ≤ d) {this : Nat} {p0 : Int32} {h : eH} {q} (hf : fX13_put this p0 h = some q) : wm w d YX13_put [.ref this, .int p0] h (e_is (e_rn c_V q)) := by
  obtain ⟨d, rfl⟩ : ∃ e, d = e + 1 := ⟨d - 1, by omega⟩
  show wp w (d + 1) YX13_put 0 [some (.ref this), some (.int p0)] [] h _
  unfold fX13_put at hf
  refine w_aload_n dX13_put_0 rfl rfl ?_
  refine w_aload_n dX13_put_1 rfl rfl ?_
  obtain ⟨a1, b2, hf⟩ := Option.bind_eq_some_iff.mp hf
  refine GX13_9 b2 dX13_put_2 rfl ?_
  refine w_aload_n dX13_put_5 rfl rfl ?_
  obtain ⟨x3, b4, hf⟩ := Option.bind_eq_some_iff.mp hf
  refine GX13_23 b4 dX13_put_6 rfl ?_
  refine w_iconst dX13_put_9 (v := 1) (by decide) ?_
  refine w_iadd dX13_put_10 ?_
  refine x_cnA hf (e_stSN (Yc := YX1_grown) (av := [.ref a1, .int (x3 + (1 : Int32))]) (st := [.ref this]) dX13_put_11 q2553 mX1_grown) mX1_grown.2.2.1 mX1_grown.2.2.2.2.1 (Nat.le_of_ble_eq_true rfl) (Nat.le_of_ble_eq_true rfl) (fun q hq => pX1_grown (by omega) hq) (fun q5 hf => ?_)
  obtain ⟨h6, b7, hf⟩ := Option.bind_eq_some_iff.mp hf
  refine SX13_9 b7 dX13_put_14 rfl ?_
  refine w_aload_n dX13_put_17 rfl rfl ?_
  obtain ⟨a8, b9, hf⟩ := Option.bind_eq_some_iff.mp hf
  refine GX13_9 b9 dX13_put_18 rfl ?_
  refine w_aload_n dX13_put_21 rfl rfl ?_
  refine w_dup dX13_put_22 rfl ?_
  obtain ⟨x10, b11, hf⟩ := Option.bind_eq_some_iff.mp hf
  refine GX13_23 b11 dX13_put_23 rfl ?_
  refine w_dup_x1 dX13_put_26 rfl rfl ?_
  refine w_iconst dX13_put_27 (v := 1) (by decide) ?_
  refine w_iadd dX13_put_28 ?_
  obtain ⟨h12, b13, hf⟩ := Option.bind_eq_some_iff.mp hf
  refine SX13_23 b13 dX13_put_29 rfl ?_
  refine w_iload_n dX13_put_32 rfl rfl ?_
  obtain ⟨h14, b15, hf⟩ := Option.bind_eq_some_iff.mp hf
  refine x_qI b15 dX13_put_33 ?_
  cases hf
  exact w_vret dX13_put_34 rfl rfl
abbrev cX8_putBack : ByteArray := prog_4_method_15_code
def yX8_putBack : MethodName := ⟨RX8, "putBack", "(I)V"⟩
def YX8_putBack : eY := (yX8_putBack, cX8_putBack, 2, none, [])
theorem mX8_putBack : e_mv YX8_putBack RX8 1 := ⟨q2609, qs67, q2610, by decide, by decide +kernel, (e_sig (by decide +kernel))⟩
theorem dX8_putBack_0 : decode cX8_putBack 0 = .ok (.iload_n 1, 1) := dc_27 (by decide +kernel)
theorem dX8_putBack_1 : decode cX8_putBack 1 = .ok (.iconst (-1), 1) := dc_2 (by decide +kernel)
theorem dX8_putBack_2 : decode cX8_putBack 2 = .ok (.if_icmp .eq 11, 3) := dc_159 (a := 0) (b := 11) (v := 11) (by decide +kernel)
theorem dX8_putBack_5 : decode cX8_putBack 5 = .ok (.aload_n 0, 1) := dc_42 (by decide +kernel)
theorem dX8_putBack_6 : decode cX8_putBack 6 = .ok (.getfield 93, 3) := dc_180 (a := 0) (b := 93) (n := 93) (by decide +kernel)
theorem dX8_putBack_9 : decode cX8_putBack 9 = .ok (.iload_n 1, 1) := dc_27 (by decide +kernel)
theorem dX8_putBack_10 : decode cX8_putBack 10 = .ok (.invokevirtual 197, 3) := dc_182 (a := 0) (b := 197) (n := 197) (by decide +kernel)
theorem dX8_putBack_13 : decode cX8_putBack 13 = .ok (.return_, 1) := dc_177 (by decide +kernel)
def fX8_putBack_b13  (h : eH) : Option (Unit × eH) :=
  some ((), h)
theorem pX8_putBack_b13 {w : eW} {d : Nat} (hd : 3 ≤ d + 1)  {h : eH} {q} (hf : fX8_putBack_b13  h = some q) : wp w (d + 1) YX8_putBack 13 [none, none] [] h (e_is (e_rn c_V q)) := by
  unfold fX8_putBack_b13 at hf
  cases hf
  exact w_vret dX8_putBack_13 rfl rfl
def fX8_putBack (this : Nat) (p0 : Int32) (h : eH) : Option (Unit × eH) :=
  if p0 = (-1 : Int32) then
    fX8_putBack_b13 h
  else
    (g_A 7 h this 7).bind fun a2 =>
    (k_ok 12 h a2).bind fun _ =>
    (fX13_put a2 p0 h).bind fun q5 =>
    fX8_putBack_b13 q5.2
theorem pX8_putBack {w : eW} {d : Nat} (hd : 3 ≤ d) {this : Nat} {p0 : Int32} {h : eH} {q} (hf : fX8_putBack this p0 h = some q) : wm w d YX8_putBack [.ref this, .int p0] h (e_is (e_rn c_V q)) := by
  obtain ⟨d, rfl⟩ : ∃ e, d = e + 1 := ⟨d - 1, by omega⟩
  show wp w (d + 1) YX8_putBack 0 [some (.ref this), some (.int p0)] [] h _
  unfold fX8_putBack at hf
  refine w_iload_n dX8_putBack_0 rfl rfl ?_
  refine w_iconst dX8_putBack_1 (v := -1) (by decide) ?_
  refine w_icmp_eq 13 dX8_putBack_2 (by decide) (fun c1 => ?_) (fun c1 => ?_)
  · replace hf := (if_pos (show p0 = (-1 : Int32) from c1)).symm.trans hf
    exact (pX8_putBack_b13 hd hf).to trivial
  · replace hf := (if_neg (show ¬ (p0 = (-1 : Int32)) from c1)).symm.trans hf
    refine w_aload_n dX8_putBack_5 rfl rfl ?_
    obtain ⟨a2, b3, hf⟩ := Option.bind_eq_some_iff.mp hf
    refine GX8_93 b3 dX8_putBack_6 rfl ?_
    refine w_iload_n dX8_putBack_9 rfl rfl ?_
    obtain ⟨_, b4, hf⟩ := Option.bind_eq_some_iff.mp hf
    refine x_cnV hf (e_stV (Yc := YX13_put) (ci := 12) (av := [.int p0]) (st := []) dX8_putBack_10 q2558 mX13_put rfl (k_ok_some b4).1 (k_ok_some b4).2) mX13_put.2.2.1 mX13_put.2.2.2.2.1 (Nat.le_of_ble_eq_true rfl) (Nat.le_of_ble_eq_true rfl) (fun q hq => pX13_put (by omega) hq) (fun q5 hf => ?_)
    exact (pX8_putBack_b13 hd hf).to trivial
abbrev cX8_equals : ByteArray := prog_4_method_56_code
def yX8_equals : MethodName := ⟨RX8, "equals", "()V"⟩
def YX8_equals : eY := (yX8_equals, cX8_equals, 2, none, [])
theorem mX8_equals : e_mv YX8_equals RX8 0 := ⟨q3919, qs193, q3920, by decide, by decide +kernel, (e_sig (by decide +kernel))⟩
theorem dX8_equals_0 : decode cX8_equals 0 = .ok (.aload_n 0, 1) := dc_42 (by decide +kernel)
theorem dX8_equals_1 : decode cX8_equals 1 = .ok (.invokevirtual 187, 3) := dc_182 (a := 0) (b := 187) (n := 187) (by decide +kernel)
theorem dX8_equals_4 : decode cX8_equals 4 = .ok (.istore_n 1, 1) := dc_60 (by decide +kernel)
theorem dX8_equals_5 : decode cX8_equals 5 = .ok (.iload_n 1, 1) := dc_27 (by decide +kernel)
theorem dX8_equals_6 : decode cX8_equals 6 = .ok (.bipush 10, 2) := dc_16 (a := 10) (v := 10) (by decide +kernel)
theorem dX8_equals_8 : decode cX8_equals 8 = .ok (.invokestatic 193, 3) := dc_184 (a := 0) (b := 193) (n := 193) (by decide +kernel)
theorem dX8_equals_11 : decode cX8_equals 11 = .ok (.ifCond .eq 11, 3) := dc_153 (a := 0) (b := 11) (v := 11) (by decide +kernel)
theorem dX8_equals_14 : decode cX8_equals 14 = .ok (.aload_n 0, 1) := dc_42 (by decide +kernel)
theorem dX8_equals_15 : decode cX8_equals 15 = .ok (.invokevirtual 187, 3) := dc_182 (a := 0) (b := 187) (n := 187) (by decide +kernel)
theorem dX8_equals_18 : decode cX8_equals 18 = .ok (.istore_n 1, 1) := dc_60 (by decide +kernel)
theorem dX8_equals_19 : decode cX8_equals 19 = .ok (.goto (-14), 3) := dc_167 (a := 255) (b := 242) (v := -14) (by decide +kernel)
theorem dX8_equals_22 : decode cX8_equals 22 = .ok (.iload_n 1, 1) := dc_27 (by decide +kernel)
theorem dX8_equals_23 : decode cX8_equals 23 = .ok (.bipush 61, 2) := dc_16 (a := 61) (v := 61) (by decide +kernel)
theorem dX8_equals_25 : decode cX8_equals 25 = .ok (.invokestatic 255, 3) := dc_184 (a := 0) (b := 255) (n := 255) (by decide +kernel)
theorem dX8_equals_28 : decode cX8_equals 28 = .ok (.if_icmp .eq 8, 3) := dc_159 (a := 0) (b := 8) (v := 8) (by decide +kernel)
theorem dX8_equals_31 : decode cX8_equals 31 = .ok (.aload_n 0, 1) := dc_42 (by decide +kernel)
theorem dX8_equals_32 : decode cX8_equals 32 = .ok (.iload_n 1, 1) := dc_27 (by decide +kernel)
theorem dX8_equals_33 : decode cX8_equals 33 = .ok (.invokevirtual 351, 3) := dc_182 (a := 1) (b := 95) (n := 351) (by decide +kernel)
theorem dX8_equals_36 : decode cX8_equals 36 = .ok (.return_, 1) := dc_177 (by decide +kernel)
def fX8_equals_b36 (N : Nat) (rE : Nat → Int32 → eH → Option ((Unit ⊕ Nat) × eH))  (h : eH) : Option ((Unit ⊕ Nat) × eH) :=
  some (.inl (), h)
theorem pX8_equals_b36 {w : eW} {d : Nat} {dr : Nat} (hd : dr + 14 ≤ d + 1) (hdr : 12 ≤ dr) {N : Nat} {rE : Nat → Int32 → eH → Option ((Unit ⊕ Nat) × eH)} (hrE : ∀ a t0 h q, rE a t0 h = some q → wm w dr YX8_expand [.ref a, .int t0] h (e_is (e_rt c_V q)))  {h : eH} {q} (hf : fX8_equals_b36 N rE h = some q) : wp w (d + 1) YX8_equals 36 [none, none] [] h (e_is (e_rt c_V q)) := by
  unfold fX8_equals_b36 at hf
  cases hf
  exact w_vret dX8_equals_36 rfl rfl
def fX8_equals_b5 (N : Nat) (rE : Nat → Int32 → eH → Option ((Unit ⊕ Nat) × eH)) : Nat → Nat → Int32 → eH → Option ((Unit ⊕ Nat) × eH)
  | 0, _, _, _ => none
  | n + 1, l0, l1, h =>
    (fX1_is l1 (10 : Int32) h).bind fun q1 =>
    if q1.1 = 0 then
      (fX1_other (61 : Int32) q1.2).bind fun q3 =>
      if l1 = q3.1 then
        fX8_equals_b36 N rE q3.2
      else
        (k_ok 7 q3.2 l0).bind fun _ =>
        (fX8_putBack l0 l1 q3.2).bind fun q6 =>
        fX8_equals_b36 N rE q6.2
    else
      (k_ok 7 q1.2 l0).bind fun _ =>
      t_B (fX8_getExpanded N rE l0 q1.2) fun x8 h9 =>
      fX8_equals_b5 N rE n l0 x8 h9
theorem pX8_equals_b5 {w : eW} {d : Nat} {dr : Nat} (hd : dr + 14 ≤ d + 1) (hdr : 12 ≤ dr) {N : Nat} {rE : Nat → Int32 → eH → Option ((Unit ⊕ Nat) × eH)} (hrE : ∀ a t0 h q, rE a t0 h = some q → wm w dr YX8_expand [.ref a, .int t0] h (e_is (e_rt c_V q))) : ∀ (n : Nat) l0 l1 h q, fX8_equals_b5 N rE n l0 l1 h = some q → wp w (d + 1) YX8_equals 5 [some (.ref l0), some (.int l1)] [] h (e_is (e_rt c_V q)) := by
  intro n
  induction n with
  | zero => intro l0 l1 h q hf; simp [fX8_equals_b5] at hf
  | succ n ih =>
    intro l0 l1 h q hf
    rw [fX8_equals_b5] at hf
    refine w_iload_n dX8_equals_5 rfl rfl ?_
    refine w_bipush dX8_equals_6 (v := 10) (by decide) ?_
    refine x_cnI hf (e_stSN (Yc := YX1_is) (av := [.int l1, .int (10 : Int32)]) (st := []) dX8_equals_8 q2518 mX1_is) mX1_is.2.2.1 mX1_is.2.2.2.2.1 (Nat.le_of_ble_eq_true rfl) (Nat.le_of_ble_eq_true rfl) (fun q hq => pX1_is (by omega) hq) (fun q1 hf => ?_)
    refine w_if_eq 22 dX8_equals_11 (by decide) (fun c2 => ?_) (fun c2 => ?_)
    · replace hf := (if_pos (show q1.1 = 0 from c2)).symm.trans hf
      refine w_iload_n dX8_equals_22 rfl rfl ?_
      refine w_bipush dX8_equals_23 (v := 61) (by decide) ?_
      refine x_cnI hf (e_stSN (Yc := YX1_other) (av := [.int (61 : Int32)]) (st := [.int l1]) dX8_equals_25 q2579 mX1_other) mX1_other.2.2.1 mX1_other.2.2.2.2.1 (Nat.le_of_ble_eq_true rfl) (Nat.le_of_ble_eq_true rfl) (fun q hq => pX1_other (by omega) hq) (fun q3 hf => ?_)
      refine w_icmp_eq 36 dX8_equals_28 (by decide) (fun c4 => ?_) (fun c4 => ?_)
      · replace hf := (if_pos (show l1 = q3.1 from c4)).symm.trans hf
        exact (pX8_equals_b36 hd hdr hrE hf).to trivial
      · replace hf := (if_neg (show ¬ (l1 = q3.1) from c4)).symm.trans hf
        refine w_aload_n dX8_equals_31 rfl rfl ?_
        refine w_iload_n dX8_equals_32 rfl rfl ?_
        obtain ⟨_, b5, hf⟩ := Option.bind_eq_some_iff.mp hf
        refine x_cnV hf (e_stV (Yc := YX8_putBack) (ci := 7) (av := [.int l1]) (st := []) dX8_equals_33 q2607 mX8_putBack rfl (k_ok_some b5).1 (k_ok_some b5).2) mX8_putBack.2.2.1 mX8_putBack.2.2.2.2.1 (Nat.le_of_ble_eq_true rfl) (Nat.le_of_ble_eq_true rfl) (fun q hq => pX8_putBack (by omega) hq) (fun q6 hf => ?_)
        exact (pX8_equals_b36 hd hdr hrE hf).to trivial
    · replace hf := (if_neg (show ¬ (q1.1 = 0) from c2)).symm.trans hf
      refine w_aload_n dX8_equals_14 rfl rfl ?_
      obtain ⟨_, b7, hf⟩ := Option.bind_eq_some_iff.mp hf
      refine x_ctI hf (e_stV (Yc := YX8_getExpanded) (ci := 7) (av := []) (st := []) dX8_equals_15 q2567 mX8_getExpanded rfl (k_ok_some b7).1 (k_ok_some b7).2) mX8_getExpanded.2.2.1 mX8_getExpanded.2.2.2.2.1 (Nat.le_of_ble_eq_true rfl) (Nat.le_of_ble_eq_true rfl) rfl (fun q hq => pX8_getExpanded (by omega) hdr hrE hq) (fun x8 h9 hf => ?_)
      refine w_istore_n dX8_equals_18 rfl (by decide) (ls' := [some (.ref l0), some (.int x8)]) rfl ?_
      refine w_goto 5 dX8_equals_19 (by decide) ?_
      exact (ih _ _ _ _ hf).to ⟨rfl, rfl, trivial⟩
def fX8_equals (N : Nat) (rE : Nat → Int32 → eH → Option ((Unit ⊕ Nat) × eH)) (this : Nat) (h : eH) : Option ((Unit ⊕ Nat) × eH) :=
  (k_ok 7 h this).bind fun _ =>
  t_B (fX8_getExpanded N rE this h) fun x2 h3 =>
  fX8_equals_b5 N rE N this x2 h3
theorem pX8_equals {w : eW} {d : Nat} {dr : Nat} (hd : dr + 14 ≤ d) (hdr : 12 ≤ dr) {N : Nat} {rE : Nat → Int32 → eH → Option ((Unit ⊕ Nat) × eH)} (hrE : ∀ a t0 h q, rE a t0 h = some q → wm w dr YX8_expand [.ref a, .int t0] h (e_is (e_rt c_V q))) {this : Nat} {h : eH} {q} (hf : fX8_equals N rE this h = some q) : wm w d YX8_equals [.ref this] h (e_is (e_rt c_V q)) := by
  obtain ⟨d, rfl⟩ : ∃ e, d = e + 1 := ⟨d - 1, by omega⟩
  show wp w (d + 1) YX8_equals 0 [some (.ref this), none] [] h _
  unfold fX8_equals at hf
  refine w_aload_n dX8_equals_0 rfl rfl ?_
  obtain ⟨_, b1, hf⟩ := Option.bind_eq_some_iff.mp hf
  refine x_ctI hf (e_stV (Yc := YX8_getExpanded) (ci := 7) (av := []) (st := []) dX8_equals_1 q2567 mX8_getExpanded rfl (k_ok_some b1).1 (k_ok_some b1).2) mX8_getExpanded.2.2.1 mX8_getExpanded.2.2.2.2.1 (Nat.le_of_ble_eq_true rfl) (Nat.le_of_ble_eq_true rfl) rfl (fun q hq => pX8_getExpanded (by omega) hdr hrE hq) (fun x2 h3 hf => ?_)
  refine w_istore_n dX8_equals_4 rfl (by decide) (ls' := [some (.ref this), some (.int x2)]) rfl ?_
  exact (pX8_equals_b5 hd hdr hrE N _ _ _ _ hf).to ⟨rfl, rfl, trivial⟩
abbrev cX8_isLetter : ByteArray := prog_4_method_39_code
def yX8_isLetter : MethodName := ⟨RX8, "isLetter", "(IC)Z"⟩
def YX8_isLetter : eY := (yX8_isLetter, cX8_isLetter, 2, (Option.some FieldType.boolean), [])
theorem mX8_isLetter : e_ms YX8_isLetter 2 := ⟨q2748, q433, q2749, by decide, by decide +kernel, (e_sig (by decide +kernel))⟩
theorem dX8_isLetter_0 : decode cX8_isLetter 0 = .ok (.iload_n 0, 1) := dc_26 (by decide +kernel)
theorem dX8_isLetter_1 : decode cX8_isLetter 1 = .ok (.invokestatic 165, 3) := dc_184 (a := 0) (b := 165) (n := 165) (by decide +kernel)
theorem dX8_isLetter_4 : decode cX8_isLetter 4 = .ok (.ifCond .eq 28, 3) := dc_153 (a := 0) (b := 28) (v := 28) (by decide +kernel)
theorem dX8_isLetter_7 : decode cX8_isLetter 7 = .ok (.iload_n 0, 1) := dc_26 (by decide +kernel)
theorem dX8_isLetter_8 : decode cX8_isLetter 8 = .ok (.sipush 255, 3) := dc_17 (a := 0) (b := 255) (v := 255) (by decide +kernel)
theorem dX8_isLetter_11 : decode cX8_isLetter 11 = .ok (.iand, 1) := dc_126 (by decide +kernel)
theorem dX8_isLetter_12 : decode cX8_isLetter 12 = .ok (.iload_n 1, 1) := dc_27 (by decide +kernel)
theorem dX8_isLetter_13 : decode cX8_isLetter 13 = .ok (.if_icmp .eq 15, 3) := dc_159 (a := 0) (b := 15) (v := 15) (by decide +kernel)
theorem dX8_isLetter_16 : decode cX8_isLetter 16 = .ok (.iload_n 0, 1) := dc_26 (by decide +kernel)
theorem dX8_isLetter_17 : decode cX8_isLetter 17 = .ok (.sipush 255, 3) := dc_17 (a := 0) (b := 255) (v := 255) (by decide +kernel)
theorem dX8_isLetter_20 : decode cX8_isLetter 20 = .ok (.iand, 1) := dc_126 (by decide +kernel)
theorem dX8_isLetter_21 : decode cX8_isLetter 21 = .ok (.iload_n 1, 1) := dc_27 (by decide +kernel)
theorem dX8_isLetter_22 : decode cX8_isLetter 22 = .ok (.bipush 32, 2) := dc_16 (a := 32) (v := 32) (by decide +kernel)
theorem dX8_isLetter_24 : decode cX8_isLetter 24 = .ok (.isub, 1) := dc_100 (by decide +kernel)
theorem dX8_isLetter_25 : decode cX8_isLetter 25 = .ok (.if_icmp .ne 7, 3) := dc_160 (a := 0) (b := 7) (v := 7) (by decide +kernel)
theorem dX8_isLetter_28 : decode cX8_isLetter 28 = .ok (.iconst 1, 1) := dc_4 (by decide +kernel)
theorem dX8_isLetter_29 : decode cX8_isLetter 29 = .ok (.goto 4, 3) := dc_167 (a := 0) (b := 4) (v := 4) (by decide +kernel)
theorem dX8_isLetter_32 : decode cX8_isLetter 32 = .ok (.iconst 0, 1) := dc_3 (by decide +kernel)
theorem dX8_isLetter_33 : decode cX8_isLetter 33 = .ok (.ireturn, 1) := dc_172 (by decide +kernel)
def fX8_isLetter_b33 (s0 : Int32) (h : eH) : Option (Int32 × eH) :=
  z_r s0 (s0, h)
theorem pX8_isLetter_b33 {w : eW} {d : Nat} (hd : 1 ≤ d + 1) {s0 : Int32} {h : eH} {q} (hf : fX8_isLetter_b33 s0 h = some q) : wp w (d + 1) YX8_isLetter 33 [none, none] [.int s0] h (e_is (e_rn c_I q)) := by
  unfold fX8_isLetter_b33 at hf
  obtain ⟨b1, rfl⟩ := z_r_some hf
  exact w_iret dX8_isLetter_33 rfl b1 rfl
def fX8_isLetter_b28  (h : eH) : Option (Int32 × eH) :=
  fX8_isLetter_b33 (1 : Int32) h
theorem pX8_isLetter_b28 {w : eW} {d : Nat} (hd : 1 ≤ d + 1)  {h : eH} {q} (hf : fX8_isLetter_b28  h = some q) : wp w (d + 1) YX8_isLetter 28 [none, none] [] h (e_is (e_rn c_I q)) := by
  unfold fX8_isLetter_b28 at hf
  refine w_iconst dX8_isLetter_28 (v := 1) (by decide) ?_
  refine w_goto 33 dX8_isLetter_29 (by decide) ?_
  exact (pX8_isLetter_b33 hd hf).to trivial
def fX8_isLetter_b32  (h : eH) : Option (Int32 × eH) :=
  fX8_isLetter_b33 (0 : Int32) h
theorem pX8_isLetter_b32 {w : eW} {d : Nat} (hd : 1 ≤ d + 1)  {h : eH} {q} (hf : fX8_isLetter_b32  h = some q) : wp w (d + 1) YX8_isLetter 32 [none, none] [] h (e_is (e_rn c_I q)) := by
  unfold fX8_isLetter_b32 at hf
  refine w_iconst dX8_isLetter_32 (v := 0) (by decide) ?_
  exact (pX8_isLetter_b33 hd hf).to trivial
def fX8_isLetter (p0 : Int32) (p1 : Int32) (h : eH) : Option (Int32 × eH) :=
  (fX1_isCharacter p0 h).bind fun q1 =>
  if q1.1 = 0 then
    fX8_isLetter_b32 q1.2
  else
    if (p0 &&& (255 : Int32)) = p1 then
      fX8_isLetter_b28 q1.2
    else
      if ¬ (p0 &&& (255 : Int32)) = (p1 - (32 : Int32)) then
        fX8_isLetter_b32 q1.2
      else
        fX8_isLetter_b28 q1.2
theorem pX8_isLetter {w : eW} {d : Nat} (hd : 1 ≤ d) {p0 : Int32} {p1 : Int32} {h : eH} {q} (hf : fX8_isLetter p0 p1 h = some q) : wm w d YX8_isLetter [.int p0, .int p1] h (e_is (e_rn c_I q)) := by
  obtain ⟨d, rfl⟩ : ∃ e, d = e + 1 := ⟨d - 1, by omega⟩
  show wp w (d + 1) YX8_isLetter 0 [some (.int p0), some (.int p1)] [] h _
  unfold fX8_isLetter at hf
  refine w_iload_n dX8_isLetter_0 rfl rfl ?_
  refine x_cnI hf (e_stSN (Yc := YX1_isCharacter) (av := [.int p0]) (st := []) dX8_isLetter_1 q2485 mX1_isCharacter) mX1_isCharacter.2.2.1 mX1_isCharacter.2.2.2.2.1 (Nat.le_of_ble_eq_true rfl) (Nat.le_of_ble_eq_true rfl) (fun q hq => pX1_isCharacter (by omega) hq) (fun q1 hf => ?_)
  refine w_if_eq 32 dX8_isLetter_4 (by decide) (fun c2 => ?_) (fun c2 => ?_)
  · replace hf := (if_pos (show q1.1 = 0 from c2)).symm.trans hf
    exact (pX8_isLetter_b32 hd hf).to trivial
  · replace hf := (if_neg (show ¬ (q1.1 = 0) from c2)).symm.trans hf
    refine w_iload_n dX8_isLetter_7 rfl rfl ?_
    refine w_sipush dX8_isLetter_8 (v := 255) (by decide) ?_
    refine w_iand dX8_isLetter_11 ?_
    refine w_iload_n dX8_isLetter_12 rfl rfl ?_
    refine w_icmp_eq 28 dX8_isLetter_13 (by decide) (fun c3 => ?_) (fun c3 => ?_)
    · replace hf := (if_pos (show (p0 &&& (255 : Int32)) = p1 from c3)).symm.trans hf
      exact (pX8_isLetter_b28 hd hf).to trivial
    · replace hf := (if_neg (show ¬ ((p0 &&& (255 : Int32)) = p1) from c3)).symm.trans hf
      refine w_iload_n dX8_isLetter_16 rfl rfl ?_
      refine w_sipush dX8_isLetter_17 (v := 255) (by decide) ?_
      refine w_iand dX8_isLetter_20 ?_
      refine w_iload_n dX8_isLetter_21 rfl rfl ?_
      refine w_bipush dX8_isLetter_22 (v := 32) (by decide) ?_
      refine w_isub dX8_isLetter_24 ?_
      refine w_icmp_ne 32 dX8_isLetter_25 (by decide) (fun c4 => ?_) (fun c4 => ?_)
      · replace hf := (if_pos (show ¬ (p0 &&& (255 : Int32)) = (p1 - (32 : Int32)) from c4)).symm.trans hf
        exact (pX8_isLetter_b32 hd hf).to trivial
      · replace hf := (if_neg (show ¬ (¬ (p0 &&& (255 : Int32)) = (p1 - (32 : Int32))) from (fun z => z c4))).symm.trans hf
        exact (pX8_isLetter_b28 hd hf).to trivial
abbrev cX8_keyword : ByteArray := prog_4_method_40_code
def yX8_keyword : MethodName := ⟨RX8, "keyword", "(Ljava/lang/String;)Z"⟩
def YX8_keyword : eY := (yX8_keyword, cX8_keyword, 6, (Option.some FieldType.boolean), [])
theorem mX8_keyword : e_mv YX8_keyword RX8 1 := ⟨q2745, qs94, q2746, by decide, by decide +kernel, (e_sig (by decide +kernel))⟩
theorem dX8_keyword_0 : decode cX8_keyword 0 = .ok (.aload_n 0, 1) := dc_42 (by decide +kernel)
theorem dX8_keyword_1 : decode cX8_keyword 1 = .ok (.invokevirtual 187, 3) := dc_182 (a := 0) (b := 187) (n := 187) (by decide +kernel)
theorem dX8_keyword_4 : decode cX8_keyword 4 = .ok (.istore_n 2, 1) := dc_61 (by decide +kernel)
theorem dX8_keyword_5 : decode cX8_keyword 5 = .ok (.iload_n 2, 1) := dc_28 (by decide +kernel)
theorem dX8_keyword_6 : decode cX8_keyword 6 = .ok (.bipush 10, 2) := dc_16 (a := 10) (v := 10) (by decide +kernel)
theorem dX8_keyword_8 : decode cX8_keyword 8 = .ok (.invokestatic 193, 3) := dc_184 (a := 0) (b := 193) (n := 193) (by decide +kernel)
theorem dX8_keyword_11 : decode cX8_keyword 11 = .ok (.ifCond .eq 11, 3) := dc_153 (a := 0) (b := 11) (v := 11) (by decide +kernel)
theorem dX8_keyword_14 : decode cX8_keyword 14 = .ok (.aload_n 0, 1) := dc_42 (by decide +kernel)
theorem dX8_keyword_15 : decode cX8_keyword 15 = .ok (.invokevirtual 187, 3) := dc_182 (a := 0) (b := 187) (n := 187) (by decide +kernel)
theorem dX8_keyword_18 : decode cX8_keyword 18 = .ok (.istore_n 2, 1) := dc_61 (by decide +kernel)
theorem dX8_keyword_19 : decode cX8_keyword 19 = .ok (.goto (-14), 3) := dc_167 (a := 255) (b := 242) (v := -14) (by decide +kernel)
theorem dX8_keyword_22 : decode cX8_keyword 22 = .ok (.aload_n 0, 1) := dc_42 (by decide +kernel)
theorem dX8_keyword_23 : decode cX8_keyword 23 = .ok (.getfield 134, 3) := dc_180 (a := 0) (b := 134) (n := 134) (by decide +kernel)
theorem dX8_keyword_26 : decode cX8_keyword 26 = .ok (.istore_n 3, 1) := dc_62 (by decide +kernel)
theorem dX8_keyword_27 : decode cX8_keyword 27 = .ok (.iconst 0, 1) := dc_3 (by decide +kernel)
theorem dX8_keyword_28 : decode cX8_keyword 28 = .ok (.istore 4, 2) := dc_54 (a := 4) (by decide +kernel)
theorem dX8_keyword_30 : decode cX8_keyword 30 = .ok (.iload_n 2, 1) := dc_28 (by decide +kernel)
theorem dX8_keyword_31 : decode cX8_keyword 31 = .ok (.aload_n 1, 1) := dc_43 (by decide +kernel)
theorem dX8_keyword_32 : decode cX8_keyword 32 = .ok (.iconst 0, 1) := dc_3 (by decide +kernel)
theorem dX8_keyword_33 : decode cX8_keyword 33 = .ok (.invokevirtual 282, 3) := dc_182 (a := 1) (b := 26) (n := 282) (by decide +kernel)
theorem dX8_keyword_36 : decode cX8_keyword 36 = .ok (.invokestatic 380, 3) := dc_184 (a := 1) (b := 124) (n := 380) (by decide +kernel)
theorem dX8_keyword_39 : decode cX8_keyword 39 = .ok (.istore 5, 2) := dc_54 (a := 5) (by decide +kernel)
theorem dX8_keyword_41 : decode cX8_keyword 41 = .ok (.iload 5, 2) := dc_21 (a := 5) (by decide +kernel)
theorem dX8_keyword_43 : decode cX8_keyword 43 = .ok (.ifCond .eq 54, 3) := dc_153 (a := 0) (b := 54) (v := 54) (by decide +kernel)
theorem dX8_keyword_46 : decode cX8_keyword 46 = .ok (.iload 4, 2) := dc_21 (a := 4) (by decide +kernel)
theorem dX8_keyword_48 : decode cX8_keyword 48 = .ok (.iconst 1, 1) := dc_4 (by decide +kernel)
theorem dX8_keyword_49 : decode cX8_keyword 49 = .ok (.iadd, 1) := dc_96 (by decide +kernel)
theorem dX8_keyword_50 : decode cX8_keyword 50 = .ok (.aload_n 1, 1) := dc_43 (by decide +kernel)
theorem dX8_keyword_51 : decode cX8_keyword 51 = .ok (.invokevirtual 384, 3) := dc_182 (a := 1) (b := 128) (n := 384) (by decide +kernel)
theorem dX8_keyword_54 : decode cX8_keyword 54 = .ok (.if_icmp .ge 43, 3) := dc_162 (a := 0) (b := 43) (v := 43) (by decide +kernel)
theorem dX8_keyword_57 : decode cX8_keyword 57 = .ok (.aload_n 0, 1) := dc_42 (by decide +kernel)
theorem dX8_keyword_58 : decode cX8_keyword 58 = .ok (.getfield 45, 3) := dc_180 (a := 0) (b := 45) (n := 45) (by decide +kernel)
theorem dX8_keyword_61 : decode cX8_keyword 61 = .ok (.aload_n 0, 1) := dc_42 (by decide +kernel)
theorem dX8_keyword_62 : decode cX8_keyword 62 = .ok (.dup, 1) := dc_89 (by decide +kernel)
theorem dX8_keyword_63 : decode cX8_keyword 63 = .ok (.getfield 134, 3) := dc_180 (a := 0) (b := 134) (n := 134) (by decide +kernel)
theorem dX8_keyword_66 : decode cX8_keyword 66 = .ok (.dup_x1, 1) := dc_90 (by decide +kernel)
theorem dX8_keyword_67 : decode cX8_keyword 67 = .ok (.iconst 1, 1) := dc_4 (by decide +kernel)
theorem dX8_keyword_68 : decode cX8_keyword 68 = .ok (.iadd, 1) := dc_96 (by decide +kernel)
theorem dX8_keyword_69 : decode cX8_keyword 69 = .ok (.putfield 134, 3) := dc_181 (a := 0) (b := 134) (n := 134) (by decide +kernel)
theorem dX8_keyword_72 : decode cX8_keyword 72 = .ok (.iload_n 2, 1) := dc_28 (by decide +kernel)
theorem dX8_keyword_73 : decode cX8_keyword 73 = .ok (.iastore, 1) := dc_79 (by decide +kernel)
theorem dX8_keyword_74 : decode cX8_keyword 74 = .ok (.iinc 4 1, 3) := dc_132 (a := 4) (b := 1) (v := 1) (by decide +kernel)
theorem dX8_keyword_77 : decode cX8_keyword 77 = .ok (.aload_n 0, 1) := dc_42 (by decide +kernel)
theorem dX8_keyword_78 : decode cX8_keyword 78 = .ok (.invokevirtual 187, 3) := dc_182 (a := 0) (b := 187) (n := 187) (by decide +kernel)
theorem dX8_keyword_81 : decode cX8_keyword 81 = .ok (.istore_n 2, 1) := dc_61 (by decide +kernel)
theorem dX8_keyword_82 : decode cX8_keyword 82 = .ok (.iload_n 2, 1) := dc_28 (by decide +kernel)
theorem dX8_keyword_83 : decode cX8_keyword 83 = .ok (.aload_n 1, 1) := dc_43 (by decide +kernel)
theorem dX8_keyword_84 : decode cX8_keyword 84 = .ok (.iload 4, 2) := dc_21 (a := 4) (by decide +kernel)
theorem dX8_keyword_86 : decode cX8_keyword 86 = .ok (.invokevirtual 282, 3) := dc_182 (a := 1) (b := 26) (n := 282) (by decide +kernel)
theorem dX8_keyword_89 : decode cX8_keyword 89 = .ok (.invokestatic 380, 3) := dc_184 (a := 1) (b := 124) (n := 380) (by decide +kernel)
theorem dX8_keyword_92 : decode cX8_keyword 92 = .ok (.istore 5, 2) := dc_54 (a := 5) (by decide +kernel)
theorem dX8_keyword_94 : decode cX8_keyword 94 = .ok (.goto (-53), 3) := dc_167 (a := 255) (b := 203) (v := -53) (by decide +kernel)
theorem dX8_keyword_97 : decode cX8_keyword 97 = .ok (.iload 5, 2) := dc_21 (a := 5) (by decide +kernel)
theorem dX8_keyword_99 : decode cX8_keyword 99 = .ok (.ifCond .ne 42, 3) := dc_154 (a := 0) (b := 42) (v := 42) (by decide +kernel)
theorem dX8_keyword_102 : decode cX8_keyword 102 = .ok (.aload_n 0, 1) := dc_42 (by decide +kernel)
theorem dX8_keyword_103 : decode cX8_keyword 103 = .ok (.iload_n 2, 1) := dc_28 (by decide +kernel)
theorem dX8_keyword_104 : decode cX8_keyword 104 = .ok (.invokevirtual 351, 3) := dc_182 (a := 1) (b := 95) (n := 351) (by decide +kernel)
theorem dX8_keyword_107 : decode cX8_keyword 107 = .ok (.aload_n 0, 1) := dc_42 (by decide +kernel)
theorem dX8_keyword_108 : decode cX8_keyword 108 = .ok (.getfield 134, 3) := dc_180 (a := 0) (b := 134) (n := 134) (by decide +kernel)
theorem dX8_keyword_111 : decode cX8_keyword 111 = .ok (.iload_n 3, 1) := dc_29 (by decide +kernel)
theorem dX8_keyword_112 : decode cX8_keyword 112 = .ok (.if_icmp .le 29, 3) := dc_164 (a := 0) (b := 29) (v := 29) (by decide +kernel)
theorem dX8_keyword_115 : decode cX8_keyword 115 = .ok (.aload_n 0, 1) := dc_42 (by decide +kernel)
theorem dX8_keyword_116 : decode cX8_keyword 116 = .ok (.getfield 93, 3) := dc_180 (a := 0) (b := 93) (n := 93) (by decide +kernel)
theorem dX8_keyword_119 : decode cX8_keyword 119 = .ok (.aload_n 0, 1) := dc_42 (by decide +kernel)
theorem dX8_keyword_120 : decode cX8_keyword 120 = .ok (.getfield 45, 3) := dc_180 (a := 0) (b := 45) (n := 45) (by decide +kernel)
theorem dX8_keyword_123 : decode cX8_keyword 123 = .ok (.aload_n 0, 1) := dc_42 (by decide +kernel)
theorem dX8_keyword_124 : decode cX8_keyword 124 = .ok (.dup, 1) := dc_89 (by decide +kernel)
theorem dX8_keyword_125 : decode cX8_keyword 125 = .ok (.getfield 134, 3) := dc_180 (a := 0) (b := 134) (n := 134) (by decide +kernel)
theorem dX8_keyword_128 : decode cX8_keyword 128 = .ok (.iconst 1, 1) := dc_4 (by decide +kernel)
theorem dX8_keyword_129 : decode cX8_keyword 129 = .ok (.isub, 1) := dc_100 (by decide +kernel)
theorem dX8_keyword_130 : decode cX8_keyword 130 = .ok (.dup_x1, 1) := dc_90 (by decide +kernel)
theorem dX8_keyword_131 : decode cX8_keyword 131 = .ok (.putfield 134, 3) := dc_181 (a := 0) (b := 134) (n := 134) (by decide +kernel)
theorem dX8_keyword_134 : decode cX8_keyword 134 = .ok (.iaload, 1) := dc_46 (by decide +kernel)
theorem dX8_keyword_135 : decode cX8_keyword 135 = .ok (.invokevirtual 197, 3) := dc_182 (a := 0) (b := 197) (n := 197) (by decide +kernel)
theorem dX8_keyword_138 : decode cX8_keyword 138 = .ok (.goto (-31), 3) := dc_167 (a := 255) (b := 225) (v := -31) (by decide +kernel)
theorem dX8_keyword_141 : decode cX8_keyword 141 = .ok (.aload_n 0, 1) := dc_42 (by decide +kernel)
theorem dX8_keyword_142 : decode cX8_keyword 142 = .ok (.iload_n 3, 1) := dc_29 (by decide +kernel)
theorem dX8_keyword_143 : decode cX8_keyword 143 = .ok (.putfield 134, 3) := dc_181 (a := 0) (b := 134) (n := 134) (by decide +kernel)
theorem dX8_keyword_146 : decode cX8_keyword 146 = .ok (.iload 5, 2) := dc_21 (a := 5) (by decide +kernel)
theorem dX8_keyword_148 : decode cX8_keyword 148 = .ok (.ireturn, 1) := dc_172 (by decide +kernel)
theorem GX8_134 {w : eW} {d : Nat} {Y : eY} {pc : Nat} {ls : eL} {st : List Value} {h : eH} {Q : eO → eH → Prop} {a : Nat} {x : Int32} (hf : g_I 7 h a 24 = some x) (hd : decode Y.2.1 pc = .ok (.getfield 134, 3)) (hY : Y.1.cls = RX8) (kk : wp w d Y (pc + 3) ls (.int x :: st) h Q) : wp w d Y pc ls (.ref a :: st) h Q := x_gI (ci := 7) (k := 24) hf hd rfl (by decide) (by rw [hY]; exact q862) kk
theorem GX8_45 {w : eW} {d : Nat} {Y : eY} {pc : Nat} {ls : eL} {st : List Value} {h : eH} {Q : eO → eH → Prop} {a : Nat} {x : Nat} (hf : g_A 7 h a 23 = some x) (hd : decode Y.2.1 pc = .ok (.getfield 45, 3)) (hY : Y.1.cls = RX8) (kk : wp w d Y (pc + 3) ls (.ref x :: st) h Q) : wp w d Y pc ls (.ref a :: st) h Q := x_gA (ci := 7) (k := 23) hf hd rfl (by decide) (by rw [hY]; exact q861) kk
def fX8_keyword_b141 (N : Nat) (rE : Nat → Int32 → eH → Option ((Unit ⊕ Nat) × eH)) (l0 : Nat) (l3 : Int32) (l5 : Int32) (h : eH) : Option ((Int32 ⊕ Nat) × eH) :=
  (p_V 7 h l0 24 (.int l3)).bind fun h1 =>
  z_r l5 (.inl l5, h1)
theorem pX8_keyword_b141 {w : eW} {d : Nat} {dr : Nat} (hd : dr + 14 ≤ d + 1) (hdr : 12 ≤ dr) {N : Nat} {rE : Nat → Int32 → eH → Option ((Unit ⊕ Nat) × eH)} (hrE : ∀ a t0 h q, rE a t0 h = some q → wm w dr YX8_expand [.ref a, .int t0] h (e_is (e_rt c_V q))) {l0 : Nat} {l3 : Int32} {l5 : Int32} {h : eH} {q} (hf : fX8_keyword_b141 N rE l0 l3 l5 h = some q) : wp w (d + 1) YX8_keyword 141 [some (.ref l0), none, none, some (.int l3), none, some (.int l5)] [] h (e_is (e_rt c_I q)) := by
  unfold fX8_keyword_b141 at hf
  refine w_aload_n dX8_keyword_141 rfl rfl ?_
  refine w_iload_n dX8_keyword_142 rfl rfl ?_
  obtain ⟨h1, b2, hf⟩ := Option.bind_eq_some_iff.mp hf
  refine SX8_134 b2 dX8_keyword_143 rfl ?_
  refine w_iload dX8_keyword_146 rfl ?_
  obtain ⟨b3, rfl⟩ := z_r_some hf
  exact w_iret dX8_keyword_148 rfl b3 rfl
def fX8_keyword_b107 (N : Nat) (rE : Nat → Int32 → eH → Option ((Unit ⊕ Nat) × eH)) : Nat → Nat → Int32 → Int32 → eH → Option ((Int32 ⊕ Nat) × eH)
  | 0, _, _, _, _ => none
  | n + 1, l0, l3, l5, h =>
    (g_I 7 h l0 24).bind fun x1 =>
    if x1 ≤ l3 then
      fX8_keyword_b141 N rE l0 l3 l5 h
    else
      (g_A 7 h l0 7).bind fun a4 =>
      (g_A 7 h l0 23).bind fun a6 =>
      (g_I 7 h l0 24).bind fun x8 =>
      (p_V 7 h l0 24 (.int (x8 - (1 : Int32)))).bind fun h10 =>
      (r_I 100 h10 a6 (x8 - (1 : Int32))).bind fun x12 =>
      (k_ok 12 h10 a4).bind fun _ =>
      (fX13_put a4 x12 h10).bind fun q15 =>
      fX8_keyword_b107 N rE n l0 l3 l5 q15.2
theorem pX8_keyword_b107 {w : eW} {d : Nat} {dr : Nat} (hd : dr + 14 ≤ d + 1) (hdr : 12 ≤ dr) {N : Nat} {rE : Nat → Int32 → eH → Option ((Unit ⊕ Nat) × eH)} (hrE : ∀ a t0 h q, rE a t0 h = some q → wm w dr YX8_expand [.ref a, .int t0] h (e_is (e_rt c_V q))) : ∀ (n : Nat) l0 l3 l5 h q, fX8_keyword_b107 N rE n l0 l3 l5 h = some q → wp w (d + 1) YX8_keyword 107 [some (.ref l0), none, none, some (.int l3), none, some (.int l5)] [] h (e_is (e_rt c_I q)) := by
  intro n
  induction n with
  | zero => intro l0 l3 l5 h q hf; simp [fX8_keyword_b107] at hf
  | succ n ih =>
    intro l0 l3 l5 h q hf
    rw [fX8_keyword_b107] at hf
    refine w_aload_n dX8_keyword_107 rfl rfl ?_
    obtain ⟨x1, b2, hf⟩ := Option.bind_eq_some_iff.mp hf
    refine GX8_134 b2 dX8_keyword_108 rfl ?_
    refine w_iload_n dX8_keyword_111 rfl rfl ?_
    refine w_icmp_le 141 dX8_keyword_112 (by decide) (fun c3 => ?_) (fun c3 => ?_)
    · replace hf := (if_pos (show x1 ≤ l3 from c3)).symm.trans hf
      exact (pX8_keyword_b141 hd hdr hrE hf).to ⟨rfl, rfl, rfl, trivial⟩
    · replace hf := (if_neg (show ¬ (x1 ≤ l3) from c3)).symm.trans hf
      refine w_aload_n dX8_keyword_115 rfl rfl ?_
      obtain ⟨a4, b5, hf⟩ := Option.bind_eq_some_iff.mp hf
      refine GX8_93 b5 dX8_keyword_116 rfl ?_
      refine w_aload_n dX8_keyword_119 rfl rfl ?_
      obtain ⟨a6, b7, hf⟩ := Option.bind_eq_some_iff.mp hf
      refine GX8_45 b7 dX8_keyword_120 rfl ?_
      refine w_aload_n dX8_keyword_123 rfl rfl ?_
      refine w_dup dX8_keyword_124 rfl ?_
      obtain ⟨x8, b9, hf⟩ := Option.bind_eq_some_iff.mp hf
      refine GX8_134 b9 dX8_keyword_125 rfl ?_
      refine w_iconst dX8_keyword_128 (v := 1) (by decide) ?_
      refine w_isub dX8_keyword_129 ?_
      refine w_dup_x1 dX8_keyword_130 rfl rfl ?_
      obtain ⟨h10, b11, hf⟩ := Option.bind_eq_some_iff.mp hf
      refine SX8_134 b11 dX8_keyword_131 rfl ?_
      obtain ⟨x12, b13, hf⟩ := Option.bind_eq_some_iff.mp hf
      refine x_rI b13 dX8_keyword_134 ?_
      obtain ⟨_, b14, hf⟩ := Option.bind_eq_some_iff.mp hf
      refine x_cnV hf (e_stV (Yc := YX13_put) (ci := 12) (av := [.int x12]) (st := []) dX8_keyword_135 q2558 mX13_put rfl (k_ok_some b14).1 (k_ok_some b14).2) mX13_put.2.2.1 mX13_put.2.2.2.2.1 (Nat.le_of_ble_eq_true rfl) (Nat.le_of_ble_eq_true rfl) (fun q hq => pX13_put (by omega) hq) (fun q15 hf => ?_)
      refine w_goto 107 dX8_keyword_138 (by decide) ?_
      exact (ih _ _ _ _ _ hf).to ⟨rfl, rfl, rfl, trivial⟩
def fX8_keyword_b97 (N : Nat) (rE : Nat → Int32 → eH → Option ((Unit ⊕ Nat) × eH)) (l0 : Nat) (l2 : Int32) (l3 : Int32) (l5 : Int32) (h : eH) : Option ((Int32 ⊕ Nat) × eH) :=
  if ¬ l5 = 0 then
    fX8_keyword_b141 N rE l0 l3 l5 h
  else
    (k_ok 7 h l0).bind fun _ =>
    (fX8_putBack l0 l2 h).bind fun q3 =>
    fX8_keyword_b107 N rE N l0 l3 l5 q3.2
theorem pX8_keyword_b97 {w : eW} {d : Nat} {dr : Nat} (hd : dr + 14 ≤ d + 1) (hdr : 12 ≤ dr) {N : Nat} {rE : Nat → Int32 → eH → Option ((Unit ⊕ Nat) × eH)} (hrE : ∀ a t0 h q, rE a t0 h = some q → wm w dr YX8_expand [.ref a, .int t0] h (e_is (e_rt c_V q))) {l0 : Nat} {l2 : Int32} {l3 : Int32} {l5 : Int32} {h : eH} {q} (hf : fX8_keyword_b97 N rE l0 l2 l3 l5 h = some q) : wp w (d + 1) YX8_keyword 97 [some (.ref l0), none, some (.int l2), some (.int l3), none, some (.int l5)] [] h (e_is (e_rt c_I q)) := by
  unfold fX8_keyword_b97 at hf
  refine w_iload dX8_keyword_97 rfl ?_
  refine w_if_ne 141 dX8_keyword_99 (by decide) (fun c1 => ?_) (fun c1 => ?_)
  · replace hf := (if_pos (show ¬ l5 = 0 from c1)).symm.trans hf
    exact (pX8_keyword_b141 hd hdr hrE hf).to ⟨rfl, rfl, rfl, trivial⟩
  · replace hf := (if_neg (show ¬ (¬ l5 = 0) from (fun z => z c1))).symm.trans hf
    refine w_aload_n dX8_keyword_102 rfl rfl ?_
    refine w_iload_n dX8_keyword_103 rfl rfl ?_
    obtain ⟨_, b2, hf⟩ := Option.bind_eq_some_iff.mp hf
    refine x_cnV hf (e_stV (Yc := YX8_putBack) (ci := 7) (av := [.int l2]) (st := []) dX8_keyword_104 q2607 mX8_putBack rfl (k_ok_some b2).1 (k_ok_some b2).2) mX8_putBack.2.2.1 mX8_putBack.2.2.2.2.1 (Nat.le_of_ble_eq_true rfl) (Nat.le_of_ble_eq_true rfl) (fun q hq => pX8_putBack (by omega) hq) (fun q3 hf => ?_)
    exact (pX8_keyword_b107 hd hdr hrE N _ _ _ _ _ hf).to ⟨rfl, rfl, rfl, trivial⟩
def fX8_keyword_b41 (N : Nat) (rE : Nat → Int32 → eH → Option ((Unit ⊕ Nat) × eH)) : Nat → Nat → Nat → Int32 → Int32 → Int32 → Int32 → eH → Option ((Int32 ⊕ Nat) × eH)
  | 0, _, _, _, _, _, _, _ => none
  | n + 1, l0, l1, l2, l3, l4, l5, h =>
    if l5 = 0 then
      fX8_keyword_b97 N rE l0 l2 l3 l5 h
    else
      (s_ok l1).bind fun _ =>
      (fJ1_length l1 h).bind fun q3 =>
      if q3.1 ≤ (l4 + (1 : Int32)) then
        fX8_keyword_b97 N rE l0 l2 l3 l5 q3.2
      else
        (g_A 7 q3.2 l0 23).bind fun a5 =>
        (g_I 7 q3.2 l0 24).bind fun x7 =>
        (p_V 7 q3.2 l0 24 (.int (x7 + (1 : Int32)))).bind fun h9 =>
        (q_V 100 h9 a5 x7 (.int l2)).bind fun h11 =>
        (k_ok 7 h11 l0).bind fun _ =>
        t_B (fX8_getExpanded N rE l0 h11) fun x14 h15 =>
        (s_ok l1).bind fun _ =>
        (fJ1_charAt l1 (l4 + (1 : Int32)) h15).bind fun q17 =>
        (fX8_isLetter x14 q17.1 q17.2).bind fun q18 =>
        fX8_keyword_b41 N rE n l0 l1 x14 l3 (l4 + (1 : Int32)) q18.1 q18.2
theorem pX8_keyword_b41 {w : eW} {d : Nat} {dr : Nat} (hd : dr + 14 ≤ d + 1) (hdr : 12 ≤ dr) {N : Nat} {rE : Nat → Int32 → eH → Option ((Unit ⊕ Nat) × eH)} (hrE : ∀ a t0 h q, rE a t0 h = some q → wm w dr YX8_expand [.ref a, .int t0] h (e_is (e_rt c_V q))) : ∀ (n : Nat) l0 l1 l2 l3 l4 l5 h q, fX8_keyword_b41 N rE n l0 l1 l2 l3 l4 l5 h = some q → wp w (d + 1) YX8_keyword 41 [some (.ref l0), some (.ref l1), some (.int l2), some (.int l3), some (.int l4), some (.int l5)] [] h (e_is (e_rt c_I q)) := by
  intro n
  induction n with
  | zero => intro l0 l1 l2 l3 l4 l5 h q hf; simp [fX8_keyword_b41] at hf
  | succ n ih =>
    intro l0 l1 l2 l3 l4 l5 h q hf
    rw [fX8_keyword_b41] at hf
    refine w_iload dX8_keyword_41 rfl ?_
    refine w_if_eq 97 dX8_keyword_43 (by decide) (fun c1 => ?_) (fun c1 => ?_)
    · replace hf := (if_pos (show l5 = 0 from c1)).symm.trans hf
      exact (pX8_keyword_b97 hd hdr hrE hf).to ⟨rfl, rfl, rfl, rfl, trivial⟩
    · replace hf := (if_neg (show ¬ (l5 = 0) from c1)).symm.trans hf
      refine w_iload dX8_keyword_46 rfl ?_
      refine w_iconst dX8_keyword_48 (v := 1) (by decide) ?_
      refine w_iadd dX8_keyword_49 ?_
      refine w_aload_n dX8_keyword_50 rfl rfl ?_
      obtain ⟨_, b2, hf⟩ := Option.bind_eq_some_iff.mp hf
      refine x_cnI hf (e_stVO (Yc := YJ1_length) (av := []) (st := [.int (l4 + (1 : Int32))]) dX8_keyword_51 q2750 mJ1_length b2) mJ1_length.2.2.1 mJ1_length.2.2.2.2.1 (Nat.le_of_ble_eq_true rfl) (Nat.le_of_ble_eq_true rfl) (fun q hq => pJ1_length (by omega) hq) (fun q3 hf => ?_)
      refine w_icmp_ge 97 dX8_keyword_54 (by decide) (fun c4 => ?_) (fun c4 => ?_)
      · replace hf := (if_pos (show q3.1 ≤ (l4 + (1 : Int32)) from c4)).symm.trans hf
        exact (pX8_keyword_b97 hd hdr hrE hf).to ⟨rfl, rfl, rfl, rfl, trivial⟩
      · replace hf := (if_neg (show ¬ (q3.1 ≤ (l4 + (1 : Int32))) from c4)).symm.trans hf
        refine w_aload_n dX8_keyword_57 rfl rfl ?_
        obtain ⟨a5, b6, hf⟩ := Option.bind_eq_some_iff.mp hf
        refine GX8_45 b6 dX8_keyword_58 rfl ?_
        refine w_aload_n dX8_keyword_61 rfl rfl ?_
        refine w_dup dX8_keyword_62 rfl ?_
        obtain ⟨x7, b8, hf⟩ := Option.bind_eq_some_iff.mp hf
        refine GX8_134 b8 dX8_keyword_63 rfl ?_
        refine w_dup_x1 dX8_keyword_66 rfl rfl ?_
        refine w_iconst dX8_keyword_67 (v := 1) (by decide) ?_
        refine w_iadd dX8_keyword_68 ?_
        obtain ⟨h9, b10, hf⟩ := Option.bind_eq_some_iff.mp hf
        refine SX8_134 b10 dX8_keyword_69 rfl ?_
        refine w_iload_n dX8_keyword_72 rfl rfl ?_
        obtain ⟨h11, b12, hf⟩ := Option.bind_eq_some_iff.mp hf
        refine x_qI b12 dX8_keyword_73 ?_
        refine w_iinc dX8_keyword_74 (v := (l4 + (1 : Int32))) rfl rfl (by decide) (ls' := [some (.ref l0), some (.ref l1), some (.int l2), some (.int l3), some (.int (l4 + (1 : Int32))), some (.int l5)]) rfl ?_
        refine w_aload_n dX8_keyword_77 rfl rfl ?_
        obtain ⟨_, b13, hf⟩ := Option.bind_eq_some_iff.mp hf
        refine x_ctI hf (e_stV (Yc := YX8_getExpanded) (ci := 7) (av := []) (st := []) dX8_keyword_78 q2567 mX8_getExpanded rfl (k_ok_some b13).1 (k_ok_some b13).2) mX8_getExpanded.2.2.1 mX8_getExpanded.2.2.2.2.1 (Nat.le_of_ble_eq_true rfl) (Nat.le_of_ble_eq_true rfl) rfl (fun q hq => pX8_getExpanded (by omega) hdr hrE hq) (fun x14 h15 hf => ?_)
        refine w_istore_n dX8_keyword_81 rfl (by decide) (ls' := [some (.ref l0), some (.ref l1), some (.int x14), some (.int l3), some (.int (l4 + (1 : Int32))), some (.int l5)]) rfl ?_
        refine w_iload_n dX8_keyword_82 rfl rfl ?_
        refine w_aload_n dX8_keyword_83 rfl rfl ?_
        refine w_iload dX8_keyword_84 rfl ?_
        obtain ⟨_, b16, hf⟩ := Option.bind_eq_some_iff.mp hf
        refine x_cnI hf (e_stVO (Yc := YJ1_charAt) (av := [.int (l4 + (1 : Int32))]) (st := [.int x14]) dX8_keyword_86 q2659 mJ1_charAt b16) mJ1_charAt.2.2.1 mJ1_charAt.2.2.2.2.1 (Nat.le_of_ble_eq_true rfl) (Nat.le_of_ble_eq_true rfl) (fun q hq => pJ1_charAt (by omega) hq) (fun q17 hf => ?_)
        refine x_cnI hf (e_stS (Yc := YX8_isLetter) (av := [.int x14, .int q17.1]) (st := []) dX8_keyword_89 q2747 mX8_isLetter) mX8_isLetter.2.2.1 mX8_isLetter.2.2.2.2.1 (Nat.le_of_ble_eq_true rfl) (Nat.le_of_ble_eq_true rfl) (fun q hq => pX8_isLetter (by omega) hq) (fun q18 hf => ?_)
        refine w_istore dX8_keyword_92 (by decide) (ls' := [some (.ref l0), some (.ref l1), some (.int x14), some (.int l3), some (.int (l4 + (1 : Int32))), some (.int q18.1)]) rfl ?_
        refine w_goto 41 dX8_keyword_94 (by decide) ?_
        exact (ih _ _ _ _ _ _ _ _ hf).to ⟨rfl, rfl, rfl, rfl, rfl, rfl, trivial⟩
def fX8_keyword_b5 (N : Nat) (rE : Nat → Int32 → eH → Option ((Unit ⊕ Nat) × eH)) : Nat → Nat → Nat → Int32 → eH → Option ((Int32 ⊕ Nat) × eH)
  | 0, _, _, _, _ => none
  | n + 1, l0, l1, l2, h =>
    (fX1_is l2 (10 : Int32) h).bind fun q1 =>
    if q1.1 = 0 then
      (g_I 7 q1.2 l0 24).bind fun x3 =>
      (s_ok l1).bind fun _ =>
      (fJ1_charAt l1 (0 : Int32) q1.2).bind fun q6 =>
      (fX8_isLetter l2 q6.1 q6.2).bind fun q7 =>
      fX8_keyword_b41 N rE N l0 l1 l2 x3 (0 : Int32) q7.1 q7.2
    else
      (k_ok 7 q1.2 l0).bind fun _ =>
      t_B (fX8_getExpanded N rE l0 q1.2) fun x9 h10 =>
      fX8_keyword_b5 N rE n l0 l1 x9 h10
theorem pX8_keyword_b5 {w : eW} {d : Nat} {dr : Nat} (hd : dr + 14 ≤ d + 1) (hdr : 12 ≤ dr) {N : Nat} {rE : Nat → Int32 → eH → Option ((Unit ⊕ Nat) × eH)} (hrE : ∀ a t0 h q, rE a t0 h = some q → wm w dr YX8_expand [.ref a, .int t0] h (e_is (e_rt c_V q))) : ∀ (n : Nat) l0 l1 l2 h q, fX8_keyword_b5 N rE n l0 l1 l2 h = some q → wp w (d + 1) YX8_keyword 5 [some (.ref l0), some (.ref l1), some (.int l2), none, none, none] [] h (e_is (e_rt c_I q)) := by
  intro n
  induction n with
  | zero => intro l0 l1 l2 h q hf; simp [fX8_keyword_b5] at hf
  | succ n ih =>
    intro l0 l1 l2 h q hf
    rw [fX8_keyword_b5] at hf
    refine w_iload_n dX8_keyword_5 rfl rfl ?_
    refine w_bipush dX8_keyword_6 (v := 10) (by decide) ?_
    refine x_cnI hf (e_stSN (Yc := YX1_is) (av := [.int l2, .int (10 : Int32)]) (st := []) dX8_keyword_8 q2518 mX1_is) mX1_is.2.2.1 mX1_is.2.2.2.2.1 (Nat.le_of_ble_eq_true rfl) (Nat.le_of_ble_eq_true rfl) (fun q hq => pX1_is (by omega) hq) (fun q1 hf => ?_)
    refine w_if_eq 22 dX8_keyword_11 (by decide) (fun c2 => ?_) (fun c2 => ?_)
    · replace hf := (if_pos (show q1.1 = 0 from c2)).symm.trans hf
      refine w_aload_n dX8_keyword_22 rfl rfl ?_
      obtain ⟨x3, b4, hf⟩ := Option.bind_eq_some_iff.mp hf
      refine GX8_134 b4 dX8_keyword_23 rfl ?_
      refine w_istore_n dX8_keyword_26 rfl (by decide) (ls' := [some (.ref l0), some (.ref l1), some (.int l2), some (.int x3), none, none]) rfl ?_
      refine w_iconst dX8_keyword_27 (v := 0) (by decide) ?_
      refine w_istore dX8_keyword_28 (by decide) (ls' := [some (.ref l0), some (.ref l1), some (.int l2), some (.int x3), some (.int (0 : Int32)), none]) rfl ?_
      refine w_iload_n dX8_keyword_30 rfl rfl ?_
      refine w_aload_n dX8_keyword_31 rfl rfl ?_
      refine w_iconst dX8_keyword_32 (v := 0) (by decide) ?_
      obtain ⟨_, b5, hf⟩ := Option.bind_eq_some_iff.mp hf
      refine x_cnI hf (e_stVO (Yc := YJ1_charAt) (av := [.int (0 : Int32)]) (st := [.int l2]) dX8_keyword_33 q2659 mJ1_charAt b5) mJ1_charAt.2.2.1 mJ1_charAt.2.2.2.2.1 (Nat.le_of_ble_eq_true rfl) (Nat.le_of_ble_eq_true rfl) (fun q hq => pJ1_charAt (by omega) hq) (fun q6 hf => ?_)
      refine x_cnI hf (e_stS (Yc := YX8_isLetter) (av := [.int l2, .int q6.1]) (st := []) dX8_keyword_36 q2747 mX8_isLetter) mX8_isLetter.2.2.1 mX8_isLetter.2.2.2.2.1 (Nat.le_of_ble_eq_true rfl) (Nat.le_of_ble_eq_true rfl) (fun q hq => pX8_isLetter (by omega) hq) (fun q7 hf => ?_)
      refine w_istore dX8_keyword_39 (by decide) (ls' := [some (.ref l0), some (.ref l1), some (.int l2), some (.int x3), some (.int (0 : Int32)), some (.int q7.1)]) rfl ?_
      exact (pX8_keyword_b41 hd hdr hrE N _ _ _ _ _ _ _ _ hf).to ⟨rfl, rfl, rfl, rfl, rfl, rfl, trivial⟩
    · replace hf := (if_neg (show ¬ (q1.1 = 0) from c2)).symm.trans hf
      refine w_aload_n dX8_keyword_14 rfl rfl ?_
      obtain ⟨_, b8, hf⟩ := Option.bind_eq_some_iff.mp hf
      refine x_ctI hf (e_stV (Yc := YX8_getExpanded) (ci := 7) (av := []) (st := []) dX8_keyword_15 q2567 mX8_getExpanded rfl (k_ok_some b8).1 (k_ok_some b8).2) mX8_getExpanded.2.2.1 mX8_getExpanded.2.2.2.2.1 (Nat.le_of_ble_eq_true rfl) (Nat.le_of_ble_eq_true rfl) rfl (fun q hq => pX8_getExpanded (by omega) hdr hrE hq) (fun x9 h10 hf => ?_)
      refine w_istore_n dX8_keyword_18 rfl (by decide) (ls' := [some (.ref l0), some (.ref l1), some (.int x9), none, none, none]) rfl ?_
      refine w_goto 5 dX8_keyword_19 (by decide) ?_
      exact (ih _ _ _ _ _ hf).to ⟨rfl, rfl, rfl, trivial⟩
def fX8_keyword (N : Nat) (rE : Nat → Int32 → eH → Option ((Unit ⊕ Nat) × eH)) (this : Nat) (p0 : Nat) (h : eH) : Option ((Int32 ⊕ Nat) × eH) :=
  (k_ok 7 h this).bind fun _ =>
  t_B (fX8_getExpanded N rE this h) fun x2 h3 =>
  fX8_keyword_b5 N rE N this p0 x2 h3
theorem pX8_keyword {w : eW} {d : Nat} {dr : Nat} (hd : dr + 14 ≤ d) (hdr : 12 ≤ dr) {N : Nat} {rE : Nat → Int32 → eH → Option ((Unit ⊕ Nat) × eH)} (hrE : ∀ a t0 h q, rE a t0 h = some q → wm w dr YX8_expand [.ref a, .int t0] h (e_is (e_rt c_V q))) {this : Nat} {p0 : Nat} {h : eH} {q} (hf : fX8_keyword N rE this p0 h = some q) : wm w d YX8_keyword [.ref this, .ref p0] h (e_is (e_rt c_I q)) := by
  obtain ⟨d, rfl⟩ : ∃ e, d = e + 1 := ⟨d - 1, by omega⟩
  show wp w (d + 1) YX8_keyword 0 [some (.ref this), some (.ref p0), none, none, none, none] [] h _
  unfold fX8_keyword at hf
  refine w_aload_n dX8_keyword_0 rfl rfl ?_
  obtain ⟨_, b1, hf⟩ := Option.bind_eq_some_iff.mp hf
  refine x_ctI hf (e_stV (Yc := YX8_getExpanded) (ci := 7) (av := []) (st := []) dX8_keyword_1 q2567 mX8_getExpanded rfl (k_ok_some b1).1 (k_ok_some b1).2) mX8_getExpanded.2.2.1 mX8_getExpanded.2.2.2.2.1 (Nat.le_of_ble_eq_true rfl) (Nat.le_of_ble_eq_true rfl) rfl (fun q hq => pX8_getExpanded (by omega) hdr hrE hq) (fun x2 h3 hf => ?_)
  refine w_istore_n dX8_keyword_4 rfl (by decide) (ls' := [some (.ref this), some (.ref p0), some (.int x2), none, none, none]) rfl ?_
  exact (pX8_keyword_b5 hd hdr hrE N _ _ _ _ _ hf).to ⟨rfl, rfl, rfl, trivial⟩
abbrev cX8_needSolid : ByteArray := prog_4_method_14_code
def yX8_needSolid : MethodName := ⟨RX8, "needSolid", "()I"⟩
def YX8_needSolid : eY := (yX8_needSolid, cX8_needSolid, 2, (Option.some FieldType.int), [])
theorem mX8_needSolid : e_mv YX8_needSolid RX8 0 := ⟨q2596, qs65, q2597, by decide, by decide +kernel, (e_sig (by decide +kernel))⟩
theorem dX8_needSolid_0 : decode cX8_needSolid 0 = .ok (.aload_n 0, 1) := dc_42 (by decide +kernel)
theorem dX8_needSolid_1 : decode cX8_needSolid 1 = .ok (.invokevirtual 190, 3) := dc_182 (a := 0) (b := 190) (n := 190) (by decide +kernel)
theorem dX8_needSolid_4 : decode cX8_needSolid 4 = .ok (.istore_n 1, 1) := dc_60 (by decide +kernel)
theorem dX8_needSolid_5 : decode cX8_needSolid 5 = .ok (.iload_n 1, 1) := dc_27 (by decide +kernel)
theorem dX8_needSolid_6 : decode cX8_needSolid 6 = .ok (.bipush 10, 2) := dc_16 (a := 10) (v := 10) (by decide +kernel)
theorem dX8_needSolid_8 : decode cX8_needSolid 8 = .ok (.invokestatic 193, 3) := dc_184 (a := 0) (b := 193) (n := 193) (by decide +kernel)
theorem dX8_needSolid_11 : decode cX8_needSolid 11 = .ok (.ifCond .eq 11, 3) := dc_153 (a := 0) (b := 11) (v := 11) (by decide +kernel)
theorem dX8_needSolid_14 : decode cX8_needSolid 14 = .ok (.aload_n 0, 1) := dc_42 (by decide +kernel)
theorem dX8_needSolid_15 : decode cX8_needSolid 15 = .ok (.invokevirtual 190, 3) := dc_182 (a := 0) (b := 190) (n := 190) (by decide +kernel)
theorem dX8_needSolid_18 : decode cX8_needSolid 18 = .ok (.istore_n 1, 1) := dc_60 (by decide +kernel)
theorem dX8_needSolid_19 : decode cX8_needSolid 19 = .ok (.goto (-14), 3) := dc_167 (a := 255) (b := 242) (v := -14) (by decide +kernel)
theorem dX8_needSolid_22 : decode cX8_needSolid 22 = .ok (.iload_n 1, 1) := dc_27 (by decide +kernel)
theorem dX8_needSolid_23 : decode cX8_needSolid 23 = .ok (.ireturn, 1) := dc_172 (by decide +kernel)
def fX8_needSolid_b5 (N : Nat) (rE : Nat → Int32 → eH → Option ((Unit ⊕ Nat) × eH)) : Nat → Nat → Int32 → eH → Option ((Int32 ⊕ Nat) × eH)
  | 0, _, _, _ => none
  | n + 1, l0, l1, h =>
    (fX1_is l1 (10 : Int32) h).bind fun q1 =>
    if q1.1 = 0 then
      some (.inl l1, q1.2)
    else
      (k_ok 7 q1.2 l0).bind fun _ =>
      t_B (fX8_needExpanded N rE l0 q1.2) fun x4 h5 =>
      fX8_needSolid_b5 N rE n l0 x4 h5
theorem pX8_needSolid_b5 {w : eW} {d : Nat} {dr : Nat} (hd : dr + 15 ≤ d + 1) (hdr : 12 ≤ dr) {N : Nat} {rE : Nat → Int32 → eH → Option ((Unit ⊕ Nat) × eH)} (hrE : ∀ a t0 h q, rE a t0 h = some q → wm w dr YX8_expand [.ref a, .int t0] h (e_is (e_rt c_V q))) : ∀ (n : Nat) l0 l1 h q, fX8_needSolid_b5 N rE n l0 l1 h = some q → wp w (d + 1) YX8_needSolid 5 [some (.ref l0), some (.int l1)] [] h (e_is (e_rt c_I q)) := by
  intro n
  induction n with
  | zero => intro l0 l1 h q hf; simp [fX8_needSolid_b5] at hf
  | succ n ih =>
    intro l0 l1 h q hf
    rw [fX8_needSolid_b5] at hf
    refine w_iload_n dX8_needSolid_5 rfl rfl ?_
    refine w_bipush dX8_needSolid_6 (v := 10) (by decide) ?_
    refine x_cnI hf (e_stSN (Yc := YX1_is) (av := [.int l1, .int (10 : Int32)]) (st := []) dX8_needSolid_8 q2518 mX1_is) mX1_is.2.2.1 mX1_is.2.2.2.2.1 (Nat.le_of_ble_eq_true rfl) (Nat.le_of_ble_eq_true rfl) (fun q hq => pX1_is (by omega) hq) (fun q1 hf => ?_)
    refine w_if_eq 22 dX8_needSolid_11 (by decide) (fun c2 => ?_) (fun c2 => ?_)
    · replace hf := (if_pos (show q1.1 = 0 from c2)).symm.trans hf
      refine w_iload_n dX8_needSolid_22 rfl rfl ?_
      cases hf
      exact w_iret dX8_needSolid_23 rfl rfl rfl
    · replace hf := (if_neg (show ¬ (q1.1 = 0) from c2)).symm.trans hf
      refine w_aload_n dX8_needSolid_14 rfl rfl ?_
      obtain ⟨_, b3, hf⟩ := Option.bind_eq_some_iff.mp hf
      refine x_ctI hf (e_stV (Yc := YX8_needExpanded) (ci := 7) (av := []) (st := []) dX8_needSolid_15 q2563 mX8_needExpanded rfl (k_ok_some b3).1 (k_ok_some b3).2) mX8_needExpanded.2.2.1 mX8_needExpanded.2.2.2.2.1 (Nat.le_of_ble_eq_true rfl) (Nat.le_of_ble_eq_true rfl) rfl (fun q hq => pX8_needExpanded (by omega) hdr hrE hq) (fun x4 h5 hf => ?_)
      refine w_istore_n dX8_needSolid_18 rfl (by decide) (ls' := [some (.ref l0), some (.int x4)]) rfl ?_
      refine w_goto 5 dX8_needSolid_19 (by decide) ?_
      exact (ih _ _ _ _ hf).to ⟨rfl, rfl, trivial⟩
def fX8_needSolid (N : Nat) (rE : Nat → Int32 → eH → Option ((Unit ⊕ Nat) × eH)) (this : Nat) (h : eH) : Option ((Int32 ⊕ Nat) × eH) :=
  (k_ok 7 h this).bind fun _ =>
  t_B (fX8_needExpanded N rE this h) fun x2 h3 =>
  fX8_needSolid_b5 N rE N this x2 h3
theorem pX8_needSolid {w : eW} {d : Nat} {dr : Nat} (hd : dr + 15 ≤ d) (hdr : 12 ≤ dr) {N : Nat} {rE : Nat → Int32 → eH → Option ((Unit ⊕ Nat) × eH)} (hrE : ∀ a t0 h q, rE a t0 h = some q → wm w dr YX8_expand [.ref a, .int t0] h (e_is (e_rt c_V q))) {this : Nat} {h : eH} {q} (hf : fX8_needSolid N rE this h = some q) : wm w d YX8_needSolid [.ref this] h (e_is (e_rt c_I q)) := by
  obtain ⟨d, rfl⟩ : ∃ e, d = e + 1 := ⟨d - 1, by omega⟩
  show wp w (d + 1) YX8_needSolid 0 [some (.ref this), none] [] h _
  unfold fX8_needSolid at hf
  refine w_aload_n dX8_needSolid_0 rfl rfl ?_
  obtain ⟨_, b1, hf⟩ := Option.bind_eq_some_iff.mp hf
  refine x_ctI hf (e_stV (Yc := YX8_needExpanded) (ci := 7) (av := []) (st := []) dX8_needSolid_1 q2563 mX8_needExpanded rfl (k_ok_some b1).1 (k_ok_some b1).2) mX8_needExpanded.2.2.1 mX8_needExpanded.2.2.2.2.1 (Nat.le_of_ble_eq_true rfl) (Nat.le_of_ble_eq_true rfl) rfl (fun q hq => pX8_needExpanded (by omega) hdr hrE hq) (fun x2 h3 hf => ?_)
  refine w_istore_n dX8_needSolid_4 rfl (by decide) (ls' := [some (.ref this), some (.int x2)]) rfl ?_
  exact (pX8_needSolid_b5 hd hdr hrE N _ _ _ _ hf).to ⟨rfl, rfl, trivial⟩
abbrev cX8_signed : ByteArray := prog_4_method_49_code
def yX8_signed : MethodName := ⟨RX8, "signed", "()I"⟩
def YX8_signed : eY := (yX8_signed, cX8_signed, 3, (Option.some FieldType.int), [])
theorem mX8_signed : e_mv YX8_signed RX8 0 := ⟨q2716, qs89, q2717, by decide, by decide +kernel, (e_sig (by decide +kernel))⟩
theorem dX8_signed_0 : decode cX8_signed 0 = .ok (.iconst 0, 1) := dc_3 (by decide +kernel)
theorem dX8_signed_1 : decode cX8_signed 1 = .ok (.istore_n 1, 1) := dc_60 (by decide +kernel)
theorem dX8_signed_2 : decode cX8_signed 2 = .ok (.aload_n 0, 1) := dc_42 (by decide +kernel)
theorem dX8_signed_3 : decode cX8_signed 3 = .ok (.invokevirtual 335, 3) := dc_182 (a := 1) (b := 79) (n := 335) (by decide +kernel)
theorem dX8_signed_6 : decode cX8_signed 6 = .ok (.istore_n 2, 1) := dc_61 (by decide +kernel)
theorem dX8_signed_7 : decode cX8_signed 7 = .ok (.iload_n 2, 1) := dc_28 (by decide +kernel)
theorem dX8_signed_8 : decode cX8_signed 8 = .ok (.bipush 43, 2) := dc_16 (a := 43) (v := 43) (by decide +kernel)
theorem dX8_signed_10 : decode cX8_signed 10 = .ok (.invokestatic 255, 3) := dc_184 (a := 0) (b := 255) (n := 255) (by decide +kernel)
theorem dX8_signed_13 : decode cX8_signed 13 = .ok (.if_icmp .eq 12, 3) := dc_159 (a := 0) (b := 12) (v := 12) (by decide +kernel)
theorem dX8_signed_16 : decode cX8_signed 16 = .ok (.iload_n 2, 1) := dc_28 (by decide +kernel)
theorem dX8_signed_17 : decode cX8_signed 17 = .ok (.bipush 45, 2) := dc_16 (a := 45) (v := 45) (by decide +kernel)
theorem dX8_signed_19 : decode cX8_signed 19 = .ok (.invokestatic 255, 3) := dc_184 (a := 0) (b := 255) (n := 255) (by decide +kernel)
theorem dX8_signed_22 : decode cX8_signed 22 = .ok (.if_icmp .ne 28, 3) := dc_160 (a := 0) (b := 28) (v := 28) (by decide +kernel)
theorem dX8_signed_25 : decode cX8_signed 25 = .ok (.iload_n 1, 1) := dc_27 (by decide +kernel)
theorem dX8_signed_26 : decode cX8_signed 26 = .ok (.iload_n 2, 1) := dc_28 (by decide +kernel)
theorem dX8_signed_27 : decode cX8_signed 27 = .ok (.bipush 45, 2) := dc_16 (a := 45) (v := 45) (by decide +kernel)
theorem dX8_signed_29 : decode cX8_signed 29 = .ok (.invokestatic 255, 3) := dc_184 (a := 0) (b := 255) (n := 255) (by decide +kernel)
theorem dX8_signed_32 : decode cX8_signed 32 = .ok (.if_icmp .ne 7, 3) := dc_160 (a := 0) (b := 7) (v := 7) (by decide +kernel)
theorem dX8_signed_35 : decode cX8_signed 35 = .ok (.iconst 1, 1) := dc_4 (by decide +kernel)
theorem dX8_signed_36 : decode cX8_signed 36 = .ok (.goto 4, 3) := dc_167 (a := 0) (b := 4) (v := 4) (by decide +kernel)
theorem dX8_signed_39 : decode cX8_signed 39 = .ok (.iconst 0, 1) := dc_3 (by decide +kernel)
theorem dX8_signed_40 : decode cX8_signed 40 = .ok (.ixor, 1) := dc_130 (by decide +kernel)
theorem dX8_signed_41 : decode cX8_signed 41 = .ok (.istore_n 1, 1) := dc_60 (by decide +kernel)
theorem dX8_signed_42 : decode cX8_signed 42 = .ok (.aload_n 0, 1) := dc_42 (by decide +kernel)
theorem dX8_signed_43 : decode cX8_signed 43 = .ok (.invokevirtual 335, 3) := dc_182 (a := 1) (b := 79) (n := 335) (by decide +kernel)
theorem dX8_signed_46 : decode cX8_signed 46 = .ok (.istore_n 2, 1) := dc_61 (by decide +kernel)
theorem dX8_signed_47 : decode cX8_signed 47 = .ok (.goto (-40), 3) := dc_167 (a := 255) (b := 216) (v := -40) (by decide +kernel)
theorem dX8_signed_50 : decode cX8_signed 50 = .ok (.aload_n 0, 1) := dc_42 (by decide +kernel)
theorem dX8_signed_51 : decode cX8_signed 51 = .ok (.iload_n 1, 1) := dc_27 (by decide +kernel)
theorem dX8_signed_52 : decode cX8_signed 52 = .ok (.putfield 459, 3) := dc_181 (a := 1) (b := 203) (n := 459) (by decide +kernel)
theorem dX8_signed_55 : decode cX8_signed 55 = .ok (.iload_n 2, 1) := dc_28 (by decide +kernel)
theorem dX8_signed_56 : decode cX8_signed 56 = .ok (.ireturn, 1) := dc_172 (by decide +kernel)
theorem SX8_459 {w : eW} {d : Nat} {Y : eY} {pc : Nat} {ls : eL} {st : List Value} {h : eH} {Q : eO → eH → Prop} {a : Nat} {h' : eH} {x : Int32} (hf : p_Z 7 h a 27 x = some h') (hd : decode Y.2.1 pc = .ok (.putfield 459, 3)) (hY : Y.1.cls = RX8) (kk : wp w d Y (pc + 3) ls st h' Q) : wp w d Y pc ls (.int x :: .ref a :: st) h Q := x_pZ (ci := 7) (k := 27) hf hd rfl (by decide) (by rw [hY]; exact q865) rfl rfl kk
def fX8_signed_b40 (N : Nat) (rE : Nat → Int32 → eH → Option ((Unit ⊕ Nat) × eH)) (k7 : Nat → Int32 → Int32 → eH → Option ((Int32 ⊕ Nat) × eH)) (l0 : Nat) (s0 : Int32) (s1 : Int32) (h : eH) : Option ((Int32 ⊕ Nat) × eH) :=
  (k_ok 7 h l0).bind fun _ =>
  t_B (fX8_needSolid N rE l0 h) fun x2 h3 =>
  k7 l0 (s0 ^^^ s1) x2 h3
theorem pX8_signed_b40 {w : eW} {d : Nat} {dr : Nat} (hd : dr + 16 ≤ d + 1) (hdr : 12 ≤ dr) {N : Nat} {rE : Nat → Int32 → eH → Option ((Unit ⊕ Nat) × eH)} (hrE : ∀ a t0 h q, rE a t0 h = some q → wm w dr YX8_expand [.ref a, .int t0] h (e_is (e_rt c_V q))) {k7 : Nat → Int32 → Int32 → eH → Option ((Int32 ⊕ Nat) × eH)} (hk7 : ∀ l0 l1 l2 h q, k7 l0 l1 l2 h = some q → wp w (d + 1) YX8_signed 7 [some (.ref l0), some (.int l1), some (.int l2)] [] h (e_is (e_rt c_I q))) {l0 : Nat} {s0 : Int32} {s1 : Int32} {h : eH} {q} (hf : fX8_signed_b40 N rE k7 l0 s0 s1 h = some q) : wp w (d + 1) YX8_signed 40 [some (.ref l0), none, none] [.int s1, .int s0] h (e_is (e_rt c_I q)) := by
  unfold fX8_signed_b40 at hf
  refine w_ixor dX8_signed_40 ?_
  refine w_istore_n dX8_signed_41 rfl (by decide) (ls' := [some (.ref l0), some (.int (s0 ^^^ s1)), none]) rfl ?_
  refine w_aload_n dX8_signed_42 rfl rfl ?_
  obtain ⟨_, b1, hf⟩ := Option.bind_eq_some_iff.mp hf
  refine x_ctI hf (e_stV (Yc := YX8_needSolid) (ci := 7) (av := []) (st := []) dX8_signed_43 q2594 mX8_needSolid rfl (k_ok_some b1).1 (k_ok_some b1).2) mX8_needSolid.2.2.1 mX8_needSolid.2.2.2.2.1 (Nat.le_of_ble_eq_true rfl) (Nat.le_of_ble_eq_true rfl) rfl (fun q hq => pX8_needSolid (by omega) hdr hrE hq) (fun x2 h3 hf => ?_)
  refine w_istore_n dX8_signed_46 rfl (by decide) (ls' := [some (.ref l0), some (.int (s0 ^^^ s1)), some (.int x2)]) rfl ?_
  refine w_goto 7 dX8_signed_47 (by decide) ?_
  exact (hk7 _ _ _ _ _ hf).to ⟨rfl, rfl, rfl, trivial⟩
def fX8_signed_b25 (N : Nat) (rE : Nat → Int32 → eH → Option ((Unit ⊕ Nat) × eH)) (k7 : Nat → Int32 → Int32 → eH → Option ((Int32 ⊕ Nat) × eH)) (l0 : Nat) (l1 : Int32) (l2 : Int32) (h : eH) : Option ((Int32 ⊕ Nat) × eH) :=
  (fX1_other (45 : Int32) h).bind fun q1 =>
  if ¬ l2 = q1.1 then
    fX8_signed_b40 N rE k7 l0 l1 (0 : Int32) q1.2
  else
    fX8_signed_b40 N rE k7 l0 l1 (1 : Int32) q1.2
theorem pX8_signed_b25 {w : eW} {d : Nat} {dr : Nat} (hd : dr + 16 ≤ d + 1) (hdr : 12 ≤ dr) {N : Nat} {rE : Nat → Int32 → eH → Option ((Unit ⊕ Nat) × eH)} (hrE : ∀ a t0 h q, rE a t0 h = some q → wm w dr YX8_expand [.ref a, .int t0] h (e_is (e_rt c_V q))) {k7 : Nat → Int32 → Int32 → eH → Option ((Int32 ⊕ Nat) × eH)} (hk7 : ∀ l0 l1 l2 h q, k7 l0 l1 l2 h = some q → wp w (d + 1) YX8_signed 7 [some (.ref l0), some (.int l1), some (.int l2)] [] h (e_is (e_rt c_I q))) {l0 : Nat} {l1 : Int32} {l2 : Int32} {h : eH} {q} (hf : fX8_signed_b25 N rE k7 l0 l1 l2 h = some q) : wp w (d + 1) YX8_signed 25 [some (.ref l0), some (.int l1), some (.int l2)] [] h (e_is (e_rt c_I q)) := by
  unfold fX8_signed_b25 at hf
  refine w_iload_n dX8_signed_25 rfl rfl ?_
  refine w_iload_n dX8_signed_26 rfl rfl ?_
  refine w_bipush dX8_signed_27 (v := 45) (by decide) ?_
  refine x_cnI hf (e_stSN (Yc := YX1_other) (av := [.int (45 : Int32)]) (st := [.int l2, .int l1]) dX8_signed_29 q2579 mX1_other) mX1_other.2.2.1 mX1_other.2.2.2.2.1 (Nat.le_of_ble_eq_true rfl) (Nat.le_of_ble_eq_true rfl) (fun q hq => pX1_other (by omega) hq) (fun q1 hf => ?_)
  refine w_icmp_ne 39 dX8_signed_32 (by decide) (fun c2 => ?_) (fun c2 => ?_)
  · replace hf := (if_pos (show ¬ l2 = q1.1 from c2)).symm.trans hf
    refine w_iconst dX8_signed_39 (v := 0) (by decide) ?_
    exact (pX8_signed_b40 hd hdr hrE hk7 hf).to ⟨rfl, trivial⟩
  · replace hf := (if_neg (show ¬ (¬ l2 = q1.1) from (fun z => z c2))).symm.trans hf
    refine w_iconst dX8_signed_35 (v := 1) (by decide) ?_
    refine w_goto 40 dX8_signed_36 (by decide) ?_
    exact (pX8_signed_b40 hd hdr hrE hk7 hf).to ⟨rfl, trivial⟩
def fX8_signed_b7 (N : Nat) (rE : Nat → Int32 → eH → Option ((Unit ⊕ Nat) × eH)) : Nat → Nat → Int32 → Int32 → eH → Option ((Int32 ⊕ Nat) × eH)
  | 0, _, _, _, _ => none
  | n + 1, l0, l1, l2, h =>
    (fX1_other (43 : Int32) h).bind fun q1 =>
    if l2 = q1.1 then
      fX8_signed_b25 N rE (fX8_signed_b7 N rE n) l0 l1 l2 q1.2
    else
      (fX1_other (45 : Int32) q1.2).bind fun q3 =>
      if ¬ l2 = q3.1 then
        (p_Z 7 q3.2 l0 27 l1).bind fun h5 =>
        some (.inl l2, h5)
      else
        fX8_signed_b25 N rE (fX8_signed_b7 N rE n) l0 l1 l2 q3.2
theorem pX8_signed_b7 {w : eW} {d : Nat} {dr : Nat} (hd : dr + 16 ≤ d + 1) (hdr : 12 ≤ dr) {N : Nat} {rE : Nat → Int32 → eH → Option ((Unit ⊕ Nat) × eH)} (hrE : ∀ a t0 h q, rE a t0 h = some q → wm w dr YX8_expand [.ref a, .int t0] h (e_is (e_rt c_V q))) : ∀ (n : Nat) l0 l1 l2 h q, fX8_signed_b7 N rE n l0 l1 l2 h = some q → wp w (d + 1) YX8_signed 7 [some (.ref l0), some (.int l1), some (.int l2)] [] h (e_is (e_rt c_I q)) := by
  intro n
  induction n with
  | zero => intro l0 l1 l2 h q hf; simp [fX8_signed_b7] at hf
  | succ n ih =>
    intro l0 l1 l2 h q hf
    rw [fX8_signed_b7] at hf
    refine w_iload_n dX8_signed_7 rfl rfl ?_
    refine w_bipush dX8_signed_8 (v := 43) (by decide) ?_
    refine x_cnI hf (e_stSN (Yc := YX1_other) (av := [.int (43 : Int32)]) (st := [.int l2]) dX8_signed_10 q2579 mX1_other) mX1_other.2.2.1 mX1_other.2.2.2.2.1 (Nat.le_of_ble_eq_true rfl) (Nat.le_of_ble_eq_true rfl) (fun q hq => pX1_other (by omega) hq) (fun q1 hf => ?_)
    refine w_icmp_eq 25 dX8_signed_13 (by decide) (fun c2 => ?_) (fun c2 => ?_)
    · replace hf := (if_pos (show l2 = q1.1 from c2)).symm.trans hf
      exact (pX8_signed_b25 hd hdr hrE ih hf).to ⟨rfl, rfl, rfl, trivial⟩
    · replace hf := (if_neg (show ¬ (l2 = q1.1) from c2)).symm.trans hf
      refine w_iload_n dX8_signed_16 rfl rfl ?_
      refine w_bipush dX8_signed_17 (v := 45) (by decide) ?_
      refine x_cnI hf (e_stSN (Yc := YX1_other) (av := [.int (45 : Int32)]) (st := [.int l2]) dX8_signed_19 q2579 mX1_other) mX1_other.2.2.1 mX1_other.2.2.2.2.1 (Nat.le_of_ble_eq_true rfl) (Nat.le_of_ble_eq_true rfl) (fun q hq => pX1_other (by omega) hq) (fun q3 hf => ?_)
      refine w_icmp_ne 50 dX8_signed_22 (by decide) (fun c4 => ?_) (fun c4 => ?_)
      · replace hf := (if_pos (show ¬ l2 = q3.1 from c4)).symm.trans hf
        refine w_aload_n dX8_signed_50 rfl rfl ?_
        refine w_iload_n dX8_signed_51 rfl rfl ?_
        obtain ⟨h5, b6, hf⟩ := Option.bind_eq_some_iff.mp hf
        refine SX8_459 b6 dX8_signed_52 rfl ?_
        refine w_iload_n dX8_signed_55 rfl rfl ?_
        cases hf
        exact w_iret dX8_signed_56 rfl rfl rfl
      · replace hf := (if_neg (show ¬ (¬ l2 = q3.1) from (fun z => z c4))).symm.trans hf
        exact (pX8_signed_b25 hd hdr hrE ih hf).to ⟨rfl, rfl, rfl, trivial⟩
def fX8_signed (N : Nat) (rE : Nat → Int32 → eH → Option ((Unit ⊕ Nat) × eH)) (this : Nat) (h : eH) : Option ((Int32 ⊕ Nat) × eH) :=
  (k_ok 7 h this).bind fun _ =>
  t_B (fX8_needSolid N rE this h) fun x2 h3 =>
  fX8_signed_b7 N rE N this (0 : Int32) x2 h3
theorem pX8_signed {w : eW} {d : Nat} {dr : Nat} (hd : dr + 16 ≤ d) (hdr : 12 ≤ dr) {N : Nat} {rE : Nat → Int32 → eH → Option ((Unit ⊕ Nat) × eH)} (hrE : ∀ a t0 h q, rE a t0 h = some q → wm w dr YX8_expand [.ref a, .int t0] h (e_is (e_rt c_V q))) {this : Nat} {h : eH} {q} (hf : fX8_signed N rE this h = some q) : wm w d YX8_signed [.ref this] h (e_is (e_rt c_I q)) := by
  obtain ⟨d, rfl⟩ : ∃ e, d = e + 1 := ⟨d - 1, by omega⟩
  show wp w (d + 1) YX8_signed 0 [some (.ref this), none, none] [] h _
  unfold fX8_signed at hf
  refine w_iconst dX8_signed_0 (v := 0) (by decide) ?_
  refine w_istore_n dX8_signed_1 rfl (by decide) (ls' := [some (.ref this), some (.int (0 : Int32)), none]) rfl ?_
  refine w_aload_n dX8_signed_2 rfl rfl ?_
  obtain ⟨_, b1, hf⟩ := Option.bind_eq_some_iff.mp hf
  refine x_ctI hf (e_stV (Yc := YX8_needSolid) (ci := 7) (av := []) (st := []) dX8_signed_3 q2594 mX8_needSolid rfl (k_ok_some b1).1 (k_ok_some b1).2) mX8_needSolid.2.2.1 mX8_needSolid.2.2.2.2.1 (Nat.le_of_ble_eq_true rfl) (Nat.le_of_ble_eq_true rfl) rfl (fun q hq => pX8_needSolid (by omega) hdr hrE hq) (fun x2 h3 hf => ?_)
  refine w_istore_n dX8_signed_6 rfl (by decide) (ls' := [some (.ref this), some (.int (0 : Int32)), some (.int x2)]) rfl ?_
  exact (pX8_signed_b7 hd hdr hrE N _ _ _ _ _ hf).to ⟨rfl, rfl, rfl, trivial⟩
abbrev cX8_isLength : ByteArray := prog_4_method_34_code
def yX8_isLength : MethodName := ⟨RX8, "isLength", "(I)Z"⟩
def YX8_isLength : eY := (yX8_isLength, cX8_isLength, 1, (Option.some FieldType.boolean), [])
theorem mX8_isLength : e_ms YX8_isLength 1 := ⟨q2620, q433, q2621, by decide, by decide +kernel, (e_sig (by decide +kernel))⟩
theorem dX8_isLength_0 : decode cX8_isLength 0 = .ok (.iload_n 0, 1) := dc_26 (by decide +kernel)
theorem dX8_isLength_1 : decode cX8_isLength 1 = .ok (.bipush 68, 2) := dc_16 (a := 68) (v := 68) (by decide +kernel)
theorem dX8_isLength_3 : decode cX8_isLength 3 = .ok (.if_icmp .eq 27, 3) := dc_159 (a := 0) (b := 27) (v := 27) (by decide +kernel)
theorem dX8_isLength_6 : decode cX8_isLength 6 = .ok (.iload_n 0, 1) := dc_26 (by decide +kernel)
theorem dX8_isLength_7 : decode cX8_isLength 7 = .ok (.bipush 83, 2) := dc_16 (a := 83) (v := 83) (by decide +kernel)
theorem dX8_isLength_9 : decode cX8_isLength 9 = .ok (.if_icmp .lt 9, 3) := dc_161 (a := 0) (b := 9) (v := 9) (by decide +kernel)
theorem dX8_isLength_12 : decode cX8_isLength 12 = .ok (.iload_n 0, 1) := dc_26 (by decide +kernel)
theorem dX8_isLength_13 : decode cX8_isLength 13 = .ok (.bipush 89, 2) := dc_16 (a := 89) (v := 89) (by decide +kernel)
theorem dX8_isLength_15 : decode cX8_isLength 15 = .ok (.if_icmp .lt 15, 3) := dc_161 (a := 0) (b := 15) (v := 15) (by decide +kernel)
theorem dX8_isLength_18 : decode cX8_isLength 18 = .ok (.iload_n 0, 1) := dc_26 (by decide +kernel)
theorem dX8_isLength_19 : decode cX8_isLength 19 = .ok (.bipush 51, 2) := dc_16 (a := 51) (v := 51) (by decide +kernel)
theorem dX8_isLength_21 : decode cX8_isLength 21 = .ok (.if_icmp .lt 13, 3) := dc_161 (a := 0) (b := 13) (v := 13) (by decide +kernel)
theorem dX8_isLength_24 : decode cX8_isLength 24 = .ok (.iload_n 0, 1) := dc_26 (by decide +kernel)
theorem dX8_isLength_25 : decode cX8_isLength 25 = .ok (.bipush 53, 2) := dc_16 (a := 53) (v := 53) (by decide +kernel)
theorem dX8_isLength_27 : decode cX8_isLength 27 = .ok (.if_icmp .gt 7, 3) := dc_163 (a := 0) (b := 7) (v := 7) (by decide +kernel)
theorem dX8_isLength_30 : decode cX8_isLength 30 = .ok (.iconst 1, 1) := dc_4 (by decide +kernel)
theorem dX8_isLength_31 : decode cX8_isLength 31 = .ok (.goto 4, 3) := dc_167 (a := 0) (b := 4) (v := 4) (by decide +kernel)
theorem dX8_isLength_34 : decode cX8_isLength 34 = .ok (.iconst 0, 1) := dc_3 (by decide +kernel)
theorem dX8_isLength_35 : decode cX8_isLength 35 = .ok (.ireturn, 1) := dc_172 (by decide +kernel)
def fX8_isLength_b35 (s0 : Int32) (h : eH) : Option (Int32 × eH) :=
  z_r s0 (s0, h)
theorem pX8_isLength_b35 {w : eW} {d : Nat} (hd : 0 ≤ d) {s0 : Int32} {h : eH} {q} (hf : fX8_isLength_b35 s0 h = some q) : wp w d YX8_isLength 35 [none] [.int s0] h (e_is (e_rn c_I q)) := by
  unfold fX8_isLength_b35 at hf
  obtain ⟨b1, rfl⟩ := z_r_some hf
  exact w_iret dX8_isLength_35 rfl b1 rfl
def fX8_isLength_b30  (h : eH) : Option (Int32 × eH) :=
  fX8_isLength_b35 (1 : Int32) h
theorem pX8_isLength_b30 {w : eW} {d : Nat} (hd : 0 ≤ d)  {h : eH} {q} (hf : fX8_isLength_b30  h = some q) : wp w d YX8_isLength 30 [none] [] h (e_is (e_rn c_I q)) := by
  unfold fX8_isLength_b30 at hf
  refine w_iconst dX8_isLength_30 (v := 1) (by decide) ?_
  refine w_goto 35 dX8_isLength_31 (by decide) ?_
  exact (pX8_isLength_b35 hd hf).to trivial
def fX8_isLength_b34  (h : eH) : Option (Int32 × eH) :=
  fX8_isLength_b35 (0 : Int32) h
theorem pX8_isLength_b34 {w : eW} {d : Nat} (hd : 0 ≤ d)  {h : eH} {q} (hf : fX8_isLength_b34  h = some q) : wp w d YX8_isLength 34 [none] [] h (e_is (e_rn c_I q)) := by
  unfold fX8_isLength_b34 at hf
  refine w_iconst dX8_isLength_34 (v := 0) (by decide) ?_
  exact (pX8_isLength_b35 hd hf).to trivial
def fX8_isLength_b18 (l0 : Int32) (h : eH) : Option (Int32 × eH) :=
  if l0 < (51 : Int32) then
    fX8_isLength_b34 h
  else
    if (53 : Int32) < l0 then
      fX8_isLength_b34 h
    else
      fX8_isLength_b30 h
theorem pX8_isLength_b18 {w : eW} {d : Nat} (hd : 0 ≤ d) {l0 : Int32} {h : eH} {q} (hf : fX8_isLength_b18 l0 h = some q) : wp w d YX8_isLength 18 [some (.int l0)] [] h (e_is (e_rn c_I q)) := by
  unfold fX8_isLength_b18 at hf
  refine w_iload_n dX8_isLength_18 rfl rfl ?_
  refine w_bipush dX8_isLength_19 (v := 51) (by decide) ?_
  refine w_icmp_lt 34 dX8_isLength_21 (by decide) (fun c1 => ?_) (fun c1 => ?_)
  · replace hf := (if_pos (show l0 < (51 : Int32) from c1)).symm.trans hf
    exact (pX8_isLength_b34 hd hf).to trivial
  · replace hf := (if_neg (show ¬ (l0 < (51 : Int32)) from c1)).symm.trans hf
    refine w_iload_n dX8_isLength_24 rfl rfl ?_
    refine w_bipush dX8_isLength_25 (v := 53) (by decide) ?_
    refine w_icmp_gt 34 dX8_isLength_27 (by decide) (fun c2 => ?_) (fun c2 => ?_)
    · replace hf := (if_pos (show (53 : Int32) < l0 from c2)).symm.trans hf
      exact (pX8_isLength_b34 hd hf).to trivial
    · replace hf := (if_neg (show ¬ ((53 : Int32) < l0) from c2)).symm.trans hf
      exact (pX8_isLength_b30 hd hf).to trivial
def fX8_isLength (p0 : Int32) (h : eH) : Option (Int32 × eH) :=
  if p0 = (68 : Int32) then
    fX8_isLength_b30 h
  else
    if p0 < (83 : Int32) then
      fX8_isLength_b18 p0 h
    else
      if p0 < (89 : Int32) then
        fX8_isLength_b30 h
      else
        fX8_isLength_b18 p0 h
theorem pX8_isLength {w : eW} {d : Nat} (hd : 0 ≤ d) {p0 : Int32} {h : eH} {q} (hf : fX8_isLength p0 h = some q) : wm w d YX8_isLength [.int p0] h (e_is (e_rn c_I q)) := by
  show wp w d YX8_isLength 0 [some (.int p0)] [] h _
  unfold fX8_isLength at hf
  refine w_iload_n dX8_isLength_0 rfl rfl ?_
  refine w_bipush dX8_isLength_1 (v := 68) (by decide) ?_
  refine w_icmp_eq 30 dX8_isLength_3 (by decide) (fun c1 => ?_) (fun c1 => ?_)
  · replace hf := (if_pos (show p0 = (68 : Int32) from c1)).symm.trans hf
    exact (pX8_isLength_b30 hd hf).to trivial
  · replace hf := (if_neg (show ¬ (p0 = (68 : Int32)) from c1)).symm.trans hf
    refine w_iload_n dX8_isLength_6 rfl rfl ?_
    refine w_bipush dX8_isLength_7 (v := 83) (by decide) ?_
    refine w_icmp_lt 18 dX8_isLength_9 (by decide) (fun c2 => ?_) (fun c2 => ?_)
    · replace hf := (if_pos (show p0 < (83 : Int32) from c2)).symm.trans hf
      exact (pX8_isLength_b18 hd hf).to ⟨rfl, trivial⟩
    · replace hf := (if_neg (show ¬ (p0 < (83 : Int32)) from c2)).symm.trans hf
      refine w_iload_n dX8_isLength_12 rfl rfl ?_
      refine w_bipush dX8_isLength_13 (v := 89) (by decide) ?_
      refine w_icmp_lt 30 dX8_isLength_15 (by decide) (fun c3 => ?_) (fun c3 => ?_)
      · replace hf := (if_pos (show p0 < (89 : Int32) from c3)).symm.trans hf
        exact (pX8_isLength_b30 hd hf).to trivial
      · replace hf := (if_neg (show ¬ (p0 < (89 : Int32)) from c3)).symm.trans hf
        exact (pX8_isLength_b18 hd hf).to ⟨rfl, trivial⟩
abbrev cX8_isGlue : ByteArray := prog_4_method_35_code
def yX8_isGlue : MethodName := ⟨RX8, "isGlue", "(I)Z"⟩
def YX8_isGlue : eY := (yX8_isGlue, cX8_isGlue, 1, (Option.some FieldType.boolean), [])
theorem mX8_isGlue : e_ms YX8_isGlue 1 := ⟨q2623, q433, q2624, by decide, by decide +kernel, (e_sig (by decide +kernel))⟩
theorem dX8_isGlue_0 : decode cX8_isGlue 0 = .ok (.iload_n 0, 1) := dc_26 (by decide +kernel)
theorem dX8_isGlue_1 : decode cX8_isGlue 1 = .ok (.bipush 69, 2) := dc_16 (a := 69) (v := 69) (by decide +kernel)
theorem dX8_isGlue_3 : decode cX8_isGlue 3 = .ok (.if_icmp .eq 9, 3) := dc_159 (a := 0) (b := 9) (v := 9) (by decide +kernel)
theorem dX8_isGlue_6 : decode cX8_isGlue 6 = .ok (.iload_n 0, 1) := dc_26 (by decide +kernel)
theorem dX8_isGlue_7 : decode cX8_isGlue 7 = .ok (.bipush 89, 2) := dc_16 (a := 89) (v := 89) (by decide +kernel)
theorem dX8_isGlue_9 : decode cX8_isGlue 9 = .ok (.if_icmp .lt 7, 3) := dc_161 (a := 0) (b := 7) (v := 7) (by decide +kernel)
theorem dX8_isGlue_12 : decode cX8_isGlue 12 = .ok (.iconst 1, 1) := dc_4 (by decide +kernel)
theorem dX8_isGlue_13 : decode cX8_isGlue 13 = .ok (.goto 4, 3) := dc_167 (a := 0) (b := 4) (v := 4) (by decide +kernel)
theorem dX8_isGlue_16 : decode cX8_isGlue 16 = .ok (.iconst 0, 1) := dc_3 (by decide +kernel)
theorem dX8_isGlue_17 : decode cX8_isGlue 17 = .ok (.ireturn, 1) := dc_172 (by decide +kernel)
def fX8_isGlue_b17 (s0 : Int32) (h : eH) : Option (Int32 × eH) :=
  z_r s0 (s0, h)
theorem pX8_isGlue_b17 {w : eW} {d : Nat} (hd : 0 ≤ d) {s0 : Int32} {h : eH} {q} (hf : fX8_isGlue_b17 s0 h = some q) : wp w d YX8_isGlue 17 [none] [.int s0] h (e_is (e_rn c_I q)) := by
  unfold fX8_isGlue_b17 at hf
  obtain ⟨b1, rfl⟩ := z_r_some hf
  exact w_iret dX8_isGlue_17 rfl b1 rfl
def fX8_isGlue_b12  (h : eH) : Option (Int32 × eH) :=
  fX8_isGlue_b17 (1 : Int32) h
theorem pX8_isGlue_b12 {w : eW} {d : Nat} (hd : 0 ≤ d)  {h : eH} {q} (hf : fX8_isGlue_b12  h = some q) : wp w d YX8_isGlue 12 [none] [] h (e_is (e_rn c_I q)) := by
  unfold fX8_isGlue_b12 at hf
  refine w_iconst dX8_isGlue_12 (v := 1) (by decide) ?_
  refine w_goto 17 dX8_isGlue_13 (by decide) ?_
  exact (pX8_isGlue_b17 hd hf).to trivial
def fX8_isGlue (p0 : Int32) (h : eH) : Option (Int32 × eH) :=
  if p0 = (69 : Int32) then
    fX8_isGlue_b12 h
  else
    if p0 < (89 : Int32) then
      fX8_isGlue_b17 (0 : Int32) h
    else
      fX8_isGlue_b12 h
theorem pX8_isGlue {w : eW} {d : Nat} (hd : 0 ≤ d) {p0 : Int32} {h : eH} {q} (hf : fX8_isGlue p0 h = some q) : wm w d YX8_isGlue [.int p0] h (e_is (e_rn c_I q)) := by
  show wp w d YX8_isGlue 0 [some (.int p0)] [] h _
  unfold fX8_isGlue at hf
  refine w_iload_n dX8_isGlue_0 rfl rfl ?_
  refine w_bipush dX8_isGlue_1 (v := 69) (by decide) ?_
  refine w_icmp_eq 12 dX8_isGlue_3 (by decide) (fun c1 => ?_) (fun c1 => ?_)
  · replace hf := (if_pos (show p0 = (69 : Int32) from c1)).symm.trans hf
    exact (pX8_isGlue_b12 hd hf).to trivial
  · replace hf := (if_neg (show ¬ (p0 = (69 : Int32)) from c1)).symm.trans hf
    refine w_iload_n dX8_isGlue_6 rfl rfl ?_
    refine w_bipush dX8_isGlue_7 (v := 89) (by decide) ?_
    refine w_icmp_lt 16 dX8_isGlue_9 (by decide) (fun c2 => ?_) (fun c2 => ?_)
    · replace hf := (if_pos (show p0 < (89 : Int32) from c2)).symm.trans hf
      refine w_iconst dX8_isGlue_16 (v := 0) (by decide) ?_
      exact (pX8_isGlue_b17 hd hf).to trivial
    · replace hf := (if_neg (show ¬ (p0 < (89 : Int32)) from c2)).symm.trans hf
      exact (pX8_isGlue_b12 hd hf).to trivial
abbrev cX8_isSized : ByteArray := prog_4_method_36_code
def yX8_isSized : MethodName := ⟨RX8, "isSized", "(I)Z"⟩
def YX8_isSized : eY := (yX8_isSized, cX8_isSized, 3, (Option.some FieldType.boolean), [])
theorem mX8_isSized : e_mv YX8_isSized RX8 1 := ⟨q2617, qs69, q2618, by decide, by decide +kernel, (e_sig (by decide +kernel))⟩
theorem dX8_isSized_0 : decode cX8_isSized 0 = .ok (.aload_n 0, 1) := dc_42 (by decide +kernel)
theorem dX8_isSized_1 : decode cX8_isSized 1 = .ok (.iload_n 1, 1) := dc_27 (by decide +kernel)
theorem dX8_isSized_2 : decode cX8_isSized 2 = .ok (.invokevirtual 243, 3) := dc_182 (a := 0) (b := 243) (n := 243) (by decide +kernel)
theorem dX8_isSized_5 : decode cX8_isSized 5 = .ok (.istore_n 2, 1) := dc_61 (by decide +kernel)
theorem dX8_isSized_6 : decode cX8_isSized 6 = .ok (.iload_n 2, 1) := dc_28 (by decide +kernel)
theorem dX8_isSized_7 : decode cX8_isSized 7 = .ok (.invokestatic 369, 3) := dc_184 (a := 1) (b := 113) (n := 369) (by decide +kernel)
theorem dX8_isSized_10 : decode cX8_isSized 10 = .ok (.ifCond .ne 10, 3) := dc_154 (a := 0) (b := 10) (v := 10) (by decide +kernel)
theorem dX8_isSized_13 : decode cX8_isSized 13 = .ok (.iload_n 2, 1) := dc_28 (by decide +kernel)
theorem dX8_isSized_14 : decode cX8_isSized 14 = .ok (.invokestatic 372, 3) := dc_184 (a := 1) (b := 116) (n := 372) (by decide +kernel)
theorem dX8_isSized_17 : decode cX8_isSized 17 = .ok (.ifCond .eq 7, 3) := dc_153 (a := 0) (b := 7) (v := 7) (by decide +kernel)
theorem dX8_isSized_20 : decode cX8_isSized 20 = .ok (.iconst 1, 1) := dc_4 (by decide +kernel)
theorem dX8_isSized_21 : decode cX8_isSized 21 = .ok (.goto 4, 3) := dc_167 (a := 0) (b := 4) (v := 4) (by decide +kernel)
theorem dX8_isSized_24 : decode cX8_isSized 24 = .ok (.iconst 0, 1) := dc_3 (by decide +kernel)
theorem dX8_isSized_25 : decode cX8_isSized 25 = .ok (.ireturn, 1) := dc_172 (by decide +kernel)
def fX8_isSized_b25 (s0 : Int32) (h : eH) : Option (Int32 × eH) :=
  z_r s0 (s0, h)
theorem pX8_isSized_b25 {w : eW} {d : Nat} (hd : 3 ≤ d + 1) {s0 : Int32} {h : eH} {q} (hf : fX8_isSized_b25 s0 h = some q) : wp w (d + 1) YX8_isSized 25 [none, none, none] [.int s0] h (e_is (e_rn c_I q)) := by
  unfold fX8_isSized_b25 at hf
  obtain ⟨b1, rfl⟩ := z_r_some hf
  exact w_iret dX8_isSized_25 rfl b1 rfl
def fX8_isSized_b20  (h : eH) : Option (Int32 × eH) :=
  fX8_isSized_b25 (1 : Int32) h
theorem pX8_isSized_b20 {w : eW} {d : Nat} (hd : 3 ≤ d + 1)  {h : eH} {q} (hf : fX8_isSized_b20  h = some q) : wp w (d + 1) YX8_isSized 20 [none, none, none] [] h (e_is (e_rn c_I q)) := by
  unfold fX8_isSized_b20 at hf
  refine w_iconst dX8_isSized_20 (v := 1) (by decide) ?_
  refine w_goto 25 dX8_isSized_21 (by decide) ?_
  exact (pX8_isSized_b25 hd hf).to trivial
def fX8_isSized (this : Nat) (p0 : Int32) (h : eH) : Option (Int32 × eH) :=
  (k_ok 7 h this).bind fun _ =>
  (fX8_primitive this p0 h).bind fun q2 =>
  (fX8_isLength q2.1 q2.2).bind fun q3 =>
  if ¬ q3.1 = 0 then
    fX8_isSized_b20 q3.2
  else
    (fX8_isGlue q2.1 q3.2).bind fun q5 =>
    if q5.1 = 0 then
      fX8_isSized_b25 (0 : Int32) q5.2
    else
      fX8_isSized_b20 q5.2
theorem pX8_isSized {w : eW} {d : Nat} (hd : 3 ≤ d) {this : Nat} {p0 : Int32} {h : eH} {q} (hf : fX8_isSized this p0 h = some q) : wm w d YX8_isSized [.ref this, .int p0] h (e_is (e_rn c_I q)) := by
  obtain ⟨d, rfl⟩ : ∃ e, d = e + 1 := ⟨d - 1, by omega⟩
  show wp w (d + 1) YX8_isSized 0 [some (.ref this), some (.int p0), none] [] h _
  unfold fX8_isSized at hf
  refine w_aload_n dX8_isSized_0 rfl rfl ?_
  refine w_iload_n dX8_isSized_1 rfl rfl ?_
  obtain ⟨_, b1, hf⟩ := Option.bind_eq_some_iff.mp hf
  refine x_cnI hf (e_stV (Yc := YX8_primitive) (ci := 7) (av := [.int p0]) (st := []) dX8_isSized_2 q2568 mX8_primitive rfl (k_ok_some b1).1 (k_ok_some b1).2) mX8_primitive.2.2.1 mX8_primitive.2.2.2.2.1 (Nat.le_of_ble_eq_true rfl) (Nat.le_of_ble_eq_true rfl) (fun q hq => pX8_primitive (by omega) hq) (fun q2 hf => ?_)
  refine w_istore_n dX8_isSized_5 rfl (by decide) (ls' := [some (.ref this), some (.int p0), some (.int q2.1)]) rfl ?_
  refine w_iload_n dX8_isSized_6 rfl rfl ?_
  refine x_cnI hf (e_stS (Yc := YX8_isLength) (av := [.int q2.1]) (st := []) dX8_isSized_7 q2619 mX8_isLength) mX8_isLength.2.2.1 mX8_isLength.2.2.2.2.1 (Nat.le_of_ble_eq_true rfl) (Nat.le_of_ble_eq_true rfl) (fun q hq => pX8_isLength (by omega) hq) (fun q3 hf => ?_)
  refine w_if_ne 20 dX8_isSized_10 (by decide) (fun c4 => ?_) (fun c4 => ?_)
  · replace hf := (if_pos (show ¬ q3.1 = 0 from c4)).symm.trans hf
    exact (pX8_isSized_b20 hd hf).to trivial
  · replace hf := (if_neg (show ¬ (¬ q3.1 = 0) from (fun z => z c4))).symm.trans hf
    refine w_iload_n dX8_isSized_13 rfl rfl ?_
    refine x_cnI hf (e_stS (Yc := YX8_isGlue) (av := [.int q2.1]) (st := []) dX8_isSized_14 q2622 mX8_isGlue) mX8_isGlue.2.2.1 mX8_isGlue.2.2.2.2.1 (Nat.le_of_ble_eq_true rfl) (Nat.le_of_ble_eq_true rfl) (fun q hq => pX8_isGlue (by omega) hq) (fun q5 hf => ?_)
    refine w_if_eq 24 dX8_isSized_17 (by decide) (fun c6 => ?_) (fun c6 => ?_)
    · replace hf := (if_pos (show q5.1 = 0 from c6)).symm.trans hf
      refine w_iconst dX8_isSized_24 (v := 0) (by decide) ?_
      exact (pX8_isSized_b25 hd hf).to trivial
    · replace hf := (if_neg (show ¬ (q5.1 = 0) from c6)).symm.trans hf
      exact (pX8_isSized_b20 hd hf).to trivial
abbrev cX8_cellOf : ByteArray := prog_4_method_37_code
def yX8_cellOf : MethodName := ⟨RX8, "cellOf", "(I)I"⟩
def YX8_cellOf : eY := (yX8_cellOf, cX8_cellOf, 2, (Option.some FieldType.int), [])
theorem mX8_cellOf : e_mv YX8_cellOf RX8 1 := ⟨q2631, qs71, q2632, by decide, by decide +kernel, (e_sig (by decide +kernel))⟩
theorem dX8_cellOf_0 : decode cX8_cellOf 0 = .ok (.iload_n 1, 1) := dc_27 (by decide +kernel)
theorem dX8_cellOf_1 : decode cX8_cellOf 1 = .ok (.bipush 67, 2) := dc_16 (a := 67) (v := 67) (by decide +kernel)
theorem dX8_cellOf_3 : decode cX8_cellOf 3 = .ok (.if_icmp .ne 11, 3) := dc_160 (a := 0) (b := 11) (v := 11) (by decide +kernel)
theorem dX8_cellOf_6 : decode cX8_cellOf 6 = .ok (.aload_n 0, 1) := dc_42 (by decide +kernel)
theorem dX8_cellOf_7 : decode cX8_cellOf 7 = .ok (.sipush 255, 3) := dc_17 (a := 0) (b := 255) (v := 255) (by decide +kernel)
theorem dX8_cellOf_10 : decode cX8_cellOf 10 = .ok (.invokevirtual 363, 3) := dc_182 (a := 1) (b := 107) (n := 363) (by decide +kernel)
theorem dX8_cellOf_13 : decode cX8_cellOf 13 = .ok (.ireturn, 1) := dc_172 (by decide +kernel)
theorem dX8_cellOf_14 : decode cX8_cellOf 14 = .ok (.iload_n 1, 1) := dc_27 (by decide +kernel)
theorem dX8_cellOf_15 : decode cX8_cellOf 15 = .ok (.bipush 68, 2) := dc_16 (a := 68) (v := 68) (by decide +kernel)
theorem dX8_cellOf_17 : decode cX8_cellOf 17 = .ok (.if_icmp .ne 15, 3) := dc_160 (a := 0) (b := 15) (v := 15) (by decide +kernel)
theorem dX8_cellOf_20 : decode cX8_cellOf 20 = .ok (.sipush 269, 3) := dc_17 (a := 1) (b := 13) (v := 269) (by decide +kernel)
theorem dX8_cellOf_23 : decode cX8_cellOf 23 = .ok (.aload_n 0, 1) := dc_42 (by decide +kernel)
theorem dX8_cellOf_24 : decode cX8_cellOf 24 = .ok (.sipush 255, 3) := dc_17 (a := 0) (b := 255) (v := 255) (by decide +kernel)
theorem dX8_cellOf_27 : decode cX8_cellOf 27 = .ok (.invokevirtual 363, 3) := dc_182 (a := 1) (b := 107) (n := 363) (by decide +kernel)
theorem dX8_cellOf_30 : decode cX8_cellOf 30 = .ok (.iadd, 1) := dc_96 (by decide +kernel)
theorem dX8_cellOf_31 : decode cX8_cellOf 31 = .ok (.ireturn, 1) := dc_172 (by decide +kernel)
theorem dX8_cellOf_32 : decode cX8_cellOf 32 = .ok (.iload_n 1, 1) := dc_27 (by decide +kernel)
theorem dX8_cellOf_33 : decode cX8_cellOf 33 = .ok (.bipush 69, 2) := dc_16 (a := 69) (v := 69) (by decide +kernel)
theorem dX8_cellOf_35 : decode cX8_cellOf 35 = .ok (.if_icmp .ne 17, 3) := dc_160 (a := 0) (b := 17) (v := 17) (by decide +kernel)
theorem dX8_cellOf_38 : decode cX8_cellOf 38 = .ok (.sipush 531, 3) := dc_17 (a := 2) (b := 19) (v := 531) (by decide +kernel)
theorem dX8_cellOf_41 : decode cX8_cellOf 41 = .ok (.iconst 4, 1) := dc_7 (by decide +kernel)
theorem dX8_cellOf_42 : decode cX8_cellOf 42 = .ok (.aload_n 0, 1) := dc_42 (by decide +kernel)
theorem dX8_cellOf_43 : decode cX8_cellOf 43 = .ok (.sipush 255, 3) := dc_17 (a := 0) (b := 255) (v := 255) (by decide +kernel)
theorem dX8_cellOf_46 : decode cX8_cellOf 46 = .ok (.invokevirtual 363, 3) := dc_182 (a := 1) (b := 107) (n := 363) (by decide +kernel)
theorem dX8_cellOf_49 : decode cX8_cellOf 49 = .ok (.imul, 1) := dc_104 (by decide +kernel)
theorem dX8_cellOf_50 : decode cX8_cellOf 50 = .ok (.iadd, 1) := dc_96 (by decide +kernel)
theorem dX8_cellOf_51 : decode cX8_cellOf 51 = .ok (.ireturn, 1) := dc_172 (by decide +kernel)
theorem dX8_cellOf_52 : decode cX8_cellOf 52 = .ok (.iload_n 1, 1) := dc_27 (by decide +kernel)
theorem dX8_cellOf_53 : decode cX8_cellOf 53 = .ok (.bipush 83, 2) := dc_16 (a := 83) (v := 83) (by decide +kernel)
theorem dX8_cellOf_55 : decode cX8_cellOf 55 = .ok (.if_icmp .ge 12, 3) := dc_162 (a := 0) (b := 12) (v := 12) (by decide +kernel)
theorem dX8_cellOf_58 : decode cX8_cellOf 58 = .ok (.sipush 256, 3) := dc_17 (a := 1) (b := 0) (v := 256) (by decide +kernel)
theorem dX8_cellOf_61 : decode cX8_cellOf 61 = .ok (.iload_n 1, 1) := dc_27 (by decide +kernel)
theorem dX8_cellOf_62 : decode cX8_cellOf 62 = .ok (.iadd, 1) := dc_96 (by decide +kernel)
theorem dX8_cellOf_63 : decode cX8_cellOf 63 = .ok (.bipush 70, 2) := dc_16 (a := 70) (v := 70) (by decide +kernel)
theorem dX8_cellOf_65 : decode cX8_cellOf 65 = .ok (.isub, 1) := dc_100 (by decide +kernel)
theorem dX8_cellOf_66 : decode cX8_cellOf 66 = .ok (.ireturn, 1) := dc_172 (by decide +kernel)
theorem dX8_cellOf_67 : decode cX8_cellOf 67 = .ok (.iload_n 1, 1) := dc_27 (by decide +kernel)
theorem dX8_cellOf_68 : decode cX8_cellOf 68 = .ok (.bipush 89, 2) := dc_16 (a := 89) (v := 89) (by decide +kernel)
theorem dX8_cellOf_70 : decode cX8_cellOf 70 = .ok (.if_icmp .ge 12, 3) := dc_162 (a := 0) (b := 12) (v := 12) (by decide +kernel)
theorem dX8_cellOf_73 : decode cX8_cellOf 73 = .ok (.sipush 525, 3) := dc_17 (a := 2) (b := 13) (v := 525) (by decide +kernel)
theorem dX8_cellOf_76 : decode cX8_cellOf 76 = .ok (.iload_n 1, 1) := dc_27 (by decide +kernel)
theorem dX8_cellOf_77 : decode cX8_cellOf 77 = .ok (.iadd, 1) := dc_96 (by decide +kernel)
theorem dX8_cellOf_78 : decode cX8_cellOf 78 = .ok (.bipush 83, 2) := dc_16 (a := 83) (v := 83) (by decide +kernel)
theorem dX8_cellOf_80 : decode cX8_cellOf 80 = .ok (.isub, 1) := dc_100 (by decide +kernel)
theorem dX8_cellOf_81 : decode cX8_cellOf 81 = .ok (.ireturn, 1) := dc_172 (by decide +kernel)
theorem dX8_cellOf_82 : decode cX8_cellOf 82 = .ok (.sipush 531, 3) := dc_17 (a := 2) (b := 19) (v := 531) (by decide +kernel)
theorem dX8_cellOf_85 : decode cX8_cellOf 85 = .ok (.iconst 4, 1) := dc_7 (by decide +kernel)
theorem dX8_cellOf_86 : decode cX8_cellOf 86 = .ok (.sipush 256, 3) := dc_17 (a := 1) (b := 0) (v := 256) (by decide +kernel)
theorem dX8_cellOf_89 : decode cX8_cellOf 89 = .ok (.iload_n 1, 1) := dc_27 (by decide +kernel)
theorem dX8_cellOf_90 : decode cX8_cellOf 90 = .ok (.iadd, 1) := dc_96 (by decide +kernel)
theorem dX8_cellOf_91 : decode cX8_cellOf 91 = .ok (.bipush 89, 2) := dc_16 (a := 89) (v := 89) (by decide +kernel)
theorem dX8_cellOf_93 : decode cX8_cellOf 93 = .ok (.isub, 1) := dc_100 (by decide +kernel)
theorem dX8_cellOf_94 : decode cX8_cellOf 94 = .ok (.imul, 1) := dc_104 (by decide +kernel)
theorem dX8_cellOf_95 : decode cX8_cellOf 95 = .ok (.iadd, 1) := dc_96 (by decide +kernel)
theorem dX8_cellOf_96 : decode cX8_cellOf 96 = .ok (.ireturn, 1) := dc_172 (by decide +kernel)
def fX8_cellOf (rN : Nat → eH → Option ((Int32 ⊕ Nat) × eH)) (this : Nat) (p0 : Int32) (h : eH) : Option ((Int32 ⊕ Nat) × eH) :=
  if ¬ p0 = (67 : Int32) then
    if ¬ p0 = (68 : Int32) then
      if ¬ p0 = (69 : Int32) then
        if (83 : Int32) ≤ p0 then
          if (89 : Int32) ≤ p0 then
            some (.inl ((531 : Int32) + ((4 : Int32) * (((256 : Int32) + p0) - (89 : Int32)))), h)
          else
            some (.inl (((525 : Int32) + p0) - (83 : Int32)), h)
        else
          some (.inl (((256 : Int32) + p0) - (70 : Int32)), h)
      else
        (k_ok 7 h this).bind fun _ =>
        t_B (fX8_within rN this (255 : Int32) h) fun x7 h8 =>
        some (.inl ((531 : Int32) + ((4 : Int32) * x7)), h8)
    else
      (k_ok 7 h this).bind fun _ =>
      t_B (fX8_within rN this (255 : Int32) h) fun x10 h11 =>
      some (.inl ((269 : Int32) + x10), h11)
  else
    (k_ok 7 h this).bind fun _ =>
    t_B (fX8_within rN this (255 : Int32) h) fun x13 h14 =>
    some (.inl x13, h14)
theorem pX8_cellOf {w : eW} {d : Nat} {dr : Nat} (hd : dr + 9 ≤ d) (hdr : 12 ≤ dr) {rN : Nat → eH → Option ((Int32 ⊕ Nat) × eH)} (hrN : ∀ a h q, rN a h = some q → wm w dr YX8_number [.ref a] h (e_is (e_rt c_I q))) {this : Nat} {p0 : Int32} {h : eH} {q} (hf : fX8_cellOf rN this p0 h = some q) : wm w d YX8_cellOf [.ref this, .int p0] h (e_is (e_rt c_I q)) := by
  obtain ⟨d, rfl⟩ : ∃ e, d = e + 1 := ⟨d - 1, by omega⟩
  show wp w (d + 1) YX8_cellOf 0 [some (.ref this), some (.int p0)] [] h _
  unfold fX8_cellOf at hf
  refine w_iload_n dX8_cellOf_0 rfl rfl ?_
  refine w_bipush dX8_cellOf_1 (v := 67) (by decide) ?_
  refine w_icmp_ne 14 dX8_cellOf_3 (by decide) (fun c1 => ?_) (fun c1 => ?_)
  · replace hf := (if_pos (show ¬ p0 = (67 : Int32) from c1)).symm.trans hf
    refine w_iload_n dX8_cellOf_14 rfl rfl ?_
    refine w_bipush dX8_cellOf_15 (v := 68) (by decide) ?_
    refine w_icmp_ne 32 dX8_cellOf_17 (by decide) (fun c2 => ?_) (fun c2 => ?_)
    · replace hf := (if_pos (show ¬ p0 = (68 : Int32) from c2)).symm.trans hf
      refine w_iload_n dX8_cellOf_32 rfl rfl ?_
      refine w_bipush dX8_cellOf_33 (v := 69) (by decide) ?_
      refine w_icmp_ne 52 dX8_cellOf_35 (by decide) (fun c3 => ?_) (fun c3 => ?_)
      · replace hf := (if_pos (show ¬ p0 = (69 : Int32) from c3)).symm.trans hf
        refine w_iload_n dX8_cellOf_52 rfl rfl ?_
        refine w_bipush dX8_cellOf_53 (v := 83) (by decide) ?_
        refine w_icmp_ge 67 dX8_cellOf_55 (by decide) (fun c4 => ?_) (fun c4 => ?_)
        · replace hf := (if_pos (show (83 : Int32) ≤ p0 from c4)).symm.trans hf
          refine w_iload_n dX8_cellOf_67 rfl rfl ?_
          refine w_bipush dX8_cellOf_68 (v := 89) (by decide) ?_
          refine w_icmp_ge 82 dX8_cellOf_70 (by decide) (fun c5 => ?_) (fun c5 => ?_)
          · replace hf := (if_pos (show (89 : Int32) ≤ p0 from c5)).symm.trans hf
            refine w_sipush dX8_cellOf_82 (v := 531) (by decide) ?_
            refine w_iconst dX8_cellOf_85 (v := 4) (by decide) ?_
            refine w_sipush dX8_cellOf_86 (v := 256) (by decide) ?_
            refine w_iload_n dX8_cellOf_89 rfl rfl ?_
            refine w_iadd dX8_cellOf_90 ?_
            refine w_bipush dX8_cellOf_91 (v := 89) (by decide) ?_
            refine w_isub dX8_cellOf_93 ?_
            refine w_imul dX8_cellOf_94 ?_
            refine w_iadd dX8_cellOf_95 ?_
            cases hf
            exact w_iret dX8_cellOf_96 rfl rfl rfl
          · replace hf := (if_neg (show ¬ ((89 : Int32) ≤ p0) from c5)).symm.trans hf
            refine w_sipush dX8_cellOf_73 (v := 525) (by decide) ?_
            refine w_iload_n dX8_cellOf_76 rfl rfl ?_
            refine w_iadd dX8_cellOf_77 ?_
            refine w_bipush dX8_cellOf_78 (v := 83) (by decide) ?_
            refine w_isub dX8_cellOf_80 ?_
            cases hf
            exact w_iret dX8_cellOf_81 rfl rfl rfl
        · replace hf := (if_neg (show ¬ ((83 : Int32) ≤ p0) from c4)).symm.trans hf
          refine w_sipush dX8_cellOf_58 (v := 256) (by decide) ?_
          refine w_iload_n dX8_cellOf_61 rfl rfl ?_
          refine w_iadd dX8_cellOf_62 ?_
          refine w_bipush dX8_cellOf_63 (v := 70) (by decide) ?_
          refine w_isub dX8_cellOf_65 ?_
          cases hf
          exact w_iret dX8_cellOf_66 rfl rfl rfl
      · replace hf := (if_neg (show ¬ (¬ p0 = (69 : Int32)) from (fun z => z c3))).symm.trans hf
        refine w_sipush dX8_cellOf_38 (v := 531) (by decide) ?_
        refine w_iconst dX8_cellOf_41 (v := 4) (by decide) ?_
        refine w_aload_n dX8_cellOf_42 rfl rfl ?_
        refine w_sipush dX8_cellOf_43 (v := 255) (by decide) ?_
        obtain ⟨_, b6, hf⟩ := Option.bind_eq_some_iff.mp hf
        refine x_ctI hf (e_stV (Yc := YX8_within) (ci := 7) (av := [.int (255 : Int32)]) (st := [.int (4 : Int32), .int (531 : Int32)]) dX8_cellOf_46 q2633 mX8_within rfl (k_ok_some b6).1 (k_ok_some b6).2) mX8_within.2.2.1 mX8_within.2.2.2.2.1 (Nat.le_of_ble_eq_true rfl) (Nat.le_of_ble_eq_true rfl) rfl (fun q hq => pX8_within (by omega) hdr hrN hq) (fun x7 h8 hf => ?_)
        refine w_imul dX8_cellOf_49 ?_
        refine w_iadd dX8_cellOf_50 ?_
        cases hf
        exact w_iret dX8_cellOf_51 rfl rfl rfl
    · replace hf := (if_neg (show ¬ (¬ p0 = (68 : Int32)) from (fun z => z c2))).symm.trans hf
      refine w_sipush dX8_cellOf_20 (v := 269) (by decide) ?_
      refine w_aload_n dX8_cellOf_23 rfl rfl ?_
      refine w_sipush dX8_cellOf_24 (v := 255) (by decide) ?_
      obtain ⟨_, b9, hf⟩ := Option.bind_eq_some_iff.mp hf
      refine x_ctI hf (e_stV (Yc := YX8_within) (ci := 7) (av := [.int (255 : Int32)]) (st := [.int (269 : Int32)]) dX8_cellOf_27 q2633 mX8_within rfl (k_ok_some b9).1 (k_ok_some b9).2) mX8_within.2.2.1 mX8_within.2.2.2.2.1 (Nat.le_of_ble_eq_true rfl) (Nat.le_of_ble_eq_true rfl) rfl (fun q hq => pX8_within (by omega) hdr hrN hq) (fun x10 h11 hf => ?_)
      refine w_iadd dX8_cellOf_30 ?_
      cases hf
      exact w_iret dX8_cellOf_31 rfl rfl rfl
  · replace hf := (if_neg (show ¬ (¬ p0 = (67 : Int32)) from (fun z => z c1))).symm.trans hf
    refine w_aload_n dX8_cellOf_6 rfl rfl ?_
    refine w_sipush dX8_cellOf_7 (v := 255) (by decide) ?_
    obtain ⟨_, b12, hf⟩ := Option.bind_eq_some_iff.mp hf
    refine x_ctI hf (e_stV (Yc := YX8_within) (ci := 7) (av := [.int (255 : Int32)]) (st := []) dX8_cellOf_10 q2633 mX8_within rfl (k_ok_some b12).1 (k_ok_some b12).2) mX8_within.2.2.1 mX8_within.2.2.2.2.1 (Nat.le_of_ble_eq_true rfl) (Nat.le_of_ble_eq_true rfl) rfl (fun q hq => pX8_within (by omega) hdr hrN hq) (fun x13 h14 hf => ?_)
    cases hf
    exact w_iret dX8_cellOf_13 rfl rfl rfl
abbrev cX39_of : ByteArray := prog_2_method_2_code
def yX39_of : MethodName := ⟨RX39, "of", "(I)I"⟩
def YX39_of : eY := (yX39_of, cX39_of, 2, (Option.some FieldType.int), [])
theorem mX39_of : e_mv YX39_of RX39 1 := ⟨q2639, qs73, q2641, by decide, by decide +kernel, (e_sig (by decide +kernel))⟩
theorem dX39_of_0 : decode cX39_of 0 = .ok (.iload_n 1, 1) := dc_27 (by decide +kernel)
theorem dX39_of_1 : decode cX39_of 1 = .ok (.tableswitch 110 0 9 #[55, 60, 65, 70, 75, 80, 85, 90, 95, 100], 55) := by decide +kernel
theorem dX39_of_56 : decode cX39_of 56 = .ok (.aload_n 0, 1) := dc_42 (by decide +kernel)
theorem dX39_of_57 : decode cX39_of 57 = .ok (.getfield 7, 3) := dc_180 (a := 0) (b := 7) (n := 7) (by decide +kernel)
theorem dX39_of_60 : decode cX39_of 60 = .ok (.ireturn, 1) := dc_172 (by decide +kernel)
theorem dX39_of_61 : decode cX39_of 61 = .ok (.aload_n 0, 1) := dc_42 (by decide +kernel)
theorem dX39_of_62 : decode cX39_of 62 = .ok (.getfield 13, 3) := dc_180 (a := 0) (b := 13) (n := 13) (by decide +kernel)
theorem dX39_of_65 : decode cX39_of 65 = .ok (.ireturn, 1) := dc_172 (by decide +kernel)
theorem dX39_of_66 : decode cX39_of 66 = .ok (.aload_n 0, 1) := dc_42 (by decide +kernel)
theorem dX39_of_67 : decode cX39_of 67 = .ok (.getfield 16, 3) := dc_180 (a := 0) (b := 16) (n := 16) (by decide +kernel)
theorem dX39_of_70 : decode cX39_of 70 = .ok (.ireturn, 1) := dc_172 (by decide +kernel)
theorem dX39_of_71 : decode cX39_of 71 = .ok (.aload_n 0, 1) := dc_42 (by decide +kernel)
theorem dX39_of_72 : decode cX39_of 72 = .ok (.getfield 19, 3) := dc_180 (a := 0) (b := 19) (n := 19) (by decide +kernel)
theorem dX39_of_75 : decode cX39_of 75 = .ok (.ireturn, 1) := dc_172 (by decide +kernel)
theorem dX39_of_76 : decode cX39_of 76 = .ok (.aload_n 0, 1) := dc_42 (by decide +kernel)
theorem dX39_of_77 : decode cX39_of 77 = .ok (.getfield 22, 3) := dc_180 (a := 0) (b := 22) (n := 22) (by decide +kernel)
theorem dX39_of_80 : decode cX39_of 80 = .ok (.ireturn, 1) := dc_172 (by decide +kernel)
theorem dX39_of_81 : decode cX39_of 81 = .ok (.aload_n 0, 1) := dc_42 (by decide +kernel)
theorem dX39_of_82 : decode cX39_of 82 = .ok (.getfield 25, 3) := dc_180 (a := 0) (b := 25) (n := 25) (by decide +kernel)
theorem dX39_of_85 : decode cX39_of 85 = .ok (.ireturn, 1) := dc_172 (by decide +kernel)
theorem dX39_of_86 : decode cX39_of 86 = .ok (.aload_n 0, 1) := dc_42 (by decide +kernel)
theorem dX39_of_87 : decode cX39_of 87 = .ok (.getfield 28, 3) := dc_180 (a := 0) (b := 28) (n := 28) (by decide +kernel)
theorem dX39_of_90 : decode cX39_of 90 = .ok (.ireturn, 1) := dc_172 (by decide +kernel)
theorem dX39_of_91 : decode cX39_of 91 = .ok (.aload_n 0, 1) := dc_42 (by decide +kernel)
theorem dX39_of_92 : decode cX39_of 92 = .ok (.getfield 31, 3) := dc_180 (a := 0) (b := 31) (n := 31) (by decide +kernel)
theorem dX39_of_95 : decode cX39_of 95 = .ok (.ireturn, 1) := dc_172 (by decide +kernel)
theorem dX39_of_96 : decode cX39_of 96 = .ok (.aload_n 0, 1) := dc_42 (by decide +kernel)
theorem dX39_of_97 : decode cX39_of 97 = .ok (.getfield 34, 3) := dc_180 (a := 0) (b := 34) (n := 34) (by decide +kernel)
theorem dX39_of_100 : decode cX39_of 100 = .ok (.ireturn, 1) := dc_172 (by decide +kernel)
theorem dX39_of_101 : decode cX39_of 101 = .ok (.aload_n 0, 1) := dc_42 (by decide +kernel)
theorem dX39_of_102 : decode cX39_of 102 = .ok (.getfield 37, 3) := dc_180 (a := 0) (b := 37) (n := 37) (by decide +kernel)
theorem dX39_of_105 : decode cX39_of 105 = .ok (.aload_n 0, 1) := dc_42 (by decide +kernel)
theorem dX39_of_106 : decode cX39_of 106 = .ok (.getfield 40, 3) := dc_180 (a := 0) (b := 40) (n := 40) (by decide +kernel)
theorem dX39_of_109 : decode cX39_of 109 = .ok (.isub, 1) := dc_100 (by decide +kernel)
theorem dX39_of_110 : decode cX39_of 110 = .ok (.ireturn, 1) := dc_172 (by decide +kernel)
theorem dX39_of_111 : decode cX39_of 111 = .ok (.aload_n 0, 1) := dc_42 (by decide +kernel)
theorem dX39_of_112 : decode cX39_of 112 = .ok (.getfield 43, 3) := dc_180 (a := 0) (b := 43) (n := 43) (by decide +kernel)
theorem dX39_of_115 : decode cX39_of 115 = .ok (.ireturn, 1) := dc_172 (by decide +kernel)
theorem GX39_13 {w : eW} {d : Nat} {Y : eY} {pc : Nat} {ls : eL} {st : List Value} {h : eH} {Q : eO → eH → Prop} {a : Nat} {x : Int32} (hf : g_I 41 h a 4 = some x) (hd : decode Y.2.1 pc = .ok (.getfield 13, 3)) (hY : Y.1.cls = RX39) (kk : wp w d Y (pc + 3) ls (.int x :: st) h Q) : wp w d Y pc ls (.ref a :: st) h Q := x_gI (ci := 41) (k := 4) hf hd rfl (by decide) (by rw [hY]; exact q3518) kk
theorem GX39_16 {w : eW} {d : Nat} {Y : eY} {pc : Nat} {ls : eL} {st : List Value} {h : eH} {Q : eO → eH → Prop} {a : Nat} {x : Int32} (hf : g_I 41 h a 5 = some x) (hd : decode Y.2.1 pc = .ok (.getfield 16, 3)) (hY : Y.1.cls = RX39) (kk : wp w d Y (pc + 3) ls (.int x :: st) h Q) : wp w d Y pc ls (.ref a :: st) h Q := x_gI (ci := 41) (k := 5) hf hd rfl (by decide) (by rw [hY]; exact q3522) kk
theorem GX39_19 {w : eW} {d : Nat} {Y : eY} {pc : Nat} {ls : eL} {st : List Value} {h : eH} {Q : eO → eH → Prop} {a : Nat} {x : Int32} (hf : g_I 41 h a 6 = some x) (hd : decode Y.2.1 pc = .ok (.getfield 19, 3)) (hY : Y.1.cls = RX39) (kk : wp w d Y (pc + 3) ls (.int x :: st) h Q) : wp w d Y pc ls (.ref a :: st) h Q := x_gI (ci := 41) (k := 6) hf hd rfl (by decide) (by rw [hY]; exact q3526) kk
theorem GX39_22 {w : eW} {d : Nat} {Y : eY} {pc : Nat} {ls : eL} {st : List Value} {h : eH} {Q : eO → eH → Prop} {a : Nat} {x : Int32} (hf : g_I 41 h a 7 = some x) (hd : decode Y.2.1 pc = .ok (.getfield 22, 3)) (hY : Y.1.cls = RX39) (kk : wp w d Y (pc + 3) ls (.int x :: st) h Q) : wp w d Y pc ls (.ref a :: st) h Q := x_gI (ci := 41) (k := 7) hf hd rfl (by decide) (by rw [hY]; exact q3528) kk
theorem GX39_25 {w : eW} {d : Nat} {Y : eY} {pc : Nat} {ls : eL} {st : List Value} {h : eH} {Q : eO → eH → Prop} {a : Nat} {x : Int32} (hf : g_I 41 h a 8 = some x) (hd : decode Y.2.1 pc = .ok (.getfield 25, 3)) (hY : Y.1.cls = RX39) (kk : wp w d Y (pc + 3) ls (.int x :: st) h Q) : wp w d Y pc ls (.ref a :: st) h Q := x_gI (ci := 41) (k := 8) hf hd rfl (by decide) (by rw [hY]; exact q3530) kk
theorem GX39_28 {w : eW} {d : Nat} {Y : eY} {pc : Nat} {ls : eL} {st : List Value} {h : eH} {Q : eO → eH → Prop} {a : Nat} {x : Int32} (hf : g_I 41 h a 9 = some x) (hd : decode Y.2.1 pc = .ok (.getfield 28, 3)) (hY : Y.1.cls = RX39) (kk : wp w d Y (pc + 3) ls (.int x :: st) h Q) : wp w d Y pc ls (.ref a :: st) h Q := x_gI (ci := 41) (k := 9) hf hd rfl (by decide) (by rw [hY]; exact q3532) kk
theorem GX39_31 {w : eW} {d : Nat} {Y : eY} {pc : Nat} {ls : eL} {st : List Value} {h : eH} {Q : eO → eH → Prop} {a : Nat} {x : Int32} (hf : g_I 41 h a 10 = some x) (hd : decode Y.2.1 pc = .ok (.getfield 31, 3)) (hY : Y.1.cls = RX39) (kk : wp w d Y (pc + 3) ls (.int x :: st) h Q) : wp w d Y pc ls (.ref a :: st) h Q := x_gI (ci := 41) (k := 10) hf hd rfl (by decide) (by rw [hY]; exact q3534) kk
theorem GX39_34 {w : eW} {d : Nat} {Y : eY} {pc : Nat} {ls : eL} {st : List Value} {h : eH} {Q : eO → eH → Prop} {a : Nat} {x : Int32} (hf : g_I 41 h a 11 = some x) (hd : decode Y.2.1 pc = .ok (.getfield 34, 3)) (hY : Y.1.cls = RX39) (kk : wp w d Y (pc + 3) ls (.int x :: st) h Q) : wp w d Y pc ls (.ref a :: st) h Q := x_gI (ci := 41) (k := 11) hf hd rfl (by decide) (by rw [hY]; exact q3537) kk
theorem GX39_37 {w : eW} {d : Nat} {Y : eY} {pc : Nat} {ls : eL} {st : List Value} {h : eH} {Q : eO → eH → Prop} {a : Nat} {x : Int32} (hf : g_I 41 h a 1 = some x) (hd : decode Y.2.1 pc = .ok (.getfield 37, 3)) (hY : Y.1.cls = RX39) (kk : wp w d Y (pc + 3) ls (.int x :: st) h Q) : wp w d Y pc ls (.ref a :: st) h Q := x_gI (ci := 41) (k := 1) hf hd rfl (by decide) (by rw [hY]; exact q3507) kk
theorem GX39_40 {w : eW} {d : Nat} {Y : eY} {pc : Nat} {ls : eL} {st : List Value} {h : eH} {Q : eO → eH → Prop} {a : Nat} {x : Int32} (hf : g_I 41 h a 0 = some x) (hd : decode Y.2.1 pc = .ok (.getfield 40, 3)) (hY : Y.1.cls = RX39) (kk : wp w d Y (pc + 3) ls (.int x :: st) h Q) : wp w d Y pc ls (.ref a :: st) h Q := x_gI (ci := 41) (k := 0) hf hd rfl (by decide) (by rw [hY]; exact q3504) kk
theorem GX39_43 {w : eW} {d : Nat} {Y : eY} {pc : Nat} {ls : eL} {st : List Value} {h : eH} {Q : eO → eH → Prop} {a : Nat} {x : Int32} (hf : g_I 41 h a 12 = some x) (hd : decode Y.2.1 pc = .ok (.getfield 43, 3)) (hY : Y.1.cls = RX39) (kk : wp w d Y (pc + 3) ls (.int x :: st) h Q) : wp w d Y pc ls (.ref a :: st) h Q := x_gI (ci := 41) (k := 12) hf hd rfl (by decide) (by rw [hY]; exact q3540) kk
theorem GX39_7 {w : eW} {d : Nat} {Y : eY} {pc : Nat} {ls : eL} {st : List Value} {h : eH} {Q : eO → eH → Prop} {a : Nat} {x : Int32} (hf : g_I 41 h a 3 = some x) (hd : decode Y.2.1 pc = .ok (.getfield 7, 3)) (hY : Y.1.cls = RX39) (kk : wp w d Y (pc + 3) ls (.int x :: st) h Q) : wp w d Y pc ls (.ref a :: st) h Q := x_gI (ci := 41) (k := 3) hf hd rfl (by decide) (by rw [hY]; exact q3514) kk
def fX39_of (this : Nat) (p0 : Int32) (h : eH) : Option (Int32 × eH) :=
  if p0 = (0 : Int32) then
    (g_I 41 h this 3).bind fun x2 =>
    some (x2, h)
  else
  if p0 = (1 : Int32) then
    (g_I 41 h this 4).bind fun x5 =>
    some (x5, h)
  else
  if p0 = (2 : Int32) then
    (g_I 41 h this 5).bind fun x8 =>
    some (x8, h)
  else
  if p0 = (3 : Int32) then
    (g_I 41 h this 6).bind fun x11 =>
    some (x11, h)
  else
  if p0 = (4 : Int32) then
    (g_I 41 h this 7).bind fun x14 =>
    some (x14, h)
  else
  if p0 = (5 : Int32) then
    (g_I 41 h this 8).bind fun x17 =>
    some (x17, h)
  else
  if p0 = (6 : Int32) then
    (g_I 41 h this 9).bind fun x20 =>
    some (x20, h)
  else
  if p0 = (7 : Int32) then
    (g_I 41 h this 10).bind fun x23 =>
    some (x23, h)
  else
  if p0 = (8 : Int32) then
    (g_I 41 h this 11).bind fun x26 =>
    some (x26, h)
  else
  if p0 = (9 : Int32) then
    (g_I 41 h this 1).bind fun x29 =>
    (g_I 41 h this 0).bind fun x31 =>
    some ((x29 - x31), h)
  else
  (g_I 41 h this 12).bind fun x33 =>
  some (x33, h)
theorem pX39_of {w : eW} {d : Nat} (hd : 0 ≤ d) {this : Nat} {p0 : Int32} {h : eH} {q} (hf : fX39_of this p0 h = some q) : wm w d YX39_of [.ref this, .int p0] h (e_is (e_rn c_I q)) := by
  show wp w d YX39_of 0 [some (.ref this), some (.int p0)] [] h _
  unfold fX39_of at hf
  refine w_iload_n dX39_of_0 rfl rfl ?_
  by_cases c1 : p0 = (0 : Int32)
  · replace hf := (if_pos c1).symm.trans hf
    refine w_tableIn 56 dX39_of_1 (by rw [c1]; decide) (by rw [c1]; decide) (by rw [c1]; rfl) (by decide) ?_
    refine w_aload_n dX39_of_56 rfl rfl ?_
    obtain ⟨x2, b3, hf⟩ := Option.bind_eq_some_iff.mp hf
    refine GX39_7 b3 dX39_of_57 rfl ?_
    cases hf
    exact w_iret dX39_of_60 rfl rfl rfl
  replace hf := (if_neg c1).symm.trans hf
  by_cases c4 : p0 = (1 : Int32)
  · replace hf := (if_pos c4).symm.trans hf
    refine w_tableIn 61 dX39_of_1 (by rw [c4]; decide) (by rw [c4]; decide) (by rw [c4]; rfl) (by decide) ?_
    refine w_aload_n dX39_of_61 rfl rfl ?_
    obtain ⟨x5, b6, hf⟩ := Option.bind_eq_some_iff.mp hf
    refine GX39_13 b6 dX39_of_62 rfl ?_
    cases hf
    exact w_iret dX39_of_65 rfl rfl rfl
  replace hf := (if_neg c4).symm.trans hf
  by_cases c7 : p0 = (2 : Int32)
  · replace hf := (if_pos c7).symm.trans hf
    refine w_tableIn 66 dX39_of_1 (by rw [c7]; decide) (by rw [c7]; decide) (by rw [c7]; rfl) (by decide) ?_
    refine w_aload_n dX39_of_66 rfl rfl ?_
    obtain ⟨x8, b9, hf⟩ := Option.bind_eq_some_iff.mp hf
    refine GX39_16 b9 dX39_of_67 rfl ?_
    cases hf
    exact w_iret dX39_of_70 rfl rfl rfl
  replace hf := (if_neg c7).symm.trans hf
  by_cases c10 : p0 = (3 : Int32)
  · replace hf := (if_pos c10).symm.trans hf
    refine w_tableIn 71 dX39_of_1 (by rw [c10]; decide) (by rw [c10]; decide) (by rw [c10]; rfl) (by decide) ?_
    refine w_aload_n dX39_of_71 rfl rfl ?_
    obtain ⟨x11, b12, hf⟩ := Option.bind_eq_some_iff.mp hf
    refine GX39_19 b12 dX39_of_72 rfl ?_
    cases hf
    exact w_iret dX39_of_75 rfl rfl rfl
  replace hf := (if_neg c10).symm.trans hf
  by_cases c13 : p0 = (4 : Int32)
  · replace hf := (if_pos c13).symm.trans hf
    refine w_tableIn 76 dX39_of_1 (by rw [c13]; decide) (by rw [c13]; decide) (by rw [c13]; rfl) (by decide) ?_
    refine w_aload_n dX39_of_76 rfl rfl ?_
    obtain ⟨x14, b15, hf⟩ := Option.bind_eq_some_iff.mp hf
    refine GX39_22 b15 dX39_of_77 rfl ?_
    cases hf
    exact w_iret dX39_of_80 rfl rfl rfl
  replace hf := (if_neg c13).symm.trans hf
  by_cases c16 : p0 = (5 : Int32)
  · replace hf := (if_pos c16).symm.trans hf
    refine w_tableIn 81 dX39_of_1 (by rw [c16]; decide) (by rw [c16]; decide) (by rw [c16]; rfl) (by decide) ?_
    refine w_aload_n dX39_of_81 rfl rfl ?_
    obtain ⟨x17, b18, hf⟩ := Option.bind_eq_some_iff.mp hf
    refine GX39_25 b18 dX39_of_82 rfl ?_
    cases hf
    exact w_iret dX39_of_85 rfl rfl rfl
  replace hf := (if_neg c16).symm.trans hf
  by_cases c19 : p0 = (6 : Int32)
  · replace hf := (if_pos c19).symm.trans hf
    refine w_tableIn 86 dX39_of_1 (by rw [c19]; decide) (by rw [c19]; decide) (by rw [c19]; rfl) (by decide) ?_
    refine w_aload_n dX39_of_86 rfl rfl ?_
    obtain ⟨x20, b21, hf⟩ := Option.bind_eq_some_iff.mp hf
    refine GX39_28 b21 dX39_of_87 rfl ?_
    cases hf
    exact w_iret dX39_of_90 rfl rfl rfl
  replace hf := (if_neg c19).symm.trans hf
  by_cases c22 : p0 = (7 : Int32)
  · replace hf := (if_pos c22).symm.trans hf
    refine w_tableIn 91 dX39_of_1 (by rw [c22]; decide) (by rw [c22]; decide) (by rw [c22]; rfl) (by decide) ?_
    refine w_aload_n dX39_of_91 rfl rfl ?_
    obtain ⟨x23, b24, hf⟩ := Option.bind_eq_some_iff.mp hf
    refine GX39_31 b24 dX39_of_92 rfl ?_
    cases hf
    exact w_iret dX39_of_95 rfl rfl rfl
  replace hf := (if_neg c22).symm.trans hf
  by_cases c25 : p0 = (8 : Int32)
  · replace hf := (if_pos c25).symm.trans hf
    refine w_tableIn 96 dX39_of_1 (by rw [c25]; decide) (by rw [c25]; decide) (by rw [c25]; rfl) (by decide) ?_
    refine w_aload_n dX39_of_96 rfl rfl ?_
    obtain ⟨x26, b27, hf⟩ := Option.bind_eq_some_iff.mp hf
    refine GX39_34 b27 dX39_of_97 rfl ?_
    cases hf
    exact w_iret dX39_of_100 rfl rfl rfl
  replace hf := (if_neg c25).symm.trans hf
  by_cases c28 : p0 = (9 : Int32)
  · replace hf := (if_pos c28).symm.trans hf
    refine w_tableIn 101 dX39_of_1 (by rw [c28]; decide) (by rw [c28]; decide) (by rw [c28]; rfl) (by decide) ?_
    refine w_aload_n dX39_of_101 rfl rfl ?_
    obtain ⟨x29, b30, hf⟩ := Option.bind_eq_some_iff.mp hf
    refine GX39_37 b30 dX39_of_102 rfl ?_
    refine w_aload_n dX39_of_105 rfl rfl ?_
    obtain ⟨x31, b32, hf⟩ := Option.bind_eq_some_iff.mp hf
    refine GX39_40 b32 dX39_of_106 rfl ?_
    refine w_isub dX39_of_109 ?_
    cases hf
    exact w_iret dX39_of_110 rfl rfl rfl
  replace hf := (if_neg c28).symm.trans hf
  refine w_tableOut 111 dX39_of_1 (by have n0 := sw_ne c1 (by decide : (0 : Int32).toInt = 0); have n1 := sw_ne c4 (by decide : (1 : Int32).toInt = 1); have n2 := sw_ne c7 (by decide : (2 : Int32).toInt = 2); have n3 := sw_ne c10 (by decide : (3 : Int32).toInt = 3); have n4 := sw_ne c13 (by decide : (4 : Int32).toInt = 4); have n5 := sw_ne c16 (by decide : (5 : Int32).toInt = 5); have n6 := sw_ne c19 (by decide : (6 : Int32).toInt = 6); have n7 := sw_ne c22 (by decide : (7 : Int32).toInt = 7); have n8 := sw_ne c25 (by decide : (8 : Int32).toInt = 8); have n9 := sw_ne c28 (by decide : (9 : Int32).toInt = 9); omega) (by decide) ?_
  refine w_aload_n dX39_of_111 rfl rfl ?_
  obtain ⟨x33, b34, hf⟩ := Option.bind_eq_some_iff.mp hf
  refine GX39_43 b34 dX39_of_112 rfl ?_
  cases hf
  exact w_iret dX39_of_115 rfl rfl rfl
abbrev cX8_sized : ByteArray := prog_4_method_38_code
def yX8_sized : MethodName := ⟨RX8, "sized", "(I)I"⟩
def YX8_sized : eY := (yX8_sized, cX8_sized, 4, (Option.some FieldType.int), [])
theorem mX8_sized : e_mv YX8_sized RX8 1 := ⟨q2627, qs70, q2628, by decide, by decide +kernel, (e_sig (by decide +kernel))⟩
theorem dX8_sized_0 : decode cX8_sized 0 = .ok (.aload_n 0, 1) := dc_42 (by decide +kernel)
theorem dX8_sized_1 : decode cX8_sized 1 = .ok (.iload_n 1, 1) := dc_27 (by decide +kernel)
theorem dX8_sized_2 : decode cX8_sized 2 = .ok (.invokevirtual 243, 3) := dc_182 (a := 0) (b := 243) (n := 243) (by decide +kernel)
theorem dX8_sized_5 : decode cX8_sized 5 = .ok (.istore_n 2, 1) := dc_61 (by decide +kernel)
theorem dX8_sized_6 : decode cX8_sized 6 = .ok (.iload_n 2, 1) := dc_28 (by decide +kernel)
theorem dX8_sized_7 : decode cX8_sized 7 = .ok (.bipush 51, 2) := dc_16 (a := 51) (v := 51) (by decide +kernel)
theorem dX8_sized_9 : decode cX8_sized 9 = .ok (.if_icmp .lt 9, 3) := dc_161 (a := 0) (b := 9) (v := 9) (by decide +kernel)
theorem dX8_sized_12 : decode cX8_sized 12 = .ok (.iload_n 2, 1) := dc_28 (by decide +kernel)
theorem dX8_sized_13 : decode cX8_sized 13 = .ok (.bipush 53, 2) := dc_16 (a := 53) (v := 53) (by decide +kernel)
theorem dX8_sized_15 : decode cX8_sized 15 = .ok (.if_icmp .le 17, 3) := dc_164 (a := 0) (b := 17) (v := 17) (by decide +kernel)
theorem dX8_sized_18 : decode cX8_sized 18 = .ok (.aload_n 0, 1) := dc_42 (by decide +kernel)
theorem dX8_sized_19 : decode cX8_sized 19 = .ok (.getfield 12, 3) := dc_180 (a := 0) (b := 12) (n := 12) (by decide +kernel)
theorem dX8_sized_22 : decode cX8_sized 22 = .ok (.getfield 357, 3) := dc_180 (a := 1) (b := 101) (n := 357) (by decide +kernel)
theorem dX8_sized_25 : decode cX8_sized 25 = .ok (.aload_n 0, 1) := dc_42 (by decide +kernel)
theorem dX8_sized_26 : decode cX8_sized 26 = .ok (.iload_n 2, 1) := dc_28 (by decide +kernel)
theorem dX8_sized_27 : decode cX8_sized 27 = .ok (.invokevirtual 360, 3) := dc_182 (a := 1) (b := 104) (n := 360) (by decide +kernel)
theorem dX8_sized_30 : decode cX8_sized 30 = .ok (.iaload, 1) := dc_46 (by decide +kernel)
theorem dX8_sized_31 : decode cX8_sized 31 = .ok (.ireturn, 1) := dc_172 (by decide +kernel)
theorem dX8_sized_32 : decode cX8_sized 32 = .ok (.aload_n 0, 1) := dc_42 (by decide +kernel)
theorem dX8_sized_33 : decode cX8_sized 33 = .ok (.getfield 12, 3) := dc_180 (a := 0) (b := 12) (n := 12) (by decide +kernel)
theorem dX8_sized_36 : decode cX8_sized 36 = .ok (.getfield 357, 3) := dc_180 (a := 1) (b := 101) (n := 357) (by decide +kernel)
theorem dX8_sized_39 : decode cX8_sized 39 = .ok (.sipush 1583, 3) := dc_17 (a := 6) (b := 47) (v := 1583) (by decide +kernel)
theorem dX8_sized_42 : decode cX8_sized 42 = .ok (.aload_n 0, 1) := dc_42 (by decide +kernel)
theorem dX8_sized_43 : decode cX8_sized 43 = .ok (.sipush 255, 3) := dc_17 (a := 0) (b := 255) (v := 255) (by decide +kernel)
theorem dX8_sized_46 : decode cX8_sized 46 = .ok (.invokevirtual 363, 3) := dc_182 (a := 1) (b := 107) (n := 363) (by decide +kernel)
theorem dX8_sized_49 : decode cX8_sized 49 = .ok (.iadd, 1) := dc_96 (by decide +kernel)
theorem dX8_sized_50 : decode cX8_sized 50 = .ok (.iaload, 1) := dc_46 (by decide +kernel)
theorem dX8_sized_51 : decode cX8_sized 51 = .ok (.istore_n 3, 1) := dc_62 (by decide +kernel)
theorem dX8_sized_52 : decode cX8_sized 52 = .ok (.iload_n 3, 1) := dc_29 (by decide +kernel)
theorem dX8_sized_53 : decode cX8_sized 53 = .ok (.iconst (-1), 1) := dc_2 (by decide +kernel)
theorem dX8_sized_54 : decode cX8_sized 54 = .ok (.if_icmp .ne 7, 3) := dc_160 (a := 0) (b := 7) (v := 7) (by decide +kernel)
theorem dX8_sized_57 : decode cX8_sized 57 = .ok (.iconst 0, 1) := dc_3 (by decide +kernel)
theorem dX8_sized_58 : decode cX8_sized 58 = .ok (.goto 16, 3) := dc_167 (a := 0) (b := 16) (v := 16) (by decide +kernel)
theorem dX8_sized_61 : decode cX8_sized 61 = .ok (.aload_n 0, 1) := dc_42 (by decide +kernel)
theorem dX8_sized_62 : decode cX8_sized 62 = .ok (.getfield 59, 3) := dc_180 (a := 0) (b := 59) (n := 59) (by decide +kernel)
theorem dX8_sized_65 : decode cX8_sized 65 = .ok (.iload_n 3, 1) := dc_29 (by decide +kernel)
theorem dX8_sized_66 : decode cX8_sized 66 = .ok (.aaload, 1) := dc_50 (by decide +kernel)
theorem dX8_sized_67 : decode cX8_sized 67 = .ok (.iload_n 2, 1) := dc_28 (by decide +kernel)
theorem dX8_sized_68 : decode cX8_sized 68 = .ok (.bipush 51, 2) := dc_16 (a := 51) (v := 51) (by decide +kernel)
theorem dX8_sized_70 : decode cX8_sized 70 = .ok (.isub, 1) := dc_100 (by decide +kernel)
theorem dX8_sized_71 : decode cX8_sized 71 = .ok (.invokevirtual 375, 3) := dc_182 (a := 1) (b := 119) (n := 375) (by decide +kernel)
theorem dX8_sized_74 : decode cX8_sized 74 = .ok (.ireturn, 1) := dc_172 (by decide +kernel)
theorem GX8_357 {w : eW} {d : Nat} {Y : eY} {pc : Nat} {ls : eL} {st : List Value} {h : eH} {Q : eO → eH → Prop} {a : Nat} {x : Nat} (hf : g_A 8 h a 3 = some x) (hd : decode Y.2.1 pc = .ok (.getfield 357, 3)) (hY : Y.1.cls = RX8) (kk : wp w d Y (pc + 3) ls (.ref x :: st) h Q) : wp w d Y pc ls (.ref a :: st) h Q := x_gAN (ci := 8) (k := 3) hf hd rfl (by decide) (by rw [hY]; exact q658) kk
theorem GX8_59 {w : eW} {d : Nat} {Y : eY} {pc : Nat} {ls : eL} {st : List Value} {h : eH} {Q : eO → eH → Prop} {a : Nat} {x : Nat} (hf : g_A 7 h a 2 = some x) (hd : decode Y.2.1 pc = .ok (.getfield 59, 3)) (hY : Y.1.cls = RX8) (kk : wp w d Y (pc + 3) ls (.ref x :: st) h Q) : wp w d Y pc ls (.ref a :: st) h Q := x_gA (ci := 7) (k := 2) hf hd rfl (by decide) (by rw [hY]; exact q833) kk
def fX8_sized_b18 (rN : Nat → eH → Option ((Int32 ⊕ Nat) × eH)) (l0 : Nat) (l2 : Int32) (h : eH) : Option ((Int32 ⊕ Nat) × eH) :=
  (g_A 7 h l0 4).bind fun a1 =>
  (g_A 8 h a1 3).bind fun a3 =>
  (k_ok 7 h l0).bind fun _ =>
  t_B (fX8_cellOf rN l0 l2 h) fun x6 h7 =>
  (r_I 100 h7 a3 x6).bind fun x8 =>
  some (.inl x8, h7)
theorem pX8_sized_b18 {w : eW} {d : Nat} {dr : Nat} (hd : dr + 10 ≤ d + 1) (hdr : 12 ≤ dr) {rN : Nat → eH → Option ((Int32 ⊕ Nat) × eH)} (hrN : ∀ a h q, rN a h = some q → wm w dr YX8_number [.ref a] h (e_is (e_rt c_I q))) {l0 : Nat} {l2 : Int32} {h : eH} {q} (hf : fX8_sized_b18 rN l0 l2 h = some q) : wp w (d + 1) YX8_sized 18 [some (.ref l0), none, some (.int l2), none] [] h (e_is (e_rt c_I q)) := by
  unfold fX8_sized_b18 at hf
  refine w_aload_n dX8_sized_18 rfl rfl ?_
  obtain ⟨a1, b2, hf⟩ := Option.bind_eq_some_iff.mp hf
  refine GX8_12 b2 dX8_sized_19 rfl ?_
  obtain ⟨a3, b4, hf⟩ := Option.bind_eq_some_iff.mp hf
  refine GX8_357 b4 dX8_sized_22 rfl ?_
  refine w_aload_n dX8_sized_25 rfl rfl ?_
  refine w_iload_n dX8_sized_26 rfl rfl ?_
  obtain ⟨_, b5, hf⟩ := Option.bind_eq_some_iff.mp hf
  refine x_ctI hf (e_stV (Yc := YX8_cellOf) (ci := 7) (av := [.int l2]) (st := [.ref a3]) dX8_sized_27 q2629 mX8_cellOf rfl (k_ok_some b5).1 (k_ok_some b5).2) mX8_cellOf.2.2.1 mX8_cellOf.2.2.2.2.1 (Nat.le_of_ble_eq_true rfl) (Nat.le_of_ble_eq_true rfl) rfl (fun q hq => pX8_cellOf (by omega) hdr hrN hq) (fun x6 h7 hf => ?_)
  obtain ⟨x8, b9, hf⟩ := Option.bind_eq_some_iff.mp hf
  refine x_rI b9 dX8_sized_30 ?_
  cases hf
  exact w_iret dX8_sized_31 rfl rfl rfl
def fX8_sized_b74 (rN : Nat → eH → Option ((Int32 ⊕ Nat) × eH)) (s0 : Int32) (h : eH) : Option ((Int32 ⊕ Nat) × eH) :=
  some (.inl s0, h)
theorem pX8_sized_b74 {w : eW} {d : Nat} {dr : Nat} (hd : dr + 10 ≤ d + 1) (hdr : 12 ≤ dr) {rN : Nat → eH → Option ((Int32 ⊕ Nat) × eH)} (hrN : ∀ a h q, rN a h = some q → wm w dr YX8_number [.ref a] h (e_is (e_rt c_I q))) {s0 : Int32} {h : eH} {q} (hf : fX8_sized_b74 rN s0 h = some q) : wp w (d + 1) YX8_sized 74 [none, none, none, none] [.int s0] h (e_is (e_rt c_I q)) := by
  unfold fX8_sized_b74 at hf
  cases hf
  exact w_iret dX8_sized_74 rfl rfl rfl
def fX8_sized (rN : Nat → eH → Option ((Int32 ⊕ Nat) × eH)) (this : Nat) (p0 : Int32) (h : eH) : Option ((Int32 ⊕ Nat) × eH) :=
  (k_ok 7 h this).bind fun _ =>
  (fX8_primitive this p0 h).bind fun q2 =>
  if q2.1 < (51 : Int32) then
    fX8_sized_b18 rN this q2.1 q2.2
  else
    if q2.1 ≤ (53 : Int32) then
      (g_A 7 q2.2 this 4).bind fun a5 =>
      (g_A 8 q2.2 a5 3).bind fun a7 =>
      (k_ok 7 q2.2 this).bind fun _ =>
      t_B (fX8_within rN this (255 : Int32) q2.2) fun x10 h11 =>
      (r_I 100 h11 a7 ((1583 : Int32) + x10)).bind fun x12 =>
      if ¬ x12 = (-1 : Int32) then
        (g_A 7 h11 this 2).bind fun a15 =>
        (r_A 104 h11 a15 x12).bind fun a17 =>
        (k_ok 41 h11 a17).bind fun _ =>
        (fX39_of a17 (q2.1 - (51 : Int32)) h11).bind fun q20 =>
        fX8_sized_b74 rN q20.1 q20.2
      else
        fX8_sized_b74 rN (0 : Int32) h11
    else
      fX8_sized_b18 rN this q2.1 q2.2
theorem pX8_sized {w : eW} {d : Nat} {dr : Nat} (hd : dr + 10 ≤ d) (hdr : 12 ≤ dr) {rN : Nat → eH → Option ((Int32 ⊕ Nat) × eH)} (hrN : ∀ a h q, rN a h = some q → wm w dr YX8_number [.ref a] h (e_is (e_rt c_I q))) {this : Nat} {p0 : Int32} {h : eH} {q} (hf : fX8_sized rN this p0 h = some q) : wm w d YX8_sized [.ref this, .int p0] h (e_is (e_rt c_I q)) := by
  obtain ⟨d, rfl⟩ : ∃ e, d = e + 1 := ⟨d - 1, by omega⟩
  show wp w (d + 1) YX8_sized 0 [some (.ref this), some (.int p0), none, none] [] h _
  unfold fX8_sized at hf
  refine w_aload_n dX8_sized_0 rfl rfl ?_
  refine w_iload_n dX8_sized_1 rfl rfl ?_
  obtain ⟨_, b1, hf⟩ := Option.bind_eq_some_iff.mp hf
  refine x_cnI hf (e_stV (Yc := YX8_primitive) (ci := 7) (av := [.int p0]) (st := []) dX8_sized_2 q2568 mX8_primitive rfl (k_ok_some b1).1 (k_ok_some b1).2) mX8_primitive.2.2.1 mX8_primitive.2.2.2.2.1 (Nat.le_of_ble_eq_true rfl) (Nat.le_of_ble_eq_true rfl) (fun q hq => pX8_primitive (by omega) hq) (fun q2 hf => ?_)
  refine w_istore_n dX8_sized_5 rfl (by decide) (ls' := [some (.ref this), some (.int p0), some (.int q2.1), none]) rfl ?_
  refine w_iload_n dX8_sized_6 rfl rfl ?_
  refine w_bipush dX8_sized_7 (v := 51) (by decide) ?_
  refine w_icmp_lt 18 dX8_sized_9 (by decide) (fun c3 => ?_) (fun c3 => ?_)
  · replace hf := (if_pos (show q2.1 < (51 : Int32) from c3)).symm.trans hf
    exact (pX8_sized_b18 hd hdr hrN hf).to ⟨rfl, rfl, trivial⟩
  · replace hf := (if_neg (show ¬ (q2.1 < (51 : Int32)) from c3)).symm.trans hf
    refine w_iload_n dX8_sized_12 rfl rfl ?_
    refine w_bipush dX8_sized_13 (v := 53) (by decide) ?_
    refine w_icmp_le 32 dX8_sized_15 (by decide) (fun c4 => ?_) (fun c4 => ?_)
    · replace hf := (if_pos (show q2.1 ≤ (53 : Int32) from c4)).symm.trans hf
      refine w_aload_n dX8_sized_32 rfl rfl ?_
      obtain ⟨a5, b6, hf⟩ := Option.bind_eq_some_iff.mp hf
      refine GX8_12 b6 dX8_sized_33 rfl ?_
      obtain ⟨a7, b8, hf⟩ := Option.bind_eq_some_iff.mp hf
      refine GX8_357 b8 dX8_sized_36 rfl ?_
      refine w_sipush dX8_sized_39 (v := 1583) (by decide) ?_
      refine w_aload_n dX8_sized_42 rfl rfl ?_
      refine w_sipush dX8_sized_43 (v := 255) (by decide) ?_
      obtain ⟨_, b9, hf⟩ := Option.bind_eq_some_iff.mp hf
      refine x_ctI hf (e_stV (Yc := YX8_within) (ci := 7) (av := [.int (255 : Int32)]) (st := [.int (1583 : Int32), .ref a7]) dX8_sized_46 q2633 mX8_within rfl (k_ok_some b9).1 (k_ok_some b9).2) mX8_within.2.2.1 mX8_within.2.2.2.2.1 (Nat.le_of_ble_eq_true rfl) (Nat.le_of_ble_eq_true rfl) rfl (fun q hq => pX8_within (by omega) hdr hrN hq) (fun x10 h11 hf => ?_)
      refine w_iadd dX8_sized_49 ?_
      obtain ⟨x12, b13, hf⟩ := Option.bind_eq_some_iff.mp hf
      refine x_rI b13 dX8_sized_50 ?_
      refine w_istore_n dX8_sized_51 rfl (by decide) (ls' := [some (.ref this), some (.int p0), some (.int q2.1), some (.int x12)]) rfl ?_
      refine w_iload_n dX8_sized_52 rfl rfl ?_
      refine w_iconst dX8_sized_53 (v := -1) (by decide) ?_
      refine w_icmp_ne 61 dX8_sized_54 (by decide) (fun c14 => ?_) (fun c14 => ?_)
      · replace hf := (if_pos (show ¬ x12 = (-1 : Int32) from c14)).symm.trans hf
        refine w_aload_n dX8_sized_61 rfl rfl ?_
        obtain ⟨a15, b16, hf⟩ := Option.bind_eq_some_iff.mp hf
        refine GX8_59 b16 dX8_sized_62 rfl ?_
        refine w_iload_n dX8_sized_65 rfl rfl ?_
        obtain ⟨a17, b18, hf⟩ := Option.bind_eq_some_iff.mp hf
        refine x_rA (c := 104) (by decide) b18 dX8_sized_66 ?_
        refine w_iload_n dX8_sized_67 rfl rfl ?_
        refine w_bipush dX8_sized_68 (v := 51) (by decide) ?_
        refine w_isub dX8_sized_70 ?_
        obtain ⟨_, b19, hf⟩ := Option.bind_eq_some_iff.mp hf
        refine x_cnI hf (e_stVN (Yc := YX39_of) (ci := 41) (av := [.int (q2.1 - (51 : Int32))]) (st := []) dX8_sized_71 q2637 mX39_of rfl (k_ok_some b19).1 (k_ok_some b19).2) mX39_of.2.2.1 mX39_of.2.2.2.2.1 (Nat.le_of_ble_eq_true rfl) (Nat.le_of_ble_eq_true rfl) (fun q hq => pX39_of (by omega) hq) (fun q20 hf => ?_)
        exact (pX8_sized_b74 hd hdr hrN hf).to trivial
      · replace hf := (if_neg (show ¬ (¬ x12 = (-1 : Int32)) from (fun z => z c14))).symm.trans hf
        refine w_iconst dX8_sized_57 (v := 0) (by decide) ?_
        refine w_goto 74 dX8_sized_58 (by decide) ?_
        exact (pX8_sized_b74 hd hdr hrN hf).to trivial
    · replace hf := (if_neg (show ¬ (q2.1 ≤ (53 : Int32)) from c4)).symm.trans hf
      exact (pX8_sized_b18 hd hdr hrN hf).to ⟨rfl, rfl, trivial⟩
abbrev cX1_isDigit : ByteArray := prog_1_method_8_code
def yX1_isDigit : MethodName := ⟨RX1, "isDigit", "(I)Z"⟩
def YX1_isDigit : eY := (yX1_isDigit, cX1_isDigit, 1, (Option.some FieldType.boolean), [])
theorem mX1_isDigit : e_ms YX1_isDigit 1 := ⟨q2599, q426, q2600, by decide, by decide +kernel, (e_sig (by decide +kernel))⟩
theorem dX1_isDigit_0 : decode cX1_isDigit 0 = .ok (.iload_n 0, 1) := dc_26 (by decide +kernel)
theorem dX1_isDigit_1 : decode cX1_isDigit 1 = .ok (.sipush 3120, 3) := dc_17 (a := 12) (b := 48) (v := 3120) (by decide +kernel)
theorem dX1_isDigit_4 : decode cX1_isDigit 4 = .ok (.if_icmp .lt 14, 3) := dc_161 (a := 0) (b := 14) (v := 14) (by decide +kernel)
theorem dX1_isDigit_7 : decode cX1_isDigit 7 = .ok (.iload_n 0, 1) := dc_26 (by decide +kernel)
theorem dX1_isDigit_8 : decode cX1_isDigit 8 = .ok (.sipush 3129, 3) := dc_17 (a := 12) (b := 57) (v := 3129) (by decide +kernel)
theorem dX1_isDigit_11 : decode cX1_isDigit 11 = .ok (.if_icmp .gt 7, 3) := dc_163 (a := 0) (b := 7) (v := 7) (by decide +kernel)
theorem dX1_isDigit_14 : decode cX1_isDigit 14 = .ok (.iconst 1, 1) := dc_4 (by decide +kernel)
theorem dX1_isDigit_15 : decode cX1_isDigit 15 = .ok (.goto 4, 3) := dc_167 (a := 0) (b := 4) (v := 4) (by decide +kernel)
theorem dX1_isDigit_18 : decode cX1_isDigit 18 = .ok (.iconst 0, 1) := dc_3 (by decide +kernel)
theorem dX1_isDigit_19 : decode cX1_isDigit 19 = .ok (.ireturn, 1) := dc_172 (by decide +kernel)
def fX1_isDigit_b19 (s0 : Int32) (h : eH) : Option (Int32 × eH) :=
  z_r s0 (s0, h)
theorem pX1_isDigit_b19 {w : eW} {d : Nat} (hd : 0 ≤ d) {s0 : Int32} {h : eH} {q} (hf : fX1_isDigit_b19 s0 h = some q) : wp w d YX1_isDigit 19 [none] [.int s0] h (e_is (e_rn c_I q)) := by
  unfold fX1_isDigit_b19 at hf
  obtain ⟨b1, rfl⟩ := z_r_some hf
  exact w_iret dX1_isDigit_19 rfl b1 rfl
def fX1_isDigit_b18  (h : eH) : Option (Int32 × eH) :=
  fX1_isDigit_b19 (0 : Int32) h
theorem pX1_isDigit_b18 {w : eW} {d : Nat} (hd : 0 ≤ d)  {h : eH} {q} (hf : fX1_isDigit_b18  h = some q) : wp w d YX1_isDigit 18 [none] [] h (e_is (e_rn c_I q)) := by
  unfold fX1_isDigit_b18 at hf
  refine w_iconst dX1_isDigit_18 (v := 0) (by decide) ?_
  exact (pX1_isDigit_b19 hd hf).to trivial
def fX1_isDigit (p0 : Int32) (h : eH) : Option (Int32 × eH) :=
  if p0 < (3120 : Int32) then
    fX1_isDigit_b18 h
  else
    if (3129 : Int32) < p0 then
      fX1_isDigit_b18 h
    else
      fX1_isDigit_b19 (1 : Int32) h
theorem pX1_isDigit {w : eW} {d : Nat} (hd : 0 ≤ d) {p0 : Int32} {h : eH} {q} (hf : fX1_isDigit p0 h = some q) : wm w d YX1_isDigit [.int p0] h (e_is (e_rn c_I q)) := by
  show wp w d YX1_isDigit 0 [some (.int p0)] [] h _
  unfold fX1_isDigit at hf
  refine w_iload_n dX1_isDigit_0 rfl rfl ?_
  refine w_sipush dX1_isDigit_1 (v := 3120) (by decide) ?_
  refine w_icmp_lt 18 dX1_isDigit_4 (by decide) (fun c1 => ?_) (fun c1 => ?_)
  · replace hf := (if_pos (show p0 < (3120 : Int32) from c1)).symm.trans hf
    exact (pX1_isDigit_b18 hd hf).to trivial
  · replace hf := (if_neg (show ¬ (p0 < (3120 : Int32)) from c1)).symm.trans hf
    refine w_iload_n dX1_isDigit_7 rfl rfl ?_
    refine w_sipush dX1_isDigit_8 (v := 3129) (by decide) ?_
    refine w_icmp_gt 18 dX1_isDigit_11 (by decide) (fun c2 => ?_) (fun c2 => ?_)
    · replace hf := (if_pos (show (3129 : Int32) < p0 from c2)).symm.trans hf
      exact (pX1_isDigit_b18 hd hf).to trivial
    · replace hf := (if_neg (show ¬ ((3129 : Int32) < p0) from c2)).symm.trans hf
      refine w_iconst dX1_isDigit_14 (v := 1) (by decide) ?_
      refine w_goto 19 dX1_isDigit_15 (by decide) ?_
      exact (pX1_isDigit_b19 hd hf).to trivial
abbrev cX8_isPoint : ByteArray := prog_4_method_42_code
def yX8_isPoint : MethodName := ⟨RX8, "isPoint", "(I)Z"⟩
def YX8_isPoint : eY := (yX8_isPoint, cX8_isPoint, 1, (Option.some FieldType.boolean), [])
theorem mX8_isPoint : e_ms YX8_isPoint 1 := ⟨q2727, q433, q2728, by decide, by decide +kernel, (e_sig (by decide +kernel))⟩
theorem dX8_isPoint_0 : decode cX8_isPoint 0 = .ok (.iload_n 0, 1) := dc_26 (by decide +kernel)
theorem dX8_isPoint_1 : decode cX8_isPoint 1 = .ok (.bipush 46, 2) := dc_16 (a := 46) (v := 46) (by decide +kernel)
theorem dX8_isPoint_3 : decode cX8_isPoint 3 = .ok (.invokestatic 255, 3) := dc_184 (a := 0) (b := 255) (n := 255) (by decide +kernel)
theorem dX8_isPoint_6 : decode cX8_isPoint 6 = .ok (.if_icmp .eq 12, 3) := dc_159 (a := 0) (b := 12) (v := 12) (by decide +kernel)
theorem dX8_isPoint_9 : decode cX8_isPoint 9 = .ok (.iload_n 0, 1) := dc_26 (by decide +kernel)
theorem dX8_isPoint_10 : decode cX8_isPoint 10 = .ok (.bipush 44, 2) := dc_16 (a := 44) (v := 44) (by decide +kernel)
theorem dX8_isPoint_12 : decode cX8_isPoint 12 = .ok (.invokestatic 255, 3) := dc_184 (a := 0) (b := 255) (n := 255) (by decide +kernel)
theorem dX8_isPoint_15 : decode cX8_isPoint 15 = .ok (.if_icmp .ne 7, 3) := dc_160 (a := 0) (b := 7) (v := 7) (by decide +kernel)
theorem dX8_isPoint_18 : decode cX8_isPoint 18 = .ok (.iconst 1, 1) := dc_4 (by decide +kernel)
theorem dX8_isPoint_19 : decode cX8_isPoint 19 = .ok (.goto 4, 3) := dc_167 (a := 0) (b := 4) (v := 4) (by decide +kernel)
theorem dX8_isPoint_22 : decode cX8_isPoint 22 = .ok (.iconst 0, 1) := dc_3 (by decide +kernel)
theorem dX8_isPoint_23 : decode cX8_isPoint 23 = .ok (.ireturn, 1) := dc_172 (by decide +kernel)
def fX8_isPoint_b23 (s0 : Int32) (h : eH) : Option (Int32 × eH) :=
  z_r s0 (s0, h)
theorem pX8_isPoint_b23 {w : eW} {d : Nat} (hd : 1 ≤ d + 1) {s0 : Int32} {h : eH} {q} (hf : fX8_isPoint_b23 s0 h = some q) : wp w (d + 1) YX8_isPoint 23 [none] [.int s0] h (e_is (e_rn c_I q)) := by
  unfold fX8_isPoint_b23 at hf
  obtain ⟨b1, rfl⟩ := z_r_some hf
  exact w_iret dX8_isPoint_23 rfl b1 rfl
def fX8_isPoint_b18  (h : eH) : Option (Int32 × eH) :=
  fX8_isPoint_b23 (1 : Int32) h
theorem pX8_isPoint_b18 {w : eW} {d : Nat} (hd : 1 ≤ d + 1)  {h : eH} {q} (hf : fX8_isPoint_b18  h = some q) : wp w (d + 1) YX8_isPoint 18 [none] [] h (e_is (e_rn c_I q)) := by
  unfold fX8_isPoint_b18 at hf
  refine w_iconst dX8_isPoint_18 (v := 1) (by decide) ?_
  refine w_goto 23 dX8_isPoint_19 (by decide) ?_
  exact (pX8_isPoint_b23 hd hf).to trivial
def fX8_isPoint (p0 : Int32) (h : eH) : Option (Int32 × eH) :=
  (fX1_other (46 : Int32) h).bind fun q1 =>
  if p0 = q1.1 then
    fX8_isPoint_b18 q1.2
  else
    (fX1_other (44 : Int32) q1.2).bind fun q3 =>
    if ¬ p0 = q3.1 then
      fX8_isPoint_b23 (0 : Int32) q3.2
    else
      fX8_isPoint_b18 q3.2
theorem pX8_isPoint {w : eW} {d : Nat} (hd : 1 ≤ d) {p0 : Int32} {h : eH} {q} (hf : fX8_isPoint p0 h = some q) : wm w d YX8_isPoint [.int p0] h (e_is (e_rn c_I q)) := by
  obtain ⟨d, rfl⟩ : ∃ e, d = e + 1 := ⟨d - 1, by omega⟩
  show wp w (d + 1) YX8_isPoint 0 [some (.int p0)] [] h _
  unfold fX8_isPoint at hf
  refine w_iload_n dX8_isPoint_0 rfl rfl ?_
  refine w_bipush dX8_isPoint_1 (v := 46) (by decide) ?_
  refine x_cnI hf (e_stSN (Yc := YX1_other) (av := [.int (46 : Int32)]) (st := [.int p0]) dX8_isPoint_3 q2579 mX1_other) mX1_other.2.2.1 mX1_other.2.2.2.2.1 (Nat.le_of_ble_eq_true rfl) (Nat.le_of_ble_eq_true rfl) (fun q hq => pX1_other (by omega) hq) (fun q1 hf => ?_)
  refine w_icmp_eq 18 dX8_isPoint_6 (by decide) (fun c2 => ?_) (fun c2 => ?_)
  · replace hf := (if_pos (show p0 = q1.1 from c2)).symm.trans hf
    exact (pX8_isPoint_b18 hd hf).to trivial
  · replace hf := (if_neg (show ¬ (p0 = q1.1) from c2)).symm.trans hf
    refine w_iload_n dX8_isPoint_9 rfl rfl ?_
    refine w_bipush dX8_isPoint_10 (v := 44) (by decide) ?_
    refine x_cnI hf (e_stSN (Yc := YX1_other) (av := [.int (44 : Int32)]) (st := [.int p0]) dX8_isPoint_12 q2579 mX1_other) mX1_other.2.2.1 mX1_other.2.2.2.2.1 (Nat.le_of_ble_eq_true rfl) (Nat.le_of_ble_eq_true rfl) (fun q hq => pX1_other (by omega) hq) (fun q3 hf => ?_)
    refine w_icmp_ne 22 dX8_isPoint_15 (by decide) (fun c4 => ?_) (fun c4 => ?_)
    · replace hf := (if_pos (show ¬ p0 = q3.1 from c4)).symm.trans hf
      refine w_iconst dX8_isPoint_22 (v := 0) (by decide) ?_
      exact (pX8_isPoint_b23 hd hf).to trivial
    · replace hf := (if_neg (show ¬ (¬ p0 = q3.1) from (fun z => z c4))).symm.trans hf
      exact (pX8_isPoint_b18 hd hf).to trivial
abbrev cX10_letter : ByteArray := prog_17_method_9_code
def yX10_letter : MethodName := ⟨RX10, "letter", "(II)I"⟩
def YX10_letter : eY := (yX10_letter, cX10_letter, 3, (Option.some FieldType.int), [])
theorem mX10_letter : e_mv YX10_letter RX10 2 := ⟨q2583, q2584, q2585, by decide, by decide +kernel, (e_sig (by decide +kernel))⟩
theorem dX10_letter_0 : decode cX10_letter 0 = .ok (.aload_n 0, 1) := dc_42 (by decide +kernel)
theorem dX10_letter_1 : decode cX10_letter 1 = .ok (.getfield 21, 3) := dc_180 (a := 0) (b := 21) (n := 21) (by decide +kernel)
theorem dX10_letter_4 : decode cX10_letter 4 = .ok (.aload_n 0, 1) := dc_42 (by decide +kernel)
theorem dX10_letter_5 : decode cX10_letter 5 = .ok (.getfield 15, 3) := dc_180 (a := 0) (b := 15) (n := 15) (by decide +kernel)
theorem dX10_letter_8 : decode cX10_letter 8 = .ok (.iload_n 1, 1) := dc_27 (by decide +kernel)
theorem dX10_letter_9 : decode cX10_letter 9 = .ok (.iaload, 1) := dc_46 (by decide +kernel)
theorem dX10_letter_10 : decode cX10_letter 10 = .ok (.iload_n 2, 1) := dc_28 (by decide +kernel)
theorem dX10_letter_11 : decode cX10_letter 11 = .ok (.iadd, 1) := dc_96 (by decide +kernel)
theorem dX10_letter_12 : decode cX10_letter 12 = .ok (.baload, 1) := dc_51 (by decide +kernel)
theorem dX10_letter_13 : decode cX10_letter 13 = .ok (.sipush 255, 3) := dc_17 (a := 0) (b := 255) (v := 255) (by decide +kernel)
theorem dX10_letter_16 : decode cX10_letter 16 = .ok (.iand, 1) := dc_126 (by decide +kernel)
theorem dX10_letter_17 : decode cX10_letter 17 = .ok (.ireturn, 1) := dc_172 (by decide +kernel)
def fX10_letter (this : Nat) (p0 : Int32) (p1 : Int32) (h : eH) : Option (Int32 × eH) :=
  (g_A 9 h this 4).bind fun a1 =>
  (g_A 9 h this 2).bind fun a3 =>
  (r_I 100 h a3 p0).bind fun x5 =>
  (r_I 102 h a1 (x5 + p1)).bind fun x7 =>
  some ((x7 &&& (255 : Int32)), h)
theorem pX10_letter {w : eW} {d : Nat} (hd : 0 ≤ d) {this : Nat} {p0 : Int32} {p1 : Int32} {h : eH} {q} (hf : fX10_letter this p0 p1 h = some q) : wm w d YX10_letter [.ref this, .int p0, .int p1] h (e_is (e_rn c_I q)) := by
  show wp w d YX10_letter 0 [some (.ref this), some (.int p0), some (.int p1)] [] h _
  unfold fX10_letter at hf
  refine w_aload_n dX10_letter_0 rfl rfl ?_
  obtain ⟨a1, b2, hf⟩ := Option.bind_eq_some_iff.mp hf
  refine GX10_21 b2 dX10_letter_1 rfl ?_
  refine w_aload_n dX10_letter_4 rfl rfl ?_
  obtain ⟨a3, b4, hf⟩ := Option.bind_eq_some_iff.mp hf
  refine GX10_15 b4 dX10_letter_5 rfl ?_
  refine w_iload_n dX10_letter_8 rfl rfl ?_
  obtain ⟨x5, b6, hf⟩ := Option.bind_eq_some_iff.mp hf
  refine x_rI b6 dX10_letter_9 ?_
  refine w_iload_n dX10_letter_10 rfl rfl ?_
  refine w_iadd dX10_letter_11 ?_
  obtain ⟨x7, b8, hf⟩ := Option.bind_eq_some_iff.mp hf
  refine x_rB b8 dX10_letter_12 ?_
  refine w_sipush dX10_letter_13 (v := 255) (by decide) ?_
  refine w_iand dX10_letter_16 ?_
  cases hf
  exact w_iret dX10_letter_17 rfl rfl rfl
abbrev cX8_quoted : ByteArray := prog_4_method_30_code
def yX8_quoted : MethodName := ⟨RX8, "quoted", "()I"⟩
def YX8_quoted : eY := (yX8_quoted, cX8_quoted, 4, (Option.some FieldType.int), [])
theorem mX8_quoted : e_mv YX8_quoted RX8 0 := ⟨q2613, qs68, q2614, by decide, by decide +kernel, (e_sig (by decide +kernel))⟩
theorem dX8_quoted_0 : decode cX8_quoted 0 = .ok (.aload_n 0, 1) := dc_42 (by decide +kernel)
theorem dX8_quoted_1 : decode cX8_quoted 1 = .ok (.invokevirtual 213, 3) := dc_182 (a := 0) (b := 213) (n := 213) (by decide +kernel)
theorem dX8_quoted_4 : decode cX8_quoted 4 = .ok (.invokestatic 219, 3) := dc_184 (a := 0) (b := 219) (n := 219) (by decide +kernel)
theorem dX8_quoted_7 : decode cX8_quoted 7 = .ok (.istore_n 1, 1) := dc_60 (by decide +kernel)
theorem dX8_quoted_8 : decode cX8_quoted 8 = .ok (.iload_n 1, 1) := dc_27 (by decide +kernel)
theorem dX8_quoted_9 : decode cX8_quoted 9 = .ok (.sipush 255, 3) := dc_17 (a := 0) (b := 255) (v := 255) (by decide +kernel)
theorem dX8_quoted_12 : decode cX8_quoted 12 = .ok (.iand, 1) := dc_126 (by decide +kernel)
theorem dX8_quoted_13 : decode cX8_quoted 13 = .ok (.istore_n 2, 1) := dc_61 (by decide +kernel)
theorem dX8_quoted_14 : decode cX8_quoted 14 = .ok (.iload_n 1, 1) := dc_27 (by decide +kernel)
theorem dX8_quoted_15 : decode cX8_quoted 15 = .ok (.invokestatic 165, 3) := dc_184 (a := 0) (b := 165) (n := 165) (by decide +kernel)
theorem dX8_quoted_18 : decode cX8_quoted 18 = .ok (.ifCond .ne 64, 3) := dc_154 (a := 0) (b := 64) (v := 64) (by decide +kernel)
theorem dX8_quoted_21 : decode cX8_quoted 21 = .ok (.iload_n 1, 1) := dc_27 (by decide +kernel)
theorem dX8_quoted_22 : decode cX8_quoted 22 = .ok (.sipush 4096, 3) := dc_17 (a := 16) (b := 0) (v := 4096) (by decide +kernel)
theorem dX8_quoted_25 : decode cX8_quoted 25 = .ok (.isub, 1) := dc_100 (by decide +kernel)
theorem dX8_quoted_26 : decode cX8_quoted 26 = .ok (.istore_n 3, 1) := dc_62 (by decide +kernel)
theorem dX8_quoted_27 : decode cX8_quoted 27 = .ok (.aload_n 0, 1) := dc_42 (by decide +kernel)
theorem dX8_quoted_28 : decode cX8_quoted 28 = .ok (.getfield 51, 3) := dc_180 (a := 0) (b := 51) (n := 51) (by decide +kernel)
theorem dX8_quoted_31 : decode cX8_quoted 31 = .ok (.iload_n 3, 1) := dc_29 (by decide +kernel)
theorem dX8_quoted_32 : decode cX8_quoted 32 = .ok (.sipush 256, 3) := dc_17 (a := 1) (b := 0) (v := 256) (by decide +kernel)
theorem dX8_quoted_35 : decode cX8_quoted 35 = .ok (.if_icmp .lt 16, 3) := dc_161 (a := 0) (b := 16) (v := 16) (by decide +kernel)
theorem dX8_quoted_38 : decode cX8_quoted 38 = .ok (.aload_n 0, 1) := dc_42 (by decide +kernel)
theorem dX8_quoted_39 : decode cX8_quoted 39 = .ok (.getfield 68, 3) := dc_180 (a := 0) (b := 68) (n := 68) (by decide +kernel)
theorem dX8_quoted_42 : decode cX8_quoted 42 = .ok (.getfield 258, 3) := dc_180 (a := 1) (b := 2) (n := 258) (by decide +kernel)
theorem dX8_quoted_45 : decode cX8_quoted 45 = .ok (.iload_n 3, 1) := dc_29 (by decide +kernel)
theorem dX8_quoted_46 : decode cX8_quoted 46 = .ok (.iaload, 1) := dc_46 (by decide +kernel)
theorem dX8_quoted_47 : decode cX8_quoted 47 = .ok (.iconst 1, 1) := dc_4 (by decide +kernel)
theorem dX8_quoted_48 : decode cX8_quoted 48 = .ok (.if_icmp .ne 7, 3) := dc_160 (a := 0) (b := 7) (v := 7) (by decide +kernel)
theorem dX8_quoted_51 : decode cX8_quoted 51 = .ok (.iconst 1, 1) := dc_4 (by decide +kernel)
theorem dX8_quoted_52 : decode cX8_quoted 52 = .ok (.goto 4, 3) := dc_167 (a := 0) (b := 4) (v := 4) (by decide +kernel)
theorem dX8_quoted_55 : decode cX8_quoted 55 = .ok (.iconst 0, 1) := dc_3 (by decide +kernel)
theorem dX8_quoted_56 : decode cX8_quoted 56 = .ok (.bipush 6, 2) := dc_16 (a := 6) (v := 6) (by decide +kernel)
theorem dX8_quoted_58 : decode cX8_quoted 58 = .ok (.invokevirtual 145, 3) := dc_182 (a := 0) (b := 145) (n := 145) (by decide +kernel)
theorem dX8_quoted_61 : decode cX8_quoted 61 = .ok (.iload_n 3, 1) := dc_29 (by decide +kernel)
theorem dX8_quoted_62 : decode cX8_quoted 62 = .ok (.sipush 256, 3) := dc_17 (a := 1) (b := 0) (v := 256) (by decide +kernel)
theorem dX8_quoted_65 : decode cX8_quoted 65 = .ok (.if_icmp .ge 7, 3) := dc_162 (a := 0) (b := 7) (v := 7) (by decide +kernel)
theorem dX8_quoted_68 : decode cX8_quoted 68 = .ok (.iload_n 3, 1) := dc_29 (by decide +kernel)
theorem dX8_quoted_69 : decode cX8_quoted 69 = .ok (.goto 12, 3) := dc_167 (a := 0) (b := 12) (v := 12) (by decide +kernel)
theorem dX8_quoted_72 : decode cX8_quoted 72 = .ok (.aload_n 0, 1) := dc_42 (by decide +kernel)
theorem dX8_quoted_73 : decode cX8_quoted 73 = .ok (.getfield 68, 3) := dc_180 (a := 0) (b := 68) (n := 68) (by decide +kernel)
theorem dX8_quoted_76 : decode cX8_quoted 76 = .ok (.iload_n 3, 1) := dc_29 (by decide +kernel)
theorem dX8_quoted_77 : decode cX8_quoted 77 = .ok (.iconst 0, 1) := dc_3 (by decide +kernel)
theorem dX8_quoted_78 : decode cX8_quoted 78 = .ok (.invokevirtual 261, 3) := dc_182 (a := 1) (b := 5) (n := 261) (by decide +kernel)
theorem dX8_quoted_81 : decode cX8_quoted 81 = .ok (.istore_n 2, 1) := dc_61 (by decide +kernel)
theorem dX8_quoted_82 : decode cX8_quoted 82 = .ok (.aload_n 0, 1) := dc_42 (by decide +kernel)
theorem dX8_quoted_83 : decode cX8_quoted 83 = .ok (.invokevirtual 187, 3) := dc_182 (a := 0) (b := 187) (n := 187) (by decide +kernel)
theorem dX8_quoted_86 : decode cX8_quoted 86 = .ok (.istore_n 3, 1) := dc_62 (by decide +kernel)
theorem dX8_quoted_87 : decode cX8_quoted 87 = .ok (.iload_n 3, 1) := dc_29 (by decide +kernel)
theorem dX8_quoted_88 : decode cX8_quoted 88 = .ok (.bipush 10, 2) := dc_16 (a := 10) (v := 10) (by decide +kernel)
theorem dX8_quoted_90 : decode cX8_quoted 90 = .ok (.invokestatic 193, 3) := dc_184 (a := 0) (b := 193) (n := 193) (by decide +kernel)
theorem dX8_quoted_93 : decode cX8_quoted 93 = .ok (.ifCond .ne 8, 3) := dc_154 (a := 0) (b := 8) (v := 8) (by decide +kernel)
theorem dX8_quoted_96 : decode cX8_quoted 96 = .ok (.aload_n 0, 1) := dc_42 (by decide +kernel)
theorem dX8_quoted_97 : decode cX8_quoted 97 = .ok (.iload_n 3, 1) := dc_29 (by decide +kernel)
theorem dX8_quoted_98 : decode cX8_quoted 98 = .ok (.invokevirtual 351, 3) := dc_182 (a := 1) (b := 95) (n := 351) (by decide +kernel)
theorem dX8_quoted_101 : decode cX8_quoted 101 = .ok (.iload_n 2, 1) := dc_28 (by decide +kernel)
theorem dX8_quoted_102 : decode cX8_quoted 102 = .ok (.ireturn, 1) := dc_172 (by decide +kernel)
theorem GX8_258 {w : eW} {d : Nat} {Y : eY} {pc : Nat} {ls : eL} {st : List Value} {h : eH} {Q : eO → eH → Prop} {a : Nat} {x : Nat} (hf : g_A 9 h a 3 = some x) (hd : decode Y.2.1 pc = .ok (.getfield 258, 3)) (hY : Y.1.cls = RX8) (kk : wp w d Y (pc + 3) ls (.ref x :: st) h Q) : wp w d Y pc ls (.ref a :: st) h Q := x_gAN (ci := 9) (k := 3) hf hd rfl (by decide) (by rw [hY]; exact q704) kk
def fX8_quoted_b101 (N : Nat) (rE : Nat → Int32 → eH → Option ((Unit ⊕ Nat) × eH)) (l2 : Int32) (h : eH) : Option ((Int32 ⊕ Nat) × eH) :=
  some (.inl l2, h)
theorem pX8_quoted_b101 {w : eW} {d : Nat} {dr : Nat} (hd : dr + 14 ≤ d + 1) (hdr : 12 ≤ dr) {N : Nat} {rE : Nat → Int32 → eH → Option ((Unit ⊕ Nat) × eH)} (hrE : ∀ a t0 h q, rE a t0 h = some q → wm w dr YX8_expand [.ref a, .int t0] h (e_is (e_rt c_V q))) {l2 : Int32} {h : eH} {q} (hf : fX8_quoted_b101 N rE l2 h = some q) : wp w (d + 1) YX8_quoted 101 [none, none, some (.int l2), none] [] h (e_is (e_rt c_I q)) := by
  unfold fX8_quoted_b101 at hf
  refine w_iload_n dX8_quoted_101 rfl rfl ?_
  cases hf
  exact w_iret dX8_quoted_102 rfl rfl rfl
def fX8_quoted_b82 (N : Nat) (rE : Nat → Int32 → eH → Option ((Unit ⊕ Nat) × eH)) (l0 : Nat) (l2 : Int32) (h : eH) : Option ((Int32 ⊕ Nat) × eH) :=
  (k_ok 7 h l0).bind fun _ =>
  t_B (fX8_getExpanded N rE l0 h) fun x2 h3 =>
  (fX1_is x2 (10 : Int32) h3).bind fun q4 =>
  if ¬ q4.1 = 0 then
    fX8_quoted_b101 N rE l2 q4.2
  else
    (k_ok 7 q4.2 l0).bind fun _ =>
    (fX8_putBack l0 x2 q4.2).bind fun q7 =>
    fX8_quoted_b101 N rE l2 q7.2
theorem pX8_quoted_b82 {w : eW} {d : Nat} {dr : Nat} (hd : dr + 14 ≤ d + 1) (hdr : 12 ≤ dr) {N : Nat} {rE : Nat → Int32 → eH → Option ((Unit ⊕ Nat) × eH)} (hrE : ∀ a t0 h q, rE a t0 h = some q → wm w dr YX8_expand [.ref a, .int t0] h (e_is (e_rt c_V q))) {l0 : Nat} {l2 : Int32} {h : eH} {q} (hf : fX8_quoted_b82 N rE l0 l2 h = some q) : wp w (d + 1) YX8_quoted 82 [some (.ref l0), none, some (.int l2), none] [] h (e_is (e_rt c_I q)) := by
  unfold fX8_quoted_b82 at hf
  refine w_aload_n dX8_quoted_82 rfl rfl ?_
  obtain ⟨_, b1, hf⟩ := Option.bind_eq_some_iff.mp hf
  refine x_ctI hf (e_stV (Yc := YX8_getExpanded) (ci := 7) (av := []) (st := []) dX8_quoted_83 q2567 mX8_getExpanded rfl (k_ok_some b1).1 (k_ok_some b1).2) mX8_getExpanded.2.2.1 mX8_getExpanded.2.2.2.2.1 (Nat.le_of_ble_eq_true rfl) (Nat.le_of_ble_eq_true rfl) rfl (fun q hq => pX8_getExpanded (by omega) hdr hrE hq) (fun x2 h3 hf => ?_)
  refine w_istore_n dX8_quoted_86 rfl (by decide) (ls' := [some (.ref l0), none, some (.int l2), some (.int x2)]) rfl ?_
  refine w_iload_n dX8_quoted_87 rfl rfl ?_
  refine w_bipush dX8_quoted_88 (v := 10) (by decide) ?_
  refine x_cnI hf (e_stSN (Yc := YX1_is) (av := [.int x2, .int (10 : Int32)]) (st := []) dX8_quoted_90 q2518 mX1_is) mX1_is.2.2.1 mX1_is.2.2.2.2.1 (Nat.le_of_ble_eq_true rfl) (Nat.le_of_ble_eq_true rfl) (fun q hq => pX1_is (by omega) hq) (fun q4 hf => ?_)
  refine w_if_ne 101 dX8_quoted_93 (by decide) (fun c5 => ?_) (fun c5 => ?_)
  · replace hf := (if_pos (show ¬ q4.1 = 0 from c5)).symm.trans hf
    exact (pX8_quoted_b101 hd hdr hrE hf).to ⟨rfl, trivial⟩
  · replace hf := (if_neg (show ¬ (¬ q4.1 = 0) from (fun z => z c5))).symm.trans hf
    refine w_aload_n dX8_quoted_96 rfl rfl ?_
    refine w_iload_n dX8_quoted_97 rfl rfl ?_
    obtain ⟨_, b6, hf⟩ := Option.bind_eq_some_iff.mp hf
    refine x_cnV hf (e_stV (Yc := YX8_putBack) (ci := 7) (av := [.int x2]) (st := []) dX8_quoted_98 q2607 mX8_putBack rfl (k_ok_some b6).1 (k_ok_some b6).2) mX8_putBack.2.2.1 mX8_putBack.2.2.2.2.1 (Nat.le_of_ble_eq_true rfl) (Nat.le_of_ble_eq_true rfl) (fun q hq => pX8_putBack (by omega) hq) (fun q7 hf => ?_)
    exact (pX8_quoted_b101 hd hdr hrE hf).to ⟨rfl, trivial⟩
def fX8_quoted_b81 (N : Nat) (rE : Nat → Int32 → eH → Option ((Unit ⊕ Nat) × eH)) (l0 : Nat) (s0 : Int32) (h : eH) : Option ((Int32 ⊕ Nat) × eH) :=
  fX8_quoted_b82 N rE l0 s0 h
theorem pX8_quoted_b81 {w : eW} {d : Nat} {dr : Nat} (hd : dr + 14 ≤ d + 1) (hdr : 12 ≤ dr) {N : Nat} {rE : Nat → Int32 → eH → Option ((Unit ⊕ Nat) × eH)} (hrE : ∀ a t0 h q, rE a t0 h = some q → wm w dr YX8_expand [.ref a, .int t0] h (e_is (e_rt c_V q))) {l0 : Nat} {s0 : Int32} {h : eH} {q} (hf : fX8_quoted_b81 N rE l0 s0 h = some q) : wp w (d + 1) YX8_quoted 81 [some (.ref l0), none, none, none] [.int s0] h (e_is (e_rt c_I q)) := by
  unfold fX8_quoted_b81 at hf
  refine w_istore_n dX8_quoted_81 rfl (by decide) (ls' := [some (.ref l0), none, some (.int s0), none]) rfl ?_
  exact (pX8_quoted_b82 hd hdr hrE hf).to ⟨rfl, rfl, trivial⟩
def fX8_quoted_b56 (N : Nat) (rE : Nat → Int32 → eH → Option ((Unit ⊕ Nat) × eH)) (l0 : Nat) (l3 : Int32) (s0 : Nat) (s1 : Int32) (h : eH) : Option ((Int32 ⊕ Nat) × eH) :=
  (k_ok 3 h s0).bind fun _ =>
  t_B (fX4_want s0 s1 (6 : Int32) h) fun x2 h3 =>
  if (256 : Int32) ≤ l3 then
    (g_A 7 h3 l0 3).bind fun a5 =>
    (k_ok 9 h3 a5).bind fun _ =>
    (fX10_letter a5 l3 (0 : Int32) h3).bind fun q8 =>
    fX8_quoted_b81 N rE l0 q8.1 q8.2
  else
    fX8_quoted_b81 N rE l0 l3 h3
theorem pX8_quoted_b56 {w : eW} {d : Nat} {dr : Nat} (hd : dr + 14 ≤ d + 1) (hdr : 12 ≤ dr) {N : Nat} {rE : Nat → Int32 → eH → Option ((Unit ⊕ Nat) × eH)} (hrE : ∀ a t0 h q, rE a t0 h = some q → wm w dr YX8_expand [.ref a, .int t0] h (e_is (e_rt c_V q))) {l0 : Nat} {l3 : Int32} {s0 : Nat} {s1 : Int32} {h : eH} {q} (hf : fX8_quoted_b56 N rE l0 l3 s0 s1 h = some q) : wp w (d + 1) YX8_quoted 56 [some (.ref l0), none, none, some (.int l3)] [.int s1, .ref s0] h (e_is (e_rt c_I q)) := by
  unfold fX8_quoted_b56 at hf
  refine w_bipush dX8_quoted_56 (v := 6) (by decide) ?_
  obtain ⟨_, b1, hf⟩ := Option.bind_eq_some_iff.mp hf
  refine x_ctV hf (e_stV (Yc := YX4_want) (ci := 3) (av := [.int s1, .int (6 : Int32)]) (st := []) dX8_quoted_58 q2500 mX4_want rfl (k_ok_some b1).1 (k_ok_some b1).2) mX4_want.2.2.1 mX4_want.2.2.2.2.1 (Nat.le_of_ble_eq_true rfl) (Nat.le_of_ble_eq_true rfl) rfl (fun q hq => pX4_want (by omega) hq) (fun x2 h3 hf => ?_)
  refine w_iload_n dX8_quoted_61 rfl rfl ?_
  refine w_sipush dX8_quoted_62 (v := 256) (by decide) ?_
  refine w_icmp_ge 72 dX8_quoted_65 (by decide) (fun c4 => ?_) (fun c4 => ?_)
  · replace hf := (if_pos (show (256 : Int32) ≤ l3 from c4)).symm.trans hf
    refine w_aload_n dX8_quoted_72 rfl rfl ?_
    obtain ⟨a5, b6, hf⟩ := Option.bind_eq_some_iff.mp hf
    refine GX8_68 b6 dX8_quoted_73 rfl ?_
    refine w_iload_n dX8_quoted_76 rfl rfl ?_
    refine w_iconst dX8_quoted_77 (v := 0) (by decide) ?_
    obtain ⟨_, b7, hf⟩ := Option.bind_eq_some_iff.mp hf
    refine x_cnI hf (e_stV (Yc := YX10_letter) (ci := 9) (av := [.int l3, .int (0 : Int32)]) (st := []) dX8_quoted_78 q2582 mX10_letter rfl (k_ok_some b7).1 (k_ok_some b7).2) mX10_letter.2.2.1 mX10_letter.2.2.2.2.1 (Nat.le_of_ble_eq_true rfl) (Nat.le_of_ble_eq_true rfl) (fun q hq => pX10_letter (by omega) hq) (fun q8 hf => ?_)
    exact (pX8_quoted_b81 hd hdr hrE hf).to ⟨rfl, trivial⟩
  · replace hf := (if_neg (show ¬ ((256 : Int32) ≤ l3) from c4)).symm.trans hf
    refine w_iload_n dX8_quoted_68 rfl rfl ?_
    refine w_goto 81 dX8_quoted_69 (by decide) ?_
    exact (pX8_quoted_b81 hd hdr hrE hf).to ⟨rfl, trivial⟩
def fX8_quoted_b51 (N : Nat) (rE : Nat → Int32 → eH → Option ((Unit ⊕ Nat) × eH)) (l0 : Nat) (l3 : Int32) (s0 : Nat) (h : eH) : Option ((Int32 ⊕ Nat) × eH) :=
  fX8_quoted_b56 N rE l0 l3 s0 (1 : Int32) h
theorem pX8_quoted_b51 {w : eW} {d : Nat} {dr : Nat} (hd : dr + 14 ≤ d + 1) (hdr : 12 ≤ dr) {N : Nat} {rE : Nat → Int32 → eH → Option ((Unit ⊕ Nat) × eH)} (hrE : ∀ a t0 h q, rE a t0 h = some q → wm w dr YX8_expand [.ref a, .int t0] h (e_is (e_rt c_V q))) {l0 : Nat} {l3 : Int32} {s0 : Nat} {h : eH} {q} (hf : fX8_quoted_b51 N rE l0 l3 s0 h = some q) : wp w (d + 1) YX8_quoted 51 [some (.ref l0), none, none, some (.int l3)] [.ref s0] h (e_is (e_rt c_I q)) := by
  unfold fX8_quoted_b51 at hf
  refine w_iconst dX8_quoted_51 (v := 1) (by decide) ?_
  refine w_goto 56 dX8_quoted_52 (by decide) ?_
  exact (pX8_quoted_b56 hd hdr hrE hf).to ⟨rfl, rfl, trivial⟩
def fX8_quoted (N : Nat) (rE : Nat → Int32 → eH → Option ((Unit ⊕ Nat) × eH)) (this : Nat) (h : eH) : Option ((Int32 ⊕ Nat) × eH) :=
  (k_ok 7 h this).bind fun _ =>
  t_B (fX8_need N this h) fun x2 h3 =>
  (fX8_bare x2 h3).bind fun q4 =>
  (fX1_isCharacter q4.1 q4.2).bind fun q5 =>
  if ¬ q5.1 = 0 then
    fX8_quoted_b82 N rE this (q4.1 &&& (255 : Int32)) q5.2
  else
    (g_A 7 q5.2 this 0).bind fun a7 =>
    if (q4.1 - (4096 : Int32)) < (256 : Int32) then
      fX8_quoted_b51 N rE this (q4.1 - (4096 : Int32)) a7 q5.2
    else
      (g_A 7 q5.2 this 3).bind fun a10 =>
      (g_A 9 q5.2 a10 3).bind fun a12 =>
      (r_I 100 q5.2 a12 (q4.1 - (4096 : Int32))).bind fun x14 =>
      if ¬ x14 = (1 : Int32) then
        fX8_quoted_b56 N rE this (q4.1 - (4096 : Int32)) a7 (0 : Int32) q5.2
      else
        fX8_quoted_b51 N rE this (q4.1 - (4096 : Int32)) a7 q5.2
theorem pX8_quoted {w : eW} {d : Nat} {dr : Nat} (hd : dr + 14 ≤ d) (hdr : 12 ≤ dr) {N : Nat} {rE : Nat → Int32 → eH → Option ((Unit ⊕ Nat) × eH)} (hrE : ∀ a t0 h q, rE a t0 h = some q → wm w dr YX8_expand [.ref a, .int t0] h (e_is (e_rt c_V q))) {this : Nat} {h : eH} {q} (hf : fX8_quoted N rE this h = some q) : wm w d YX8_quoted [.ref this] h (e_is (e_rt c_I q)) := by
  obtain ⟨d, rfl⟩ : ∃ e, d = e + 1 := ⟨d - 1, by omega⟩
  show wp w (d + 1) YX8_quoted 0 [some (.ref this), none, none, none] [] h _
  unfold fX8_quoted at hf
  refine w_aload_n dX8_quoted_0 rfl rfl ?_
  obtain ⟨_, b1, hf⟩ := Option.bind_eq_some_iff.mp hf
  refine x_ctI hf (e_stV (Yc := YX8_need) (ci := 7) (av := []) (st := []) dX8_quoted_1 q2506 mX8_need rfl (k_ok_some b1).1 (k_ok_some b1).2) mX8_need.2.2.1 mX8_need.2.2.2.2.1 (Nat.le_of_ble_eq_true rfl) (Nat.le_of_ble_eq_true rfl) rfl (fun q hq => pX8_need (by omega) hq) (fun x2 h3 hf => ?_)
  refine x_cnI hf (e_stS (Yc := YX8_bare) (av := [.int x2]) (st := []) dX8_quoted_4 q2510 mX8_bare) mX8_bare.2.2.1 mX8_bare.2.2.2.2.1 (Nat.le_of_ble_eq_true rfl) (Nat.le_of_ble_eq_true rfl) (fun q hq => pX8_bare (by omega) hq) (fun q4 hf => ?_)
  refine w_istore_n dX8_quoted_7 rfl (by decide) (ls' := [some (.ref this), some (.int q4.1), none, none]) rfl ?_
  refine w_iload_n dX8_quoted_8 rfl rfl ?_
  refine w_sipush dX8_quoted_9 (v := 255) (by decide) ?_
  refine w_iand dX8_quoted_12 ?_
  refine w_istore_n dX8_quoted_13 rfl (by decide) (ls' := [some (.ref this), some (.int q4.1), some (.int (q4.1 &&& (255 : Int32))), none]) rfl ?_
  refine w_iload_n dX8_quoted_14 rfl rfl ?_
  refine x_cnI hf (e_stSN (Yc := YX1_isCharacter) (av := [.int q4.1]) (st := []) dX8_quoted_15 q2485 mX1_isCharacter) mX1_isCharacter.2.2.1 mX1_isCharacter.2.2.2.2.1 (Nat.le_of_ble_eq_true rfl) (Nat.le_of_ble_eq_true rfl) (fun q hq => pX1_isCharacter (by omega) hq) (fun q5 hf => ?_)
  refine w_if_ne 82 dX8_quoted_18 (by decide) (fun c6 => ?_) (fun c6 => ?_)
  · replace hf := (if_pos (show ¬ q5.1 = 0 from c6)).symm.trans hf
    exact (pX8_quoted_b82 hd hdr hrE hf).to ⟨rfl, rfl, trivial⟩
  · replace hf := (if_neg (show ¬ (¬ q5.1 = 0) from (fun z => z c6))).symm.trans hf
    refine w_iload_n dX8_quoted_21 rfl rfl ?_
    refine w_sipush dX8_quoted_22 (v := 4096) (by decide) ?_
    refine w_isub dX8_quoted_25 ?_
    refine w_istore_n dX8_quoted_26 rfl (by decide) (ls' := [some (.ref this), some (.int q4.1), some (.int (q4.1 &&& (255 : Int32))), some (.int (q4.1 - (4096 : Int32)))]) rfl ?_
    refine w_aload_n dX8_quoted_27 rfl rfl ?_
    obtain ⟨a7, b8, hf⟩ := Option.bind_eq_some_iff.mp hf
    refine GX8_51 b8 dX8_quoted_28 rfl ?_
    refine w_iload_n dX8_quoted_31 rfl rfl ?_
    refine w_sipush dX8_quoted_32 (v := 256) (by decide) ?_
    refine w_icmp_lt 51 dX8_quoted_35 (by decide) (fun c9 => ?_) (fun c9 => ?_)
    · replace hf := (if_pos (show (q4.1 - (4096 : Int32)) < (256 : Int32) from c9)).symm.trans hf
      exact (pX8_quoted_b51 hd hdr hrE hf).to ⟨rfl, rfl, trivial⟩
    · replace hf := (if_neg (show ¬ ((q4.1 - (4096 : Int32)) < (256 : Int32)) from c9)).symm.trans hf
      refine w_aload_n dX8_quoted_38 rfl rfl ?_
      obtain ⟨a10, b11, hf⟩ := Option.bind_eq_some_iff.mp hf
      refine GX8_68 b11 dX8_quoted_39 rfl ?_
      obtain ⟨a12, b13, hf⟩ := Option.bind_eq_some_iff.mp hf
      refine GX8_258 b13 dX8_quoted_42 rfl ?_
      refine w_iload_n dX8_quoted_45 rfl rfl ?_
      obtain ⟨x14, b15, hf⟩ := Option.bind_eq_some_iff.mp hf
      refine x_rI b15 dX8_quoted_46 ?_
      refine w_iconst dX8_quoted_47 (v := 1) (by decide) ?_
      refine w_icmp_ne 55 dX8_quoted_48 (by decide) (fun c16 => ?_) (fun c16 => ?_)
      · replace hf := (if_pos (show ¬ x14 = (1 : Int32) from c16)).symm.trans hf
        refine w_iconst dX8_quoted_55 (v := 0) (by decide) ?_
        exact (pX8_quoted_b56 hd hdr hrE hf).to ⟨rfl, rfl, trivial⟩
      · replace hf := (if_neg (show ¬ (¬ x14 = (1 : Int32)) from (fun z => z c16))).symm.trans hf
        exact (pX8_quoted_b51 hd hdr hrE hf).to ⟨rfl, rfl, trivial⟩
abbrev cX8_isCounter : ByteArray := prog_4_method_33_code
def yX8_isCounter : MethodName := ⟨RX8, "isCounter", "(I)Z"⟩
def YX8_isCounter : eY := (yX8_isCounter, cX8_isCounter, 1, (Option.some FieldType.boolean), [])
theorem mX8_isCounter : e_ms YX8_isCounter 1 := ⟨q2647, q433, q2648, by decide, by decide +kernel, (e_sig (by decide +kernel))⟩
theorem dX8_isCounter_0 : decode cX8_isCounter 0 = .ok (.iload_n 0, 1) := dc_26 (by decide +kernel)
theorem dX8_isCounter_1 : decode cX8_isCounter 1 = .ok (.bipush 67, 2) := dc_16 (a := 67) (v := 67) (by decide +kernel)
theorem dX8_isCounter_3 : decode cX8_isCounter 3 = .ok (.if_icmp .eq 15, 3) := dc_159 (a := 0) (b := 15) (v := 15) (by decide +kernel)
theorem dX8_isCounter_6 : decode cX8_isCounter 6 = .ok (.iload_n 0, 1) := dc_26 (by decide +kernel)
theorem dX8_isCounter_7 : decode cX8_isCounter 7 = .ok (.bipush 70, 2) := dc_16 (a := 70) (v := 70) (by decide +kernel)
theorem dX8_isCounter_9 : decode cX8_isCounter 9 = .ok (.if_icmp .lt 13, 3) := dc_161 (a := 0) (b := 13) (v := 13) (by decide +kernel)
theorem dX8_isCounter_12 : decode cX8_isCounter 12 = .ok (.iload_n 0, 1) := dc_26 (by decide +kernel)
theorem dX8_isCounter_13 : decode cX8_isCounter 13 = .ok (.bipush 83, 2) := dc_16 (a := 83) (v := 83) (by decide +kernel)
theorem dX8_isCounter_15 : decode cX8_isCounter 15 = .ok (.if_icmp .ge 7, 3) := dc_162 (a := 0) (b := 7) (v := 7) (by decide +kernel)
theorem dX8_isCounter_18 : decode cX8_isCounter 18 = .ok (.iconst 1, 1) := dc_4 (by decide +kernel)
theorem dX8_isCounter_19 : decode cX8_isCounter 19 = .ok (.goto 4, 3) := dc_167 (a := 0) (b := 4) (v := 4) (by decide +kernel)
theorem dX8_isCounter_22 : decode cX8_isCounter 22 = .ok (.iconst 0, 1) := dc_3 (by decide +kernel)
theorem dX8_isCounter_23 : decode cX8_isCounter 23 = .ok (.ireturn, 1) := dc_172 (by decide +kernel)
def fX8_isCounter_b23 (s0 : Int32) (h : eH) : Option (Int32 × eH) :=
  z_r s0 (s0, h)
theorem pX8_isCounter_b23 {w : eW} {d : Nat} (hd : 0 ≤ d) {s0 : Int32} {h : eH} {q} (hf : fX8_isCounter_b23 s0 h = some q) : wp w d YX8_isCounter 23 [none] [.int s0] h (e_is (e_rn c_I q)) := by
  unfold fX8_isCounter_b23 at hf
  obtain ⟨b1, rfl⟩ := z_r_some hf
  exact w_iret dX8_isCounter_23 rfl b1 rfl
def fX8_isCounter_b18  (h : eH) : Option (Int32 × eH) :=
  fX8_isCounter_b23 (1 : Int32) h
theorem pX8_isCounter_b18 {w : eW} {d : Nat} (hd : 0 ≤ d)  {h : eH} {q} (hf : fX8_isCounter_b18  h = some q) : wp w d YX8_isCounter 18 [none] [] h (e_is (e_rn c_I q)) := by
  unfold fX8_isCounter_b18 at hf
  refine w_iconst dX8_isCounter_18 (v := 1) (by decide) ?_
  refine w_goto 23 dX8_isCounter_19 (by decide) ?_
  exact (pX8_isCounter_b23 hd hf).to trivial
def fX8_isCounter_b22  (h : eH) : Option (Int32 × eH) :=
  fX8_isCounter_b23 (0 : Int32) h
theorem pX8_isCounter_b22 {w : eW} {d : Nat} (hd : 0 ≤ d)  {h : eH} {q} (hf : fX8_isCounter_b22  h = some q) : wp w d YX8_isCounter 22 [none] [] h (e_is (e_rn c_I q)) := by
  unfold fX8_isCounter_b22 at hf
  refine w_iconst dX8_isCounter_22 (v := 0) (by decide) ?_
  exact (pX8_isCounter_b23 hd hf).to trivial
def fX8_isCounter (p0 : Int32) (h : eH) : Option (Int32 × eH) :=
  if p0 = (67 : Int32) then
    fX8_isCounter_b18 h
  else
    if p0 < (70 : Int32) then
      fX8_isCounter_b22 h
    else
      if (83 : Int32) ≤ p0 then
        fX8_isCounter_b22 h
      else
        fX8_isCounter_b18 h
theorem pX8_isCounter {w : eW} {d : Nat} (hd : 0 ≤ d) {p0 : Int32} {h : eH} {q} (hf : fX8_isCounter p0 h = some q) : wm w d YX8_isCounter [.int p0] h (e_is (e_rn c_I q)) := by
  show wp w d YX8_isCounter 0 [some (.int p0)] [] h _
  unfold fX8_isCounter at hf
  refine w_iload_n dX8_isCounter_0 rfl rfl ?_
  refine w_bipush dX8_isCounter_1 (v := 67) (by decide) ?_
  refine w_icmp_eq 18 dX8_isCounter_3 (by decide) (fun c1 => ?_) (fun c1 => ?_)
  · replace hf := (if_pos (show p0 = (67 : Int32) from c1)).symm.trans hf
    exact (pX8_isCounter_b18 hd hf).to trivial
  · replace hf := (if_neg (show ¬ (p0 = (67 : Int32)) from c1)).symm.trans hf
    refine w_iload_n dX8_isCounter_6 rfl rfl ?_
    refine w_bipush dX8_isCounter_7 (v := 70) (by decide) ?_
    refine w_icmp_lt 22 dX8_isCounter_9 (by decide) (fun c2 => ?_) (fun c2 => ?_)
    · replace hf := (if_pos (show p0 < (70 : Int32) from c2)).symm.trans hf
      exact (pX8_isCounter_b22 hd hf).to trivial
    · replace hf := (if_neg (show ¬ (p0 < (70 : Int32)) from c2)).symm.trans hf
      refine w_iload_n dX8_isCounter_12 rfl rfl ?_
      refine w_bipush dX8_isCounter_13 (v := 83) (by decide) ?_
      refine w_icmp_ge 22 dX8_isCounter_15 (by decide) (fun c3 => ?_) (fun c3 => ?_)
      · replace hf := (if_pos (show (83 : Int32) ≤ p0 from c3)).symm.trans hf
        exact (pX8_isCounter_b22 hd hf).to trivial
      · replace hf := (if_neg (show ¬ ((83 : Int32) ≤ p0) from c3)).symm.trans hf
        exact (pX8_isCounter_b18 hd hf).to trivial
abbrev cX8_valued : ByteArray := prog_4_method_32_code
def yX8_valued : MethodName := ⟨RX8, "valued", "(I)I"⟩
def YX8_valued : eY := (yX8_valued, cX8_valued, 3, (Option.some FieldType.int), [])
theorem mX8_valued : e_mv YX8_valued RX8 1 := ⟨q2644, qs74, q2645, by decide, by decide +kernel, (e_sig (by decide +kernel))⟩
theorem dX8_valued_0 : decode cX8_valued 0 = .ok (.aload_n 0, 1) := dc_42 (by decide +kernel)
theorem dX8_valued_1 : decode cX8_valued 1 = .ok (.iload_n 1, 1) := dc_27 (by decide +kernel)
theorem dX8_valued_2 : decode cX8_valued 2 = .ok (.invokevirtual 243, 3) := dc_182 (a := 0) (b := 243) (n := 243) (by decide +kernel)
theorem dX8_valued_5 : decode cX8_valued 5 = .ok (.istore_n 2, 1) := dc_61 (by decide +kernel)
theorem dX8_valued_6 : decode cX8_valued 6 = .ok (.iload_n 2, 1) := dc_28 (by decide +kernel)
theorem dX8_valued_7 : decode cX8_valued 7 = .ok (.invokestatic 354, 3) := dc_184 (a := 1) (b := 98) (n := 354) (by decide +kernel)
theorem dX8_valued_10 : decode cX8_valued 10 = .ok (.ifCond .eq 17, 3) := dc_153 (a := 0) (b := 17) (v := 17) (by decide +kernel)
theorem dX8_valued_13 : decode cX8_valued 13 = .ok (.aload_n 0, 1) := dc_42 (by decide +kernel)
theorem dX8_valued_14 : decode cX8_valued 14 = .ok (.getfield 12, 3) := dc_180 (a := 0) (b := 12) (n := 12) (by decide +kernel)
theorem dX8_valued_17 : decode cX8_valued 17 = .ok (.getfield 357, 3) := dc_180 (a := 1) (b := 101) (n := 357) (by decide +kernel)
theorem dX8_valued_20 : decode cX8_valued 20 = .ok (.aload_n 0, 1) := dc_42 (by decide +kernel)
theorem dX8_valued_21 : decode cX8_valued 21 = .ok (.iload_n 2, 1) := dc_28 (by decide +kernel)
theorem dX8_valued_22 : decode cX8_valued 22 = .ok (.invokevirtual 360, 3) := dc_182 (a := 1) (b := 104) (n := 360) (by decide +kernel)
theorem dX8_valued_25 : decode cX8_valued 25 = .ok (.iaload, 1) := dc_46 (by decide +kernel)
theorem dX8_valued_26 : decode cX8_valued 26 = .ok (.ireturn, 1) := dc_172 (by decide +kernel)
theorem dX8_valued_27 : decode cX8_valued 27 = .ok (.iload_n 2, 1) := dc_28 (by decide +kernel)
theorem dX8_valued_28 : decode cX8_valued 28 = .ok (.bipush 61, 2) := dc_16 (a := 61) (v := 61) (by decide +kernel)
theorem dX8_valued_30 : decode cX8_valued 30 = .ok (.if_icmp .ne 18, 3) := dc_160 (a := 0) (b := 18) (v := 18) (by decide +kernel)
theorem dX8_valued_33 : decode cX8_valued 33 = .ok (.aload_n 0, 1) := dc_42 (by decide +kernel)
theorem dX8_valued_34 : decode cX8_valued 34 = .ok (.getfield 12, 3) := dc_180 (a := 0) (b := 12) (n := 12) (by decide +kernel)
theorem dX8_valued_37 : decode cX8_valued 37 = .ok (.aload_n 0, 1) := dc_42 (by decide +kernel)
theorem dX8_valued_38 : decode cX8_valued 38 = .ok (.sipush 255, 3) := dc_17 (a := 0) (b := 255) (v := 255) (by decide +kernel)
theorem dX8_valued_41 : decode cX8_valued 41 = .ok (.invokevirtual 363, 3) := dc_182 (a := 1) (b := 107) (n := 363) (by decide +kernel)
theorem dX8_valued_44 : decode cX8_valued 44 = .ok (.invokevirtual 366, 3) := dc_182 (a := 1) (b := 110) (n := 366) (by decide +kernel)
theorem dX8_valued_47 : decode cX8_valued 47 = .ok (.ireturn, 1) := dc_172 (by decide +kernel)
theorem dX8_valued_48 : decode cX8_valued 48 = .ok (.aload_n 0, 1) := dc_42 (by decide +kernel)
theorem dX8_valued_49 : decode cX8_valued 49 = .ok (.getfield 51, 3) := dc_180 (a := 0) (b := 51) (n := 51) (by decide +kernel)
theorem dX8_valued_52 : decode cX8_valued 52 = .ok (.aload_n 0, 1) := dc_42 (by decide +kernel)
theorem dX8_valued_53 : decode cX8_valued 53 = .ok (.iload_n 1, 1) := dc_27 (by decide +kernel)
theorem dX8_valued_54 : decode cX8_valued 54 = .ok (.invokevirtual 174, 3) := dc_182 (a := 0) (b := 174) (n := 174) (by decide +kernel)
theorem dX8_valued_57 : decode cX8_valued 57 = .ok (.iconst 4, 1) := dc_7 (by decide +kernel)
theorem dX8_valued_58 : decode cX8_valued 58 = .ok (.if_icmp .ne 7, 3) := dc_160 (a := 0) (b := 7) (v := 7) (by decide +kernel)
theorem dX8_valued_61 : decode cX8_valued 61 = .ok (.iconst 1, 1) := dc_4 (by decide +kernel)
theorem dX8_valued_62 : decode cX8_valued 62 = .ok (.goto 4, 3) := dc_167 (a := 0) (b := 4) (v := 4) (by decide +kernel)
theorem dX8_valued_65 : decode cX8_valued 65 = .ok (.iconst 0, 1) := dc_3 (by decide +kernel)
theorem dX8_valued_66 : decode cX8_valued 66 = .ok (.bipush 6, 2) := dc_16 (a := 6) (v := 6) (by decide +kernel)
theorem dX8_valued_68 : decode cX8_valued 68 = .ok (.invokevirtual 145, 3) := dc_182 (a := 0) (b := 145) (n := 145) (by decide +kernel)
theorem dX8_valued_71 : decode cX8_valued 71 = .ok (.aload_n 0, 1) := dc_42 (by decide +kernel)
theorem dX8_valued_72 : decode cX8_valued 72 = .ok (.iload_n 1, 1) := dc_27 (by decide +kernel)
theorem dX8_valued_73 : decode cX8_valued 73 = .ok (.invokevirtual 178, 3) := dc_182 (a := 0) (b := 178) (n := 178) (by decide +kernel)
theorem dX8_valued_76 : decode cX8_valued 76 = .ok (.ireturn, 1) := dc_172 (by decide +kernel)
def fX8_valued_b66 (rN : Nat → eH → Option ((Int32 ⊕ Nat) × eH)) (l0 : Nat) (l1 : Int32) (s0 : Nat) (s1 : Int32) (h : eH) : Option ((Int32 ⊕ Nat) × eH) :=
  (k_ok 3 h s0).bind fun _ =>
  t_B (fX4_want s0 s1 (6 : Int32) h) fun x2 h3 =>
  (k_ok 7 h3 l0).bind fun _ =>
  (fX8_value l0 l1 h3).bind fun q5 =>
  some (.inl q5.1, q5.2)
theorem pX8_valued_b66 {w : eW} {d : Nat} {dr : Nat} (hd : dr + 10 ≤ d + 1) (hdr : 12 ≤ dr) {rN : Nat → eH → Option ((Int32 ⊕ Nat) × eH)} (hrN : ∀ a h q, rN a h = some q → wm w dr YX8_number [.ref a] h (e_is (e_rt c_I q))) {l0 : Nat} {l1 : Int32} {s0 : Nat} {s1 : Int32} {h : eH} {q} (hf : fX8_valued_b66 rN l0 l1 s0 s1 h = some q) : wp w (d + 1) YX8_valued 66 [some (.ref l0), some (.int l1), none] [.int s1, .ref s0] h (e_is (e_rt c_I q)) := by
  unfold fX8_valued_b66 at hf
  refine w_bipush dX8_valued_66 (v := 6) (by decide) ?_
  obtain ⟨_, b1, hf⟩ := Option.bind_eq_some_iff.mp hf
  refine x_ctV hf (e_stV (Yc := YX4_want) (ci := 3) (av := [.int s1, .int (6 : Int32)]) (st := []) dX8_valued_68 q2500 mX4_want rfl (k_ok_some b1).1 (k_ok_some b1).2) mX4_want.2.2.1 mX4_want.2.2.2.2.1 (Nat.le_of_ble_eq_true rfl) (Nat.le_of_ble_eq_true rfl) rfl (fun q hq => pX4_want (by omega) hq) (fun x2 h3 hf => ?_)
  refine w_aload_n dX8_valued_71 rfl rfl ?_
  refine w_iload_n dX8_valued_72 rfl rfl ?_
  obtain ⟨_, b4, hf⟩ := Option.bind_eq_some_iff.mp hf
  refine x_cnI hf (e_stV (Yc := YX8_value) (ci := 7) (av := [.int l1]) (st := []) dX8_valued_73 q2488 mX8_value rfl (k_ok_some b4).1 (k_ok_some b4).2) mX8_value.2.2.1 mX8_value.2.2.2.2.1 (Nat.le_of_ble_eq_true rfl) (Nat.le_of_ble_eq_true rfl) (fun q hq => pX8_value (by omega) hq) (fun q5 hf => ?_)
  cases hf
  exact w_iret dX8_valued_76 rfl rfl rfl
def fX8_valued (rN : Nat → eH → Option ((Int32 ⊕ Nat) × eH)) (this : Nat) (p0 : Int32) (h : eH) : Option ((Int32 ⊕ Nat) × eH) :=
  (k_ok 7 h this).bind fun _ =>
  (fX8_primitive this p0 h).bind fun q2 =>
  (fX8_isCounter q2.1 q2.2).bind fun q3 =>
  if q3.1 = 0 then
    if ¬ q2.1 = (61 : Int32) then
      (g_A 7 q3.2 this 0).bind fun a6 =>
      (k_ok 7 q3.2 this).bind fun _ =>
      (fX8_kind this p0 q3.2).bind fun q9 =>
      if ¬ q9.1 = (4 : Int32) then
        fX8_valued_b66 rN this p0 a6 (0 : Int32) q9.2
      else
        fX8_valued_b66 rN this p0 a6 (1 : Int32) q9.2
    else
      (g_A 7 q3.2 this 4).bind fun a11 =>
      (k_ok 7 q3.2 this).bind fun _ =>
      t_B (fX8_within rN this (255 : Int32) q3.2) fun x14 h15 =>
      (k_ok 8 h15 a11).bind fun _ =>
      (fX9_category a11 x14 h15).bind fun q17 =>
      some (.inl q17.1, q17.2)
  else
    (g_A 7 q3.2 this 4).bind fun a18 =>
    (g_A 8 q3.2 a18 3).bind fun a20 =>
    (k_ok 7 q3.2 this).bind fun _ =>
    t_B (fX8_cellOf rN this q2.1 q3.2) fun x23 h24 =>
    (r_I 100 h24 a20 x23).bind fun x25 =>
    some (.inl x25, h24)
theorem pX8_valued {w : eW} {d : Nat} {dr : Nat} (hd : dr + 10 ≤ d) (hdr : 12 ≤ dr) {rN : Nat → eH → Option ((Int32 ⊕ Nat) × eH)} (hrN : ∀ a h q, rN a h = some q → wm w dr YX8_number [.ref a] h (e_is (e_rt c_I q))) {this : Nat} {p0 : Int32} {h : eH} {q} (hf : fX8_valued rN this p0 h = some q) : wm w d YX8_valued [.ref this, .int p0] h (e_is (e_rt c_I q)) := by
  obtain ⟨d, rfl⟩ : ∃ e, d = e + 1 := ⟨d - 1, by omega⟩
  show wp w (d + 1) YX8_valued 0 [some (.ref this), some (.int p0), none] [] h _
  unfold fX8_valued at hf
  refine w_aload_n dX8_valued_0 rfl rfl ?_
  refine w_iload_n dX8_valued_1 rfl rfl ?_
  obtain ⟨_, b1, hf⟩ := Option.bind_eq_some_iff.mp hf
  refine x_cnI hf (e_stV (Yc := YX8_primitive) (ci := 7) (av := [.int p0]) (st := []) dX8_valued_2 q2568 mX8_primitive rfl (k_ok_some b1).1 (k_ok_some b1).2) mX8_primitive.2.2.1 mX8_primitive.2.2.2.2.1 (Nat.le_of_ble_eq_true rfl) (Nat.le_of_ble_eq_true rfl) (fun q hq => pX8_primitive (by omega) hq) (fun q2 hf => ?_)
  refine w_istore_n dX8_valued_5 rfl (by decide) (ls' := [some (.ref this), some (.int p0), some (.int q2.1)]) rfl ?_
  refine w_iload_n dX8_valued_6 rfl rfl ?_
  refine x_cnI hf (e_stS (Yc := YX8_isCounter) (av := [.int q2.1]) (st := []) dX8_valued_7 q2646 mX8_isCounter) mX8_isCounter.2.2.1 mX8_isCounter.2.2.2.2.1 (Nat.le_of_ble_eq_true rfl) (Nat.le_of_ble_eq_true rfl) (fun q hq => pX8_isCounter (by omega) hq) (fun q3 hf => ?_)
  refine w_if_eq 27 dX8_valued_10 (by decide) (fun c4 => ?_) (fun c4 => ?_)
  · replace hf := (if_pos (show q3.1 = 0 from c4)).symm.trans hf
    refine w_iload_n dX8_valued_27 rfl rfl ?_
    refine w_bipush dX8_valued_28 (v := 61) (by decide) ?_
    refine w_icmp_ne 48 dX8_valued_30 (by decide) (fun c5 => ?_) (fun c5 => ?_)
    · replace hf := (if_pos (show ¬ q2.1 = (61 : Int32) from c5)).symm.trans hf
      refine w_aload_n dX8_valued_48 rfl rfl ?_
      obtain ⟨a6, b7, hf⟩ := Option.bind_eq_some_iff.mp hf
      refine GX8_51 b7 dX8_valued_49 rfl ?_
      refine w_aload_n dX8_valued_52 rfl rfl ?_
      refine w_iload_n dX8_valued_53 rfl rfl ?_
      obtain ⟨_, b8, hf⟩ := Option.bind_eq_some_iff.mp hf
      refine x_cnI hf (e_stV (Yc := YX8_kind) (ci := 7) (av := [.int p0]) (st := [.ref a6]) dX8_valued_54 q2477 mX8_kind rfl (k_ok_some b8).1 (k_ok_some b8).2) mX8_kind.2.2.1 mX8_kind.2.2.2.2.1 (Nat.le_of_ble_eq_true rfl) (Nat.le_of_ble_eq_true rfl) (fun q hq => pX8_kind (by omega) hq) (fun q9 hf => ?_)
      refine w_iconst dX8_valued_57 (v := 4) (by decide) ?_
      refine w_icmp_ne 65 dX8_valued_58 (by decide) (fun c10 => ?_) (fun c10 => ?_)
      · replace hf := (if_pos (show ¬ q9.1 = (4 : Int32) from c10)).symm.trans hf
        refine w_iconst dX8_valued_65 (v := 0) (by decide) ?_
        exact (pX8_valued_b66 hd hdr hrN hf).to ⟨rfl, rfl, trivial⟩
      · replace hf := (if_neg (show ¬ (¬ q9.1 = (4 : Int32)) from (fun z => z c10))).symm.trans hf
        refine w_iconst dX8_valued_61 (v := 1) (by decide) ?_
        refine w_goto 66 dX8_valued_62 (by decide) ?_
        exact (pX8_valued_b66 hd hdr hrN hf).to ⟨rfl, rfl, trivial⟩
    · replace hf := (if_neg (show ¬ (¬ q2.1 = (61 : Int32)) from (fun z => z c5))).symm.trans hf
      refine w_aload_n dX8_valued_33 rfl rfl ?_
      obtain ⟨a11, b12, hf⟩ := Option.bind_eq_some_iff.mp hf
      refine GX8_12 b12 dX8_valued_34 rfl ?_
      refine w_aload_n dX8_valued_37 rfl rfl ?_
      refine w_sipush dX8_valued_38 (v := 255) (by decide) ?_
      obtain ⟨_, b13, hf⟩ := Option.bind_eq_some_iff.mp hf
      refine x_ctI hf (e_stV (Yc := YX8_within) (ci := 7) (av := [.int (255 : Int32)]) (st := [.ref a11]) dX8_valued_41 q2633 mX8_within rfl (k_ok_some b13).1 (k_ok_some b13).2) mX8_within.2.2.1 mX8_within.2.2.2.2.1 (Nat.le_of_ble_eq_true rfl) (Nat.le_of_ble_eq_true rfl) rfl (fun q hq => pX8_within (by omega) hdr hrN hq) (fun x14 h15 hf => ?_)
      obtain ⟨_, b16, hf⟩ := Option.bind_eq_some_iff.mp hf
      refine x_cnI hf (e_stV (Yc := YX9_category) (ci := 8) (av := [.int x14]) (st := []) dX8_valued_44 q2649 mX9_category rfl (k_ok_some b16).1 (k_ok_some b16).2) mX9_category.2.2.1 mX9_category.2.2.2.2.1 (Nat.le_of_ble_eq_true rfl) (Nat.le_of_ble_eq_true rfl) (fun q hq => pX9_category (by omega) hq) (fun q17 hf => ?_)
      cases hf
      exact w_iret dX8_valued_47 rfl rfl rfl
  · replace hf := (if_neg (show ¬ (q3.1 = 0) from c4)).symm.trans hf
    refine w_aload_n dX8_valued_13 rfl rfl ?_
    obtain ⟨a18, b19, hf⟩ := Option.bind_eq_some_iff.mp hf
    refine GX8_12 b19 dX8_valued_14 rfl ?_
    obtain ⟨a20, b21, hf⟩ := Option.bind_eq_some_iff.mp hf
    refine GX8_357 b21 dX8_valued_17 rfl ?_
    refine w_aload_n dX8_valued_20 rfl rfl ?_
    refine w_iload_n dX8_valued_21 rfl rfl ?_
    obtain ⟨_, b22, hf⟩ := Option.bind_eq_some_iff.mp hf
    refine x_ctI hf (e_stV (Yc := YX8_cellOf) (ci := 7) (av := [.int q2.1]) (st := [.ref a20]) dX8_valued_22 q2629 mX8_cellOf rfl (k_ok_some b22).1 (k_ok_some b22).2) mX8_cellOf.2.2.1 mX8_cellOf.2.2.2.2.1 (Nat.le_of_ble_eq_true rfl) (Nat.le_of_ble_eq_true rfl) rfl (fun q hq => pX8_cellOf (by omega) hdr hrN hq) (fun x23 h24 hf => ?_)
    obtain ⟨x25, b26, hf⟩ := Option.bind_eq_some_iff.mp hf
    refine x_rI b26 dX8_valued_25 ?_
    cases hf
    exact w_iret dX8_valued_26 rfl rfl rfl
abbrev cX8_factor : ByteArray := prog_4_method_43_code
def yX8_factor : MethodName := ⟨RX8, "factor", "(I)V"⟩
def YX8_factor : eY := (yX8_factor, cX8_factor, 7, none, [])
theorem mX8_factor : e_mv YX8_factor RX8 1 := ⟨q2724, qs91, q2725, by decide, by decide +kernel, (e_sig (by decide +kernel))⟩
theorem dX8_factor_0 : decode cX8_factor 0 = .ok (.iload_n 1, 1) := dc_27 (by decide +kernel)
theorem dX8_factor_1 : decode cX8_factor 1 = .ok (.invokestatic 338, 3) := dc_184 (a := 1) (b := 82) (n := 338) (by decide +kernel)
theorem dX8_factor_4 : decode cX8_factor 4 = .ok (.ifCond .ne 43, 3) := dc_154 (a := 0) (b := 43) (v := 43) (by decide +kernel)
theorem dX8_factor_7 : decode cX8_factor 7 = .ok (.iload_n 1, 1) := dc_27 (by decide +kernel)
theorem dX8_factor_8 : decode cX8_factor 8 = .ok (.invokestatic 386, 3) := dc_184 (a := 1) (b := 130) (n := 386) (by decide +kernel)
theorem dX8_factor_11 : decode cX8_factor 11 = .ok (.ifCond .ne 36, 3) := dc_154 (a := 0) (b := 36) (v := 36) (by decide +kernel)
theorem dX8_factor_14 : decode cX8_factor 14 = .ok (.aload_n 0, 1) := dc_42 (by decide +kernel)
theorem dX8_factor_15 : decode cX8_factor 15 = .ok (.iload_n 1, 1) := dc_27 (by decide +kernel)
theorem dX8_factor_16 : decode cX8_factor 16 = .ok (.bipush 96, 2) := dc_16 (a := 96) (v := 96) (by decide +kernel)
theorem dX8_factor_18 : decode cX8_factor 18 = .ok (.invokestatic 255, 3) := dc_184 (a := 0) (b := 255) (n := 255) (by decide +kernel)
theorem dX8_factor_21 : decode cX8_factor 21 = .ok (.if_icmp .ne 11, 3) := dc_160 (a := 0) (b := 11) (v := 11) (by decide +kernel)
theorem dX8_factor_24 : decode cX8_factor 24 = .ok (.aload_n 0, 1) := dc_42 (by decide +kernel)
theorem dX8_factor_25 : decode cX8_factor 25 = .ok (.invokevirtual 344, 3) := dc_182 (a := 1) (b := 88) (n := 344) (by decide +kernel)
theorem dX8_factor_28 : decode cX8_factor 28 = .ok (.i2l, 1) := dc_133 (by decide +kernel)
theorem dX8_factor_29 : decode cX8_factor 29 = .ok (.goto 9, 3) := dc_167 (a := 0) (b := 9) (v := 9) (by decide +kernel)
theorem dX8_factor_32 : decode cX8_factor 32 = .ok (.aload_n 0, 1) := dc_42 (by decide +kernel)
theorem dX8_factor_33 : decode cX8_factor 33 = .ok (.iload_n 1, 1) := dc_27 (by decide +kernel)
theorem dX8_factor_34 : decode cX8_factor 34 = .ok (.invokevirtual 275, 3) := dc_182 (a := 1) (b := 19) (n := 275) (by decide +kernel)
theorem dX8_factor_37 : decode cX8_factor 37 = .ok (.i2l, 1) := dc_133 (by decide +kernel)
theorem dX8_factor_38 : decode cX8_factor 38 = .ok (.putfield 389, 3) := dc_181 (a := 1) (b := 133) (n := 389) (by decide +kernel)
theorem dX8_factor_41 : decode cX8_factor 41 = .ok (.aload_n 0, 1) := dc_42 (by decide +kernel)
theorem dX8_factor_42 : decode cX8_factor 42 = .ok (.lconst 1, 1) := dc_10 (by decide +kernel)
theorem dX8_factor_43 : decode cX8_factor 43 = .ok (.putfield 393, 3) := dc_181 (a := 1) (b := 137) (n := 393) (by decide +kernel)
theorem dX8_factor_46 : decode cX8_factor 46 = .ok (.return_, 1) := dc_177 (by decide +kernel)
theorem dX8_factor_47 : decode cX8_factor 47 = .ok (.lconst 1, 1) := dc_10 (by decide +kernel)
theorem dX8_factor_48 : decode cX8_factor 48 = .ok (.lstore_n 2, 1) := dc_65 (by decide +kernel)
theorem dX8_factor_49 : decode cX8_factor 49 = .ok (.lconst 0, 1) := dc_9 (by decide +kernel)
theorem dX8_factor_50 : decode cX8_factor 50 = .ok (.lstore 4, 2) := dc_55 (a := 4) (by decide +kernel)
theorem dX8_factor_52 : decode cX8_factor 52 = .ok (.iload_n 1, 1) := dc_27 (by decide +kernel)
theorem dX8_factor_53 : decode cX8_factor 53 = .ok (.istore 6, 2) := dc_54 (a := 6) (by decide +kernel)
theorem dX8_factor_55 : decode cX8_factor 55 = .ok (.iload 6, 2) := dc_21 (a := 6) (by decide +kernel)
theorem dX8_factor_57 : decode cX8_factor 57 = .ok (.invokestatic 338, 3) := dc_184 (a := 1) (b := 82) (n := 338) (by decide +kernel)
theorem dX8_factor_60 : decode cX8_factor 60 = .ok (.ifCond .eq 50, 3) := dc_153 (a := 0) (b := 50) (v := 50) (by decide +kernel)
theorem dX8_factor_63 : decode cX8_factor 63 = .ok (.ldc2_w 278, 3) := dc_20 (a := 1) (b := 22) (n := 278) (by decide +kernel)
theorem dX8_factor_66 : decode cX8_factor 66 = .ok (.lload 4, 2) := dc_22 (a := 4) (by decide +kernel)
theorem dX8_factor_68 : decode cX8_factor 68 = .ok (.lmul, 1) := dc_105 (by decide +kernel)
theorem dX8_factor_69 : decode cX8_factor 69 = .ok (.iload 6, 2) := dc_21 (a := 6) (by decide +kernel)
theorem dX8_factor_71 : decode cX8_factor 71 = .ok (.bipush 15, 2) := dc_16 (a := 15) (v := 15) (by decide +kernel)
theorem dX8_factor_73 : decode cX8_factor 73 = .ok (.iand, 1) := dc_126 (by decide +kernel)
theorem dX8_factor_74 : decode cX8_factor 74 = .ok (.i2l, 1) := dc_133 (by decide +kernel)
theorem dX8_factor_75 : decode cX8_factor 75 = .ok (.ladd, 1) := dc_97 (by decide +kernel)
theorem dX8_factor_76 : decode cX8_factor 76 = .ok (.lstore 4, 2) := dc_55 (a := 4) (by decide +kernel)
theorem dX8_factor_78 : decode cX8_factor 78 = .ok (.aload_n 0, 1) := dc_42 (by decide +kernel)
theorem dX8_factor_79 : decode cX8_factor 79 = .ok (.getfield 51, 3) := dc_180 (a := 0) (b := 51) (n := 51) (by decide +kernel)
theorem dX8_factor_82 : decode cX8_factor 82 = .ok (.lload 4, 2) := dc_22 (a := 4) (by decide +kernel)
theorem dX8_factor_84 : decode cX8_factor 84 = .ok (.ldc2_w 349, 3) := dc_20 (a := 1) (b := 93) (n := 349) (by decide +kernel)
theorem dX8_factor_87 : decode cX8_factor 87 = .ok (.lcmp, 1) := dc_148 (by decide +kernel)
theorem dX8_factor_88 : decode cX8_factor 88 = .ok (.ifCond .gt 7, 3) := dc_157 (a := 0) (b := 7) (v := 7) (by decide +kernel)
theorem dX8_factor_91 : decode cX8_factor 91 = .ok (.iconst 1, 1) := dc_4 (by decide +kernel)
theorem dX8_factor_92 : decode cX8_factor 92 = .ok (.goto 4, 3) := dc_167 (a := 0) (b := 4) (v := 4) (by decide +kernel)
theorem dX8_factor_95 : decode cX8_factor 95 = .ok (.iconst 0, 1) := dc_3 (by decide +kernel)
theorem dX8_factor_96 : decode cX8_factor 96 = .ok (.bipush 7, 2) := dc_16 (a := 7) (v := 7) (by decide +kernel)
theorem dX8_factor_98 : decode cX8_factor 98 = .ok (.invokevirtual 145, 3) := dc_182 (a := 0) (b := 145) (n := 145) (by decide +kernel)
theorem dX8_factor_101 : decode cX8_factor 101 = .ok (.aload_n 0, 1) := dc_42 (by decide +kernel)
theorem dX8_factor_102 : decode cX8_factor 102 = .ok (.invokevirtual 187, 3) := dc_182 (a := 0) (b := 187) (n := 187) (by decide +kernel)
theorem dX8_factor_105 : decode cX8_factor 105 = .ok (.istore 6, 2) := dc_54 (a := 6) (by decide +kernel)
theorem dX8_factor_107 : decode cX8_factor 107 = .ok (.goto (-52), 3) := dc_167 (a := 255) (b := 204) (v := -52) (by decide +kernel)
theorem dX8_factor_110 : decode cX8_factor 110 = .ok (.iload 6, 2) := dc_21 (a := 6) (by decide +kernel)
theorem dX8_factor_112 : decode cX8_factor 112 = .ok (.invokestatic 386, 3) := dc_184 (a := 1) (b := 130) (n := 386) (by decide +kernel)
theorem dX8_factor_115 : decode cX8_factor 115 = .ok (.ifCond .eq 69, 3) := dc_153 (a := 0) (b := 69) (v := 69) (by decide +kernel)
theorem dX8_factor_118 : decode cX8_factor 118 = .ok (.aload_n 0, 1) := dc_42 (by decide +kernel)
theorem dX8_factor_119 : decode cX8_factor 119 = .ok (.invokevirtual 187, 3) := dc_182 (a := 0) (b := 187) (n := 187) (by decide +kernel)
theorem dX8_factor_122 : decode cX8_factor 122 = .ok (.istore 6, 2) := dc_54 (a := 6) (by decide +kernel)
theorem dX8_factor_124 : decode cX8_factor 124 = .ok (.iload 6, 2) := dc_21 (a := 6) (by decide +kernel)
theorem dX8_factor_126 : decode cX8_factor 126 = .ok (.invokestatic 338, 3) := dc_184 (a := 1) (b := 82) (n := 338) (by decide +kernel)
theorem dX8_factor_129 : decode cX8_factor 129 = .ok (.ifCond .eq 55, 3) := dc_153 (a := 0) (b := 55) (v := 55) (by decide +kernel)
theorem dX8_factor_132 : decode cX8_factor 132 = .ok (.aload_n 0, 1) := dc_42 (by decide +kernel)
theorem dX8_factor_133 : decode cX8_factor 133 = .ok (.getfield 51, 3) := dc_180 (a := 0) (b := 51) (n := 51) (by decide +kernel)
theorem dX8_factor_136 : decode cX8_factor 136 = .ok (.lload_n 2, 1) := dc_32 (by decide +kernel)
theorem dX8_factor_137 : decode cX8_factor 137 = .ok (.ldc2_w 318, 3) := dc_20 (a := 1) (b := 62) (n := 318) (by decide +kernel)
theorem dX8_factor_140 : decode cX8_factor 140 = .ok (.lcmp, 1) := dc_148 (by decide +kernel)
theorem dX8_factor_141 : decode cX8_factor 141 = .ok (.ifCond .ge 7, 3) := dc_156 (a := 0) (b := 7) (v := 7) (by decide +kernel)
theorem dX8_factor_144 : decode cX8_factor 144 = .ok (.iconst 1, 1) := dc_4 (by decide +kernel)
theorem dX8_factor_145 : decode cX8_factor 145 = .ok (.goto 4, 3) := dc_167 (a := 0) (b := 4) (v := 4) (by decide +kernel)
theorem dX8_factor_148 : decode cX8_factor 148 = .ok (.iconst 0, 1) := dc_3 (by decide +kernel)
theorem dX8_factor_149 : decode cX8_factor 149 = .ok (.bipush 7, 2) := dc_16 (a := 7) (v := 7) (by decide +kernel)
theorem dX8_factor_151 : decode cX8_factor 151 = .ok (.invokevirtual 145, 3) := dc_182 (a := 0) (b := 145) (n := 145) (by decide +kernel)
theorem dX8_factor_154 : decode cX8_factor 154 = .ok (.lload_n 2, 1) := dc_32 (by decide +kernel)
theorem dX8_factor_155 : decode cX8_factor 155 = .ok (.ldc2_w 278, 3) := dc_20 (a := 1) (b := 22) (n := 278) (by decide +kernel)
theorem dX8_factor_158 : decode cX8_factor 158 = .ok (.lmul, 1) := dc_105 (by decide +kernel)
theorem dX8_factor_159 : decode cX8_factor 159 = .ok (.lstore_n 2, 1) := dc_65 (by decide +kernel)
theorem dX8_factor_160 : decode cX8_factor 160 = .ok (.ldc2_w 278, 3) := dc_20 (a := 1) (b := 22) (n := 278) (by decide +kernel)
theorem dX8_factor_163 : decode cX8_factor 163 = .ok (.lload 4, 2) := dc_22 (a := 4) (by decide +kernel)
theorem dX8_factor_165 : decode cX8_factor 165 = .ok (.lmul, 1) := dc_105 (by decide +kernel)
theorem dX8_factor_166 : decode cX8_factor 166 = .ok (.iload 6, 2) := dc_21 (a := 6) (by decide +kernel)
theorem dX8_factor_168 : decode cX8_factor 168 = .ok (.bipush 15, 2) := dc_16 (a := 15) (v := 15) (by decide +kernel)
theorem dX8_factor_170 : decode cX8_factor 170 = .ok (.iand, 1) := dc_126 (by decide +kernel)
theorem dX8_factor_171 : decode cX8_factor 171 = .ok (.i2l, 1) := dc_133 (by decide +kernel)
theorem dX8_factor_172 : decode cX8_factor 172 = .ok (.ladd, 1) := dc_97 (by decide +kernel)
theorem dX8_factor_173 : decode cX8_factor 173 = .ok (.lstore 4, 2) := dc_55 (a := 4) (by decide +kernel)
theorem dX8_factor_175 : decode cX8_factor 175 = .ok (.aload_n 0, 1) := dc_42 (by decide +kernel)
theorem dX8_factor_176 : decode cX8_factor 176 = .ok (.invokevirtual 187, 3) := dc_182 (a := 0) (b := 187) (n := 187) (by decide +kernel)
theorem dX8_factor_179 : decode cX8_factor 179 = .ok (.istore 6, 2) := dc_54 (a := 6) (by decide +kernel)
theorem dX8_factor_181 : decode cX8_factor 181 = .ok (.goto (-57), 3) := dc_167 (a := 255) (b := 199) (v := -57) (by decide +kernel)
theorem dX8_factor_184 : decode cX8_factor 184 = .ok (.aload_n 0, 1) := dc_42 (by decide +kernel)
theorem dX8_factor_185 : decode cX8_factor 185 = .ok (.iload 6, 2) := dc_21 (a := 6) (by decide +kernel)
theorem dX8_factor_187 : decode cX8_factor 187 = .ok (.invokevirtual 351, 3) := dc_182 (a := 1) (b := 95) (n := 351) (by decide +kernel)
theorem dX8_factor_190 : decode cX8_factor 190 = .ok (.aload_n 0, 1) := dc_42 (by decide +kernel)
theorem dX8_factor_191 : decode cX8_factor 191 = .ok (.lload 4, 2) := dc_22 (a := 4) (by decide +kernel)
theorem dX8_factor_193 : decode cX8_factor 193 = .ok (.putfield 389, 3) := dc_181 (a := 1) (b := 133) (n := 389) (by decide +kernel)
theorem dX8_factor_196 : decode cX8_factor 196 = .ok (.aload_n 0, 1) := dc_42 (by decide +kernel)
theorem dX8_factor_197 : decode cX8_factor 197 = .ok (.lload_n 2, 1) := dc_32 (by decide +kernel)
theorem dX8_factor_198 : decode cX8_factor 198 = .ok (.putfield 393, 3) := dc_181 (a := 1) (b := 137) (n := 393) (by decide +kernel)
theorem dX8_factor_201 : decode cX8_factor 201 = .ok (.return_, 1) := dc_177 (by decide +kernel)
theorem SX8_389 {w : eW} {d : Nat} {Y : eY} {pc : Nat} {ls : eL} {st : List Value} {h : eH} {Q : eO → eH → Prop} {a : Nat} {h' : eH} {x : Int64} (hf : p_V 7 h a 25 (.long x) = some h') (hd : decode Y.2.1 pc = .ok (.putfield 389, 3)) (hY : Y.1.cls = RX8) (kk : wp w d Y (pc + 3) ls st h' Q) : wp w d Y pc ls (.long x :: .ref a :: st) h Q := x_pJ (ci := 7) (k := 25) hf hd rfl (by decide) (by rw [hY]; exact q863) rfl rfl kk
theorem SX8_393 {w : eW} {d : Nat} {Y : eY} {pc : Nat} {ls : eL} {st : List Value} {h : eH} {Q : eO → eH → Prop} {a : Nat} {h' : eH} {x : Int64} (hf : p_V 7 h a 26 (.long x) = some h') (hd : decode Y.2.1 pc = .ok (.putfield 393, 3)) (hY : Y.1.cls = RX8) (kk : wp w d Y (pc + 3) ls st h' Q) : wp w d Y pc ls (.long x :: .ref a :: st) h Q := x_pJ (ci := 7) (k := 26) hf hd rfl (by decide) (by rw [hY]; exact q864) rfl rfl kk
def fX8_factor_b38 (N : Nat) (rE : Nat → Int32 → eH → Option ((Unit ⊕ Nat) × eH)) (rN : Nat → eH → Option ((Int32 ⊕ Nat) × eH)) (l0 : Nat) (s0 : Nat) (s1 : Int64) (h : eH) : Option ((Unit ⊕ Nat) × eH) :=
  (p_V 7 h s0 25 (.long s1)).bind fun h1 =>
  (p_V 7 h1 l0 26 (.long (1 : Int64))).bind fun h3 =>
  some (.inl (), h3)
theorem pX8_factor_b38 {w : eW} {d : Nat} {dr : Nat} (hd : dr + 15 ≤ d + 1) (hdr : 12 ≤ dr) {N : Nat} {rE : Nat → Int32 → eH → Option ((Unit ⊕ Nat) × eH)} {rN : Nat → eH → Option ((Int32 ⊕ Nat) × eH)} (hrE : ∀ a t0 h q, rE a t0 h = some q → wm w dr YX8_expand [.ref a, .int t0] h (e_is (e_rt c_V q))) (hrN : ∀ a h q, rN a h = some q → wm w dr YX8_number [.ref a] h (e_is (e_rt c_I q))) {l0 : Nat} {s0 : Nat} {s1 : Int64} {h : eH} {q} (hf : fX8_factor_b38 N rE rN l0 s0 s1 h = some q) : wp w (d + 1) YX8_factor 38 [some (.ref l0), none, none, none, none, none, none] [.long s1, .ref s0] h (e_is (e_rt c_V q)) := by
  unfold fX8_factor_b38 at hf
  obtain ⟨h1, b2, hf⟩ := Option.bind_eq_some_iff.mp hf
  refine SX8_389 b2 dX8_factor_38 rfl ?_
  refine w_aload_n dX8_factor_41 rfl rfl ?_
  refine w_lconst dX8_factor_42 (v := 1) (by decide) ?_
  obtain ⟨h3, b4, hf⟩ := Option.bind_eq_some_iff.mp hf
  refine SX8_393 b4 dX8_factor_43 rfl ?_
  cases hf
  exact w_vret dX8_factor_46 rfl rfl
def fX8_factor_b96 (N : Nat) (rE : Nat → Int32 → eH → Option ((Unit ⊕ Nat) × eH)) (rN : Nat → eH → Option ((Int32 ⊕ Nat) × eH)) (k55 : Nat → Int64 → Int64 → Int32 → eH → Option ((Unit ⊕ Nat) × eH)) (l0 : Nat) (l2 : Int64) (l4 : Int64) (s0 : Nat) (s1 : Int32) (h : eH) : Option ((Unit ⊕ Nat) × eH) :=
  (k_ok 3 h s0).bind fun _ =>
  t_B (fX4_want s0 s1 (7 : Int32) h) fun x2 h3 =>
  (k_ok 7 h3 l0).bind fun _ =>
  t_B (fX8_getExpanded N rE l0 h3) fun x5 h6 =>
  k55 l0 l2 l4 x5 h6
theorem pX8_factor_b96 {w : eW} {d : Nat} {dr : Nat} (hd : dr + 15 ≤ d + 1) (hdr : 12 ≤ dr) {N : Nat} {rE : Nat → Int32 → eH → Option ((Unit ⊕ Nat) × eH)} {rN : Nat → eH → Option ((Int32 ⊕ Nat) × eH)} (hrE : ∀ a t0 h q, rE a t0 h = some q → wm w dr YX8_expand [.ref a, .int t0] h (e_is (e_rt c_V q))) (hrN : ∀ a h q, rN a h = some q → wm w dr YX8_number [.ref a] h (e_is (e_rt c_I q))) {k55 : Nat → Int64 → Int64 → Int32 → eH → Option ((Unit ⊕ Nat) × eH)} (hk55 : ∀ l0 l2 l4 l6 h q, k55 l0 l2 l4 l6 h = some q → wp w (d + 1) YX8_factor 55 [some (.ref l0), none, some (.long l2), none, some (.long l4), none, some (.int l6)] [] h (e_is (e_rt c_V q))) {l0 : Nat} {l2 : Int64} {l4 : Int64} {s0 : Nat} {s1 : Int32} {h : eH} {q} (hf : fX8_factor_b96 N rE rN k55 l0 l2 l4 s0 s1 h = some q) : wp w (d + 1) YX8_factor 96 [some (.ref l0), none, some (.long l2), none, some (.long l4), none, none] [.int s1, .ref s0] h (e_is (e_rt c_V q)) := by
  unfold fX8_factor_b96 at hf
  refine w_bipush dX8_factor_96 (v := 7) (by decide) ?_
  obtain ⟨_, b1, hf⟩ := Option.bind_eq_some_iff.mp hf
  refine x_ctV hf (e_stV (Yc := YX4_want) (ci := 3) (av := [.int s1, .int (7 : Int32)]) (st := []) dX8_factor_98 q2500 mX4_want rfl (k_ok_some b1).1 (k_ok_some b1).2) mX4_want.2.2.1 mX4_want.2.2.2.2.1 (Nat.le_of_ble_eq_true rfl) (Nat.le_of_ble_eq_true rfl) rfl (fun q hq => pX4_want (by omega) hq) (fun x2 h3 hf => ?_)
  refine w_aload_n dX8_factor_101 rfl rfl ?_
  obtain ⟨_, b4, hf⟩ := Option.bind_eq_some_iff.mp hf
  refine x_ctI hf (e_stV (Yc := YX8_getExpanded) (ci := 7) (av := []) (st := []) dX8_factor_102 q2567 mX8_getExpanded rfl (k_ok_some b4).1 (k_ok_some b4).2) mX8_getExpanded.2.2.1 mX8_getExpanded.2.2.2.2.1 (Nat.le_of_ble_eq_true rfl) (Nat.le_of_ble_eq_true rfl) rfl (fun q hq => pX8_getExpanded (by omega) hdr hrE hq) (fun x5 h6 hf => ?_)
  refine w_istore dX8_factor_105 (by decide) (ls' := [some (.ref l0), none, some (.long l2), none, some (.long l4), none, some (.int x5)]) rfl ?_
  refine w_goto 55 dX8_factor_107 (by decide) ?_
  exact (hk55 _ _ _ _ _ _ hf).to ⟨rfl, rfl, rfl, rfl, trivial⟩
def fX8_factor_b149 (N : Nat) (rE : Nat → Int32 → eH → Option ((Unit ⊕ Nat) × eH)) (rN : Nat → eH → Option ((Int32 ⊕ Nat) × eH)) (k124 : Nat → Int64 → Int64 → Int32 → eH → Option ((Unit ⊕ Nat) × eH)) (l0 : Nat) (l2 : Int64) (l4 : Int64) (l6 : Int32) (s0 : Nat) (s1 : Int32) (h : eH) : Option ((Unit ⊕ Nat) × eH) :=
  (k_ok 3 h s0).bind fun _ =>
  t_B (fX4_want s0 s1 (7 : Int32) h) fun x2 h3 =>
  (k_ok 7 h3 l0).bind fun _ =>
  t_B (fX8_getExpanded N rE l0 h3) fun x5 h6 =>
  k124 l0 (l2 * (10 : Int64)) (((10 : Int64) * l4) + ((l6 &&& (15 : Int32))).toInt64) x5 h6
theorem pX8_factor_b149 {w : eW} {d : Nat} {dr : Nat} (hd : dr + 15 ≤ d + 1) (hdr : 12 ≤ dr) {N : Nat} {rE : Nat → Int32 → eH → Option ((Unit ⊕ Nat) × eH)} {rN : Nat → eH → Option ((Int32 ⊕ Nat) × eH)} (hrE : ∀ a t0 h q, rE a t0 h = some q → wm w dr YX8_expand [.ref a, .int t0] h (e_is (e_rt c_V q))) (hrN : ∀ a h q, rN a h = some q → wm w dr YX8_number [.ref a] h (e_is (e_rt c_I q))) {k124 : Nat → Int64 → Int64 → Int32 → eH → Option ((Unit ⊕ Nat) × eH)} (hk124 : ∀ l0 l2 l4 l6 h q, k124 l0 l2 l4 l6 h = some q → wp w (d + 1) YX8_factor 124 [some (.ref l0), none, some (.long l2), none, some (.long l4), none, some (.int l6)] [] h (e_is (e_rt c_V q))) {l0 : Nat} {l2 : Int64} {l4 : Int64} {l6 : Int32} {s0 : Nat} {s1 : Int32} {h : eH} {q} (hf : fX8_factor_b149 N rE rN k124 l0 l2 l4 l6 s0 s1 h = some q) : wp w (d + 1) YX8_factor 149 [some (.ref l0), none, some (.long l2), none, some (.long l4), none, some (.int l6)] [.int s1, .ref s0] h (e_is (e_rt c_V q)) := by
  unfold fX8_factor_b149 at hf
  refine w_bipush dX8_factor_149 (v := 7) (by decide) ?_
  obtain ⟨_, b1, hf⟩ := Option.bind_eq_some_iff.mp hf
  refine x_ctV hf (e_stV (Yc := YX4_want) (ci := 3) (av := [.int s1, .int (7 : Int32)]) (st := []) dX8_factor_151 q2500 mX4_want rfl (k_ok_some b1).1 (k_ok_some b1).2) mX4_want.2.2.1 mX4_want.2.2.2.2.1 (Nat.le_of_ble_eq_true rfl) (Nat.le_of_ble_eq_true rfl) rfl (fun q hq => pX4_want (by omega) hq) (fun x2 h3 hf => ?_)
  refine w_lload_n dX8_factor_154 rfl rfl ?_
  refine w_ldc2 dX8_factor_155 q2605 ?_
  refine w_lmul dX8_factor_158 ?_
  refine w_lstore_n dX8_factor_159 rfl (by decide) (ls' := [some (.ref l0), none, some (.long (l2 * (10 : Int64))), none, some (.long l4), none, some (.int l6)]) rfl ?_
  refine w_ldc2 dX8_factor_160 q2605 ?_
  refine w_lload dX8_factor_163 rfl ?_
  refine w_lmul dX8_factor_165 ?_
  refine w_iload dX8_factor_166 rfl ?_
  refine w_bipush dX8_factor_168 (v := 15) (by decide) ?_
  refine w_iand dX8_factor_170 ?_
  refine w_i2l dX8_factor_171 ?_
  refine w_ladd dX8_factor_172 ?_
  refine w_lstore dX8_factor_173 (by decide) (ls' := [some (.ref l0), none, some (.long (l2 * (10 : Int64))), none, some (.long (((10 : Int64) * l4) + ((l6 &&& (15 : Int32))).toInt64)), none, some (.int l6)]) rfl ?_
  refine w_aload_n dX8_factor_175 rfl rfl ?_
  obtain ⟨_, b4, hf⟩ := Option.bind_eq_some_iff.mp hf
  refine x_ctI hf (e_stV (Yc := YX8_getExpanded) (ci := 7) (av := []) (st := []) dX8_factor_176 q2567 mX8_getExpanded rfl (k_ok_some b4).1 (k_ok_some b4).2) mX8_getExpanded.2.2.1 mX8_getExpanded.2.2.2.2.1 (Nat.le_of_ble_eq_true rfl) (Nat.le_of_ble_eq_true rfl) rfl (fun q hq => pX8_getExpanded (by omega) hdr hrE hq) (fun x5 h6 hf => ?_)
  refine w_istore dX8_factor_179 (by decide) (ls' := [some (.ref l0), none, some (.long (l2 * (10 : Int64))), none, some (.long (((10 : Int64) * l4) + ((l6 &&& (15 : Int32))).toInt64)), none, some (.int x5)]) rfl ?_
  refine w_goto 124 dX8_factor_181 (by decide) ?_
  exact (hk124 _ _ _ _ _ _ hf).to ⟨rfl, rfl, rfl, rfl, trivial⟩
def fX8_factor_b184 (N : Nat) (rE : Nat → Int32 → eH → Option ((Unit ⊕ Nat) × eH)) (rN : Nat → eH → Option ((Int32 ⊕ Nat) × eH)) (l0 : Nat) (l2 : Int64) (l4 : Int64) (l6 : Int32) (h : eH) : Option ((Unit ⊕ Nat) × eH) :=
  (k_ok 7 h l0).bind fun _ =>
  (fX8_putBack l0 l6 h).bind fun q2 =>
  (p_V 7 q2.2 l0 25 (.long l4)).bind fun h3 =>
  (p_V 7 h3 l0 26 (.long l2)).bind fun h5 =>
  some (.inl (), h5)
theorem pX8_factor_b184 {w : eW} {d : Nat} {dr : Nat} (hd : dr + 15 ≤ d + 1) (hdr : 12 ≤ dr) {N : Nat} {rE : Nat → Int32 → eH → Option ((Unit ⊕ Nat) × eH)} {rN : Nat → eH → Option ((Int32 ⊕ Nat) × eH)} (hrE : ∀ a t0 h q, rE a t0 h = some q → wm w dr YX8_expand [.ref a, .int t0] h (e_is (e_rt c_V q))) (hrN : ∀ a h q, rN a h = some q → wm w dr YX8_number [.ref a] h (e_is (e_rt c_I q))) {l0 : Nat} {l2 : Int64} {l4 : Int64} {l6 : Int32} {h : eH} {q} (hf : fX8_factor_b184 N rE rN l0 l2 l4 l6 h = some q) : wp w (d + 1) YX8_factor 184 [some (.ref l0), none, some (.long l2), none, some (.long l4), none, some (.int l6)] [] h (e_is (e_rt c_V q)) := by
  unfold fX8_factor_b184 at hf
  refine w_aload_n dX8_factor_184 rfl rfl ?_
  refine w_iload dX8_factor_185 rfl ?_
  obtain ⟨_, b1, hf⟩ := Option.bind_eq_some_iff.mp hf
  refine x_cnV hf (e_stV (Yc := YX8_putBack) (ci := 7) (av := [.int l6]) (st := []) dX8_factor_187 q2607 mX8_putBack rfl (k_ok_some b1).1 (k_ok_some b1).2) mX8_putBack.2.2.1 mX8_putBack.2.2.2.2.1 (Nat.le_of_ble_eq_true rfl) (Nat.le_of_ble_eq_true rfl) (fun q hq => pX8_putBack (by omega) hq) (fun q2 hf => ?_)
  refine w_aload_n dX8_factor_190 rfl rfl ?_
  refine w_lload dX8_factor_191 rfl ?_
  obtain ⟨h3, b4, hf⟩ := Option.bind_eq_some_iff.mp hf
  refine SX8_389 b4 dX8_factor_193 rfl ?_
  refine w_aload_n dX8_factor_196 rfl rfl ?_
  refine w_lload_n dX8_factor_197 rfl rfl ?_
  obtain ⟨h5, b6, hf⟩ := Option.bind_eq_some_iff.mp hf
  refine SX8_393 b6 dX8_factor_198 rfl ?_
  cases hf
  exact w_vret dX8_factor_201 rfl rfl
def fX8_factor_b124 (N : Nat) (rE : Nat → Int32 → eH → Option ((Unit ⊕ Nat) × eH)) (rN : Nat → eH → Option ((Int32 ⊕ Nat) × eH)) : Nat → Nat → Int64 → Int64 → Int32 → eH → Option ((Unit ⊕ Nat) × eH)
  | 0, _, _, _, _, _ => none
  | n + 1, l0, l2, l4, l6, h =>
    (fX1_isDigit l6 h).bind fun q1 =>
    if q1.1 = 0 then
      fX8_factor_b184 N rE rN l0 l2 l4 l6 q1.2
    else
      (g_A 7 q1.2 l0 0).bind fun a3 =>
      if 0 ≤ (lg_cmp l2 (10000 : Int64)) then
        fX8_factor_b149 N rE rN (fX8_factor_b124 N rE rN n) l0 l2 l4 l6 a3 (0 : Int32) q1.2
      else
        fX8_factor_b149 N rE rN (fX8_factor_b124 N rE rN n) l0 l2 l4 l6 a3 (1 : Int32) q1.2
theorem pX8_factor_b124 {w : eW} {d : Nat} {dr : Nat} (hd : dr + 15 ≤ d + 1) (hdr : 12 ≤ dr) {N : Nat} {rE : Nat → Int32 → eH → Option ((Unit ⊕ Nat) × eH)} {rN : Nat → eH → Option ((Int32 ⊕ Nat) × eH)} (hrE : ∀ a t0 h q, rE a t0 h = some q → wm w dr YX8_expand [.ref a, .int t0] h (e_is (e_rt c_V q))) (hrN : ∀ a h q, rN a h = some q → wm w dr YX8_number [.ref a] h (e_is (e_rt c_I q))) : ∀ (n : Nat) l0 l2 l4 l6 h q, fX8_factor_b124 N rE rN n l0 l2 l4 l6 h = some q → wp w (d + 1) YX8_factor 124 [some (.ref l0), none, some (.long l2), none, some (.long l4), none, some (.int l6)] [] h (e_is (e_rt c_V q)) := by
  intro n
  induction n with
  | zero => intro l0 l2 l4 l6 h q hf; simp [fX8_factor_b124] at hf
  | succ n ih =>
    intro l0 l2 l4 l6 h q hf
    rw [fX8_factor_b124] at hf
    refine w_iload dX8_factor_124 rfl ?_
    refine x_cnI hf (e_stSN (Yc := YX1_isDigit) (av := [.int l6]) (st := []) dX8_factor_126 q2598 mX1_isDigit) mX1_isDigit.2.2.1 mX1_isDigit.2.2.2.2.1 (Nat.le_of_ble_eq_true rfl) (Nat.le_of_ble_eq_true rfl) (fun q hq => pX1_isDigit (by omega) hq) (fun q1 hf => ?_)
    refine w_if_eq 184 dX8_factor_129 (by decide) (fun c2 => ?_) (fun c2 => ?_)
    · replace hf := (if_pos (show q1.1 = 0 from c2)).symm.trans hf
      exact (pX8_factor_b184 hd hdr hrE hrN hf).to ⟨rfl, rfl, rfl, rfl, trivial⟩
    · replace hf := (if_neg (show ¬ (q1.1 = 0) from c2)).symm.trans hf
      refine w_aload_n dX8_factor_132 rfl rfl ?_
      obtain ⟨a3, b4, hf⟩ := Option.bind_eq_some_iff.mp hf
      refine GX8_51 b4 dX8_factor_133 rfl ?_
      refine w_lload_n dX8_factor_136 rfl rfl ?_
      refine w_ldc2 dX8_factor_137 q2544 ?_
      refine w_lcmp dX8_factor_140 ?_
      refine w_if_ge 148 dX8_factor_141 (by decide) (fun c5 => ?_) (fun c5 => ?_)
      · replace hf := (if_pos (show 0 ≤ (lg_cmp l2 (10000 : Int64)) from c5)).symm.trans hf
        refine w_iconst dX8_factor_148 (v := 0) (by decide) ?_
        exact (pX8_factor_b149 hd hdr hrE hrN ih hf).to ⟨rfl, rfl, rfl, rfl, trivial⟩
      · replace hf := (if_neg (show ¬ (0 ≤ (lg_cmp l2 (10000 : Int64))) from c5)).symm.trans hf
        refine w_iconst dX8_factor_144 (v := 1) (by decide) ?_
        refine w_goto 149 dX8_factor_145 (by decide) ?_
        exact (pX8_factor_b149 hd hdr hrE hrN ih hf).to ⟨rfl, rfl, rfl, rfl, trivial⟩
def fX8_factor_b55 (N : Nat) (rE : Nat → Int32 → eH → Option ((Unit ⊕ Nat) × eH)) (rN : Nat → eH → Option ((Int32 ⊕ Nat) × eH)) : Nat → Nat → Int64 → Int64 → Int32 → eH → Option ((Unit ⊕ Nat) × eH)
  | 0, _, _, _, _, _ => none
  | n + 1, l0, l2, l4, l6, h =>
    (fX1_isDigit l6 h).bind fun q1 =>
    if q1.1 = 0 then
      (fX8_isPoint l6 q1.2).bind fun q3 =>
      if q3.1 = 0 then
        fX8_factor_b184 N rE rN l0 l2 l4 l6 q3.2
      else
        (k_ok 7 q3.2 l0).bind fun _ =>
        t_B (fX8_getExpanded N rE l0 q3.2) fun x6 h7 =>
        fX8_factor_b124 N rE rN N l0 l2 l4 x6 h7
    else
      (g_A 7 q1.2 l0 0).bind fun a8 =>
      if 0 < (lg_cmp (((10 : Int64) * l4) + ((l6 &&& (15 : Int32))).toInt64) (2147483647 : Int64)) then
        fX8_factor_b96 N rE rN (fX8_factor_b55 N rE rN n) l0 l2 (((10 : Int64) * l4) + ((l6 &&& (15 : Int32))).toInt64) a8 (0 : Int32) q1.2
      else
        fX8_factor_b96 N rE rN (fX8_factor_b55 N rE rN n) l0 l2 (((10 : Int64) * l4) + ((l6 &&& (15 : Int32))).toInt64) a8 (1 : Int32) q1.2
theorem pX8_factor_b55 {w : eW} {d : Nat} {dr : Nat} (hd : dr + 15 ≤ d + 1) (hdr : 12 ≤ dr) {N : Nat} {rE : Nat → Int32 → eH → Option ((Unit ⊕ Nat) × eH)} {rN : Nat → eH → Option ((Int32 ⊕ Nat) × eH)} (hrE : ∀ a t0 h q, rE a t0 h = some q → wm w dr YX8_expand [.ref a, .int t0] h (e_is (e_rt c_V q))) (hrN : ∀ a h q, rN a h = some q → wm w dr YX8_number [.ref a] h (e_is (e_rt c_I q))) : ∀ (n : Nat) l0 l2 l4 l6 h q, fX8_factor_b55 N rE rN n l0 l2 l4 l6 h = some q → wp w (d + 1) YX8_factor 55 [some (.ref l0), none, some (.long l2), none, some (.long l4), none, some (.int l6)] [] h (e_is (e_rt c_V q)) := by
  intro n
  induction n with
  | zero => intro l0 l2 l4 l6 h q hf; simp [fX8_factor_b55] at hf
  | succ n ih =>
    intro l0 l2 l4 l6 h q hf
    rw [fX8_factor_b55] at hf
    refine w_iload dX8_factor_55 rfl ?_
    refine x_cnI hf (e_stSN (Yc := YX1_isDigit) (av := [.int l6]) (st := []) dX8_factor_57 q2598 mX1_isDigit) mX1_isDigit.2.2.1 mX1_isDigit.2.2.2.2.1 (Nat.le_of_ble_eq_true rfl) (Nat.le_of_ble_eq_true rfl) (fun q hq => pX1_isDigit (by omega) hq) (fun q1 hf => ?_)
    refine w_if_eq 110 dX8_factor_60 (by decide) (fun c2 => ?_) (fun c2 => ?_)
    · replace hf := (if_pos (show q1.1 = 0 from c2)).symm.trans hf
      refine w_iload dX8_factor_110 rfl ?_
      refine x_cnI hf (e_stS (Yc := YX8_isPoint) (av := [.int l6]) (st := []) dX8_factor_112 q2726 mX8_isPoint) mX8_isPoint.2.2.1 mX8_isPoint.2.2.2.2.1 (Nat.le_of_ble_eq_true rfl) (Nat.le_of_ble_eq_true rfl) (fun q hq => pX8_isPoint (by omega) hq) (fun q3 hf => ?_)
      refine w_if_eq 184 dX8_factor_115 (by decide) (fun c4 => ?_) (fun c4 => ?_)
      · replace hf := (if_pos (show q3.1 = 0 from c4)).symm.trans hf
        exact (pX8_factor_b184 hd hdr hrE hrN hf).to ⟨rfl, rfl, rfl, rfl, trivial⟩
      · replace hf := (if_neg (show ¬ (q3.1 = 0) from c4)).symm.trans hf
        refine w_aload_n dX8_factor_118 rfl rfl ?_
        obtain ⟨_, b5, hf⟩ := Option.bind_eq_some_iff.mp hf
        refine x_ctI hf (e_stV (Yc := YX8_getExpanded) (ci := 7) (av := []) (st := []) dX8_factor_119 q2567 mX8_getExpanded rfl (k_ok_some b5).1 (k_ok_some b5).2) mX8_getExpanded.2.2.1 mX8_getExpanded.2.2.2.2.1 (Nat.le_of_ble_eq_true rfl) (Nat.le_of_ble_eq_true rfl) rfl (fun q hq => pX8_getExpanded (by omega) hdr hrE hq) (fun x6 h7 hf => ?_)
        refine w_istore dX8_factor_122 (by decide) (ls' := [some (.ref l0), none, some (.long l2), none, some (.long l4), none, some (.int x6)]) rfl ?_
        exact (pX8_factor_b124 hd hdr hrE hrN N _ _ _ _ _ _ hf).to ⟨rfl, rfl, rfl, rfl, trivial⟩
    · replace hf := (if_neg (show ¬ (q1.1 = 0) from c2)).symm.trans hf
      refine w_ldc2 dX8_factor_63 q2605 ?_
      refine w_lload dX8_factor_66 rfl ?_
      refine w_lmul dX8_factor_68 ?_
      refine w_iload dX8_factor_69 rfl ?_
      refine w_bipush dX8_factor_71 (v := 15) (by decide) ?_
      refine w_iand dX8_factor_73 ?_
      refine w_i2l dX8_factor_74 ?_
      refine w_ladd dX8_factor_75 ?_
      refine w_lstore dX8_factor_76 (by decide) (ls' := [some (.ref l0), none, some (.long l2), none, some (.long (((10 : Int64) * l4) + ((l6 &&& (15 : Int32))).toInt64)), none, some (.int l6)]) rfl ?_
      refine w_aload_n dX8_factor_78 rfl rfl ?_
      obtain ⟨a8, b9, hf⟩ := Option.bind_eq_some_iff.mp hf
      refine GX8_51 b9 dX8_factor_79 rfl ?_
      refine w_lload dX8_factor_82 rfl ?_
      refine w_ldc2 dX8_factor_84 q2606 ?_
      refine w_lcmp dX8_factor_87 ?_
      refine w_if_gt 95 dX8_factor_88 (by decide) (fun c10 => ?_) (fun c10 => ?_)
      · replace hf := (if_pos (show 0 < (lg_cmp (((10 : Int64) * l4) + ((l6 &&& (15 : Int32))).toInt64) (2147483647 : Int64)) from c10)).symm.trans hf
        refine w_iconst dX8_factor_95 (v := 0) (by decide) ?_
        exact (pX8_factor_b96 hd hdr hrE hrN ih hf).to ⟨rfl, rfl, rfl, trivial⟩
      · replace hf := (if_neg (show ¬ (0 < (lg_cmp (((10 : Int64) * l4) + ((l6 &&& (15 : Int32))).toInt64) (2147483647 : Int64))) from c10)).symm.trans hf
        refine w_iconst dX8_factor_91 (v := 1) (by decide) ?_
        refine w_goto 96 dX8_factor_92 (by decide) ?_
        exact (pX8_factor_b96 hd hdr hrE hrN ih hf).to ⟨rfl, rfl, rfl, trivial⟩
def fX8_factor_b47 (N : Nat) (rE : Nat → Int32 → eH → Option ((Unit ⊕ Nat) × eH)) (rN : Nat → eH → Option ((Int32 ⊕ Nat) × eH)) (l0 : Nat) (l1 : Int32) (h : eH) : Option ((Unit ⊕ Nat) × eH) :=
  fX8_factor_b55 N rE rN N l0 (1 : Int64) (0 : Int64) l1 h
theorem pX8_factor_b47 {w : eW} {d : Nat} {dr : Nat} (hd : dr + 15 ≤ d + 1) (hdr : 12 ≤ dr) {N : Nat} {rE : Nat → Int32 → eH → Option ((Unit ⊕ Nat) × eH)} {rN : Nat → eH → Option ((Int32 ⊕ Nat) × eH)} (hrE : ∀ a t0 h q, rE a t0 h = some q → wm w dr YX8_expand [.ref a, .int t0] h (e_is (e_rt c_V q))) (hrN : ∀ a h q, rN a h = some q → wm w dr YX8_number [.ref a] h (e_is (e_rt c_I q))) {l0 : Nat} {l1 : Int32} {h : eH} {q} (hf : fX8_factor_b47 N rE rN l0 l1 h = some q) : wp w (d + 1) YX8_factor 47 [some (.ref l0), some (.int l1), none, none, none, none, none] [] h (e_is (e_rt c_V q)) := by
  unfold fX8_factor_b47 at hf
  refine w_lconst dX8_factor_47 (v := 1) (by decide) ?_
  refine w_lstore_n dX8_factor_48 rfl (by decide) (ls' := [some (.ref l0), some (.int l1), some (.long (1 : Int64)), none, none, none, none]) rfl ?_
  refine w_lconst dX8_factor_49 (v := 0) (by decide) ?_
  refine w_lstore dX8_factor_50 (by decide) (ls' := [some (.ref l0), some (.int l1), some (.long (1 : Int64)), none, some (.long (0 : Int64)), none, none]) rfl ?_
  refine w_iload_n dX8_factor_52 rfl rfl ?_
  refine w_istore dX8_factor_53 (by decide) (ls' := [some (.ref l0), some (.int l1), some (.long (1 : Int64)), none, some (.long (0 : Int64)), none, some (.int l1)]) rfl ?_
  exact (pX8_factor_b55 hd hdr hrE hrN N _ _ _ _ _ _ hf).to ⟨rfl, rfl, rfl, rfl, trivial⟩
def fX8_factor (N : Nat) (rE : Nat → Int32 → eH → Option ((Unit ⊕ Nat) × eH)) (rN : Nat → eH → Option ((Int32 ⊕ Nat) × eH)) (this : Nat) (p0 : Int32) (h : eH) : Option ((Unit ⊕ Nat) × eH) :=
  (fX1_isDigit p0 h).bind fun q1 =>
  if ¬ q1.1 = 0 then
    fX8_factor_b47 N rE rN this p0 q1.2
  else
    (fX8_isPoint p0 q1.2).bind fun q3 =>
    if ¬ q3.1 = 0 then
      fX8_factor_b47 N rE rN this p0 q3.2
    else
      (fX1_other (96 : Int32) q3.2).bind fun q5 =>
      if ¬ p0 = q5.1 then
        (k_ok 7 q5.2 this).bind fun _ =>
        t_B (fX8_valued rN this p0 q5.2) fun x8 h9 =>
        fX8_factor_b38 N rE rN this this (x8).toInt64 h9
      else
        (k_ok 7 q5.2 this).bind fun _ =>
        t_B (fX8_quoted N rE this q5.2) fun x11 h12 =>
        fX8_factor_b38 N rE rN this this (x11).toInt64 h12
theorem pX8_factor {w : eW} {d : Nat} {dr : Nat} (hd : dr + 15 ≤ d) (hdr : 12 ≤ dr) {N : Nat} {rE : Nat → Int32 → eH → Option ((Unit ⊕ Nat) × eH)} {rN : Nat → eH → Option ((Int32 ⊕ Nat) × eH)} (hrE : ∀ a t0 h q, rE a t0 h = some q → wm w dr YX8_expand [.ref a, .int t0] h (e_is (e_rt c_V q))) (hrN : ∀ a h q, rN a h = some q → wm w dr YX8_number [.ref a] h (e_is (e_rt c_I q))) {this : Nat} {p0 : Int32} {h : eH} {q} (hf : fX8_factor N rE rN this p0 h = some q) : wm w d YX8_factor [.ref this, .int p0] h (e_is (e_rt c_V q)) := by
  obtain ⟨d, rfl⟩ : ∃ e, d = e + 1 := ⟨d - 1, by omega⟩
  show wp w (d + 1) YX8_factor 0 [some (.ref this), some (.int p0), none, none, none, none, none] [] h _
  unfold fX8_factor at hf
  refine w_iload_n dX8_factor_0 rfl rfl ?_
  refine x_cnI hf (e_stSN (Yc := YX1_isDigit) (av := [.int p0]) (st := []) dX8_factor_1 q2598 mX1_isDigit) mX1_isDigit.2.2.1 mX1_isDigit.2.2.2.2.1 (Nat.le_of_ble_eq_true rfl) (Nat.le_of_ble_eq_true rfl) (fun q hq => pX1_isDigit (by omega) hq) (fun q1 hf => ?_)
  refine w_if_ne 47 dX8_factor_4 (by decide) (fun c2 => ?_) (fun c2 => ?_)
  · replace hf := (if_pos (show ¬ q1.1 = 0 from c2)).symm.trans hf
    exact (pX8_factor_b47 hd hdr hrE hrN hf).to ⟨rfl, rfl, trivial⟩
  · replace hf := (if_neg (show ¬ (¬ q1.1 = 0) from (fun z => z c2))).symm.trans hf
    refine w_iload_n dX8_factor_7 rfl rfl ?_
    refine x_cnI hf (e_stS (Yc := YX8_isPoint) (av := [.int p0]) (st := []) dX8_factor_8 q2726 mX8_isPoint) mX8_isPoint.2.2.1 mX8_isPoint.2.2.2.2.1 (Nat.le_of_ble_eq_true rfl) (Nat.le_of_ble_eq_true rfl) (fun q hq => pX8_isPoint (by omega) hq) (fun q3 hf => ?_)
    refine w_if_ne 47 dX8_factor_11 (by decide) (fun c4 => ?_) (fun c4 => ?_)
    · replace hf := (if_pos (show ¬ q3.1 = 0 from c4)).symm.trans hf
      exact (pX8_factor_b47 hd hdr hrE hrN hf).to ⟨rfl, rfl, trivial⟩
    · replace hf := (if_neg (show ¬ (¬ q3.1 = 0) from (fun z => z c4))).symm.trans hf
      refine w_aload_n dX8_factor_14 rfl rfl ?_
      refine w_iload_n dX8_factor_15 rfl rfl ?_
      refine w_bipush dX8_factor_16 (v := 96) (by decide) ?_
      refine x_cnI hf (e_stSN (Yc := YX1_other) (av := [.int (96 : Int32)]) (st := [.int p0, .ref this]) dX8_factor_18 q2579 mX1_other) mX1_other.2.2.1 mX1_other.2.2.2.2.1 (Nat.le_of_ble_eq_true rfl) (Nat.le_of_ble_eq_true rfl) (fun q hq => pX1_other (by omega) hq) (fun q5 hf => ?_)
      refine w_icmp_ne 32 dX8_factor_21 (by decide) (fun c6 => ?_) (fun c6 => ?_)
      · replace hf := (if_pos (show ¬ p0 = q5.1 from c6)).symm.trans hf
        refine w_aload_n dX8_factor_32 rfl rfl ?_
        refine w_iload_n dX8_factor_33 rfl rfl ?_
        obtain ⟨_, b7, hf⟩ := Option.bind_eq_some_iff.mp hf
        refine x_ctI hf (e_stV (Yc := YX8_valued) (ci := 7) (av := [.int p0]) (st := [.ref this]) dX8_factor_34 q2642 mX8_valued rfl (k_ok_some b7).1 (k_ok_some b7).2) mX8_valued.2.2.1 mX8_valued.2.2.2.2.1 (Nat.le_of_ble_eq_true rfl) (Nat.le_of_ble_eq_true rfl) rfl (fun q hq => pX8_valued (by omega) hdr hrN hq) (fun x8 h9 hf => ?_)
        refine w_i2l dX8_factor_37 ?_
        exact (pX8_factor_b38 hd hdr hrE hrN hf).to ⟨rfl, trivial⟩
      · replace hf := (if_neg (show ¬ (¬ p0 = q5.1) from (fun z => z c6))).symm.trans hf
        refine w_aload_n dX8_factor_24 rfl rfl ?_
        obtain ⟨_, b10, hf⟩ := Option.bind_eq_some_iff.mp hf
        refine x_ctI hf (e_stV (Yc := YX8_quoted) (ci := 7) (av := []) (st := [.ref this]) dX8_factor_25 q2611 mX8_quoted rfl (k_ok_some b10).1 (k_ok_some b10).2) mX8_quoted.2.2.1 mX8_quoted.2.2.2.2.1 (Nat.le_of_ble_eq_true rfl) (Nat.le_of_ble_eq_true rfl) rfl (fun q hq => pX8_quoted (by omega) hdr hrE hq) (fun x11 h12 hf => ?_)
        refine w_i2l dX8_factor_28 ?_
        refine w_goto 38 dX8_factor_29 (by decide) ?_
        exact (pX8_factor_b38 hd hdr hrE hrN hf).to ⟨rfl, trivial⟩
abbrev cX8_below : ByteArray := prog_4_method_44_code
def yX8_below : MethodName := ⟨RX8, "below", "(JJJ)V"⟩
def YX8_below : eY := (yX8_below, cX8_below, 7, none, [])
theorem mX8_below : e_mv YX8_below RX8 3 := ⟨q2736, qs93, q2737, by decide, by decide +kernel, (e_sig (by decide +kernel))⟩
theorem dX8_below_0 : decode cX8_below 0 = .ok (.aload_n 0, 1) := dc_42 (by decide +kernel)
theorem dX8_below_1 : decode cX8_below 1 = .ok (.getfield 51, 3) := dc_180 (a := 0) (b := 51) (n := 51) (by decide +kernel)
theorem dX8_below_4 : decode cX8_below 4 = .ok (.lload_n 3, 1) := dc_33 (by decide +kernel)
theorem dX8_below_5 : decode cX8_below 5 = .ok (.lload_n 1, 1) := dc_31 (by decide +kernel)
theorem dX8_below_6 : decode cX8_below 6 = .ok (.lload 5, 2) := dc_22 (a := 5) (by decide +kernel)
theorem dX8_below_8 : decode cX8_below 8 = .ok (.lmul, 1) := dc_105 (by decide +kernel)
theorem dX8_below_9 : decode cX8_below 9 = .ok (.lcmp, 1) := dc_148 (by decide +kernel)
theorem dX8_below_10 : decode cX8_below 10 = .ok (.ifCond .ge 7, 3) := dc_156 (a := 0) (b := 7) (v := 7) (by decide +kernel)
theorem dX8_below_13 : decode cX8_below 13 = .ok (.iconst 1, 1) := dc_4 (by decide +kernel)
theorem dX8_below_14 : decode cX8_below 14 = .ok (.goto 4, 3) := dc_167 (a := 0) (b := 4) (v := 4) (by decide +kernel)
theorem dX8_below_17 : decode cX8_below 17 = .ok (.iconst 0, 1) := dc_3 (by decide +kernel)
theorem dX8_below_18 : decode cX8_below 18 = .ok (.bipush 7, 2) := dc_16 (a := 7) (v := 7) (by decide +kernel)
theorem dX8_below_20 : decode cX8_below 20 = .ok (.invokevirtual 145, 3) := dc_182 (a := 0) (b := 145) (n := 145) (by decide +kernel)
theorem dX8_below_23 : decode cX8_below 23 = .ok (.return_, 1) := dc_177 (by decide +kernel)
def fX8_below_b18 (s0 : Nat) (s1 : Int32) (h : eH) : Option ((Unit ⊕ Nat) × eH) :=
  (k_ok 3 h s0).bind fun _ =>
  t_B (fX4_want s0 s1 (7 : Int32) h) fun x2 h3 =>
  some (.inl (), h3)
theorem pX8_below_b18 {w : eW} {d : Nat} (hd : 8 ≤ d + 1) {s0 : Nat} {s1 : Int32} {h : eH} {q} (hf : fX8_below_b18 s0 s1 h = some q) : wp w (d + 1) YX8_below 18 [none, none, none, none, none, none, none] [.int s1, .ref s0] h (e_is (e_rt c_V q)) := by
  unfold fX8_below_b18 at hf
  refine w_bipush dX8_below_18 (v := 7) (by decide) ?_
  obtain ⟨_, b1, hf⟩ := Option.bind_eq_some_iff.mp hf
  refine x_ctV hf (e_stV (Yc := YX4_want) (ci := 3) (av := [.int s1, .int (7 : Int32)]) (st := []) dX8_below_20 q2500 mX4_want rfl (k_ok_some b1).1 (k_ok_some b1).2) mX4_want.2.2.1 mX4_want.2.2.2.2.1 (Nat.le_of_ble_eq_true rfl) (Nat.le_of_ble_eq_true rfl) rfl (fun q hq => pX4_want (by omega) hq) (fun x2 h3 hf => ?_)
  cases hf
  exact w_vret dX8_below_23 rfl rfl
def fX8_below (this : Nat) (p0 : Int64) (p1 : Int64) (p2 : Int64) (h : eH) : Option ((Unit ⊕ Nat) × eH) :=
  (g_A 7 h this 0).bind fun a1 =>
  if 0 ≤ (lg_cmp p1 (p0 * p2)) then
    fX8_below_b18 a1 (0 : Int32) h
  else
    fX8_below_b18 a1 (1 : Int32) h
theorem pX8_below {w : eW} {d : Nat} (hd : 8 ≤ d) {this : Nat} {p0 : Int64} {p1 : Int64} {p2 : Int64} {h : eH} {q} (hf : fX8_below this p0 p1 p2 h = some q) : wm w d YX8_below [.ref this, .long p0, .long p1, .long p2] h (e_is (e_rt c_V q)) := by
  obtain ⟨d, rfl⟩ : ∃ e, d = e + 1 := ⟨d - 1, by omega⟩
  show wp w (d + 1) YX8_below 0 [some (.ref this), some (.long p0), none, some (.long p1), none, some (.long p2), none] [] h _
  unfold fX8_below at hf
  refine w_aload_n dX8_below_0 rfl rfl ?_
  obtain ⟨a1, b2, hf⟩ := Option.bind_eq_some_iff.mp hf
  refine GX8_51 b2 dX8_below_1 rfl ?_
  refine w_lload_n dX8_below_4 rfl rfl ?_
  refine w_lload_n dX8_below_5 rfl rfl ?_
  refine w_lload dX8_below_6 rfl ?_
  refine w_lmul dX8_below_8 ?_
  refine w_lcmp dX8_below_9 ?_
  refine w_if_ge 17 dX8_below_10 (by decide) (fun c3 => ?_) (fun c3 => ?_)
  · replace hf := (if_pos (show 0 ≤ (lg_cmp p1 (p0 * p2)) from c3)).symm.trans hf
    refine w_iconst dX8_below_17 (v := 0) (by decide) ?_
    exact (pX8_below_b18 hd hf).to trivial
  · replace hf := (if_neg (show ¬ (0 ≤ (lg_cmp p1 (p0 * p2))) from c3)).symm.trans hf
    refine w_iconst dX8_below_13 (v := 1) (by decide) ?_
    refine w_goto 18 dX8_below_14 (by decide) ?_
    exact (pX8_below_b18 hd hf).to trivial
abbrev cX8_nearest : ByteArray := prog_4_method_45_code
def yX8_nearest : MethodName := ⟨RX8, "nearest", "(JJJ)J"⟩
def YX8_nearest : eY := (yX8_nearest, cX8_nearest, 12, (Option.some FieldType.long), [])
theorem mX8_nearest : e_ms YX8_nearest 3 := ⟨q2739, q433, q2740, by decide, by decide +kernel, (e_sig (by decide +kernel))⟩
theorem dX8_nearest_0 : decode cX8_nearest 0 = .ok (.lload_n 0, 1) := dc_30 (by decide +kernel)
theorem dX8_nearest_1 : decode cX8_nearest 1 = .ok (.lload_n 2, 1) := dc_32 (by decide +kernel)
theorem dX8_nearest_2 : decode cX8_nearest 2 = .ok (.lmul, 1) := dc_105 (by decide +kernel)
theorem dX8_nearest_3 : decode cX8_nearest 3 = .ok (.lstore 6, 2) := dc_55 (a := 6) (by decide +kernel)
theorem dX8_nearest_5 : decode cX8_nearest 5 = .ok (.lload 6, 2) := dc_22 (a := 6) (by decide +kernel)
theorem dX8_nearest_7 : decode cX8_nearest 7 = .ok (.lconst 0, 1) := dc_9 (by decide +kernel)
theorem dX8_nearest_8 : decode cX8_nearest 8 = .ok (.lcmp, 1) := dc_148 (by decide +kernel)
theorem dX8_nearest_9 : decode cX8_nearest 9 = .ok (.ifCond .ge 9, 3) := dc_156 (a := 0) (b := 9) (v := 9) (by decide +kernel)
theorem dX8_nearest_12 : decode cX8_nearest 12 = .ok (.lload 6, 2) := dc_22 (a := 6) (by decide +kernel)
theorem dX8_nearest_14 : decode cX8_nearest 14 = .ok (.lneg, 1) := dc_117 (by decide +kernel)
theorem dX8_nearest_15 : decode cX8_nearest 15 = .ok (.goto 5, 3) := dc_167 (a := 0) (b := 5) (v := 5) (by decide +kernel)
theorem dX8_nearest_18 : decode cX8_nearest 18 = .ok (.lload 6, 2) := dc_22 (a := 6) (by decide +kernel)
theorem dX8_nearest_20 : decode cX8_nearest 20 = .ok (.lstore 8, 2) := dc_55 (a := 8) (by decide +kernel)
theorem dX8_nearest_22 : decode cX8_nearest 22 = .ok (.lload 8, 2) := dc_22 (a := 8) (by decide +kernel)
theorem dX8_nearest_24 : decode cX8_nearest 24 = .ok (.lload 4, 2) := dc_22 (a := 4) (by decide +kernel)
theorem dX8_nearest_26 : decode cX8_nearest 26 = .ok (.ldiv, 1) := dc_109 (by decide +kernel)
theorem dX8_nearest_27 : decode cX8_nearest 27 = .ok (.lstore 10, 2) := dc_55 (a := 10) (by decide +kernel)
theorem dX8_nearest_29 : decode cX8_nearest 29 = .ok (.lload 10, 2) := dc_22 (a := 10) (by decide +kernel)
theorem dX8_nearest_31 : decode cX8_nearest 31 = .ok (.lload 8, 2) := dc_22 (a := 8) (by decide +kernel)
theorem dX8_nearest_33 : decode cX8_nearest 33 = .ok (.lload 4, 2) := dc_22 (a := 4) (by decide +kernel)
theorem dX8_nearest_35 : decode cX8_nearest 35 = .ok (.lrem, 1) := dc_113 (by decide +kernel)
theorem dX8_nearest_36 : decode cX8_nearest 36 = .ok (.lload 4, 2) := dc_22 (a := 4) (by decide +kernel)
theorem dX8_nearest_38 : decode cX8_nearest 38 = .ok (.lload 8, 2) := dc_22 (a := 8) (by decide +kernel)
theorem dX8_nearest_40 : decode cX8_nearest 40 = .ok (.lload 4, 2) := dc_22 (a := 4) (by decide +kernel)
theorem dX8_nearest_42 : decode cX8_nearest 42 = .ok (.lrem, 1) := dc_113 (by decide +kernel)
theorem dX8_nearest_43 : decode cX8_nearest 43 = .ok (.lsub, 1) := dc_101 (by decide +kernel)
theorem dX8_nearest_44 : decode cX8_nearest 44 = .ok (.lcmp, 1) := dc_148 (by decide +kernel)
theorem dX8_nearest_45 : decode cX8_nearest 45 = .ok (.ifCond .lt 7, 3) := dc_155 (a := 0) (b := 7) (v := 7) (by decide +kernel)
theorem dX8_nearest_48 : decode cX8_nearest 48 = .ok (.lconst 1, 1) := dc_10 (by decide +kernel)
theorem dX8_nearest_49 : decode cX8_nearest 49 = .ok (.goto 4, 3) := dc_167 (a := 0) (b := 4) (v := 4) (by decide +kernel)
theorem dX8_nearest_52 : decode cX8_nearest 52 = .ok (.lconst 0, 1) := dc_9 (by decide +kernel)
theorem dX8_nearest_53 : decode cX8_nearest 53 = .ok (.ladd, 1) := dc_97 (by decide +kernel)
theorem dX8_nearest_54 : decode cX8_nearest 54 = .ok (.lstore 10, 2) := dc_55 (a := 10) (by decide +kernel)
theorem dX8_nearest_56 : decode cX8_nearest 56 = .ok (.lload 6, 2) := dc_22 (a := 6) (by decide +kernel)
theorem dX8_nearest_58 : decode cX8_nearest 58 = .ok (.lconst 0, 1) := dc_9 (by decide +kernel)
theorem dX8_nearest_59 : decode cX8_nearest 59 = .ok (.lcmp, 1) := dc_148 (by decide +kernel)
theorem dX8_nearest_60 : decode cX8_nearest 60 = .ok (.ifCond .ge 9, 3) := dc_156 (a := 0) (b := 9) (v := 9) (by decide +kernel)
theorem dX8_nearest_63 : decode cX8_nearest 63 = .ok (.lload 10, 2) := dc_22 (a := 10) (by decide +kernel)
theorem dX8_nearest_65 : decode cX8_nearest 65 = .ok (.lneg, 1) := dc_117 (by decide +kernel)
theorem dX8_nearest_66 : decode cX8_nearest 66 = .ok (.goto 5, 3) := dc_167 (a := 0) (b := 5) (v := 5) (by decide +kernel)
theorem dX8_nearest_69 : decode cX8_nearest 69 = .ok (.lload 10, 2) := dc_22 (a := 10) (by decide +kernel)
theorem dX8_nearest_71 : decode cX8_nearest 71 = .ok (.lreturn, 1) := dc_173 (by decide +kernel)
def fX8_nearest_b71 (s0 : Int64) (h : eH) : Option (Int64 × eH) :=
  some (s0, h)
theorem pX8_nearest_b71 {w : eW} {d : Nat} (hd : 0 ≤ d) {s0 : Int64} {h : eH} {q} (hf : fX8_nearest_b71 s0 h = some q) : wp w d YX8_nearest 71 [none, none, none, none, none, none, none, none, none, none, none, none] [.long s0] h (e_is (e_rn c_J q)) := by
  unfold fX8_nearest_b71 at hf
  cases hf
  exact w_lret dX8_nearest_71 rfl rfl
def fX8_nearest_b53 (l6 : Int64) (s0 : Int64) (s1 : Int64) (h : eH) : Option (Int64 × eH) :=
  if 0 ≤ (lg_cmp l6 (0 : Int64)) then
    fX8_nearest_b71 (s0 + s1) h
  else
    fX8_nearest_b71 (-(s0 + s1)) h
theorem pX8_nearest_b53 {w : eW} {d : Nat} (hd : 0 ≤ d) {l6 : Int64} {s0 : Int64} {s1 : Int64} {h : eH} {q} (hf : fX8_nearest_b53 l6 s0 s1 h = some q) : wp w d YX8_nearest 53 [none, none, none, none, none, none, some (.long l6), none, none, none, none, none] [.long s1, .long s0] h (e_is (e_rn c_J q)) := by
  unfold fX8_nearest_b53 at hf
  refine w_ladd dX8_nearest_53 ?_
  refine w_lstore dX8_nearest_54 (by decide) (ls' := [none, none, none, none, none, none, some (.long l6), none, none, none, some (.long (s0 + s1)), none]) rfl ?_
  refine w_lload dX8_nearest_56 rfl ?_
  refine w_lconst dX8_nearest_58 (v := 0) (by decide) ?_
  refine w_lcmp dX8_nearest_59 ?_
  refine w_if_ge 69 dX8_nearest_60 (by decide) (fun c1 => ?_) (fun c1 => ?_)
  · replace hf := (if_pos (show 0 ≤ (lg_cmp l6 (0 : Int64)) from c1)).symm.trans hf
    refine w_lload dX8_nearest_69 rfl ?_
    exact (pX8_nearest_b71 hd hf).to trivial
  · replace hf := (if_neg (show ¬ (0 ≤ (lg_cmp l6 (0 : Int64))) from c1)).symm.trans hf
    refine w_lload dX8_nearest_63 rfl ?_
    refine w_lneg dX8_nearest_65 ?_
    refine w_goto 71 dX8_nearest_66 (by decide) ?_
    exact (pX8_nearest_b71 hd hf).to trivial
def fX8_nearest_b20 (l4 : Int64) (l6 : Int64) (s0 : Int64) (h : eH) : Option (Int64 × eH) :=
  if l4 = 0 then none else
  if l4 = 0 then none else
  if l4 = 0 then none else
  if (lg_cmp (s0 - s0 / l4 * l4) (l4 - (s0 - s0 / l4 * l4))) < 0 then
    fX8_nearest_b53 l6 (s0 / l4) (0 : Int64) h
  else
    fX8_nearest_b53 l6 (s0 / l4) (1 : Int64) h
theorem pX8_nearest_b20 {w : eW} {d : Nat} (hd : 0 ≤ d) {l4 : Int64} {l6 : Int64} {s0 : Int64} {h : eH} {q} (hf : fX8_nearest_b20 l4 l6 s0 h = some q) : wp w d YX8_nearest 20 [none, none, none, none, some (.long l4), none, some (.long l6), none, none, none, none, none] [.long s0] h (e_is (e_rn c_J q)) := by
  unfold fX8_nearest_b20 at hf
  refine w_lstore dX8_nearest_20 (by decide) (ls' := [none, none, none, none, some (.long l4), none, some (.long l6), none, some (.long s0), none, none, none]) rfl ?_
  refine w_lload dX8_nearest_22 rfl ?_
  refine w_lload dX8_nearest_24 rfl ?_
  by_cases c1 : l4 = 0
  · exact absurd ((if_pos c1).symm.trans hf) (by simp)
  replace hf := (if_neg c1).symm.trans hf
  refine w_ldiv dX8_nearest_26 c1 ?_
  refine w_lstore dX8_nearest_27 (by decide) (ls' := [none, none, none, none, some (.long l4), none, some (.long l6), none, some (.long s0), none, some (.long (s0 / l4)), none]) rfl ?_
  refine w_lload dX8_nearest_29 rfl ?_
  refine w_lload dX8_nearest_31 rfl ?_
  refine w_lload dX8_nearest_33 rfl ?_
  by_cases c2 : l4 = 0
  · exact absurd ((if_pos c2).symm.trans hf) (by simp)
  replace hf := (if_neg c2).symm.trans hf
  refine w_lrem dX8_nearest_35 c2 ?_
  refine w_lload dX8_nearest_36 rfl ?_
  refine w_lload dX8_nearest_38 rfl ?_
  refine w_lload dX8_nearest_40 rfl ?_
  by_cases c3 : l4 = 0
  · exact absurd ((if_pos c3).symm.trans hf) (by simp)
  replace hf := (if_neg c3).symm.trans hf
  refine w_lrem dX8_nearest_42 c3 ?_
  refine w_lsub dX8_nearest_43 ?_
  refine w_lcmp dX8_nearest_44 ?_
  refine w_if_lt 52 dX8_nearest_45 (by decide) (fun c4 => ?_) (fun c4 => ?_)
  · replace hf := (if_pos (show (lg_cmp (s0 - s0 / l4 * l4) (l4 - (s0 - s0 / l4 * l4))) < 0 from c4)).symm.trans hf
    refine w_lconst dX8_nearest_52 (v := 0) (by decide) ?_
    exact (pX8_nearest_b53 hd hf).to ⟨rfl, trivial⟩
  · replace hf := (if_neg (show ¬ ((lg_cmp (s0 - s0 / l4 * l4) (l4 - (s0 - s0 / l4 * l4))) < 0) from c4)).symm.trans hf
    refine w_lconst dX8_nearest_48 (v := 1) (by decide) ?_
    refine w_goto 53 dX8_nearest_49 (by decide) ?_
    exact (pX8_nearest_b53 hd hf).to ⟨rfl, trivial⟩
def fX8_nearest (p0 : Int64) (p1 : Int64) (p2 : Int64) (h : eH) : Option (Int64 × eH) :=
  if 0 ≤ (lg_cmp (p0 * p1) (0 : Int64)) then
    fX8_nearest_b20 p2 (p0 * p1) (p0 * p1) h
  else
    fX8_nearest_b20 p2 (p0 * p1) (-(p0 * p1)) h
theorem pX8_nearest {w : eW} {d : Nat} (hd : 0 ≤ d) {p0 : Int64} {p1 : Int64} {p2 : Int64} {h : eH} {q} (hf : fX8_nearest p0 p1 p2 h = some q) : wm w d YX8_nearest [.long p0, .long p1, .long p2] h (e_is (e_rn c_J q)) := by
  show wp w d YX8_nearest 0 [some (.long p0), none, some (.long p1), none, some (.long p2), none, none, none, none, none, none, none] [] h _
  unfold fX8_nearest at hf
  refine w_lload_n dX8_nearest_0 rfl rfl ?_
  refine w_lload_n dX8_nearest_1 rfl rfl ?_
  refine w_lmul dX8_nearest_2 ?_
  refine w_lstore dX8_nearest_3 (by decide) (ls' := [some (.long p0), none, some (.long p1), none, some (.long p2), none, some (.long (p0 * p1)), none, none, none, none, none]) rfl ?_
  refine w_lload dX8_nearest_5 rfl ?_
  refine w_lconst dX8_nearest_7 (v := 0) (by decide) ?_
  refine w_lcmp dX8_nearest_8 ?_
  refine w_if_ge 18 dX8_nearest_9 (by decide) (fun c1 => ?_) (fun c1 => ?_)
  · replace hf := (if_pos (show 0 ≤ (lg_cmp (p0 * p1) (0 : Int64)) from c1)).symm.trans hf
    refine w_lload dX8_nearest_18 rfl ?_
    exact (pX8_nearest_b20 hd hf).to ⟨rfl, rfl, trivial⟩
  · replace hf := (if_neg (show ¬ (0 ≤ (lg_cmp (p0 * p1) (0 : Int64))) from c1)).symm.trans hf
    refine w_lload dX8_nearest_12 rfl ?_
    refine w_lneg dX8_nearest_14 ?_
    refine w_goto 20 dX8_nearest_15 (by decide) ?_
    exact (pX8_nearest_b20 hd hf).to ⟨rfl, rfl, trivial⟩
abbrev cX8_parameter : ByteArray := prog_4_method_47_code
def yX8_parameter : MethodName := ⟨RX8, "parameter", "(I)I"⟩
def YX8_parameter : eY := (yX8_parameter, cX8_parameter, 3, (Option.some FieldType.int), [])
theorem mX8_parameter : e_mv YX8_parameter RX8 1 := ⟨q2765, qs95, q2766, by decide, by decide +kernel, (e_sig (by decide +kernel))⟩
theorem dX8_parameter_0 : decode cX8_parameter 0 = .ok (.aload_n 0, 1) := dc_42 (by decide +kernel)
theorem dX8_parameter_1 : decode cX8_parameter 1 = .ok (.getfield 12, 3) := dc_180 (a := 0) (b := 12) (n := 12) (by decide +kernel)
theorem dX8_parameter_4 : decode cX8_parameter 4 = .ok (.getfield 357, 3) := dc_180 (a := 1) (b := 101) (n := 357) (by decide +kernel)
theorem dX8_parameter_7 : decode cX8_parameter 7 = .ok (.sipush 2095, 3) := dc_17 (a := 8) (b := 47) (v := 2095) (by decide +kernel)
theorem dX8_parameter_10 : decode cX8_parameter 10 = .ok (.iaload, 1) := dc_46 (by decide +kernel)
theorem dX8_parameter_11 : decode cX8_parameter 11 = .ok (.istore_n 2, 1) := dc_61 (by decide +kernel)
theorem dX8_parameter_12 : decode cX8_parameter 12 = .ok (.iload_n 2, 1) := dc_28 (by decide +kernel)
theorem dX8_parameter_13 : decode cX8_parameter 13 = .ok (.iconst (-1), 1) := dc_2 (by decide +kernel)
theorem dX8_parameter_14 : decode cX8_parameter 14 = .ok (.if_icmp .ne 7, 3) := dc_160 (a := 0) (b := 7) (v := 7) (by decide +kernel)
theorem dX8_parameter_17 : decode cX8_parameter 17 = .ok (.iconst 0, 1) := dc_3 (by decide +kernel)
theorem dX8_parameter_18 : decode cX8_parameter 18 = .ok (.goto 12, 3) := dc_167 (a := 0) (b := 12) (v := 12) (by decide +kernel)
theorem dX8_parameter_21 : decode cX8_parameter 21 = .ok (.aload_n 0, 1) := dc_42 (by decide +kernel)
theorem dX8_parameter_22 : decode cX8_parameter 22 = .ok (.getfield 55, 3) := dc_180 (a := 0) (b := 55) (n := 55) (by decide +kernel)
theorem dX8_parameter_25 : decode cX8_parameter 25 = .ok (.iload_n 2, 1) := dc_28 (by decide +kernel)
theorem dX8_parameter_26 : decode cX8_parameter 26 = .ok (.iload_n 1, 1) := dc_27 (by decide +kernel)
theorem dX8_parameter_27 : decode cX8_parameter 27 = .ok (.invokevirtual 400, 3) := dc_182 (a := 1) (b := 144) (n := 400) (by decide +kernel)
theorem dX8_parameter_30 : decode cX8_parameter 30 = .ok (.ireturn, 1) := dc_172 (by decide +kernel)
theorem GX8_55 {w : eW} {d : Nat} {Y : eY} {pc : Nat} {ls : eL} {st : List Value} {h : eH} {Q : eO → eH → Prop} {a : Nat} {x : Nat} (hf : g_A 7 h a 1 = some x) (hd : decode Y.2.1 pc = .ok (.getfield 55, 3)) (hY : Y.1.cls = RX8) (kk : wp w d Y (pc + 3) ls (.ref x :: st) h Q) : wp w d Y pc ls (.ref a :: st) h Q := x_gA (ci := 7) (k := 1) hf hd rfl (by decide) (by rw [hY]; exact q832) kk
def fX8_parameter_b30 (s0 : Int32) (h : eH) : Option (Int32 × eH) :=
  some (s0, h)
theorem pX8_parameter_b30 {w : eW} {d : Nat} (hd : 1 ≤ d + 1) {s0 : Int32} {h : eH} {q} (hf : fX8_parameter_b30 s0 h = some q) : wp w (d + 1) YX8_parameter 30 [none, none, none] [.int s0] h (e_is (e_rn c_I q)) := by
  unfold fX8_parameter_b30 at hf
  cases hf
  exact w_iret dX8_parameter_30 rfl rfl rfl
def fX8_parameter (this : Nat) (p0 : Int32) (h : eH) : Option (Int32 × eH) :=
  (g_A 7 h this 4).bind fun a1 =>
  (g_A 8 h a1 3).bind fun a3 =>
  (r_I 100 h a3 (2095 : Int32)).bind fun x5 =>
  if ¬ x5 = (-1 : Int32) then
    (g_A 7 h this 1).bind fun a8 =>
    (k_ok 4 h a8).bind fun _ =>
    (fX5_parameter a8 x5 p0 h).bind fun q11 =>
    fX8_parameter_b30 q11.1 q11.2
  else
    fX8_parameter_b30 (0 : Int32) h
theorem pX8_parameter {w : eW} {d : Nat} (hd : 1 ≤ d) {this : Nat} {p0 : Int32} {h : eH} {q} (hf : fX8_parameter this p0 h = some q) : wm w d YX8_parameter [.ref this, .int p0] h (e_is (e_rn c_I q)) := by
  obtain ⟨d, rfl⟩ : ∃ e, d = e + 1 := ⟨d - 1, by omega⟩
  show wp w (d + 1) YX8_parameter 0 [some (.ref this), some (.int p0), none] [] h _
  unfold fX8_parameter at hf
  refine w_aload_n dX8_parameter_0 rfl rfl ?_
  obtain ⟨a1, b2, hf⟩ := Option.bind_eq_some_iff.mp hf
  refine GX8_12 b2 dX8_parameter_1 rfl ?_
  obtain ⟨a3, b4, hf⟩ := Option.bind_eq_some_iff.mp hf
  refine GX8_357 b4 dX8_parameter_4 rfl ?_
  refine w_sipush dX8_parameter_7 (v := 2095) (by decide) ?_
  obtain ⟨x5, b6, hf⟩ := Option.bind_eq_some_iff.mp hf
  refine x_rI b6 dX8_parameter_10 ?_
  refine w_istore_n dX8_parameter_11 rfl (by decide) (ls' := [some (.ref this), some (.int p0), some (.int x5)]) rfl ?_
  refine w_iload_n dX8_parameter_12 rfl rfl ?_
  refine w_iconst dX8_parameter_13 (v := -1) (by decide) ?_
  refine w_icmp_ne 21 dX8_parameter_14 (by decide) (fun c7 => ?_) (fun c7 => ?_)
  · replace hf := (if_pos (show ¬ x5 = (-1 : Int32) from c7)).symm.trans hf
    refine w_aload_n dX8_parameter_21 rfl rfl ?_
    obtain ⟨a8, b9, hf⟩ := Option.bind_eq_some_iff.mp hf
    refine GX8_55 b9 dX8_parameter_22 rfl ?_
    refine w_iload_n dX8_parameter_25 rfl rfl ?_
    refine w_iload_n dX8_parameter_26 rfl rfl ?_
    obtain ⟨_, b10, hf⟩ := Option.bind_eq_some_iff.mp hf
    refine x_cnI hf (e_stV (Yc := YX5_parameter) (ci := 4) (av := [.int x5, .int p0]) (st := []) dX8_parameter_27 q2767 mX5_parameter rfl (k_ok_some b10).1 (k_ok_some b10).2) mX5_parameter.2.2.1 mX5_parameter.2.2.2.2.1 (Nat.le_of_ble_eq_true rfl) (Nat.le_of_ble_eq_true rfl) (fun q hq => pX5_parameter (by omega) hq) (fun q11 hf => ?_)
    exact (pX8_parameter_b30 hd hf).to trivial
  · replace hf := (if_neg (show ¬ (¬ x5 = (-1 : Int32)) from (fun z => z c7))).symm.trans hf
    refine w_iconst dX8_parameter_17 (v := 0) (by decide) ?_
    refine w_goto 30 dX8_parameter_18 (by decide) ?_
    exact (pX8_parameter_b30 hd hf).to trivial
abbrev cX8_dropSpace : ByteArray := prog_4_method_41_code
def yX8_dropSpace : MethodName := ⟨RX8, "dropSpace", "()V"⟩
def YX8_dropSpace : eY := (yX8_dropSpace, cX8_dropSpace, 2, none, [])
theorem mX8_dropSpace : e_mv YX8_dropSpace RX8 0 := ⟨q2776, qs96, q2777, by decide, by decide +kernel, (e_sig (by decide +kernel))⟩
theorem dX8_dropSpace_0 : decode cX8_dropSpace 0 = .ok (.aload_n 0, 1) := dc_42 (by decide +kernel)
theorem dX8_dropSpace_1 : decode cX8_dropSpace 1 = .ok (.invokevirtual 187, 3) := dc_182 (a := 0) (b := 187) (n := 187) (by decide +kernel)
theorem dX8_dropSpace_4 : decode cX8_dropSpace 4 = .ok (.istore_n 1, 1) := dc_60 (by decide +kernel)
theorem dX8_dropSpace_5 : decode cX8_dropSpace 5 = .ok (.iload_n 1, 1) := dc_27 (by decide +kernel)
theorem dX8_dropSpace_6 : decode cX8_dropSpace 6 = .ok (.bipush 10, 2) := dc_16 (a := 10) (v := 10) (by decide +kernel)
theorem dX8_dropSpace_8 : decode cX8_dropSpace 8 = .ok (.invokestatic 193, 3) := dc_184 (a := 0) (b := 193) (n := 193) (by decide +kernel)
theorem dX8_dropSpace_11 : decode cX8_dropSpace 11 = .ok (.ifCond .ne 8, 3) := dc_154 (a := 0) (b := 8) (v := 8) (by decide +kernel)
theorem dX8_dropSpace_14 : decode cX8_dropSpace 14 = .ok (.aload_n 0, 1) := dc_42 (by decide +kernel)
theorem dX8_dropSpace_15 : decode cX8_dropSpace 15 = .ok (.iload_n 1, 1) := dc_27 (by decide +kernel)
theorem dX8_dropSpace_16 : decode cX8_dropSpace 16 = .ok (.invokevirtual 351, 3) := dc_182 (a := 1) (b := 95) (n := 351) (by decide +kernel)
theorem dX8_dropSpace_19 : decode cX8_dropSpace 19 = .ok (.return_, 1) := dc_177 (by decide +kernel)
def fX8_dropSpace_b19 (N : Nat) (rE : Nat → Int32 → eH → Option ((Unit ⊕ Nat) × eH))  (h : eH) : Option ((Unit ⊕ Nat) × eH) :=
  some (.inl (), h)
theorem pX8_dropSpace_b19 {w : eW} {d : Nat} {dr : Nat} (hd : dr + 14 ≤ d + 1) (hdr : 12 ≤ dr) {N : Nat} {rE : Nat → Int32 → eH → Option ((Unit ⊕ Nat) × eH)} (hrE : ∀ a t0 h q, rE a t0 h = some q → wm w dr YX8_expand [.ref a, .int t0] h (e_is (e_rt c_V q)))  {h : eH} {q} (hf : fX8_dropSpace_b19 N rE h = some q) : wp w (d + 1) YX8_dropSpace 19 [none, none] [] h (e_is (e_rt c_V q)) := by
  unfold fX8_dropSpace_b19 at hf
  cases hf
  exact w_vret dX8_dropSpace_19 rfl rfl
def fX8_dropSpace (N : Nat) (rE : Nat → Int32 → eH → Option ((Unit ⊕ Nat) × eH)) (this : Nat) (h : eH) : Option ((Unit ⊕ Nat) × eH) :=
  (k_ok 7 h this).bind fun _ =>
  t_B (fX8_getExpanded N rE this h) fun x2 h3 =>
  (fX1_is x2 (10 : Int32) h3).bind fun q4 =>
  if ¬ q4.1 = 0 then
    fX8_dropSpace_b19 N rE q4.2
  else
    (k_ok 7 q4.2 this).bind fun _ =>
    (fX8_putBack this x2 q4.2).bind fun q7 =>
    fX8_dropSpace_b19 N rE q7.2
theorem pX8_dropSpace {w : eW} {d : Nat} {dr : Nat} (hd : dr + 14 ≤ d) (hdr : 12 ≤ dr) {N : Nat} {rE : Nat → Int32 → eH → Option ((Unit ⊕ Nat) × eH)} (hrE : ∀ a t0 h q, rE a t0 h = some q → wm w dr YX8_expand [.ref a, .int t0] h (e_is (e_rt c_V q))) {this : Nat} {h : eH} {q} (hf : fX8_dropSpace N rE this h = some q) : wm w d YX8_dropSpace [.ref this] h (e_is (e_rt c_V q)) := by
  obtain ⟨d, rfl⟩ : ∃ e, d = e + 1 := ⟨d - 1, by omega⟩
  show wp w (d + 1) YX8_dropSpace 0 [some (.ref this), none] [] h _
  unfold fX8_dropSpace at hf
  refine w_aload_n dX8_dropSpace_0 rfl rfl ?_
  obtain ⟨_, b1, hf⟩ := Option.bind_eq_some_iff.mp hf
  refine x_ctI hf (e_stV (Yc := YX8_getExpanded) (ci := 7) (av := []) (st := []) dX8_dropSpace_1 q2567 mX8_getExpanded rfl (k_ok_some b1).1 (k_ok_some b1).2) mX8_getExpanded.2.2.1 mX8_getExpanded.2.2.2.2.1 (Nat.le_of_ble_eq_true rfl) (Nat.le_of_ble_eq_true rfl) rfl (fun q hq => pX8_getExpanded (by omega) hdr hrE hq) (fun x2 h3 hf => ?_)
  refine w_istore_n dX8_dropSpace_4 rfl (by decide) (ls' := [some (.ref this), some (.int x2)]) rfl ?_
  refine w_iload_n dX8_dropSpace_5 rfl rfl ?_
  refine w_bipush dX8_dropSpace_6 (v := 10) (by decide) ?_
  refine x_cnI hf (e_stSN (Yc := YX1_is) (av := [.int x2, .int (10 : Int32)]) (st := []) dX8_dropSpace_8 q2518 mX1_is) mX1_is.2.2.1 mX1_is.2.2.2.2.1 (Nat.le_of_ble_eq_true rfl) (Nat.le_of_ble_eq_true rfl) (fun q hq => pX1_is (by omega) hq) (fun q4 hf => ?_)
  refine w_if_ne 19 dX8_dropSpace_11 (by decide) (fun c5 => ?_) (fun c5 => ?_)
  · replace hf := (if_pos (show ¬ q4.1 = 0 from c5)).symm.trans hf
    exact (pX8_dropSpace_b19 hd hdr hrE hf).to trivial
  · replace hf := (if_neg (show ¬ (¬ q4.1 = 0) from (fun z => z c5))).symm.trans hf
    refine w_aload_n dX8_dropSpace_14 rfl rfl ?_
    refine w_iload_n dX8_dropSpace_15 rfl rfl ?_
    obtain ⟨_, b6, hf⟩ := Option.bind_eq_some_iff.mp hf
    refine x_cnV hf (e_stV (Yc := YX8_putBack) (ci := 7) (av := [.int x2]) (st := []) dX8_dropSpace_16 q2607 mX8_putBack rfl (k_ok_some b6).1 (k_ok_some b6).2) mX8_putBack.2.2.1 mX8_putBack.2.2.2.2.1 (Nat.le_of_ble_eq_true rfl) (Nat.le_of_ble_eq_true rfl) (fun q hq => pX8_putBack (by omega) hq) (fun q7 hf => ?_)
    exact (pX8_dropSpace_b19 hd hdr hrE hf).to trivial
abbrev cX8_united : ByteArray := prog_4_method_48_code
def yX8_united : MethodName := ⟨RX8, "united", "()J"⟩
def YX8_united : eY := (yX8_united, cX8_united, 11, (Option.some FieldType.long), [])
theorem mX8_united : e_mv YX8_united RX8 0 := ⟨q2731, qs92, q2732, by decide, by decide +kernel, (e_sig (by decide +kernel))⟩
theorem dX8_united_0 : decode cX8_united 0 = .ok (.aload_n 0, 1) := dc_42 (by decide +kernel)
theorem dX8_united_1 : decode cX8_united 1 = .ok (.getfield 389, 3) := dc_180 (a := 1) (b := 133) (n := 389) (by decide +kernel)
theorem dX8_united_4 : decode cX8_united 4 = .ok (.lstore_n 1, 1) := dc_64 (by decide +kernel)
theorem dX8_united_5 : decode cX8_united 5 = .ok (.aload_n 0, 1) := dc_42 (by decide +kernel)
theorem dX8_united_6 : decode cX8_united 6 = .ok (.getfield 393, 3) := dc_180 (a := 1) (b := 137) (n := 393) (by decide +kernel)
theorem dX8_united_9 : decode cX8_united 9 = .ok (.lstore_n 3, 1) := dc_66 (by decide +kernel)
theorem dX8_united_10 : decode cX8_united 10 = .ok (.aload_n 0, 1) := dc_42 (by decide +kernel)
theorem dX8_united_11 : decode cX8_united 11 = .ok (.invokevirtual 190, 3) := dc_182 (a := 0) (b := 190) (n := 190) (by decide +kernel)
theorem dX8_united_14 : decode cX8_united 14 = .ok (.istore 5, 2) := dc_54 (a := 5) (by decide +kernel)
theorem dX8_united_16 : decode cX8_united 16 = .ok (.iload 5, 2) := dc_21 (a := 5) (by decide +kernel)
theorem dX8_united_18 : decode cX8_united 18 = .ok (.bipush 10, 2) := dc_16 (a := 10) (v := 10) (by decide +kernel)
theorem dX8_united_20 : decode cX8_united 20 = .ok (.invokestatic 193, 3) := dc_184 (a := 0) (b := 193) (n := 193) (by decide +kernel)
theorem dX8_united_23 : decode cX8_united 23 = .ok (.ifCond .eq 12, 3) := dc_153 (a := 0) (b := 12) (v := 12) (by decide +kernel)
theorem dX8_united_26 : decode cX8_united 26 = .ok (.aload_n 0, 1) := dc_42 (by decide +kernel)
theorem dX8_united_27 : decode cX8_united 27 = .ok (.invokevirtual 190, 3) := dc_182 (a := 0) (b := 190) (n := 190) (by decide +kernel)
theorem dX8_united_30 : decode cX8_united 30 = .ok (.istore 5, 2) := dc_54 (a := 5) (by decide +kernel)
theorem dX8_united_32 : decode cX8_united 32 = .ok (.goto (-16), 3) := dc_167 (a := 255) (b := 240) (v := -16) (by decide +kernel)
theorem dX8_united_35 : decode cX8_united 35 = .ok (.aload_n 0, 1) := dc_42 (by decide +kernel)
theorem dX8_united_36 : decode cX8_united 36 = .ok (.iload 5, 2) := dc_21 (a := 5) (by decide +kernel)
theorem dX8_united_38 : decode cX8_united 38 = .ok (.invokevirtual 269, 3) := dc_182 (a := 1) (b := 13) (n := 269) (by decide +kernel)
theorem dX8_united_41 : decode cX8_united 41 = .ok (.ifCond .eq 29, 3) := dc_153 (a := 0) (b := 29) (v := 29) (by decide +kernel)
theorem dX8_united_44 : decode cX8_united 44 = .ok (.aload_n 0, 1) := dc_42 (by decide +kernel)
theorem dX8_united_45 : decode cX8_united 45 = .ok (.iload 5, 2) := dc_21 (a := 5) (by decide +kernel)
theorem dX8_united_47 : decode cX8_united 47 = .ok (.invokevirtual 272, 3) := dc_182 (a := 1) (b := 16) (n := 272) (by decide +kernel)
theorem dX8_united_50 : decode cX8_united 50 = .ok (.istore 6, 2) := dc_54 (a := 6) (by decide +kernel)
theorem dX8_united_52 : decode cX8_united 52 = .ok (.aload_n 0, 1) := dc_42 (by decide +kernel)
theorem dX8_united_53 : decode cX8_united 53 = .ok (.ldc2_w 405, 3) := dc_20 (a := 1) (b := 149) (n := 405) (by decide +kernel)
theorem dX8_united_56 : decode cX8_united 56 = .ok (.lload_n 1, 1) := dc_31 (by decide +kernel)
theorem dX8_united_57 : decode cX8_united 57 = .ok (.lload_n 3, 1) := dc_33 (by decide +kernel)
theorem dX8_united_58 : decode cX8_united 58 = .ok (.invokevirtual 407, 3) := dc_182 (a := 1) (b := 151) (n := 407) (by decide +kernel)
theorem dX8_united_61 : decode cX8_united 61 = .ok (.lload_n 1, 1) := dc_31 (by decide +kernel)
theorem dX8_united_62 : decode cX8_united 62 = .ok (.iload 6, 2) := dc_21 (a := 6) (by decide +kernel)
theorem dX8_united_64 : decode cX8_united 64 = .ok (.i2l, 1) := dc_133 (by decide +kernel)
theorem dX8_united_65 : decode cX8_united 65 = .ok (.lload_n 3, 1) := dc_33 (by decide +kernel)
theorem dX8_united_66 : decode cX8_united 66 = .ok (.invokestatic 411, 3) := dc_184 (a := 1) (b := 155) (n := 411) (by decide +kernel)
theorem dX8_united_69 : decode cX8_united 69 = .ok (.lreturn, 1) := dc_173 (by decide +kernel)
theorem dX8_united_70 : decode cX8_united 70 = .ok (.aload_n 0, 1) := dc_42 (by decide +kernel)
theorem dX8_united_71 : decode cX8_united 71 = .ok (.getfield 93, 3) := dc_180 (a := 0) (b := 93) (n := 93) (by decide +kernel)
theorem dX8_united_74 : decode cX8_united 74 = .ok (.iload 5, 2) := dc_21 (a := 5) (by decide +kernel)
theorem dX8_united_76 : decode cX8_united 76 = .ok (.invokevirtual 197, 3) := dc_182 (a := 0) (b := 197) (n := 197) (by decide +kernel)
theorem dX8_united_79 : decode cX8_united 79 = .ok (.ldc2_w 415, 3) := dc_20 (a := 1) (b := 159) (n := 415) (by decide +kernel)
theorem dX8_united_82 : decode cX8_united 82 = .ok (.lstore 6, 2) := dc_55 (a := 6) (by decide +kernel)
theorem dX8_united_84 : decode cX8_united 84 = .ok (.lconst 1, 1) := dc_10 (by decide +kernel)
theorem dX8_united_85 : decode cX8_united 85 = .ok (.lstore 8, 2) := dc_55 (a := 8) (by decide +kernel)
theorem dX8_united_87 : decode cX8_united 87 = .ok (.iconst 1, 1) := dc_4 (by decide +kernel)
theorem dX8_united_88 : decode cX8_united 88 = .ok (.istore 10, 2) := dc_54 (a := 10) (by decide +kernel)
theorem dX8_united_90 : decode cX8_united 90 = .ok (.aload_n 0, 1) := dc_42 (by decide +kernel)
theorem dX8_united_91 : decode cX8_united 91 = .ok (.ldc_w 417, 3) := dc_19 (a := 1) (b := 161) (n := 417) (by decide +kernel)
theorem dX8_united_94 : decode cX8_united 94 = .ok (.invokevirtual 419, 3) := dc_182 (a := 1) (b := 163) (n := 419) (by decide +kernel)
theorem dX8_united_97 : decode cX8_united 97 = .ok (.ifCond .eq 11, 3) := dc_153 (a := 0) (b := 11) (v := 11) (by decide +kernel)
theorem dX8_united_100 : decode cX8_united 100 = .ok (.ldc2_w 415, 3) := dc_20 (a := 1) (b := 159) (n := 415) (by decide +kernel)
theorem dX8_united_103 : decode cX8_united 103 = .ok (.lstore 6, 2) := dc_55 (a := 6) (by decide +kernel)
theorem dX8_united_105 : decode cX8_united 105 = .ok (.goto 161, 3) := dc_167 (a := 0) (b := 161) (v := 161) (by decide +kernel)
theorem dX8_united_108 : decode cX8_united 108 = .ok (.aload_n 0, 1) := dc_42 (by decide +kernel)
theorem dX8_united_109 : decode cX8_united 109 = .ok (.ldc_w 423, 3) := dc_19 (a := 1) (b := 167) (n := 423) (by decide +kernel)
theorem dX8_united_112 : decode cX8_united 112 = .ok (.invokevirtual 419, 3) := dc_182 (a := 1) (b := 163) (n := 419) (by decide +kernel)
theorem dX8_united_115 : decode cX8_united 115 = .ok (.ifCond .eq 11, 3) := dc_153 (a := 0) (b := 11) (v := 11) (by decide +kernel)
theorem dX8_united_118 : decode cX8_united 118 = .ok (.ldc2_w 425, 3) := dc_20 (a := 1) (b := 169) (n := 425) (by decide +kernel)
theorem dX8_united_121 : decode cX8_united 121 = .ok (.lstore 6, 2) := dc_55 (a := 6) (by decide +kernel)
theorem dX8_united_123 : decode cX8_united 123 = .ok (.goto 143, 3) := dc_167 (a := 0) (b := 143) (v := 143) (by decide +kernel)
theorem dX8_united_126 : decode cX8_united 126 = .ok (.aload_n 0, 1) := dc_42 (by decide +kernel)
theorem dX8_united_127 : decode cX8_united 127 = .ok (.ldc_w 427, 3) := dc_19 (a := 1) (b := 171) (n := 427) (by decide +kernel)
theorem dX8_united_130 : decode cX8_united 130 = .ok (.invokevirtual 419, 3) := dc_182 (a := 1) (b := 163) (n := 419) (by decide +kernel)
theorem dX8_united_133 : decode cX8_united 133 = .ok (.ifCond .eq 11, 3) := dc_153 (a := 0) (b := 11) (v := 11) (by decide +kernel)
theorem dX8_united_136 : decode cX8_united 136 = .ok (.ldc2_w 429, 3) := dc_20 (a := 1) (b := 173) (n := 429) (by decide +kernel)
theorem dX8_united_139 : decode cX8_united 139 = .ok (.lstore 8, 2) := dc_55 (a := 8) (by decide +kernel)
theorem dX8_united_141 : decode cX8_united 141 = .ok (.goto 125, 3) := dc_167 (a := 0) (b := 125) (v := 125) (by decide +kernel)
theorem dX8_united_144 : decode cX8_united 144 = .ok (.aload_n 0, 1) := dc_42 (by decide +kernel)
theorem dX8_united_145 : decode cX8_united 145 = .ok (.ldc_w 431, 3) := dc_19 (a := 1) (b := 175) (n := 431) (by decide +kernel)
theorem dX8_united_148 : decode cX8_united 148 = .ok (.invokevirtual 419, 3) := dc_182 (a := 1) (b := 163) (n := 419) (by decide +kernel)
theorem dX8_united_151 : decode cX8_united 151 = .ok (.ifCond .eq 11, 3) := dc_153 (a := 0) (b := 11) (v := 11) (by decide +kernel)
theorem dX8_united_154 : decode cX8_united 154 = .ok (.ldc2_w 433, 3) := dc_20 (a := 1) (b := 177) (n := 433) (by decide +kernel)
theorem dX8_united_157 : decode cX8_united 157 = .ok (.lstore 8, 2) := dc_55 (a := 8) (by decide +kernel)
theorem dX8_united_159 : decode cX8_united 159 = .ok (.goto 107, 3) := dc_167 (a := 0) (b := 107) (v := 107) (by decide +kernel)
theorem dX8_united_162 : decode cX8_united 162 = .ok (.aload_n 0, 1) := dc_42 (by decide +kernel)
theorem dX8_united_163 : decode cX8_united 163 = .ok (.ldc_w 435, 3) := dc_19 (a := 1) (b := 179) (n := 435) (by decide +kernel)
theorem dX8_united_166 : decode cX8_united 166 = .ok (.invokevirtual 419, 3) := dc_182 (a := 1) (b := 163) (n := 419) (by decide +kernel)
theorem dX8_united_169 : decode cX8_united 169 = .ok (.ifCond .eq 11, 3) := dc_153 (a := 0) (b := 11) (v := 11) (by decide +kernel)
theorem dX8_united_172 : decode cX8_united 172 = .ok (.ldc2_w 437, 3) := dc_20 (a := 1) (b := 181) (n := 437) (by decide +kernel)
theorem dX8_united_175 : decode cX8_united 175 = .ok (.lstore 8, 2) := dc_55 (a := 8) (by decide +kernel)
theorem dX8_united_177 : decode cX8_united 177 = .ok (.goto 89, 3) := dc_167 (a := 0) (b := 89) (v := 89) (by decide +kernel)
theorem dX8_united_180 : decode cX8_united 180 = .ok (.aload_n 0, 1) := dc_42 (by decide +kernel)
theorem dX8_united_181 : decode cX8_united 181 = .ok (.ldc_w 439, 3) := dc_19 (a := 1) (b := 183) (n := 439) (by decide +kernel)
theorem dX8_united_184 : decode cX8_united 184 = .ok (.invokevirtual 419, 3) := dc_182 (a := 1) (b := 163) (n := 419) (by decide +kernel)
theorem dX8_united_187 : decode cX8_united 187 = .ok (.ifCond .eq 11, 3) := dc_153 (a := 0) (b := 11) (v := 11) (by decide +kernel)
theorem dX8_united_190 : decode cX8_united 190 = .ok (.ldc2_w 441, 3) := dc_20 (a := 1) (b := 185) (n := 441) (by decide +kernel)
theorem dX8_united_193 : decode cX8_united 193 = .ok (.lstore 8, 2) := dc_55 (a := 8) (by decide +kernel)
theorem dX8_united_195 : decode cX8_united 195 = .ok (.goto 71, 3) := dc_167 (a := 0) (b := 71) (v := 71) (by decide +kernel)
theorem dX8_united_198 : decode cX8_united 198 = .ok (.aload_n 0, 1) := dc_42 (by decide +kernel)
theorem dX8_united_199 : decode cX8_united 199 = .ok (.ldc_w 443, 3) := dc_19 (a := 1) (b := 187) (n := 443) (by decide +kernel)
theorem dX8_united_202 : decode cX8_united 202 = .ok (.invokevirtual 419, 3) := dc_182 (a := 1) (b := 163) (n := 419) (by decide +kernel)
theorem dX8_united_205 : decode cX8_united 205 = .ok (.ifCond .eq 9, 3) := dc_153 (a := 0) (b := 9) (v := 9) (by decide +kernel)
theorem dX8_united_208 : decode cX8_united 208 = .ok (.iconst 0, 1) := dc_3 (by decide +kernel)
theorem dX8_united_209 : decode cX8_united 209 = .ok (.istore 10, 2) := dc_54 (a := 10) (by decide +kernel)
theorem dX8_united_211 : decode cX8_united 211 = .ok (.goto 55, 3) := dc_167 (a := 0) (b := 55) (v := 55) (by decide +kernel)
theorem dX8_united_214 : decode cX8_united 214 = .ok (.aload_n 0, 1) := dc_42 (by decide +kernel)
theorem dX8_united_215 : decode cX8_united 215 = .ok (.ldc_w 445, 3) := dc_19 (a := 1) (b := 189) (n := 445) (by decide +kernel)
theorem dX8_united_218 : decode cX8_united 218 = .ok (.invokevirtual 419, 3) := dc_182 (a := 1) (b := 163) (n := 419) (by decide +kernel)
theorem dX8_united_221 : decode cX8_united 221 = .ok (.ifCond .eq 15, 3) := dc_153 (a := 0) (b := 15) (v := 15) (by decide +kernel)
theorem dX8_united_224 : decode cX8_united 224 = .ok (.aload_n 0, 1) := dc_42 (by decide +kernel)
theorem dX8_united_225 : decode cX8_united 225 = .ok (.bipush 6, 2) := dc_16 (a := 6) (v := 6) (by decide +kernel)
theorem dX8_united_227 : decode cX8_united 227 = .ok (.invokevirtual 447, 3) := dc_182 (a := 1) (b := 191) (n := 447) (by decide +kernel)
theorem dX8_united_230 : decode cX8_united 230 = .ok (.i2l, 1) := dc_133 (by decide +kernel)
theorem dX8_united_231 : decode cX8_united 231 = .ok (.lstore 6, 2) := dc_55 (a := 6) (by decide +kernel)
theorem dX8_united_233 : decode cX8_united 233 = .ok (.goto 33, 3) := dc_167 (a := 0) (b := 33) (v := 33) (by decide +kernel)
theorem dX8_united_236 : decode cX8_united 236 = .ok (.aload_n 0, 1) := dc_42 (by decide +kernel)
theorem dX8_united_237 : decode cX8_united 237 = .ok (.ldc_w 449, 3) := dc_19 (a := 1) (b := 193) (n := 449) (by decide +kernel)
theorem dX8_united_240 : decode cX8_united 240 = .ok (.invokevirtual 419, 3) := dc_182 (a := 1) (b := 163) (n := 419) (by decide +kernel)
theorem dX8_united_243 : decode cX8_united 243 = .ok (.ifCond .eq 14, 3) := dc_153 (a := 0) (b := 14) (v := 14) (by decide +kernel)
theorem dX8_united_246 : decode cX8_united 246 = .ok (.aload_n 0, 1) := dc_42 (by decide +kernel)
theorem dX8_united_247 : decode cX8_united 247 = .ok (.iconst 5, 1) := dc_8 (by decide +kernel)
theorem dX8_united_248 : decode cX8_united 248 = .ok (.invokevirtual 447, 3) := dc_182 (a := 1) (b := 191) (n := 447) (by decide +kernel)
theorem dX8_united_251 : decode cX8_united 251 = .ok (.i2l, 1) := dc_133 (by decide +kernel)
theorem dX8_united_252 : decode cX8_united 252 = .ok (.lstore 6, 2) := dc_55 (a := 6) (by decide +kernel)
theorem dX8_united_254 : decode cX8_united 254 = .ok (.goto 12, 3) := dc_167 (a := 0) (b := 12) (v := 12) (by decide +kernel)
theorem dX8_united_257 : decode cX8_united 257 = .ok (.aload_n 0, 1) := dc_42 (by decide +kernel)
theorem dX8_united_258 : decode cX8_united 258 = .ok (.getfield 51, 3) := dc_180 (a := 0) (b := 51) (n := 51) (by decide +kernel)
theorem dX8_united_261 : decode cX8_united 261 = .ok (.bipush 6, 2) := dc_16 (a := 6) (v := 6) (by decide +kernel)
theorem dX8_united_263 : decode cX8_united 263 = .ok (.invokevirtual 451, 3) := dc_182 (a := 1) (b := 195) (n := 451) (by decide +kernel)
theorem dX8_united_266 : decode cX8_united 266 = .ok (.lload 8, 2) := dc_22 (a := 8) (by decide +kernel)
theorem dX8_united_268 : decode cX8_united 268 = .ok (.lconst 1, 1) := dc_10 (by decide +kernel)
theorem dX8_united_269 : decode cX8_united 269 = .ok (.lcmp, 1) := dc_148 (by decide +kernel)
theorem dX8_united_270 : decode cX8_united 270 = .ok (.ifCond .le 9, 3) := dc_158 (a := 0) (b := 9) (v := 9) (by decide +kernel)
theorem dX8_united_273 : decode cX8_united 273 = .ok (.ldc2_w 454, 3) := dc_20 (a := 1) (b := 198) (n := 454) (by decide +kernel)
theorem dX8_united_276 : decode cX8_united 276 = .ok (.goto 14, 3) := dc_167 (a := 0) (b := 14) (v := 14) (by decide +kernel)
theorem dX8_united_279 : decode cX8_united 279 = .ok (.iload 10, 2) := dc_21 (a := 10) (by decide +kernel)
theorem dX8_united_281 : decode cX8_united 281 = .ok (.ifCond .eq 8, 3) := dc_153 (a := 0) (b := 8) (v := 8) (by decide +kernel)
theorem dX8_united_284 : decode cX8_united 284 = .ok (.lload 6, 2) := dc_22 (a := 6) (by decide +kernel)
theorem dX8_united_286 : decode cX8_united 286 = .ok (.goto 4, 3) := dc_167 (a := 0) (b := 4) (v := 4) (by decide +kernel)
theorem dX8_united_289 : decode cX8_united 289 = .ok (.lconst 1, 1) := dc_10 (by decide +kernel)
theorem dX8_united_290 : decode cX8_united 290 = .ok (.lstore 6, 2) := dc_55 (a := 6) (by decide +kernel)
theorem dX8_united_292 : decode cX8_united 292 = .ok (.aload_n 0, 1) := dc_42 (by decide +kernel)
theorem dX8_united_293 : decode cX8_united 293 = .ok (.invokevirtual 456, 3) := dc_182 (a := 1) (b := 200) (n := 456) (by decide +kernel)
theorem dX8_united_296 : decode cX8_united 296 = .ok (.iload 10, 2) := dc_21 (a := 10) (by decide +kernel)
theorem dX8_united_298 : decode cX8_united 298 = .ok (.ifCond .eq 12, 3) := dc_153 (a := 0) (b := 12) (v := 12) (by decide +kernel)
theorem dX8_united_301 : decode cX8_united 301 = .ok (.aload_n 0, 1) := dc_42 (by decide +kernel)
theorem dX8_united_302 : decode cX8_united 302 = .ok (.ldc2_w 405, 3) := dc_20 (a := 1) (b := 149) (n := 405) (by decide +kernel)
theorem dX8_united_305 : decode cX8_united 305 = .ok (.lload_n 1, 1) := dc_31 (by decide +kernel)
theorem dX8_united_306 : decode cX8_united 306 = .ok (.lload_n 3, 1) := dc_33 (by decide +kernel)
theorem dX8_united_307 : decode cX8_united 307 = .ok (.invokevirtual 407, 3) := dc_182 (a := 1) (b := 151) (n := 407) (by decide +kernel)
theorem dX8_united_310 : decode cX8_united 310 = .ok (.lload_n 1, 1) := dc_31 (by decide +kernel)
theorem dX8_united_311 : decode cX8_united 311 = .ok (.lload 6, 2) := dc_22 (a := 6) (by decide +kernel)
theorem dX8_united_313 : decode cX8_united 313 = .ok (.lload_n 3, 1) := dc_33 (by decide +kernel)
theorem dX8_united_314 : decode cX8_united 314 = .ok (.lload 8, 2) := dc_22 (a := 8) (by decide +kernel)
theorem dX8_united_316 : decode cX8_united 316 = .ok (.lmul, 1) := dc_105 (by decide +kernel)
theorem dX8_united_317 : decode cX8_united 317 = .ok (.invokestatic 411, 3) := dc_184 (a := 1) (b := 155) (n := 411) (by decide +kernel)
theorem dX8_united_320 : decode cX8_united 320 = .ok (.lreturn, 1) := dc_173 (by decide +kernel)
theorem GX8_389 {w : eW} {d : Nat} {Y : eY} {pc : Nat} {ls : eL} {st : List Value} {h : eH} {Q : eO → eH → Prop} {a : Nat} {x : Int64} (hf : g_J 7 h a 25 = some x) (hd : decode Y.2.1 pc = .ok (.getfield 389, 3)) (hY : Y.1.cls = RX8) (kk : wp w d Y (pc + 3) ls (.long x :: st) h Q) : wp w d Y pc ls (.ref a :: st) h Q := x_gJ (ci := 7) (k := 25) hf hd rfl (by decide) (by rw [hY]; exact q863) kk
theorem GX8_393 {w : eW} {d : Nat} {Y : eY} {pc : Nat} {ls : eL} {st : List Value} {h : eH} {Q : eO → eH → Prop} {a : Nat} {x : Int64} (hf : g_J 7 h a 26 = some x) (hd : decode Y.2.1 pc = .ok (.getfield 393, 3)) (hY : Y.1.cls = RX8) (kk : wp w d Y (pc + 3) ls (.long x :: st) h Q) : wp w d Y pc ls (.ref a :: st) h Q := x_gJ (ci := 7) (k := 26) hf hd rfl (by decide) (by rw [hY]; exact q864) kk
def fX8_united_b310 (N : Nat) (rE : Nat → Int32 → eH → Option ((Unit ⊕ Nat) × eH)) (rN : Nat → eH → Option ((Int32 ⊕ Nat) × eH)) (l1 : Int64) (l3 : Int64) (l6 : Int64) (l8 : Int64) (h : eH) : Option ((Int64 ⊕ Nat) × eH) :=
  (fX8_nearest l1 l6 (l3 * l8) h).bind fun q1 =>
  some (.inl q1.1, q1.2)
theorem pX8_united_b310 {w : eW} {d : Nat} {dr : Nat} (hd : dr + 15 ≤ d + 1) (hdr : 12 ≤ dr) {N : Nat} {rE : Nat → Int32 → eH → Option ((Unit ⊕ Nat) × eH)} {rN : Nat → eH → Option ((Int32 ⊕ Nat) × eH)} (hrE : ∀ a t0 h q, rE a t0 h = some q → wm w dr YX8_expand [.ref a, .int t0] h (e_is (e_rt c_V q))) (hrN : ∀ a h q, rN a h = some q → wm w dr YX8_number [.ref a] h (e_is (e_rt c_I q))) {l1 : Int64} {l3 : Int64} {l6 : Int64} {l8 : Int64} {h : eH} {q} (hf : fX8_united_b310 N rE rN l1 l3 l6 l8 h = some q) : wp w (d + 1) YX8_united 310 [none, some (.long l1), none, some (.long l3), none, none, some (.long l6), none, some (.long l8), none, none] [] h (e_is (e_rt c_J q)) := by
  unfold fX8_united_b310 at hf
  refine w_lload_n dX8_united_310 rfl rfl ?_
  refine w_lload dX8_united_311 rfl ?_
  refine w_lload_n dX8_united_313 rfl rfl ?_
  refine w_lload dX8_united_314 rfl ?_
  refine w_lmul dX8_united_316 ?_
  refine x_cnJ hf (e_stS (Yc := YX8_nearest) (av := [.long l1, .long l6, .long (l3 * l8)]) (st := []) dX8_united_317 q2738 mX8_nearest) mX8_nearest.2.2.1 mX8_nearest.2.2.2.2.1 (Nat.le_of_ble_eq_true rfl) (Nat.le_of_ble_eq_true rfl) (fun q hq => pX8_nearest (by omega) hq) (fun q1 hf => ?_)
  cases hf
  exact w_lret dX8_united_320 rfl rfl
def fX8_united_b290 (N : Nat) (rE : Nat → Int32 → eH → Option ((Unit ⊕ Nat) × eH)) (rN : Nat → eH → Option ((Int32 ⊕ Nat) × eH)) (l0 : Nat) (l1 : Int64) (l3 : Int64) (l8 : Int64) (l10 : Int32) (s0 : Int64) (h : eH) : Option ((Int64 ⊕ Nat) × eH) :=
  (k_ok 7 h l0).bind fun _ =>
  t_B (fX8_dropSpace N rE l0 h) fun x2 h3 =>
  if l10 = 0 then
    fX8_united_b310 N rE rN l1 l3 s0 l8 h3
  else
    (k_ok 7 h3 l0).bind fun _ =>
    t_B (fX8_below l0 (32768 : Int64) l1 l3 h3) fun x6 h7 =>
    fX8_united_b310 N rE rN l1 l3 s0 l8 h7
theorem pX8_united_b290 {w : eW} {d : Nat} {dr : Nat} (hd : dr + 15 ≤ d + 1) (hdr : 12 ≤ dr) {N : Nat} {rE : Nat → Int32 → eH → Option ((Unit ⊕ Nat) × eH)} {rN : Nat → eH → Option ((Int32 ⊕ Nat) × eH)} (hrE : ∀ a t0 h q, rE a t0 h = some q → wm w dr YX8_expand [.ref a, .int t0] h (e_is (e_rt c_V q))) (hrN : ∀ a h q, rN a h = some q → wm w dr YX8_number [.ref a] h (e_is (e_rt c_I q))) {l0 : Nat} {l1 : Int64} {l3 : Int64} {l8 : Int64} {l10 : Int32} {s0 : Int64} {h : eH} {q} (hf : fX8_united_b290 N rE rN l0 l1 l3 l8 l10 s0 h = some q) : wp w (d + 1) YX8_united 290 [some (.ref l0), some (.long l1), none, some (.long l3), none, none, none, none, some (.long l8), none, some (.int l10)] [.long s0] h (e_is (e_rt c_J q)) := by
  unfold fX8_united_b290 at hf
  refine w_lstore dX8_united_290 (by decide) (ls' := [some (.ref l0), some (.long l1), none, some (.long l3), none, none, some (.long s0), none, some (.long l8), none, some (.int l10)]) rfl ?_
  refine w_aload_n dX8_united_292 rfl rfl ?_
  obtain ⟨_, b1, hf⟩ := Option.bind_eq_some_iff.mp hf
  refine x_ctV hf (e_stV (Yc := YX8_dropSpace) (ci := 7) (av := []) (st := []) dX8_united_293 q2774 mX8_dropSpace rfl (k_ok_some b1).1 (k_ok_some b1).2) mX8_dropSpace.2.2.1 mX8_dropSpace.2.2.2.2.1 (Nat.le_of_ble_eq_true rfl) (Nat.le_of_ble_eq_true rfl) rfl (fun q hq => pX8_dropSpace (by omega) hdr hrE hq) (fun x2 h3 hf => ?_)
  refine w_iload dX8_united_296 rfl ?_
  refine w_if_eq 310 dX8_united_298 (by decide) (fun c4 => ?_) (fun c4 => ?_)
  · replace hf := (if_pos (show l10 = 0 from c4)).symm.trans hf
    exact (pX8_united_b310 hd hdr hrE hrN hf).to ⟨rfl, rfl, rfl, rfl, trivial⟩
  · replace hf := (if_neg (show ¬ (l10 = 0) from c4)).symm.trans hf
    refine w_aload_n dX8_united_301 rfl rfl ?_
    refine w_ldc2 dX8_united_302 q2733 ?_
    refine w_lload_n dX8_united_305 rfl rfl ?_
    refine w_lload_n dX8_united_306 rfl rfl ?_
    obtain ⟨_, b5, hf⟩ := Option.bind_eq_some_iff.mp hf
    refine x_ctV hf (e_stV (Yc := YX8_below) (ci := 7) (av := [.long (32768 : Int64), .long l1, .long l3]) (st := []) dX8_united_307 q2734 mX8_below rfl (k_ok_some b5).1 (k_ok_some b5).2) mX8_below.2.2.1 mX8_below.2.2.2.2.1 (Nat.le_of_ble_eq_true rfl) (Nat.le_of_ble_eq_true rfl) rfl (fun q hq => pX8_below (by omega) hq) (fun x6 h7 hf => ?_)
    exact (pX8_united_b310 hd hdr hrE hrN hf).to ⟨rfl, rfl, rfl, rfl, trivial⟩
def fX8_united_b266 (N : Nat) (rE : Nat → Int32 → eH → Option ((Unit ⊕ Nat) × eH)) (rN : Nat → eH → Option ((Int32 ⊕ Nat) × eH)) (l0 : Nat) (l1 : Int64) (l3 : Int64) (l6 : Int64) (l8 : Int64) (l10 : Int32) (h : eH) : Option ((Int64 ⊕ Nat) × eH) :=
  if (lg_cmp l8 (1 : Int64)) ≤ 0 then
    if l10 = 0 then
      fX8_united_b290 N rE rN l0 l1 l3 l8 l10 (1 : Int64) h
    else
      fX8_united_b290 N rE rN l0 l1 l3 l8 l10 l6 h
  else
    fX8_united_b290 N rE rN l0 l1 l3 l8 l10 (473628672 : Int64) h
theorem pX8_united_b266 {w : eW} {d : Nat} {dr : Nat} (hd : dr + 15 ≤ d + 1) (hdr : 12 ≤ dr) {N : Nat} {rE : Nat → Int32 → eH → Option ((Unit ⊕ Nat) × eH)} {rN : Nat → eH → Option ((Int32 ⊕ Nat) × eH)} (hrE : ∀ a t0 h q, rE a t0 h = some q → wm w dr YX8_expand [.ref a, .int t0] h (e_is (e_rt c_V q))) (hrN : ∀ a h q, rN a h = some q → wm w dr YX8_number [.ref a] h (e_is (e_rt c_I q))) {l0 : Nat} {l1 : Int64} {l3 : Int64} {l6 : Int64} {l8 : Int64} {l10 : Int32} {h : eH} {q} (hf : fX8_united_b266 N rE rN l0 l1 l3 l6 l8 l10 h = some q) : wp w (d + 1) YX8_united 266 [some (.ref l0), some (.long l1), none, some (.long l3), none, none, some (.long l6), none, some (.long l8), none, some (.int l10)] [] h (e_is (e_rt c_J q)) := by
  unfold fX8_united_b266 at hf
  refine w_lload dX8_united_266 rfl ?_
  refine w_lconst dX8_united_268 (v := 1) (by decide) ?_
  refine w_lcmp dX8_united_269 ?_
  refine w_if_le 279 dX8_united_270 (by decide) (fun c1 => ?_) (fun c1 => ?_)
  · replace hf := (if_pos (show (lg_cmp l8 (1 : Int64)) ≤ 0 from c1)).symm.trans hf
    refine w_iload dX8_united_279 rfl ?_
    refine w_if_eq 289 dX8_united_281 (by decide) (fun c2 => ?_) (fun c2 => ?_)
    · replace hf := (if_pos (show l10 = 0 from c2)).symm.trans hf
      refine w_lconst dX8_united_289 (v := 1) (by decide) ?_
      exact (pX8_united_b290 hd hdr hrE hrN hf).to ⟨rfl, rfl, rfl, rfl, rfl, trivial⟩
    · replace hf := (if_neg (show ¬ (l10 = 0) from c2)).symm.trans hf
      refine w_lload dX8_united_284 rfl ?_
      refine w_goto 290 dX8_united_286 (by decide) ?_
      exact (pX8_united_b290 hd hdr hrE hrN hf).to ⟨rfl, rfl, rfl, rfl, rfl, trivial⟩
  · replace hf := (if_neg (show ¬ ((lg_cmp l8 (1 : Int64)) ≤ 0) from c1)).symm.trans hf
    refine w_ldc2 dX8_united_273 q2773 ?_
    refine w_goto 290 dX8_united_276 (by decide) ?_
    exact (pX8_united_b290 hd hdr hrE hrN hf).to ⟨rfl, rfl, rfl, rfl, rfl, trivial⟩
def fX8_united_b16 (N : Nat) (rE : Nat → Int32 → eH → Option ((Unit ⊕ Nat) × eH)) (rN : Nat → eH → Option ((Int32 ⊕ Nat) × eH)) : Nat → Nat → Int64 → Int64 → Int32 → eH → Option ((Int64 ⊕ Nat) × eH)
  | 0, _, _, _, _, _ => none
  | n + 1, l0, l1, l3, l5, h =>
    (fX1_is l5 (10 : Int32) h).bind fun q1 =>
    if q1.1 = 0 then
      (k_ok 7 q1.2 l0).bind fun _ =>
      (fX8_isSized l0 l5 q1.2).bind fun q4 =>
      if q4.1 = 0 then
        (g_A 7 q4.2 l0 7).bind fun a6 =>
        (k_ok 12 q4.2 a6).bind fun _ =>
        (fX13_put a6 l5 q4.2).bind fun q9 =>
        (k_ok 7 q9.2 l0).bind fun _ =>
        t_B (fX8_keyword N rE l0 1000000102 q9.2) fun x11 h12 =>
        if x11 = 0 then
          (k_ok 7 h12 l0).bind fun _ =>
          t_B (fX8_keyword N rE l0 1000000103 h12) fun x15 h16 =>
          if x15 = 0 then
            (k_ok 7 h16 l0).bind fun _ =>
            t_B (fX8_keyword N rE l0 1000000104 h16) fun x19 h20 =>
            if x19 = 0 then
              (k_ok 7 h20 l0).bind fun _ =>
              t_B (fX8_keyword N rE l0 1000000105 h20) fun x23 h24 =>
              if x23 = 0 then
                (k_ok 7 h24 l0).bind fun _ =>
                t_B (fX8_keyword N rE l0 1000000106 h24) fun x27 h28 =>
                if x27 = 0 then
                  (k_ok 7 h28 l0).bind fun _ =>
                  t_B (fX8_keyword N rE l0 1000000107 h28) fun x31 h32 =>
                  if x31 = 0 then
                    (k_ok 7 h32 l0).bind fun _ =>
                    t_B (fX8_keyword N rE l0 1000000108 h32) fun x35 h36 =>
                    if x35 = 0 then
                      (k_ok 7 h36 l0).bind fun _ =>
                      t_B (fX8_keyword N rE l0 1000000109 h36) fun x39 h40 =>
                      if x39 = 0 then
                        (k_ok 7 h40 l0).bind fun _ =>
                        t_B (fX8_keyword N rE l0 1000000110 h40) fun x43 h44 =>
                        if x43 = 0 then
                          (g_A 7 h44 l0 0).bind fun a46 =>
                          (k_ok 3 h44 a46).bind fun _ =>
                          t_B (fX4_fail a46 (6 : Int32) h44) fun x49 h50 =>
                          fX8_united_b266 N rE rN l0 l1 l3 (65536 : Int64) (1 : Int64) (1 : Int32) h50
                        else
                          (k_ok 7 h44 l0).bind fun _ =>
                          (fX8_parameter l0 (5 : Int32) h44).bind fun q52 =>
                          fX8_united_b266 N rE rN l0 l1 l3 (q52.1).toInt64 (1 : Int64) (1 : Int32) q52.2
                      else
                        (k_ok 7 h40 l0).bind fun _ =>
                        (fX8_parameter l0 (6 : Int32) h40).bind fun q54 =>
                        fX8_united_b266 N rE rN l0 l1 l3 (q54.1).toInt64 (1 : Int64) (1 : Int32) q54.2
                    else
                      fX8_united_b266 N rE rN l0 l1 l3 (65536 : Int64) (1 : Int64) (0 : Int32) h36
                  else
                    fX8_united_b266 N rE rN l0 l1 l3 (65536 : Int64) (2540 : Int64) (1 : Int32) h32
                else
                  fX8_united_b266 N rE rN l0 l1 l3 (65536 : Int64) (254 : Int64) (1 : Int32) h28
              else
                fX8_united_b266 N rE rN l0 l1 l3 (65536 : Int64) (7200 : Int64) (1 : Int32) h24
            else
              fX8_united_b266 N rE rN l0 l1 l3 (65536 : Int64) (100 : Int64) (1 : Int32) h20
          else
            fX8_united_b266 N rE rN l0 l1 l3 (786432 : Int64) (1 : Int64) (1 : Int32) h16
        else
          fX8_united_b266 N rE rN l0 l1 l3 (65536 : Int64) (1 : Int64) (1 : Int32) h12
      else
        (k_ok 7 q4.2 l0).bind fun _ =>
        t_B (fX8_sized rN l0 l5 q4.2) fun x56 h57 =>
        (k_ok 7 h57 l0).bind fun _ =>
        t_B (fX8_below l0 (32768 : Int64) l1 l3 h57) fun x59 h60 =>
        (fX8_nearest l1 (x56).toInt64 l3 h60).bind fun q61 =>
        some (.inl q61.1, q61.2)
    else
      (k_ok 7 q1.2 l0).bind fun _ =>
      t_B (fX8_needExpanded N rE l0 q1.2) fun x63 h64 =>
      fX8_united_b16 N rE rN n l0 l1 l3 x63 h64
theorem pX8_united_b16 {w : eW} {d : Nat} {dr : Nat} (hd : dr + 15 ≤ d + 1) (hdr : 12 ≤ dr) {N : Nat} {rE : Nat → Int32 → eH → Option ((Unit ⊕ Nat) × eH)} {rN : Nat → eH → Option ((Int32 ⊕ Nat) × eH)} (hrE : ∀ a t0 h q, rE a t0 h = some q → wm w dr YX8_expand [.ref a, .int t0] h (e_is (e_rt c_V q))) (hrN : ∀ a h q, rN a h = some q → wm w dr YX8_number [.ref a] h (e_is (e_rt c_I q))) : ∀ (n : Nat) l0 l1 l3 l5 h q, fX8_united_b16 N rE rN n l0 l1 l3 l5 h = some q → wp w (d + 1) YX8_united 16 [some (.ref l0), some (.long l1), none, some (.long l3), none, some (.int l5), none, none, none, none, none] [] h (e_is (e_rt c_J q)) := by
  intro n
  induction n with
  | zero => intro l0 l1 l3 l5 h q hf; simp [fX8_united_b16] at hf
  | succ n ih =>
    intro l0 l1 l3 l5 h q hf
    rw [fX8_united_b16] at hf
    refine w_iload dX8_united_16 rfl ?_
    refine w_bipush dX8_united_18 (v := 10) (by decide) ?_
    refine x_cnI hf (e_stSN (Yc := YX1_is) (av := [.int l5, .int (10 : Int32)]) (st := []) dX8_united_20 q2518 mX1_is) mX1_is.2.2.1 mX1_is.2.2.2.2.1 (Nat.le_of_ble_eq_true rfl) (Nat.le_of_ble_eq_true rfl) (fun q hq => pX1_is (by omega) hq) (fun q1 hf => ?_)
    refine w_if_eq 35 dX8_united_23 (by decide) (fun c2 => ?_) (fun c2 => ?_)
    · replace hf := (if_pos (show q1.1 = 0 from c2)).symm.trans hf
      refine w_aload_n dX8_united_35 rfl rfl ?_
      refine w_iload dX8_united_36 rfl ?_
      obtain ⟨_, b3, hf⟩ := Option.bind_eq_some_iff.mp hf
      refine x_cnI hf (e_stV (Yc := YX8_isSized) (ci := 7) (av := [.int l5]) (st := []) dX8_united_38 q2615 mX8_isSized rfl (k_ok_some b3).1 (k_ok_some b3).2) mX8_isSized.2.2.1 mX8_isSized.2.2.2.2.1 (Nat.le_of_ble_eq_true rfl) (Nat.le_of_ble_eq_true rfl) (fun q hq => pX8_isSized (by omega) hq) (fun q4 hf => ?_)
      refine w_if_eq 70 dX8_united_41 (by decide) (fun c5 => ?_) (fun c5 => ?_)
      · replace hf := (if_pos (show q4.1 = 0 from c5)).symm.trans hf
        refine w_aload_n dX8_united_70 rfl rfl ?_
        obtain ⟨a6, b7, hf⟩ := Option.bind_eq_some_iff.mp hf
        refine GX8_93 b7 dX8_united_71 rfl ?_
        refine w_iload dX8_united_74 rfl ?_
        obtain ⟨_, b8, hf⟩ := Option.bind_eq_some_iff.mp hf
        refine x_cnV hf (e_stV (Yc := YX13_put) (ci := 12) (av := [.int l5]) (st := []) dX8_united_76 q2558 mX13_put rfl (k_ok_some b8).1 (k_ok_some b8).2) mX13_put.2.2.1 mX13_put.2.2.2.2.1 (Nat.le_of_ble_eq_true rfl) (Nat.le_of_ble_eq_true rfl) (fun q hq => pX13_put (by omega) hq) (fun q9 hf => ?_)
        refine w_ldc2 dX8_united_79 q2741 ?_
        refine w_lstore dX8_united_82 (by decide) (ls' := [some (.ref l0), some (.long l1), none, some (.long l3), none, some (.int l5), some (.long (65536 : Int64)), none, none, none, none]) rfl ?_
        refine w_lconst dX8_united_84 (v := 1) (by decide) ?_
        refine w_lstore dX8_united_85 (by decide) (ls' := [some (.ref l0), some (.long l1), none, some (.long l3), none, some (.int l5), some (.long (65536 : Int64)), none, some (.long (1 : Int64)), none, none]) rfl ?_
        refine w_iconst dX8_united_87 (v := 1) (by decide) ?_
        refine w_istore dX8_united_88 (by decide) (ls' := [some (.ref l0), some (.long l1), none, some (.long l3), none, some (.int l5), some (.long (65536 : Int64)), none, some (.long (1 : Int64)), none, some (.int (1 : Int32))]) rfl ?_
        refine w_aload_n dX8_united_90 rfl rfl ?_
        refine x_ldcSw (k := 2) dX8_united_91 rfl ?_
        obtain ⟨_, b10, hf⟩ := Option.bind_eq_some_iff.mp hf
        refine x_ctI hf (e_stV (Yc := YX8_keyword) (ci := 7) (av := [.ref 1000000102]) (st := []) dX8_united_94 q2743 mX8_keyword rfl (k_ok_some b10).1 (k_ok_some b10).2) mX8_keyword.2.2.1 mX8_keyword.2.2.2.2.1 (Nat.le_of_ble_eq_true rfl) (Nat.le_of_ble_eq_true rfl) rfl (fun q hq => pX8_keyword (by omega) hdr hrE hq) (fun x11 h12 hf => ?_)
        refine w_if_eq 108 dX8_united_97 (by decide) (fun c13 => ?_) (fun c13 => ?_)
        · replace hf := (if_pos (show x11 = 0 from c13)).symm.trans hf
          refine w_aload_n dX8_united_108 rfl rfl ?_
          refine x_ldcSw (k := 3) dX8_united_109 rfl ?_
          obtain ⟨_, b14, hf⟩ := Option.bind_eq_some_iff.mp hf
          refine x_ctI hf (e_stV (Yc := YX8_keyword) (ci := 7) (av := [.ref 1000000103]) (st := []) dX8_united_112 q2743 mX8_keyword rfl (k_ok_some b14).1 (k_ok_some b14).2) mX8_keyword.2.2.1 mX8_keyword.2.2.2.2.1 (Nat.le_of_ble_eq_true rfl) (Nat.le_of_ble_eq_true rfl) rfl (fun q hq => pX8_keyword (by omega) hdr hrE hq) (fun x15 h16 hf => ?_)
          refine w_if_eq 126 dX8_united_115 (by decide) (fun c17 => ?_) (fun c17 => ?_)
          · replace hf := (if_pos (show x15 = 0 from c17)).symm.trans hf
            refine w_aload_n dX8_united_126 rfl rfl ?_
            refine x_ldcSw (k := 4) dX8_united_127 rfl ?_
            obtain ⟨_, b18, hf⟩ := Option.bind_eq_some_iff.mp hf
            refine x_ctI hf (e_stV (Yc := YX8_keyword) (ci := 7) (av := [.ref 1000000104]) (st := []) dX8_united_130 q2743 mX8_keyword rfl (k_ok_some b18).1 (k_ok_some b18).2) mX8_keyword.2.2.1 mX8_keyword.2.2.2.2.1 (Nat.le_of_ble_eq_true rfl) (Nat.le_of_ble_eq_true rfl) rfl (fun q hq => pX8_keyword (by omega) hdr hrE hq) (fun x19 h20 hf => ?_)
            refine w_if_eq 144 dX8_united_133 (by decide) (fun c21 => ?_) (fun c21 => ?_)
            · replace hf := (if_pos (show x19 = 0 from c21)).symm.trans hf
              refine w_aload_n dX8_united_144 rfl rfl ?_
              refine x_ldcSw (k := 5) dX8_united_145 rfl ?_
              obtain ⟨_, b22, hf⟩ := Option.bind_eq_some_iff.mp hf
              refine x_ctI hf (e_stV (Yc := YX8_keyword) (ci := 7) (av := [.ref 1000000105]) (st := []) dX8_united_148 q2743 mX8_keyword rfl (k_ok_some b22).1 (k_ok_some b22).2) mX8_keyword.2.2.1 mX8_keyword.2.2.2.2.1 (Nat.le_of_ble_eq_true rfl) (Nat.le_of_ble_eq_true rfl) rfl (fun q hq => pX8_keyword (by omega) hdr hrE hq) (fun x23 h24 hf => ?_)
              refine w_if_eq 162 dX8_united_151 (by decide) (fun c25 => ?_) (fun c25 => ?_)
              · replace hf := (if_pos (show x23 = 0 from c25)).symm.trans hf
                refine w_aload_n dX8_united_162 rfl rfl ?_
                refine x_ldcSw (k := 6) dX8_united_163 rfl ?_
                obtain ⟨_, b26, hf⟩ := Option.bind_eq_some_iff.mp hf
                refine x_ctI hf (e_stV (Yc := YX8_keyword) (ci := 7) (av := [.ref 1000000106]) (st := []) dX8_united_166 q2743 mX8_keyword rfl (k_ok_some b26).1 (k_ok_some b26).2) mX8_keyword.2.2.1 mX8_keyword.2.2.2.2.1 (Nat.le_of_ble_eq_true rfl) (Nat.le_of_ble_eq_true rfl) rfl (fun q hq => pX8_keyword (by omega) hdr hrE hq) (fun x27 h28 hf => ?_)
                refine w_if_eq 180 dX8_united_169 (by decide) (fun c29 => ?_) (fun c29 => ?_)
                · replace hf := (if_pos (show x27 = 0 from c29)).symm.trans hf
                  refine w_aload_n dX8_united_180 rfl rfl ?_
                  refine x_ldcSw (k := 7) dX8_united_181 rfl ?_
                  obtain ⟨_, b30, hf⟩ := Option.bind_eq_some_iff.mp hf
                  refine x_ctI hf (e_stV (Yc := YX8_keyword) (ci := 7) (av := [.ref 1000000107]) (st := []) dX8_united_184 q2743 mX8_keyword rfl (k_ok_some b30).1 (k_ok_some b30).2) mX8_keyword.2.2.1 mX8_keyword.2.2.2.2.1 (Nat.le_of_ble_eq_true rfl) (Nat.le_of_ble_eq_true rfl) rfl (fun q hq => pX8_keyword (by omega) hdr hrE hq) (fun x31 h32 hf => ?_)
                  refine w_if_eq 198 dX8_united_187 (by decide) (fun c33 => ?_) (fun c33 => ?_)
                  · replace hf := (if_pos (show x31 = 0 from c33)).symm.trans hf
                    refine w_aload_n dX8_united_198 rfl rfl ?_
                    refine x_ldcSw (k := 8) dX8_united_199 rfl ?_
                    obtain ⟨_, b34, hf⟩ := Option.bind_eq_some_iff.mp hf
                    refine x_ctI hf (e_stV (Yc := YX8_keyword) (ci := 7) (av := [.ref 1000000108]) (st := []) dX8_united_202 q2743 mX8_keyword rfl (k_ok_some b34).1 (k_ok_some b34).2) mX8_keyword.2.2.1 mX8_keyword.2.2.2.2.1 (Nat.le_of_ble_eq_true rfl) (Nat.le_of_ble_eq_true rfl) rfl (fun q hq => pX8_keyword (by omega) hdr hrE hq) (fun x35 h36 hf => ?_)
                    refine w_if_eq 214 dX8_united_205 (by decide) (fun c37 => ?_) (fun c37 => ?_)
                    · replace hf := (if_pos (show x35 = 0 from c37)).symm.trans hf
                      refine w_aload_n dX8_united_214 rfl rfl ?_
                      refine x_ldcSw (k := 9) dX8_united_215 rfl ?_
                      obtain ⟨_, b38, hf⟩ := Option.bind_eq_some_iff.mp hf
                      refine x_ctI hf (e_stV (Yc := YX8_keyword) (ci := 7) (av := [.ref 1000000109]) (st := []) dX8_united_218 q2743 mX8_keyword rfl (k_ok_some b38).1 (k_ok_some b38).2) mX8_keyword.2.2.1 mX8_keyword.2.2.2.2.1 (Nat.le_of_ble_eq_true rfl) (Nat.le_of_ble_eq_true rfl) rfl (fun q hq => pX8_keyword (by omega) hdr hrE hq) (fun x39 h40 hf => ?_)
                      refine w_if_eq 236 dX8_united_221 (by decide) (fun c41 => ?_) (fun c41 => ?_)
                      · replace hf := (if_pos (show x39 = 0 from c41)).symm.trans hf
                        refine w_aload_n dX8_united_236 rfl rfl ?_
                        refine x_ldcSw (k := 10) dX8_united_237 rfl ?_
                        obtain ⟨_, b42, hf⟩ := Option.bind_eq_some_iff.mp hf
                        refine x_ctI hf (e_stV (Yc := YX8_keyword) (ci := 7) (av := [.ref 1000000110]) (st := []) dX8_united_240 q2743 mX8_keyword rfl (k_ok_some b42).1 (k_ok_some b42).2) mX8_keyword.2.2.1 mX8_keyword.2.2.2.2.1 (Nat.le_of_ble_eq_true rfl) (Nat.le_of_ble_eq_true rfl) rfl (fun q hq => pX8_keyword (by omega) hdr hrE hq) (fun x43 h44 hf => ?_)
                        refine w_if_eq 257 dX8_united_243 (by decide) (fun c45 => ?_) (fun c45 => ?_)
                        · replace hf := (if_pos (show x43 = 0 from c45)).symm.trans hf
                          refine w_aload_n dX8_united_257 rfl rfl ?_
                          obtain ⟨a46, b47, hf⟩ := Option.bind_eq_some_iff.mp hf
                          refine GX8_51 b47 dX8_united_258 rfl ?_
                          refine w_bipush dX8_united_261 (v := 6) (by decide) ?_
                          obtain ⟨_, b48, hf⟩ := Option.bind_eq_some_iff.mp hf
                          refine x_ctV hf (e_stV (Yc := YX4_fail) (ci := 3) (av := [.int (6 : Int32)]) (st := []) dX8_united_263 q2772 mX4_fail rfl (k_ok_some b48).1 (k_ok_some b48).2) mX4_fail.2.2.1 mX4_fail.2.2.2.2.1 (Nat.le_of_ble_eq_true rfl) (Nat.le_of_ble_eq_true rfl) rfl (fun q hq => pX4_fail (by omega) hq) (fun x49 h50 hf => ?_)
                          exact (pX8_united_b266 hd hdr hrE hrN hf).to ⟨rfl, rfl, rfl, rfl, rfl, rfl, trivial⟩
                        · replace hf := (if_neg (show ¬ (x43 = 0) from c45)).symm.trans hf
                          refine w_aload_n dX8_united_246 rfl rfl ?_
                          refine w_iconst dX8_united_247 (v := 5) (by decide) ?_
                          obtain ⟨_, b51, hf⟩ := Option.bind_eq_some_iff.mp hf
                          refine x_cnI hf (e_stV (Yc := YX8_parameter) (ci := 7) (av := [.int (5 : Int32)]) (st := []) dX8_united_248 q2763 mX8_parameter rfl (k_ok_some b51).1 (k_ok_some b51).2) mX8_parameter.2.2.1 mX8_parameter.2.2.2.2.1 (Nat.le_of_ble_eq_true rfl) (Nat.le_of_ble_eq_true rfl) (fun q hq => pX8_parameter (by omega) hq) (fun q52 hf => ?_)
                          refine w_i2l dX8_united_251 ?_
                          refine w_lstore dX8_united_252 (by decide) (ls' := [some (.ref l0), some (.long l1), none, some (.long l3), none, some (.int l5), some (.long (q52.1).toInt64), none, some (.long (1 : Int64)), none, some (.int (1 : Int32))]) rfl ?_
                          refine w_goto 266 dX8_united_254 (by decide) ?_
                          exact (pX8_united_b266 hd hdr hrE hrN hf).to ⟨rfl, rfl, rfl, rfl, rfl, rfl, trivial⟩
                      · replace hf := (if_neg (show ¬ (x39 = 0) from c41)).symm.trans hf
                        refine w_aload_n dX8_united_224 rfl rfl ?_
                        refine w_bipush dX8_united_225 (v := 6) (by decide) ?_
                        obtain ⟨_, b53, hf⟩ := Option.bind_eq_some_iff.mp hf
                        refine x_cnI hf (e_stV (Yc := YX8_parameter) (ci := 7) (av := [.int (6 : Int32)]) (st := []) dX8_united_227 q2763 mX8_parameter rfl (k_ok_some b53).1 (k_ok_some b53).2) mX8_parameter.2.2.1 mX8_parameter.2.2.2.2.1 (Nat.le_of_ble_eq_true rfl) (Nat.le_of_ble_eq_true rfl) (fun q hq => pX8_parameter (by omega) hq) (fun q54 hf => ?_)
                        refine w_i2l dX8_united_230 ?_
                        refine w_lstore dX8_united_231 (by decide) (ls' := [some (.ref l0), some (.long l1), none, some (.long l3), none, some (.int l5), some (.long (q54.1).toInt64), none, some (.long (1 : Int64)), none, some (.int (1 : Int32))]) rfl ?_
                        refine w_goto 266 dX8_united_233 (by decide) ?_
                        exact (pX8_united_b266 hd hdr hrE hrN hf).to ⟨rfl, rfl, rfl, rfl, rfl, rfl, trivial⟩
                    · replace hf := (if_neg (show ¬ (x35 = 0) from c37)).symm.trans hf
                      refine w_iconst dX8_united_208 (v := 0) (by decide) ?_
                      refine w_istore dX8_united_209 (by decide) (ls' := [some (.ref l0), some (.long l1), none, some (.long l3), none, some (.int l5), some (.long (65536 : Int64)), none, some (.long (1 : Int64)), none, some (.int (0 : Int32))]) rfl ?_
                      refine w_goto 266 dX8_united_211 (by decide) ?_
                      exact (pX8_united_b266 hd hdr hrE hrN hf).to ⟨rfl, rfl, rfl, rfl, rfl, rfl, trivial⟩
                  · replace hf := (if_neg (show ¬ (x31 = 0) from c33)).symm.trans hf
                    refine w_ldc2 dX8_united_190 q2760 ?_
                    refine w_lstore dX8_united_193 (by decide) (ls' := [some (.ref l0), some (.long l1), none, some (.long l3), none, some (.int l5), some (.long (65536 : Int64)), none, some (.long (2540 : Int64)), none, some (.int (1 : Int32))]) rfl ?_
                    refine w_goto 266 dX8_united_195 (by decide) ?_
                    exact (pX8_united_b266 hd hdr hrE hrN hf).to ⟨rfl, rfl, rfl, rfl, rfl, rfl, trivial⟩
                · replace hf := (if_neg (show ¬ (x27 = 0) from c29)).symm.trans hf
                  refine w_ldc2 dX8_united_172 q2758 ?_
                  refine w_lstore dX8_united_175 (by decide) (ls' := [some (.ref l0), some (.long l1), none, some (.long l3), none, some (.int l5), some (.long (65536 : Int64)), none, some (.long (254 : Int64)), none, some (.int (1 : Int32))]) rfl ?_
                  refine w_goto 266 dX8_united_177 (by decide) ?_
                  exact (pX8_united_b266 hd hdr hrE hrN hf).to ⟨rfl, rfl, rfl, rfl, rfl, rfl, trivial⟩
              · replace hf := (if_neg (show ¬ (x23 = 0) from c25)).symm.trans hf
                refine w_ldc2 dX8_united_154 q2756 ?_
                refine w_lstore dX8_united_157 (by decide) (ls' := [some (.ref l0), some (.long l1), none, some (.long l3), none, some (.int l5), some (.long (65536 : Int64)), none, some (.long (7200 : Int64)), none, some (.int (1 : Int32))]) rfl ?_
                refine w_goto 266 dX8_united_159 (by decide) ?_
                exact (pX8_united_b266 hd hdr hrE hrN hf).to ⟨rfl, rfl, rfl, rfl, rfl, rfl, trivial⟩
            · replace hf := (if_neg (show ¬ (x19 = 0) from c21)).symm.trans hf
              refine w_ldc2 dX8_united_136 q2754 ?_
              refine w_lstore dX8_united_139 (by decide) (ls' := [some (.ref l0), some (.long l1), none, some (.long l3), none, some (.int l5), some (.long (65536 : Int64)), none, some (.long (100 : Int64)), none, some (.int (1 : Int32))]) rfl ?_
              refine w_goto 266 dX8_united_141 (by decide) ?_
              exact (pX8_united_b266 hd hdr hrE hrN hf).to ⟨rfl, rfl, rfl, rfl, rfl, rfl, trivial⟩
          · replace hf := (if_neg (show ¬ (x15 = 0) from c17)).symm.trans hf
            refine w_ldc2 dX8_united_118 q2752 ?_
            refine w_lstore dX8_united_121 (by decide) (ls' := [some (.ref l0), some (.long l1), none, some (.long l3), none, some (.int l5), some (.long (786432 : Int64)), none, some (.long (1 : Int64)), none, some (.int (1 : Int32))]) rfl ?_
            refine w_goto 266 dX8_united_123 (by decide) ?_
            exact (pX8_united_b266 hd hdr hrE hrN hf).to ⟨rfl, rfl, rfl, rfl, rfl, rfl, trivial⟩
        · replace hf := (if_neg (show ¬ (x11 = 0) from c13)).symm.trans hf
          refine w_ldc2 dX8_united_100 q2741 ?_
          refine w_lstore dX8_united_103 (by decide) (ls' := [some (.ref l0), some (.long l1), none, some (.long l3), none, some (.int l5), some (.long (65536 : Int64)), none, some (.long (1 : Int64)), none, some (.int (1 : Int32))]) rfl ?_
          refine w_goto 266 dX8_united_105 (by decide) ?_
          exact (pX8_united_b266 hd hdr hrE hrN hf).to ⟨rfl, rfl, rfl, rfl, rfl, rfl, trivial⟩
      · replace hf := (if_neg (show ¬ (q4.1 = 0) from c5)).symm.trans hf
        refine w_aload_n dX8_united_44 rfl rfl ?_
        refine w_iload dX8_united_45 rfl ?_
        obtain ⟨_, b55, hf⟩ := Option.bind_eq_some_iff.mp hf
        refine x_ctI hf (e_stV (Yc := YX8_sized) (ci := 7) (av := [.int l5]) (st := []) dX8_united_47 q2625 mX8_sized rfl (k_ok_some b55).1 (k_ok_some b55).2) mX8_sized.2.2.1 mX8_sized.2.2.2.2.1 (Nat.le_of_ble_eq_true rfl) (Nat.le_of_ble_eq_true rfl) rfl (fun q hq => pX8_sized (by omega) hdr hrN hq) (fun x56 h57 hf => ?_)
        refine w_istore dX8_united_50 (by decide) (ls' := [some (.ref l0), some (.long l1), none, some (.long l3), none, some (.int l5), some (.int x56), none, none, none, none]) rfl ?_
        refine w_aload_n dX8_united_52 rfl rfl ?_
        refine w_ldc2 dX8_united_53 q2733 ?_
        refine w_lload_n dX8_united_56 rfl rfl ?_
        refine w_lload_n dX8_united_57 rfl rfl ?_
        obtain ⟨_, b58, hf⟩ := Option.bind_eq_some_iff.mp hf
        refine x_ctV hf (e_stV (Yc := YX8_below) (ci := 7) (av := [.long (32768 : Int64), .long l1, .long l3]) (st := []) dX8_united_58 q2734 mX8_below rfl (k_ok_some b58).1 (k_ok_some b58).2) mX8_below.2.2.1 mX8_below.2.2.2.2.1 (Nat.le_of_ble_eq_true rfl) (Nat.le_of_ble_eq_true rfl) rfl (fun q hq => pX8_below (by omega) hq) (fun x59 h60 hf => ?_)
        refine w_lload_n dX8_united_61 rfl rfl ?_
        refine w_iload dX8_united_62 rfl ?_
        refine w_i2l dX8_united_64 ?_
        refine w_lload_n dX8_united_65 rfl rfl ?_
        refine x_cnJ hf (e_stS (Yc := YX8_nearest) (av := [.long l1, .long (x56).toInt64, .long l3]) (st := []) dX8_united_66 q2738 mX8_nearest) mX8_nearest.2.2.1 mX8_nearest.2.2.2.2.1 (Nat.le_of_ble_eq_true rfl) (Nat.le_of_ble_eq_true rfl) (fun q hq => pX8_nearest (by omega) hq) (fun q61 hf => ?_)
        cases hf
        exact w_lret dX8_united_69 rfl rfl
    · replace hf := (if_neg (show ¬ (q1.1 = 0) from c2)).symm.trans hf
      refine w_aload_n dX8_united_26 rfl rfl ?_
      obtain ⟨_, b62, hf⟩ := Option.bind_eq_some_iff.mp hf
      refine x_ctI hf (e_stV (Yc := YX8_needExpanded) (ci := 7) (av := []) (st := []) dX8_united_27 q2563 mX8_needExpanded rfl (k_ok_some b62).1 (k_ok_some b62).2) mX8_needExpanded.2.2.1 mX8_needExpanded.2.2.2.2.1 (Nat.le_of_ble_eq_true rfl) (Nat.le_of_ble_eq_true rfl) rfl (fun q hq => pX8_needExpanded (by omega) hdr hrE hq) (fun x63 h64 hf => ?_)
      refine w_istore dX8_united_30 (by decide) (ls' := [some (.ref l0), some (.long l1), none, some (.long l3), none, some (.int x63), none, none, none, none, none]) rfl ?_
      refine w_goto 16 dX8_united_32 (by decide) ?_
      exact (ih _ _ _ _ _ _ hf).to ⟨rfl, rfl, rfl, rfl, trivial⟩
def fX8_united (N : Nat) (rE : Nat → Int32 → eH → Option ((Unit ⊕ Nat) × eH)) (rN : Nat → eH → Option ((Int32 ⊕ Nat) × eH)) (this : Nat) (h : eH) : Option ((Int64 ⊕ Nat) × eH) :=
  (g_J 7 h this 25).bind fun x1 =>
  (g_J 7 h this 26).bind fun x3 =>
  (k_ok 7 h this).bind fun _ =>
  t_B (fX8_needExpanded N rE this h) fun x6 h7 =>
  fX8_united_b16 N rE rN N this x1 x3 x6 h7
theorem pX8_united {w : eW} {d : Nat} {dr : Nat} (hd : dr + 15 ≤ d) (hdr : 12 ≤ dr) {N : Nat} {rE : Nat → Int32 → eH → Option ((Unit ⊕ Nat) × eH)} {rN : Nat → eH → Option ((Int32 ⊕ Nat) × eH)} (hrE : ∀ a t0 h q, rE a t0 h = some q → wm w dr YX8_expand [.ref a, .int t0] h (e_is (e_rt c_V q))) (hrN : ∀ a h q, rN a h = some q → wm w dr YX8_number [.ref a] h (e_is (e_rt c_I q))) {this : Nat} {h : eH} {q} (hf : fX8_united N rE rN this h = some q) : wm w d YX8_united [.ref this] h (e_is (e_rt c_J q)) := by
  obtain ⟨d, rfl⟩ : ∃ e, d = e + 1 := ⟨d - 1, by omega⟩
  show wp w (d + 1) YX8_united 0 [some (.ref this), none, none, none, none, none, none, none, none, none, none] [] h _
  unfold fX8_united at hf
  refine w_aload_n dX8_united_0 rfl rfl ?_
  obtain ⟨x1, b2, hf⟩ := Option.bind_eq_some_iff.mp hf
  refine GX8_389 b2 dX8_united_1 rfl ?_
  refine w_lstore_n dX8_united_4 rfl (by decide) (ls' := [some (.ref this), some (.long x1), none, none, none, none, none, none, none, none, none]) rfl ?_
  refine w_aload_n dX8_united_5 rfl rfl ?_
  obtain ⟨x3, b4, hf⟩ := Option.bind_eq_some_iff.mp hf
  refine GX8_393 b4 dX8_united_6 rfl ?_
  refine w_lstore_n dX8_united_9 rfl (by decide) (ls' := [some (.ref this), some (.long x1), none, some (.long x3), none, none, none, none, none, none, none]) rfl ?_
  refine w_aload_n dX8_united_10 rfl rfl ?_
  obtain ⟨_, b5, hf⟩ := Option.bind_eq_some_iff.mp hf
  refine x_ctI hf (e_stV (Yc := YX8_needExpanded) (ci := 7) (av := []) (st := []) dX8_united_11 q2563 mX8_needExpanded rfl (k_ok_some b5).1 (k_ok_some b5).2) mX8_needExpanded.2.2.1 mX8_needExpanded.2.2.2.2.1 (Nat.le_of_ble_eq_true rfl) (Nat.le_of_ble_eq_true rfl) rfl (fun q hq => pX8_needExpanded (by omega) hdr hrE hq) (fun x6 h7 hf => ?_)
  refine w_istore dX8_united_14 (by decide) (ls' := [some (.ref this), some (.long x1), none, some (.long x3), none, some (.int x6), none, none, none, none, none]) rfl ?_
  exact (pX8_united_b16 hd hdr hrE hrN N _ _ _ _ _ _ hf).to ⟨rfl, rfl, rfl, rfl, trivial⟩
abbrev cX8_size : ByteArray := prog_4_method_46_code
def yX8_size : MethodName := ⟨RX8, "size", "(J)I"⟩
def YX8_size : eY := (yX8_size, cX8_size, 3, (Option.some FieldType.int), [])
theorem mX8_size : e_mv YX8_size RX8 1 := ⟨q2780, qs97, q2781, by decide, by decide +kernel, (e_sig (by decide +kernel))⟩
theorem dX8_size_0 : decode cX8_size 0 = .ok (.aload_n 0, 1) := dc_42 (by decide +kernel)
theorem dX8_size_1 : decode cX8_size 1 = .ok (.getfield 51, 3) := dc_180 (a := 0) (b := 51) (n := 51) (by decide +kernel)
theorem dX8_size_4 : decode cX8_size 4 = .ok (.lload_n 1, 1) := dc_31 (by decide +kernel)
theorem dX8_size_5 : decode cX8_size 5 = .ok (.ldc2_w 396, 3) := dc_20 (a := 1) (b := 140) (n := 396) (by decide +kernel)
theorem dX8_size_8 : decode cX8_size 8 = .ok (.lcmp, 1) := dc_148 (by decide +kernel)
theorem dX8_size_9 : decode cX8_size 9 = .ok (.ifCond .lt 15, 3) := dc_155 (a := 0) (b := 15) (v := 15) (by decide +kernel)
theorem dX8_size_12 : decode cX8_size 12 = .ok (.lload_n 1, 1) := dc_31 (by decide +kernel)
theorem dX8_size_13 : decode cX8_size 13 = .ok (.ldc2_w 398, 3) := dc_20 (a := 1) (b := 142) (n := 398) (by decide +kernel)
theorem dX8_size_16 : decode cX8_size 16 = .ok (.lcmp, 1) := dc_148 (by decide +kernel)
theorem dX8_size_17 : decode cX8_size 17 = .ok (.ifCond .gt 7, 3) := dc_157 (a := 0) (b := 7) (v := 7) (by decide +kernel)
theorem dX8_size_20 : decode cX8_size 20 = .ok (.iconst 1, 1) := dc_4 (by decide +kernel)
theorem dX8_size_21 : decode cX8_size 21 = .ok (.goto 4, 3) := dc_167 (a := 0) (b := 4) (v := 4) (by decide +kernel)
theorem dX8_size_24 : decode cX8_size 24 = .ok (.iconst 0, 1) := dc_3 (by decide +kernel)
theorem dX8_size_25 : decode cX8_size 25 = .ok (.bipush 7, 2) := dc_16 (a := 7) (v := 7) (by decide +kernel)
theorem dX8_size_27 : decode cX8_size 27 = .ok (.invokevirtual 145, 3) := dc_182 (a := 0) (b := 145) (n := 145) (by decide +kernel)
theorem dX8_size_30 : decode cX8_size 30 = .ok (.lload_n 1, 1) := dc_31 (by decide +kernel)
theorem dX8_size_31 : decode cX8_size 31 = .ok (.l2i, 1) := dc_136 (by decide +kernel)
theorem dX8_size_32 : decode cX8_size 32 = .ok (.ireturn, 1) := dc_172 (by decide +kernel)
def fX8_size_b25 (l1 : Int64) (s0 : Nat) (s1 : Int32) (h : eH) : Option ((Int32 ⊕ Nat) × eH) :=
  (k_ok 3 h s0).bind fun _ =>
  t_B (fX4_want s0 s1 (7 : Int32) h) fun x2 h3 =>
  some (.inl (l1).toInt32, h3)
theorem pX8_size_b25 {w : eW} {d : Nat} (hd : 8 ≤ d + 1) {l1 : Int64} {s0 : Nat} {s1 : Int32} {h : eH} {q} (hf : fX8_size_b25 l1 s0 s1 h = some q) : wp w (d + 1) YX8_size 25 [none, some (.long l1), none] [.int s1, .ref s0] h (e_is (e_rt c_I q)) := by
  unfold fX8_size_b25 at hf
  refine w_bipush dX8_size_25 (v := 7) (by decide) ?_
  obtain ⟨_, b1, hf⟩ := Option.bind_eq_some_iff.mp hf
  refine x_ctV hf (e_stV (Yc := YX4_want) (ci := 3) (av := [.int s1, .int (7 : Int32)]) (st := []) dX8_size_27 q2500 mX4_want rfl (k_ok_some b1).1 (k_ok_some b1).2) mX4_want.2.2.1 mX4_want.2.2.2.2.1 (Nat.le_of_ble_eq_true rfl) (Nat.le_of_ble_eq_true rfl) rfl (fun q hq => pX4_want (by omega) hq) (fun x2 h3 hf => ?_)
  refine w_lload_n dX8_size_30 rfl rfl ?_
  refine w_l2i dX8_size_31 ?_
  cases hf
  exact w_iret dX8_size_32 rfl rfl rfl
def fX8_size_b24 (l1 : Int64) (s0 : Nat) (h : eH) : Option ((Int32 ⊕ Nat) × eH) :=
  fX8_size_b25 l1 s0 (0 : Int32) h
theorem pX8_size_b24 {w : eW} {d : Nat} (hd : 8 ≤ d + 1) {l1 : Int64} {s0 : Nat} {h : eH} {q} (hf : fX8_size_b24 l1 s0 h = some q) : wp w (d + 1) YX8_size 24 [none, some (.long l1), none] [.ref s0] h (e_is (e_rt c_I q)) := by
  unfold fX8_size_b24 at hf
  refine w_iconst dX8_size_24 (v := 0) (by decide) ?_
  exact (pX8_size_b25 hd hf).to ⟨rfl, trivial⟩
def fX8_size (this : Nat) (p0 : Int64) (h : eH) : Option ((Int32 ⊕ Nat) × eH) :=
  (g_A 7 h this 0).bind fun a1 =>
  if (lg_cmp p0 (-1073741823 : Int64)) < 0 then
    fX8_size_b24 p0 a1 h
  else
    if 0 < (lg_cmp p0 (1073741823 : Int64)) then
      fX8_size_b24 p0 a1 h
    else
      fX8_size_b25 p0 a1 (1 : Int32) h
theorem pX8_size {w : eW} {d : Nat} (hd : 8 ≤ d) {this : Nat} {p0 : Int64} {h : eH} {q} (hf : fX8_size this p0 h = some q) : wm w d YX8_size [.ref this, .long p0] h (e_is (e_rt c_I q)) := by
  obtain ⟨d, rfl⟩ : ∃ e, d = e + 1 := ⟨d - 1, by omega⟩
  show wp w (d + 1) YX8_size 0 [some (.ref this), some (.long p0), none] [] h _
  unfold fX8_size at hf
  refine w_aload_n dX8_size_0 rfl rfl ?_
  obtain ⟨a1, b2, hf⟩ := Option.bind_eq_some_iff.mp hf
  refine GX8_51 b2 dX8_size_1 rfl ?_
  refine w_lload_n dX8_size_4 rfl rfl ?_
  refine w_ldc2 dX8_size_5 q2782 ?_
  refine w_lcmp dX8_size_8 ?_
  refine w_if_lt 24 dX8_size_9 (by decide) (fun c3 => ?_) (fun c3 => ?_)
  · replace hf := (if_pos (show (lg_cmp p0 (-1073741823 : Int64)) < 0 from c3)).symm.trans hf
    exact (pX8_size_b24 hd hf).to ⟨rfl, trivial⟩
  · replace hf := (if_neg (show ¬ ((lg_cmp p0 (-1073741823 : Int64)) < 0) from c3)).symm.trans hf
    refine w_lload_n dX8_size_12 rfl rfl ?_
    refine w_ldc2 dX8_size_13 q2783 ?_
    refine w_lcmp dX8_size_16 ?_
    refine w_if_gt 24 dX8_size_17 (by decide) (fun c4 => ?_) (fun c4 => ?_)
    · replace hf := (if_pos (show 0 < (lg_cmp p0 (1073741823 : Int64)) from c4)).symm.trans hf
      exact (pX8_size_b24 hd hf).to ⟨rfl, trivial⟩
    · replace hf := (if_neg (show ¬ (0 < (lg_cmp p0 (1073741823 : Int64))) from c4)).symm.trans hf
      refine w_iconst dX8_size_20 (v := 1) (by decide) ?_
      refine w_goto 25 dX8_size_21 (by decide) ?_
      exact (pX8_size_b25 hd hf).to ⟨rfl, trivial⟩
abbrev cX8_dimension_2 : ByteArray := prog_4_method_51_code
def yX8_dimension_2 : MethodName := ⟨RX8, "dimension", "(IZ)I"⟩
def YX8_dimension_2 : eY := (yX8_dimension_2, cX8_dimension_2, 5, (Option.some FieldType.int), [])
theorem mX8_dimension_2 : e_mv YX8_dimension_2 RX8 2 := ⟨q2720, qs90, q2721, by decide, by decide +kernel, (e_sig (by decide +kernel))⟩
theorem dX8_dimension_2_0 : decode cX8_dimension_2 0 = .ok (.aload_n 0, 1) := dc_42 (by decide +kernel)
theorem dX8_dimension_2_1 : decode cX8_dimension_2 1 = .ok (.iload_n 1, 1) := dc_27 (by decide +kernel)
theorem dX8_dimension_2_2 : decode cX8_dimension_2 2 = .ok (.invokevirtual 269, 3) := dc_182 (a := 1) (b := 13) (n := 269) (by decide +kernel)
theorem dX8_dimension_2_5 : decode cX8_dimension_2 5 = .ok (.ifCond .eq 13, 3) := dc_153 (a := 0) (b := 13) (v := 13) (by decide +kernel)
theorem dX8_dimension_2_8 : decode cX8_dimension_2 8 = .ok (.aload_n 0, 1) := dc_42 (by decide +kernel)
theorem dX8_dimension_2_9 : decode cX8_dimension_2 9 = .ok (.iload_n 1, 1) := dc_27 (by decide +kernel)
theorem dX8_dimension_2_10 : decode cX8_dimension_2 10 = .ok (.invokevirtual 272, 3) := dc_182 (a := 1) (b := 16) (n := 272) (by decide +kernel)
theorem dX8_dimension_2_13 : decode cX8_dimension_2 13 = .ok (.i2l, 1) := dc_133 (by decide +kernel)
theorem dX8_dimension_2_14 : decode cX8_dimension_2 14 = .ok (.lstore_n 3, 1) := dc_66 (by decide +kernel)
theorem dX8_dimension_2_15 : decode cX8_dimension_2 15 = .ok (.goto 13, 3) := dc_167 (a := 0) (b := 13) (v := 13) (by decide +kernel)
theorem dX8_dimension_2_18 : decode cX8_dimension_2 18 = .ok (.aload_n 0, 1) := dc_42 (by decide +kernel)
theorem dX8_dimension_2_19 : decode cX8_dimension_2 19 = .ok (.iload_n 1, 1) := dc_27 (by decide +kernel)
theorem dX8_dimension_2_20 : decode cX8_dimension_2 20 = .ok (.invokevirtual 470, 3) := dc_182 (a := 1) (b := 214) (n := 470) (by decide +kernel)
theorem dX8_dimension_2_23 : decode cX8_dimension_2 23 = .ok (.aload_n 0, 1) := dc_42 (by decide +kernel)
theorem dX8_dimension_2_24 : decode cX8_dimension_2 24 = .ok (.invokevirtual 472, 3) := dc_182 (a := 1) (b := 216) (n := 472) (by decide +kernel)
theorem dX8_dimension_2_27 : decode cX8_dimension_2 27 = .ok (.lstore_n 3, 1) := dc_66 (by decide +kernel)
theorem dX8_dimension_2_28 : decode cX8_dimension_2 28 = .ok (.aload_n 0, 1) := dc_42 (by decide +kernel)
theorem dX8_dimension_2_29 : decode cX8_dimension_2 29 = .ok (.iload_n 2, 1) := dc_28 (by decide +kernel)
theorem dX8_dimension_2_30 : decode cX8_dimension_2 30 = .ok (.ifCond .eq 8, 3) := dc_153 (a := 0) (b := 8) (v := 8) (by decide +kernel)
theorem dX8_dimension_2_33 : decode cX8_dimension_2 33 = .ok (.lload_n 3, 1) := dc_33 (by decide +kernel)
theorem dX8_dimension_2_34 : decode cX8_dimension_2 34 = .ok (.lneg, 1) := dc_117 (by decide +kernel)
theorem dX8_dimension_2_35 : decode cX8_dimension_2 35 = .ok (.goto 4, 3) := dc_167 (a := 0) (b := 4) (v := 4) (by decide +kernel)
theorem dX8_dimension_2_38 : decode cX8_dimension_2 38 = .ok (.lload_n 3, 1) := dc_33 (by decide +kernel)
theorem dX8_dimension_2_39 : decode cX8_dimension_2 39 = .ok (.invokevirtual 476, 3) := dc_182 (a := 1) (b := 220) (n := 476) (by decide +kernel)
theorem dX8_dimension_2_42 : decode cX8_dimension_2 42 = .ok (.ireturn, 1) := dc_172 (by decide +kernel)
def fX8_dimension_2_b39 (N : Nat) (rE : Nat → Int32 → eH → Option ((Unit ⊕ Nat) × eH)) (rN : Nat → eH → Option ((Int32 ⊕ Nat) × eH)) (s0 : Nat) (s1 : Int64) (h : eH) : Option ((Int32 ⊕ Nat) × eH) :=
  (k_ok 7 h s0).bind fun _ =>
  t_B (fX8_size s0 s1 h) fun x2 h3 =>
  some (.inl x2, h3)
theorem pX8_dimension_2_b39 {w : eW} {d : Nat} {dr : Nat} (hd : dr + 16 ≤ d + 1) (hdr : 12 ≤ dr) {N : Nat} {rE : Nat → Int32 → eH → Option ((Unit ⊕ Nat) × eH)} {rN : Nat → eH → Option ((Int32 ⊕ Nat) × eH)} (hrE : ∀ a t0 h q, rE a t0 h = some q → wm w dr YX8_expand [.ref a, .int t0] h (e_is (e_rt c_V q))) (hrN : ∀ a h q, rN a h = some q → wm w dr YX8_number [.ref a] h (e_is (e_rt c_I q))) {s0 : Nat} {s1 : Int64} {h : eH} {q} (hf : fX8_dimension_2_b39 N rE rN s0 s1 h = some q) : wp w (d + 1) YX8_dimension_2 39 [none, none, none, none, none] [.long s1, .ref s0] h (e_is (e_rt c_I q)) := by
  unfold fX8_dimension_2_b39 at hf
  obtain ⟨_, b1, hf⟩ := Option.bind_eq_some_iff.mp hf
  refine x_ctI hf (e_stV (Yc := YX8_size) (ci := 7) (av := [.long s1]) (st := []) dX8_dimension_2_39 q2778 mX8_size rfl (k_ok_some b1).1 (k_ok_some b1).2) mX8_size.2.2.1 mX8_size.2.2.2.2.1 (Nat.le_of_ble_eq_true rfl) (Nat.le_of_ble_eq_true rfl) rfl (fun q hq => pX8_size (by omega) hq) (fun x2 h3 hf => ?_)
  cases hf
  exact w_iret dX8_dimension_2_42 rfl rfl rfl
def fX8_dimension_2_b28 (N : Nat) (rE : Nat → Int32 → eH → Option ((Unit ⊕ Nat) × eH)) (rN : Nat → eH → Option ((Int32 ⊕ Nat) × eH)) (l0 : Nat) (l2 : Int32) (l3 : Int64) (h : eH) : Option ((Int32 ⊕ Nat) × eH) :=
  if l2 = 0 then
    fX8_dimension_2_b39 N rE rN l0 l3 h
  else
    fX8_dimension_2_b39 N rE rN l0 (-l3) h
theorem pX8_dimension_2_b28 {w : eW} {d : Nat} {dr : Nat} (hd : dr + 16 ≤ d + 1) (hdr : 12 ≤ dr) {N : Nat} {rE : Nat → Int32 → eH → Option ((Unit ⊕ Nat) × eH)} {rN : Nat → eH → Option ((Int32 ⊕ Nat) × eH)} (hrE : ∀ a t0 h q, rE a t0 h = some q → wm w dr YX8_expand [.ref a, .int t0] h (e_is (e_rt c_V q))) (hrN : ∀ a h q, rN a h = some q → wm w dr YX8_number [.ref a] h (e_is (e_rt c_I q))) {l0 : Nat} {l2 : Int32} {l3 : Int64} {h : eH} {q} (hf : fX8_dimension_2_b28 N rE rN l0 l2 l3 h = some q) : wp w (d + 1) YX8_dimension_2 28 [some (.ref l0), none, some (.int l2), some (.long l3), none] [] h (e_is (e_rt c_I q)) := by
  unfold fX8_dimension_2_b28 at hf
  refine w_aload_n dX8_dimension_2_28 rfl rfl ?_
  refine w_iload_n dX8_dimension_2_29 rfl rfl ?_
  refine w_if_eq 38 dX8_dimension_2_30 (by decide) (fun c1 => ?_) (fun c1 => ?_)
  · replace hf := (if_pos (show l2 = 0 from c1)).symm.trans hf
    refine w_lload_n dX8_dimension_2_38 rfl rfl ?_
    exact (pX8_dimension_2_b39 hd hdr hrE hrN hf).to trivial
  · replace hf := (if_neg (show ¬ (l2 = 0) from c1)).symm.trans hf
    refine w_lload_n dX8_dimension_2_33 rfl rfl ?_
    refine w_lneg dX8_dimension_2_34 ?_
    refine w_goto 39 dX8_dimension_2_35 (by decide) ?_
    exact (pX8_dimension_2_b39 hd hdr hrE hrN hf).to trivial
def fX8_dimension_2 (N : Nat) (rE : Nat → Int32 → eH → Option ((Unit ⊕ Nat) × eH)) (rN : Nat → eH → Option ((Int32 ⊕ Nat) × eH)) (this : Nat) (p0 : Int32) (p1 : Int32) (h : eH) : Option ((Int32 ⊕ Nat) × eH) :=
  (k_ok 7 h this).bind fun _ =>
  (fX8_isSized this p0 h).bind fun q2 =>
  if q2.1 = 0 then
    (k_ok 7 q2.2 this).bind fun _ =>
    t_B (fX8_factor N rE rN this p0 q2.2) fun x5 h6 =>
    (k_ok 7 h6 this).bind fun _ =>
    t_B (fX8_united N rE rN this h6) fun x8 h9 =>
    fX8_dimension_2_b28 N rE rN this p1 x8 h9
  else
    (k_ok 7 q2.2 this).bind fun _ =>
    t_B (fX8_sized rN this p0 q2.2) fun x11 h12 =>
    fX8_dimension_2_b28 N rE rN this p1 (x11).toInt64 h12
theorem pX8_dimension_2 {w : eW} {d : Nat} {dr : Nat} (hd : dr + 16 ≤ d) (hdr : 12 ≤ dr) {N : Nat} {rE : Nat → Int32 → eH → Option ((Unit ⊕ Nat) × eH)} {rN : Nat → eH → Option ((Int32 ⊕ Nat) × eH)} (hrE : ∀ a t0 h q, rE a t0 h = some q → wm w dr YX8_expand [.ref a, .int t0] h (e_is (e_rt c_V q))) (hrN : ∀ a h q, rN a h = some q → wm w dr YX8_number [.ref a] h (e_is (e_rt c_I q))) {this : Nat} {p0 : Int32} {p1 : Int32} {h : eH} {q} (hf : fX8_dimension_2 N rE rN this p0 p1 h = some q) : wm w d YX8_dimension_2 [.ref this, .int p0, .int p1] h (e_is (e_rt c_I q)) := by
  obtain ⟨d, rfl⟩ : ∃ e, d = e + 1 := ⟨d - 1, by omega⟩
  show wp w (d + 1) YX8_dimension_2 0 [some (.ref this), some (.int p0), some (.int p1), none, none] [] h _
  unfold fX8_dimension_2 at hf
  refine w_aload_n dX8_dimension_2_0 rfl rfl ?_
  refine w_iload_n dX8_dimension_2_1 rfl rfl ?_
  obtain ⟨_, b1, hf⟩ := Option.bind_eq_some_iff.mp hf
  refine x_cnI hf (e_stV (Yc := YX8_isSized) (ci := 7) (av := [.int p0]) (st := []) dX8_dimension_2_2 q2615 mX8_isSized rfl (k_ok_some b1).1 (k_ok_some b1).2) mX8_isSized.2.2.1 mX8_isSized.2.2.2.2.1 (Nat.le_of_ble_eq_true rfl) (Nat.le_of_ble_eq_true rfl) (fun q hq => pX8_isSized (by omega) hq) (fun q2 hf => ?_)
  refine w_if_eq 18 dX8_dimension_2_5 (by decide) (fun c3 => ?_) (fun c3 => ?_)
  · replace hf := (if_pos (show q2.1 = 0 from c3)).symm.trans hf
    refine w_aload_n dX8_dimension_2_18 rfl rfl ?_
    refine w_iload_n dX8_dimension_2_19 rfl rfl ?_
    obtain ⟨_, b4, hf⟩ := Option.bind_eq_some_iff.mp hf
    refine x_ctV hf (e_stV (Yc := YX8_factor) (ci := 7) (av := [.int p0]) (st := []) dX8_dimension_2_20 q2722 mX8_factor rfl (k_ok_some b4).1 (k_ok_some b4).2) mX8_factor.2.2.1 mX8_factor.2.2.2.2.1 (Nat.le_of_ble_eq_true rfl) (Nat.le_of_ble_eq_true rfl) rfl (fun q hq => pX8_factor (by omega) hdr hrE hrN hq) (fun x5 h6 hf => ?_)
    refine w_aload_n dX8_dimension_2_23 rfl rfl ?_
    obtain ⟨_, b7, hf⟩ := Option.bind_eq_some_iff.mp hf
    refine x_ctJ hf (e_stV (Yc := YX8_united) (ci := 7) (av := []) (st := []) dX8_dimension_2_24 q2729 mX8_united rfl (k_ok_some b7).1 (k_ok_some b7).2) mX8_united.2.2.1 mX8_united.2.2.2.2.1 (Nat.le_of_ble_eq_true rfl) (Nat.le_of_ble_eq_true rfl) rfl (fun q hq => pX8_united (by omega) hdr hrE hrN hq) (fun x8 h9 hf => ?_)
    refine w_lstore_n dX8_dimension_2_27 rfl (by decide) (ls' := [some (.ref this), some (.int p0), some (.int p1), some (.long x8), none]) rfl ?_
    exact (pX8_dimension_2_b28 hd hdr hrE hrN hf).to ⟨rfl, rfl, rfl, trivial⟩
  · replace hf := (if_neg (show ¬ (q2.1 = 0) from c3)).symm.trans hf
    refine w_aload_n dX8_dimension_2_8 rfl rfl ?_
    refine w_iload_n dX8_dimension_2_9 rfl rfl ?_
    obtain ⟨_, b10, hf⟩ := Option.bind_eq_some_iff.mp hf
    refine x_ctI hf (e_stV (Yc := YX8_sized) (ci := 7) (av := [.int p0]) (st := []) dX8_dimension_2_10 q2625 mX8_sized rfl (k_ok_some b10).1 (k_ok_some b10).2) mX8_sized.2.2.1 mX8_sized.2.2.2.2.1 (Nat.le_of_ble_eq_true rfl) (Nat.le_of_ble_eq_true rfl) rfl (fun q hq => pX8_sized (by omega) hdr hrN hq) (fun x11 h12 hf => ?_)
    refine w_i2l dX8_dimension_2_13 ?_
    refine w_lstore_n dX8_dimension_2_14 rfl (by decide) (ls' := [some (.ref this), some (.int p0), some (.int p1), some (.long (x11).toInt64), none]) rfl ?_
    refine w_goto 28 dX8_dimension_2_15 (by decide) ?_
    exact (pX8_dimension_2_b28 hd hdr hrE hrN hf).to ⟨rfl, rfl, rfl, trivial⟩
abbrev cX8_dimension : ByteArray := prog_4_method_50_code
def yX8_dimension : MethodName := ⟨RX8, "dimension", "()I"⟩
def YX8_dimension : eY := (yX8_dimension, cX8_dimension, 2, (Option.some FieldType.int), [])
theorem mX8_dimension : e_mv YX8_dimension RX8 0 := ⟨q2712, qs88, q2713, by decide, by decide +kernel, (e_sig (by decide +kernel))⟩
theorem dX8_dimension_0 : decode cX8_dimension 0 = .ok (.aload_n 0, 1) := dc_42 (by decide +kernel)
theorem dX8_dimension_1 : decode cX8_dimension 1 = .ok (.invokevirtual 463, 3) := dc_182 (a := 1) (b := 207) (n := 463) (by decide +kernel)
theorem dX8_dimension_4 : decode cX8_dimension 4 = .ok (.istore_n 1, 1) := dc_60 (by decide +kernel)
theorem dX8_dimension_5 : decode cX8_dimension 5 = .ok (.aload_n 0, 1) := dc_42 (by decide +kernel)
theorem dX8_dimension_6 : decode cX8_dimension 6 = .ok (.iload_n 1, 1) := dc_27 (by decide +kernel)
theorem dX8_dimension_7 : decode cX8_dimension 7 = .ok (.aload_n 0, 1) := dc_42 (by decide +kernel)
theorem dX8_dimension_8 : decode cX8_dimension 8 = .ok (.getfield 459, 3) := dc_180 (a := 1) (b := 203) (n := 459) (by decide +kernel)
theorem dX8_dimension_11 : decode cX8_dimension 11 = .ok (.invokevirtual 466, 3) := dc_182 (a := 1) (b := 210) (n := 466) (by decide +kernel)
theorem dX8_dimension_14 : decode cX8_dimension 14 = .ok (.ireturn, 1) := dc_172 (by decide +kernel)
theorem GX8_459 {w : eW} {d : Nat} {Y : eY} {pc : Nat} {ls : eL} {st : List Value} {h : eH} {Q : eO → eH → Prop} {a : Nat} {x : Int32} (hf : g_I 7 h a 27 = some x) (hd : decode Y.2.1 pc = .ok (.getfield 459, 3)) (hY : Y.1.cls = RX8) (kk : wp w d Y (pc + 3) ls (.int x :: st) h Q) : wp w d Y pc ls (.ref a :: st) h Q := x_gI (ci := 7) (k := 27) hf hd rfl (by decide) (by rw [hY]; exact q865) kk
def fX8_dimension (N : Nat) (rE : Nat → Int32 → eH → Option ((Unit ⊕ Nat) × eH)) (rN : Nat → eH → Option ((Int32 ⊕ Nat) × eH)) (this : Nat) (h : eH) : Option ((Int32 ⊕ Nat) × eH) :=
  (k_ok 7 h this).bind fun _ =>
  t_B (fX8_signed N rE this h) fun x2 h3 =>
  (g_I 7 h3 this 27).bind fun x4 =>
  (k_ok 7 h3 this).bind fun _ =>
  t_B (fX8_dimension_2 N rE rN this x2 x4 h3) fun x7 h8 =>
  some (.inl x7, h8)
theorem pX8_dimension {w : eW} {d : Nat} {dr : Nat} (hd : dr + 17 ≤ d) (hdr : 12 ≤ dr) {N : Nat} {rE : Nat → Int32 → eH → Option ((Unit ⊕ Nat) × eH)} {rN : Nat → eH → Option ((Int32 ⊕ Nat) × eH)} (hrE : ∀ a t0 h q, rE a t0 h = some q → wm w dr YX8_expand [.ref a, .int t0] h (e_is (e_rt c_V q))) (hrN : ∀ a h q, rN a h = some q → wm w dr YX8_number [.ref a] h (e_is (e_rt c_I q))) {this : Nat} {h : eH} {q} (hf : fX8_dimension N rE rN this h = some q) : wm w d YX8_dimension [.ref this] h (e_is (e_rt c_I q)) := by
  obtain ⟨d, rfl⟩ : ∃ e, d = e + 1 := ⟨d - 1, by omega⟩
  show wp w (d + 1) YX8_dimension 0 [some (.ref this), none] [] h _
  unfold fX8_dimension at hf
  refine w_aload_n dX8_dimension_0 rfl rfl ?_
  obtain ⟨_, b1, hf⟩ := Option.bind_eq_some_iff.mp hf
  refine x_ctI hf (e_stV (Yc := YX8_signed) (ci := 7) (av := []) (st := []) dX8_dimension_1 q2714 mX8_signed rfl (k_ok_some b1).1 (k_ok_some b1).2) mX8_signed.2.2.1 mX8_signed.2.2.2.2.1 (Nat.le_of_ble_eq_true rfl) (Nat.le_of_ble_eq_true rfl) rfl (fun q hq => pX8_signed (by omega) hdr hrE hq) (fun x2 h3 hf => ?_)
  refine w_istore_n dX8_dimension_4 rfl (by decide) (ls' := [some (.ref this), some (.int x2)]) rfl ?_
  refine w_aload_n dX8_dimension_5 rfl rfl ?_
  refine w_iload_n dX8_dimension_6 rfl rfl ?_
  refine w_aload_n dX8_dimension_7 rfl rfl ?_
  obtain ⟨x4, b5, hf⟩ := Option.bind_eq_some_iff.mp hf
  refine GX8_459 b5 dX8_dimension_8 rfl ?_
  obtain ⟨_, b6, hf⟩ := Option.bind_eq_some_iff.mp hf
  refine x_ctI hf (e_stV (Yc := YX8_dimension_2) (ci := 7) (av := [.int x2, .int x4]) (st := []) dX8_dimension_11 q2718 mX8_dimension_2 rfl (k_ok_some b6).1 (k_ok_some b6).2) mX8_dimension_2.2.2.1 mX8_dimension_2.2.2.2.2.1 (Nat.le_of_ble_eq_true rfl) (Nat.le_of_ble_eq_true rfl) rfl (fun q hq => pX8_dimension_2 (by omega) hdr hrE hrN hq) (fun x7 h8 hf => ?_)
  cases hf
  exact w_iret dX8_dimension_14 rfl rfl rfl
abbrev cX6_scale : ByteArray := prog_7_method_23_code
def yX6_scale : MethodName := ⟨RX6, "scale", "(III)I"⟩
def YX6_scale : eY := (yX6_scale, cX6_scale, 5, (Option.some FieldType.int), [])
theorem mX6_scale : e_ms YX6_scale 3 := ⟨q3946, q431, q3947, by decide, by decide +kernel, (e_sig (by decide +kernel))⟩
theorem dX6_scale_0 : decode cX6_scale 0 = .ok (.iload_n 0, 1) := dc_26 (by decide +kernel)
theorem dX6_scale_1 : decode cX6_scale 1 = .ok (.invokestatic 59, 3) := dc_184 (a := 0) (b := 59) (n := 59) (by decide +kernel)
theorem dX6_scale_4 : decode cX6_scale 4 = .ok (.iload_n 1, 1) := dc_27 (by decide +kernel)
theorem dX6_scale_5 : decode cX6_scale 5 = .ok (.imul, 1) := dc_104 (by decide +kernel)
theorem dX6_scale_6 : decode cX6_scale 6 = .ok (.bipush 8, 2) := dc_16 (a := 8) (v := 8) (by decide +kernel)
theorem dX6_scale_8 : decode cX6_scale 8 = .ok (.ishr, 1) := dc_122 (by decide +kernel)
theorem dX6_scale_9 : decode cX6_scale 9 = .ok (.iload_n 0, 1) := dc_26 (by decide +kernel)
theorem dX6_scale_10 : decode cX6_scale 10 = .ok (.invokestatic 56, 3) := dc_184 (a := 0) (b := 56) (n := 56) (by decide +kernel)
theorem dX6_scale_13 : decode cX6_scale 13 = .ok (.iload_n 1, 1) := dc_27 (by decide +kernel)
theorem dX6_scale_14 : decode cX6_scale 14 = .ok (.imul, 1) := dc_104 (by decide +kernel)
theorem dX6_scale_15 : decode cX6_scale 15 = .ok (.iadd, 1) := dc_96 (by decide +kernel)
theorem dX6_scale_16 : decode cX6_scale 16 = .ok (.bipush 8, 2) := dc_16 (a := 8) (v := 8) (by decide +kernel)
theorem dX6_scale_18 : decode cX6_scale 18 = .ok (.ishr, 1) := dc_122 (by decide +kernel)
theorem dX6_scale_19 : decode cX6_scale 19 = .ok (.iload_n 0, 1) := dc_26 (by decide +kernel)
theorem dX6_scale_20 : decode cX6_scale 20 = .ok (.invokestatic 53, 3) := dc_184 (a := 0) (b := 53) (n := 53) (by decide +kernel)
theorem dX6_scale_23 : decode cX6_scale 23 = .ok (.iload_n 1, 1) := dc_27 (by decide +kernel)
theorem dX6_scale_24 : decode cX6_scale 24 = .ok (.imul, 1) := dc_104 (by decide +kernel)
theorem dX6_scale_25 : decode cX6_scale 25 = .ok (.iadd, 1) := dc_96 (by decide +kernel)
theorem dX6_scale_26 : decode cX6_scale 26 = .ok (.istore_n 3, 1) := dc_62 (by decide +kernel)
theorem dX6_scale_27 : decode cX6_scale 27 = .ok (.iload_n 3, 1) := dc_29 (by decide +kernel)
theorem dX6_scale_28 : decode cX6_scale 28 = .ok (.sipush 256, 3) := dc_17 (a := 1) (b := 0) (v := 256) (by decide +kernel)
theorem dX6_scale_31 : decode cX6_scale 31 = .ok (.iload_n 2, 1) := dc_28 (by decide +kernel)
theorem dX6_scale_32 : decode cX6_scale 32 = .ok (.idiv, 1) := dc_108 (by decide +kernel)
theorem dX6_scale_33 : decode cX6_scale 33 = .ok (.idiv, 1) := dc_108 (by decide +kernel)
theorem dX6_scale_34 : decode cX6_scale 34 = .ok (.istore 4, 2) := dc_54 (a := 4) (by decide +kernel)
theorem dX6_scale_36 : decode cX6_scale 36 = .ok (.iload_n 0, 1) := dc_26 (by decide +kernel)
theorem dX6_scale_37 : decode cX6_scale 37 = .ok (.invokestatic 36, 3) := dc_184 (a := 0) (b := 36) (n := 36) (by decide +kernel)
theorem dX6_scale_40 : decode cX6_scale 40 = .ok (.ifCond .ne 8, 3) := dc_154 (a := 0) (b := 8) (v := 8) (by decide +kernel)
theorem dX6_scale_43 : decode cX6_scale 43 = .ok (.iload 4, 2) := dc_21 (a := 4) (by decide +kernel)
theorem dX6_scale_45 : decode cX6_scale 45 = .ok (.goto 9, 3) := dc_167 (a := 0) (b := 9) (v := 9) (by decide +kernel)
theorem dX6_scale_48 : decode cX6_scale 48 = .ok (.iload 4, 2) := dc_21 (a := 4) (by decide +kernel)
theorem dX6_scale_50 : decode cX6_scale 50 = .ok (.iload_n 2, 1) := dc_28 (by decide +kernel)
theorem dX6_scale_51 : decode cX6_scale 51 = .ok (.iload_n 1, 1) := dc_27 (by decide +kernel)
theorem dX6_scale_52 : decode cX6_scale 52 = .ok (.imul, 1) := dc_104 (by decide +kernel)
theorem dX6_scale_53 : decode cX6_scale 53 = .ok (.isub, 1) := dc_100 (by decide +kernel)
theorem dX6_scale_54 : decode cX6_scale 54 = .ok (.ireturn, 1) := dc_172 (by decide +kernel)
def fX6_scale_b54 (s0 : Int32) (h : eH) : Option (Int32 × eH) :=
  some (s0, h)
theorem pX6_scale_b54 {w : eW} {d : Nat} (hd : 1 ≤ d + 1) {s0 : Int32} {h : eH} {q} (hf : fX6_scale_b54 s0 h = some q) : wp w (d + 1) YX6_scale 54 [none, none, none, none, none] [.int s0] h (e_is (e_rn c_I q)) := by
  unfold fX6_scale_b54 at hf
  cases hf
  exact w_iret dX6_scale_54 rfl rfl rfl
def fX6_scale (p0 : Int32) (p1 : Int32) (p2 : Int32) (h : eH) : Option (Int32 × eH) :=
  (fX6_d p0 h).bind fun q1 =>
  (fX6_c p0 q1.2).bind fun q2 =>
  (fX6_b p0 q2.2).bind fun q3 =>
  if p2 = 0 then none else
  if ((256 : Int32) / p2) = 0 then none else
  (fX6_a p0 q3.2).bind fun q6 =>
  if ¬ q6.1 = 0 then
    fX6_scale_b54 (((((((q1.1 * p1) >>> ((8 : Int32) &&& 31)) + (q2.1 * p1)) >>> ((8 : Int32) &&& 31)) + (q3.1 * p1)) / ((256 : Int32) / p2)) - (p2 * p1)) q6.2
  else
    fX6_scale_b54 ((((((q1.1 * p1) >>> ((8 : Int32) &&& 31)) + (q2.1 * p1)) >>> ((8 : Int32) &&& 31)) + (q3.1 * p1)) / ((256 : Int32) / p2)) q6.2
theorem pX6_scale {w : eW} {d : Nat} (hd : 1 ≤ d) {p0 : Int32} {p1 : Int32} {p2 : Int32} {h : eH} {q} (hf : fX6_scale p0 p1 p2 h = some q) : wm w d YX6_scale [.int p0, .int p1, .int p2] h (e_is (e_rn c_I q)) := by
  obtain ⟨d, rfl⟩ : ∃ e, d = e + 1 := ⟨d - 1, by omega⟩
  show wp w (d + 1) YX6_scale 0 [some (.int p0), some (.int p1), some (.int p2), none, none] [] h _
  unfold fX6_scale at hf
  refine w_iload_n dX6_scale_0 rfl rfl ?_
  refine x_cnI hf (e_stS (Yc := YX6_d) (av := [.int p0]) (st := []) dX6_scale_1 q2263 mX6_d) mX6_d.2.2.1 mX6_d.2.2.2.2.1 (Nat.le_of_ble_eq_true rfl) (Nat.le_of_ble_eq_true rfl) (fun q hq => pX6_d (by omega) hq) (fun q1 hf => ?_)
  refine w_iload_n dX6_scale_4 rfl rfl ?_
  refine w_imul dX6_scale_5 ?_
  refine w_bipush dX6_scale_6 (v := 8) (by decide) ?_
  refine w_ishr dX6_scale_8 ?_
  refine w_iload_n dX6_scale_9 rfl rfl ?_
  refine x_cnI hf (e_stS (Yc := YX6_c) (av := [.int p0]) (st := [.int ((q1.1 * p1) >>> ((8 : Int32) &&& 31))]) dX6_scale_10 q2244 mX6_c) mX6_c.2.2.1 mX6_c.2.2.2.2.1 (Nat.le_of_ble_eq_true rfl) (Nat.le_of_ble_eq_true rfl) (fun q hq => pX6_c (by omega) hq) (fun q2 hf => ?_)
  refine w_iload_n dX6_scale_13 rfl rfl ?_
  refine w_imul dX6_scale_14 ?_
  refine w_iadd dX6_scale_15 ?_
  refine w_bipush dX6_scale_16 (v := 8) (by decide) ?_
  refine w_ishr dX6_scale_18 ?_
  refine w_iload_n dX6_scale_19 rfl rfl ?_
  refine x_cnI hf (e_stS (Yc := YX6_b) (av := [.int p0]) (st := [.int ((((q1.1 * p1) >>> ((8 : Int32) &&& 31)) + (q2.1 * p1)) >>> ((8 : Int32) &&& 31))]) dX6_scale_20 q2241 mX6_b) mX6_b.2.2.1 mX6_b.2.2.2.2.1 (Nat.le_of_ble_eq_true rfl) (Nat.le_of_ble_eq_true rfl) (fun q hq => pX6_b (by omega) hq) (fun q3 hf => ?_)
  refine w_iload_n dX6_scale_23 rfl rfl ?_
  refine w_imul dX6_scale_24 ?_
  refine w_iadd dX6_scale_25 ?_
  refine w_istore_n dX6_scale_26 rfl (by decide) (ls' := [some (.int p0), some (.int p1), some (.int p2), some (.int (((((q1.1 * p1) >>> ((8 : Int32) &&& 31)) + (q2.1 * p1)) >>> ((8 : Int32) &&& 31)) + (q3.1 * p1))), none]) rfl ?_
  refine w_iload_n dX6_scale_27 rfl rfl ?_
  refine w_sipush dX6_scale_28 (v := 256) (by decide) ?_
  refine w_iload_n dX6_scale_31 rfl rfl ?_
  by_cases c4 : p2 = 0
  · exact absurd ((if_pos c4).symm.trans hf) (by simp)
  replace hf := (if_neg c4).symm.trans hf
  refine w_idiv dX6_scale_32 c4 ?_
  by_cases c5 : ((256 : Int32) / p2) = 0
  · exact absurd ((if_pos c5).symm.trans hf) (by simp)
  replace hf := (if_neg c5).symm.trans hf
  refine w_idiv dX6_scale_33 c5 ?_
  refine w_istore dX6_scale_34 (by decide) (ls' := [some (.int p0), some (.int p1), some (.int p2), some (.int (((((q1.1 * p1) >>> ((8 : Int32) &&& 31)) + (q2.1 * p1)) >>> ((8 : Int32) &&& 31)) + (q3.1 * p1))), some (.int ((((((q1.1 * p1) >>> ((8 : Int32) &&& 31)) + (q2.1 * p1)) >>> ((8 : Int32) &&& 31)) + (q3.1 * p1)) / ((256 : Int32) / p2)))]) rfl ?_
  refine w_iload_n dX6_scale_36 rfl rfl ?_
  refine x_cnI hf (e_stS (Yc := YX6_a) (av := [.int p0]) (st := []) dX6_scale_37 q2238 mX6_a) mX6_a.2.2.1 mX6_a.2.2.2.2.1 (Nat.le_of_ble_eq_true rfl) (Nat.le_of_ble_eq_true rfl) (fun q hq => pX6_a (by omega) hq) (fun q6 hf => ?_)
  refine w_if_ne 48 dX6_scale_40 (by decide) (fun c7 => ?_) (fun c7 => ?_)
  · replace hf := (if_pos (show ¬ q6.1 = 0 from c7)).symm.trans hf
    refine w_iload dX6_scale_48 rfl ?_
    refine w_iload_n dX6_scale_50 rfl rfl ?_
    refine w_iload_n dX6_scale_51 rfl rfl ?_
    refine w_imul dX6_scale_52 ?_
    refine w_isub dX6_scale_53 ?_
    exact (pX6_scale_b54 hd hf).to trivial
  · replace hf := (if_neg (show ¬ (¬ q6.1 = 0) from (fun z => z c7))).symm.trans hf
    refine w_iload dX6_scale_43 rfl ?_
    refine w_goto 54 dX6_scale_45 (by decide) ?_
    exact (pX6_scale_b54 hd hf).to trivial
abbrev cX6_take : ByteArray := prog_7_method_22_code
def yX6_take : MethodName := ⟨RX6, "take", "(LTypeHouse$FontFile;I)I"⟩
def YX6_take : eY := (yX6_take, cX6_take, 8, (Option.some FieldType.int), [])
theorem mX6_take : e_mv YX6_take RX6 2 := ⟨q3938, q3939, q3940, by decide, by decide +kernel, (e_sig (by decide +kernel))⟩
theorem dX6_take_0 : decode cX6_take 0 = .ok (.aload_n 0, 1) := dc_42 (by decide +kernel)
theorem dX6_take_1 : decode cX6_take 1 = .ok (.aload_n 1, 1) := dc_43 (by decide +kernel)
theorem dX6_take_2 : decode cX6_take 2 = .ok (.invokevirtual 113, 3) := dc_182 (a := 0) (b := 113) (n := 113) (by decide +kernel)
theorem dX6_take_5 : decode cX6_take 5 = .ok (.istore_n 3, 1) := dc_62 (by decide +kernel)
theorem dX6_take_6 : decode cX6_take 6 = .ok (.iload_n 3, 1) := dc_29 (by decide +kernel)
theorem dX6_take_7 : decode cX6_take 7 = .ok (.ifCond .eq 5, 3) := dc_153 (a := 0) (b := 5) (v := 5) (by decide +kernel)
theorem dX6_take_10 : decode cX6_take 10 = .ok (.iload_n 3, 1) := dc_29 (by decide +kernel)
theorem dX6_take_11 : decode cX6_take 11 = .ok (.ireturn, 1) := dc_172 (by decide +kernel)
theorem dX6_take_12 : decode cX6_take 12 = .ok (.aload_n 0, 1) := dc_42 (by decide +kernel)
theorem dX6_take_13 : decode cX6_take 13 = .ok (.aload_n 0, 1) := dc_42 (by decide +kernel)
theorem dX6_take_14 : decode cX6_take 14 = .ok (.iconst 0, 1) := dc_3 (by decide +kernel)
theorem dX6_take_15 : decode cX6_take 15 = .ok (.iconst 1, 1) := dc_4 (by decide +kernel)
theorem dX6_take_16 : decode cX6_take 16 = .ok (.invokevirtual 32, 3) := dc_182 (a := 0) (b := 32) (n := 32) (by decide +kernel)
theorem dX6_take_19 : decode cX6_take 19 = .ok (.iconst 4, 1) := dc_7 (by decide +kernel)
theorem dX6_take_20 : decode cX6_take 20 = .ok (.ishr, 1) := dc_122 (by decide +kernel)
theorem dX6_take_21 : decode cX6_take 21 = .ok (.putfield 116, 3) := dc_181 (a := 0) (b := 116) (n := 116) (by decide +kernel)
theorem dX6_take_24 : decode cX6_take 24 = .ok (.aload_n 0, 1) := dc_42 (by decide +kernel)
theorem dX6_take_25 : decode cX6_take 25 = .ok (.iload_n 2, 1) := dc_28 (by decide +kernel)
theorem dX6_take_26 : decode cX6_take 26 = .ok (.ifCond .le 7, 3) := dc_158 (a := 0) (b := 7) (v := 7) (by decide +kernel)
theorem dX6_take_29 : decode cX6_take 29 = .ok (.iload_n 2, 1) := dc_28 (by decide +kernel)
theorem dX6_take_30 : decode cX6_take 30 = .ok (.goto 12, 3) := dc_167 (a := 0) (b := 12) (v := 12) (by decide +kernel)
theorem dX6_take_33 : decode cX6_take 33 = .ok (.aload_n 0, 1) := dc_42 (by decide +kernel)
theorem dX6_take_34 : decode cX6_take 34 = .ok (.getfield 116, 3) := dc_180 (a := 0) (b := 116) (n := 116) (by decide +kernel)
theorem dX6_take_37 : decode cX6_take 37 = .ok (.ldc 119, 2) := dc_18 (a := 119) (by decide +kernel)
theorem dX6_take_39 : decode cX6_take 39 = .ok (.invokestatic 120, 3) := dc_184 (a := 0) (b := 120) (n := 120) (by decide +kernel)
theorem dX6_take_42 : decode cX6_take 42 = .ok (.putfield 125, 3) := dc_181 (a := 0) (b := 125) (n := 125) (by decide +kernel)
theorem dX6_take_45 : decode cX6_take 45 = .ok (.aload_n 0, 1) := dc_42 (by decide +kernel)
theorem dX6_take_46 : decode cX6_take 46 = .ok (.getfield 125, 3) := dc_180 (a := 0) (b := 125) (n := 125) (by decide +kernel)
theorem dX6_take_49 : decode cX6_take 49 = .ok (.istore 4, 2) := dc_54 (a := 4) (by decide +kernel)
theorem dX6_take_51 : decode cX6_take 51 = .ok (.bipush 16, 2) := dc_16 (a := 16) (v := 16) (by decide +kernel)
theorem dX6_take_53 : decode cX6_take 53 = .ok (.istore 5, 2) := dc_54 (a := 5) (by decide +kernel)
theorem dX6_take_55 : decode cX6_take 55 = .ok (.iload 4, 2) := dc_21 (a := 4) (by decide +kernel)
theorem dX6_take_57 : decode cX6_take 57 = .ok (.ldc 126, 2) := dc_18 (a := 126) (by decide +kernel)
theorem dX6_take_59 : decode cX6_take 59 = .ok (.if_icmp .lt 19, 3) := dc_161 (a := 0) (b := 19) (v := 19) (by decide +kernel)
theorem dX6_take_62 : decode cX6_take 62 = .ok (.iload 4, 2) := dc_21 (a := 4) (by decide +kernel)
theorem dX6_take_64 : decode cX6_take 64 = .ok (.iconst 1, 1) := dc_4 (by decide +kernel)
theorem dX6_take_65 : decode cX6_take 65 = .ok (.ishr, 1) := dc_122 (by decide +kernel)
theorem dX6_take_66 : decode cX6_take 66 = .ok (.istore 4, 2) := dc_54 (a := 4) (by decide +kernel)
theorem dX6_take_68 : decode cX6_take 68 = .ok (.iload 5, 2) := dc_21 (a := 5) (by decide +kernel)
theorem dX6_take_70 : decode cX6_take 70 = .ok (.iload 5, 2) := dc_21 (a := 5) (by decide +kernel)
theorem dX6_take_72 : decode cX6_take 72 = .ok (.iadd, 1) := dc_96 (by decide +kernel)
theorem dX6_take_73 : decode cX6_take 73 = .ok (.istore 5, 2) := dc_54 (a := 5) (by decide +kernel)
theorem dX6_take_75 : decode cX6_take 75 = .ok (.goto (-20), 3) := dc_167 (a := 255) (b := 236) (v := -20) (by decide +kernel)
theorem dX6_take_78 : decode cX6_take 78 = .ok (.iconst 2, 1) := dc_5 (by decide +kernel)
theorem dX6_take_79 : decode cX6_take 79 = .ok (.istore 6, 2) := dc_54 (a := 6) (by decide +kernel)
theorem dX6_take_81 : decode cX6_take 81 = .ok (.iload 6, 2) := dc_21 (a := 6) (by decide +kernel)
theorem dX6_take_83 : decode cX6_take 83 = .ok (.bipush 10, 2) := dc_16 (a := 10) (v := 10) (by decide +kernel)
theorem dX6_take_85 : decode cX6_take 85 = .ok (.if_icmp .ge 77, 3) := dc_162 (a := 0) (b := 77) (v := 77) (by decide +kernel)
theorem dX6_take_88 : decode cX6_take 88 = .ok (.iload 6, 2) := dc_21 (a := 6) (by decide +kernel)
theorem dX6_take_90 : decode cX6_take 90 = .ok (.bipush 6, 2) := dc_16 (a := 6) (v := 6) (by decide +kernel)
theorem dX6_take_92 : decode cX6_take 92 = .ok (.if_icmp .eq 64, 3) := dc_159 (a := 0) (b := 64) (v := 64) (by decide +kernel)
theorem dX6_take_95 : decode cX6_take 95 = .ok (.iload 6, 2) := dc_21 (a := 6) (by decide +kernel)
theorem dX6_take_97 : decode cX6_take 97 = .ok (.bipush 8, 2) := dc_16 (a := 8) (v := 8) (by decide +kernel)
theorem dX6_take_99 : decode cX6_take 99 = .ok (.if_icmp .ne 6, 3) := dc_160 (a := 0) (b := 6) (v := 6) (by decide +kernel)
theorem dX6_take_102 : decode cX6_take 102 = .ok (.goto 54, 3) := dc_167 (a := 0) (b := 54) (v := 54) (by decide +kernel)
theorem dX6_take_105 : decode cX6_take 105 = .ok (.iconst 0, 1) := dc_3 (by decide +kernel)
theorem dX6_take_106 : decode cX6_take 106 = .ok (.istore 7, 2) := dc_54 (a := 7) (by decide +kernel)
theorem dX6_take_108 : decode cX6_take 108 = .ok (.iload 7, 2) := dc_21 (a := 7) (by decide +kernel)
theorem dX6_take_110 : decode cX6_take 110 = .ok (.aload_n 0, 1) := dc_42 (by decide +kernel)
theorem dX6_take_111 : decode cX6_take 111 = .ok (.getfield 21, 3) := dc_180 (a := 0) (b := 21) (n := 21) (by decide +kernel)
theorem dX6_take_114 : decode cX6_take 114 = .ok (.iload 6, 2) := dc_21 (a := 6) (by decide +kernel)
theorem dX6_take_116 : decode cX6_take 116 = .ok (.iaload, 1) := dc_46 (by decide +kernel)
theorem dX6_take_117 : decode cX6_take 117 = .ok (.if_icmp .ge 39, 3) := dc_162 (a := 0) (b := 39) (v := 39) (by decide +kernel)
theorem dX6_take_120 : decode cX6_take 120 = .ok (.aload_n 0, 1) := dc_42 (by decide +kernel)
theorem dX6_take_121 : decode cX6_take 121 = .ok (.getfield 15, 3) := dc_180 (a := 0) (b := 15) (n := 15) (by decide +kernel)
theorem dX6_take_124 : decode cX6_take 124 = .ok (.aload_n 0, 1) := dc_42 (by decide +kernel)
theorem dX6_take_125 : decode cX6_take 125 = .ok (.getfield 18, 3) := dc_180 (a := 0) (b := 18) (n := 18) (by decide +kernel)
theorem dX6_take_128 : decode cX6_take 128 = .ok (.iload 6, 2) := dc_21 (a := 6) (by decide +kernel)
theorem dX6_take_130 : decode cX6_take 130 = .ok (.iaload, 1) := dc_46 (by decide +kernel)
theorem dX6_take_131 : decode cX6_take 131 = .ok (.iload 7, 2) := dc_21 (a := 7) (by decide +kernel)
theorem dX6_take_133 : decode cX6_take 133 = .ok (.iadd, 1) := dc_96 (by decide +kernel)
theorem dX6_take_134 : decode cX6_take 134 = .ok (.aload_n 0, 1) := dc_42 (by decide +kernel)
theorem dX6_take_135 : decode cX6_take 135 = .ok (.iload 6, 2) := dc_21 (a := 6) (by decide +kernel)
theorem dX6_take_137 : decode cX6_take 137 = .ok (.iload 7, 2) := dc_21 (a := 7) (by decide +kernel)
theorem dX6_take_139 : decode cX6_take 139 = .ok (.invokevirtual 32, 3) := dc_182 (a := 0) (b := 32) (n := 32) (by decide +kernel)
theorem dX6_take_142 : decode cX6_take 142 = .ok (.iload 4, 2) := dc_21 (a := 4) (by decide +kernel)
theorem dX6_take_144 : decode cX6_take 144 = .ok (.iload 5, 2) := dc_21 (a := 5) (by decide +kernel)
theorem dX6_take_146 : decode cX6_take 146 = .ok (.invokestatic 127, 3) := dc_184 (a := 0) (b := 127) (n := 127) (by decide +kernel)
theorem dX6_take_149 : decode cX6_take 149 = .ok (.iastore, 1) := dc_79 (by decide +kernel)
theorem dX6_take_150 : decode cX6_take 150 = .ok (.iinc 7 1, 3) := dc_132 (a := 7) (b := 1) (v := 1) (by decide +kernel)
theorem dX6_take_153 : decode cX6_take 153 = .ok (.goto (-45), 3) := dc_167 (a := 255) (b := 211) (v := -45) (by decide +kernel)
theorem dX6_take_156 : decode cX6_take 156 = .ok (.iinc 6 1, 3) := dc_132 (a := 6) (b := 1) (v := 1) (by decide +kernel)
theorem dX6_take_159 : decode cX6_take 159 = .ok (.goto (-78), 3) := dc_167 (a := 255) (b := 178) (v := -78) (by decide +kernel)
theorem dX6_take_162 : decode cX6_take 162 = .ok (.aload_n 0, 1) := dc_42 (by decide +kernel)
theorem dX6_take_163 : decode cX6_take 163 = .ok (.getfield 21, 3) := dc_180 (a := 0) (b := 21) (n := 21) (by decide +kernel)
theorem dX6_take_166 : decode cX6_take 166 = .ok (.bipush 9, 2) := dc_16 (a := 9) (v := 9) (by decide +kernel)
theorem dX6_take_168 : decode cX6_take 168 = .ok (.iaload, 1) := dc_46 (by decide +kernel)
theorem dX6_take_169 : decode cX6_take 169 = .ok (.ifCond .le 24, 3) := dc_158 (a := 0) (b := 24) (v := 24) (by decide +kernel)
theorem dX6_take_172 : decode cX6_take 172 = .ok (.aload_n 0, 1) := dc_42 (by decide +kernel)
theorem dX6_take_173 : decode cX6_take 173 = .ok (.getfield 15, 3) := dc_180 (a := 0) (b := 15) (n := 15) (by decide +kernel)
theorem dX6_take_176 : decode cX6_take 176 = .ok (.aload_n 0, 1) := dc_42 (by decide +kernel)
theorem dX6_take_177 : decode cX6_take 177 = .ok (.getfield 18, 3) := dc_180 (a := 0) (b := 18) (n := 18) (by decide +kernel)
theorem dX6_take_180 : decode cX6_take 180 = .ok (.bipush 9, 2) := dc_16 (a := 9) (v := 9) (by decide +kernel)
theorem dX6_take_182 : decode cX6_take 182 = .ok (.iaload, 1) := dc_46 (by decide +kernel)
theorem dX6_take_183 : decode cX6_take 183 = .ok (.aload_n 0, 1) := dc_42 (by decide +kernel)
theorem dX6_take_184 : decode cX6_take 184 = .ok (.bipush 9, 2) := dc_16 (a := 9) (v := 9) (by decide +kernel)
theorem dX6_take_186 : decode cX6_take 186 = .ok (.iconst 0, 1) := dc_3 (by decide +kernel)
theorem dX6_take_187 : decode cX6_take 187 = .ok (.invokevirtual 32, 3) := dc_182 (a := 0) (b := 32) (n := 32) (by decide +kernel)
theorem dX6_take_190 : decode cX6_take 190 = .ok (.iconst 4, 1) := dc_7 (by decide +kernel)
theorem dX6_take_191 : decode cX6_take 191 = .ok (.ishr, 1) := dc_122 (by decide +kernel)
theorem dX6_take_192 : decode cX6_take 192 = .ok (.iastore, 1) := dc_79 (by decide +kernel)
theorem dX6_take_193 : decode cX6_take 193 = .ok (.aload_n 0, 1) := dc_42 (by decide +kernel)
theorem dX6_take_194 : decode cX6_take 194 = .ok (.iconst 1, 1) := dc_4 (by decide +kernel)
theorem dX6_take_195 : decode cX6_take 195 = .ok (.putfield 131, 3) := dc_181 (a := 0) (b := 131) (n := 131) (by decide +kernel)
theorem dX6_take_198 : decode cX6_take 198 = .ok (.iconst 0, 1) := dc_3 (by decide +kernel)
theorem dX6_take_199 : decode cX6_take 199 = .ok (.ireturn, 1) := dc_172 (by decide +kernel)
theorem GX6_116 {w : eW} {d : Nat} {Y : eY} {pc : Nat} {ls : eL} {st : List Value} {h : eH} {Q : eO → eH → Prop} {a : Nat} {x : Int32} (hf : g_I 5 h a 7 = some x) (hd : decode Y.2.1 pc = .ok (.getfield 116, 3)) (hY : Y.1.cls = RX6) (kk : wp w d Y (pc + 3) ls (.int x :: st) h Q) : wp w d Y pc ls (.ref a :: st) h Q := x_gI (ci := 5) (k := 7) hf hd rfl (by decide) (by rw [hY]; exact q553) kk
theorem GX6_125 {w : eW} {d : Nat} {Y : eY} {pc : Nat} {ls : eL} {st : List Value} {h : eH} {Q : eO → eH → Prop} {a : Nat} {x : Int32} (hf : g_I 5 h a 6 = some x) (hd : decode Y.2.1 pc = .ok (.getfield 125, 3)) (hY : Y.1.cls = RX6) (kk : wp w d Y (pc + 3) ls (.int x :: st) h Q) : wp w d Y pc ls (.ref a :: st) h Q := x_gI (ci := 5) (k := 6) hf hd rfl (by decide) (by rw [hY]; exact q551) kk
theorem SX6_116 {w : eW} {d : Nat} {Y : eY} {pc : Nat} {ls : eL} {st : List Value} {h : eH} {Q : eO → eH → Prop} {a : Nat} {h' : eH} {x : Int32} (hf : p_V 5 h a 7 (.int x) = some h') (hd : decode Y.2.1 pc = .ok (.putfield 116, 3)) (hY : Y.1.cls = RX6) (kk : wp w d Y (pc + 3) ls st h' Q) : wp w d Y pc ls (.int x :: .ref a :: st) h Q := x_pI (ci := 5) (k := 7) hf hd rfl (by decide) (by rw [hY]; exact q553) rfl rfl kk
theorem SX6_125 {w : eW} {d : Nat} {Y : eY} {pc : Nat} {ls : eL} {st : List Value} {h : eH} {Q : eO → eH → Prop} {a : Nat} {h' : eH} {x : Int32} (hf : p_V 5 h a 6 (.int x) = some h') (hd : decode Y.2.1 pc = .ok (.putfield 125, 3)) (hY : Y.1.cls = RX6) (kk : wp w d Y (pc + 3) ls st h' Q) : wp w d Y pc ls (.int x :: .ref a :: st) h Q := x_pI (ci := 5) (k := 6) hf hd rfl (by decide) (by rw [hY]; exact q551) rfl rfl kk
theorem SX6_131 {w : eW} {d : Nat} {Y : eY} {pc : Nat} {ls : eL} {st : List Value} {h : eH} {Q : eO → eH → Prop} {a : Nat} {h' : eH} {x : Int32} (hf : p_Z 5 h a 10 x = some h') (hd : decode Y.2.1 pc = .ok (.putfield 131, 3)) (hY : Y.1.cls = RX6) (kk : wp w d Y (pc + 3) ls st h' Q) : wp w d Y pc ls (.int x :: .ref a :: st) h Q := x_pZ (ci := 5) (k := 10) hf hd rfl (by decide) (by rw [hY]; exact q558) rfl rfl kk
def fX6_take_b156 (N : Nat) (k81 : Nat → Int32 → Int32 → Int32 → eH → Option (Int32 × eH)) (l0 : Nat) (l4 : Int32) (l5 : Int32) (l6 : Int32) (h : eH) : Option (Int32 × eH) :=
  k81 l0 l4 l5 (l6 + (1 : Int32)) h
theorem pX6_take_b156 {w : eW} {d : Nat} (hd : 5 ≤ d + 1) {N : Nat} {k81 : Nat → Int32 → Int32 → Int32 → eH → Option (Int32 × eH)} (hk81 : ∀ l0 l4 l5 l6 h q, k81 l0 l4 l5 l6 h = some q → wp w (d + 1) YX6_take 81 [some (.ref l0), none, none, none, some (.int l4), some (.int l5), some (.int l6), none] [] h (e_is (e_rn c_I q))) {l0 : Nat} {l4 : Int32} {l5 : Int32} {l6 : Int32} {h : eH} {q} (hf : fX6_take_b156 N k81 l0 l4 l5 l6 h = some q) : wp w (d + 1) YX6_take 156 [some (.ref l0), none, none, none, some (.int l4), some (.int l5), some (.int l6), none] [] h (e_is (e_rn c_I q)) := by
  unfold fX6_take_b156 at hf
  refine w_iinc dX6_take_156 (v := (l6 + (1 : Int32))) rfl rfl (by decide) (ls' := [some (.ref l0), none, none, none, some (.int l4), some (.int l5), some (.int (l6 + (1 : Int32))), none]) rfl ?_
  refine w_goto 81 dX6_take_159 (by decide) ?_
  exact (hk81 _ _ _ _ _ _ hf).to ⟨rfl, rfl, rfl, rfl, trivial⟩
def fX6_take_b108 (N : Nat) (k81 : Nat → Int32 → Int32 → Int32 → eH → Option (Int32 × eH)) : Nat → Nat → Int32 → Int32 → Int32 → Int32 → eH → Option (Int32 × eH)
  | 0, _, _, _, _, _, _ => none
  | n + 1, l0, l4, l5, l6, l7, h =>
    (g_A 5 h l0 3).bind fun a1 =>
    (r_I 100 h a1 l6).bind fun x3 =>
    if x3 ≤ l7 then
      fX6_take_b156 N k81 l0 l4 l5 l6 h
    else
      (g_A 5 h l0 1).bind fun a6 =>
      (g_A 5 h l0 2).bind fun a8 =>
      (r_I 100 h a8 l6).bind fun x10 =>
      (k_ok 5 h l0).bind fun _ =>
      (fX6_word l0 l6 l7 h).bind fun q13 =>
      (fX6_scale q13.1 l4 l5 q13.2).bind fun q14 =>
      (q_V 100 q14.2 a6 (x10 + l7) (.int q14.1)).bind fun h15 =>
      fX6_take_b108 N k81 n l0 l4 l5 l6 (l7 + (1 : Int32)) h15
theorem pX6_take_b108 {w : eW} {d : Nat} (hd : 5 ≤ d + 1) {N : Nat} {k81 : Nat → Int32 → Int32 → Int32 → eH → Option (Int32 × eH)} (hk81 : ∀ l0 l4 l5 l6 h q, k81 l0 l4 l5 l6 h = some q → wp w (d + 1) YX6_take 81 [some (.ref l0), none, none, none, some (.int l4), some (.int l5), some (.int l6), none] [] h (e_is (e_rn c_I q))) : ∀ (n : Nat) l0 l4 l5 l6 l7 h q, fX6_take_b108 N k81 n l0 l4 l5 l6 l7 h = some q → wp w (d + 1) YX6_take 108 [some (.ref l0), none, none, none, some (.int l4), some (.int l5), some (.int l6), some (.int l7)] [] h (e_is (e_rn c_I q)) := by
  intro n
  induction n with
  | zero => intro l0 l4 l5 l6 l7 h q hf; simp [fX6_take_b108] at hf
  | succ n ih =>
    intro l0 l4 l5 l6 l7 h q hf
    rw [fX6_take_b108] at hf
    refine w_iload dX6_take_108 rfl ?_
    refine w_aload_n dX6_take_110 rfl rfl ?_
    obtain ⟨a1, b2, hf⟩ := Option.bind_eq_some_iff.mp hf
    refine GX6_21 b2 dX6_take_111 rfl ?_
    refine w_iload dX6_take_114 rfl ?_
    obtain ⟨x3, b4, hf⟩ := Option.bind_eq_some_iff.mp hf
    refine x_rI b4 dX6_take_116 ?_
    refine w_icmp_ge 156 dX6_take_117 (by decide) (fun c5 => ?_) (fun c5 => ?_)
    · replace hf := (if_pos (show x3 ≤ l7 from c5)).symm.trans hf
      exact (pX6_take_b156 hd hk81 hf).to ⟨rfl, rfl, rfl, rfl, trivial⟩
    · replace hf := (if_neg (show ¬ (x3 ≤ l7) from c5)).symm.trans hf
      refine w_aload_n dX6_take_120 rfl rfl ?_
      obtain ⟨a6, b7, hf⟩ := Option.bind_eq_some_iff.mp hf
      refine GX6_15 b7 dX6_take_121 rfl ?_
      refine w_aload_n dX6_take_124 rfl rfl ?_
      obtain ⟨a8, b9, hf⟩ := Option.bind_eq_some_iff.mp hf
      refine GX6_18 b9 dX6_take_125 rfl ?_
      refine w_iload dX6_take_128 rfl ?_
      obtain ⟨x10, b11, hf⟩ := Option.bind_eq_some_iff.mp hf
      refine x_rI b11 dX6_take_130 ?_
      refine w_iload dX6_take_131 rfl ?_
      refine w_iadd dX6_take_133 ?_
      refine w_aload_n dX6_take_134 rfl rfl ?_
      refine w_iload dX6_take_135 rfl ?_
      refine w_iload dX6_take_137 rfl ?_
      obtain ⟨_, b12, hf⟩ := Option.bind_eq_some_iff.mp hf
      refine x_cnI hf (e_stV (Yc := YX6_word) (ci := 5) (av := [.int l6, .int l7]) (st := [.int (x10 + l7), .ref a6]) dX6_take_139 q2229 mX6_word rfl (k_ok_some b12).1 (k_ok_some b12).2) mX6_word.2.2.1 mX6_word.2.2.2.2.1 (Nat.le_of_ble_eq_true rfl) (Nat.le_of_ble_eq_true rfl) (fun q hq => pX6_word (by omega) hq) (fun q13 hf => ?_)
      refine w_iload dX6_take_142 rfl ?_
      refine w_iload dX6_take_144 rfl ?_
      refine x_cnI hf (e_stS (Yc := YX6_scale) (av := [.int q13.1, .int l4, .int l5]) (st := [.int (x10 + l7), .ref a6]) dX6_take_146 q3945 mX6_scale) mX6_scale.2.2.1 mX6_scale.2.2.2.2.1 (Nat.le_of_ble_eq_true rfl) (Nat.le_of_ble_eq_true rfl) (fun q hq => pX6_scale (by omega) hq) (fun q14 hf => ?_)
      obtain ⟨h15, b16, hf⟩ := Option.bind_eq_some_iff.mp hf
      refine x_qI b16 dX6_take_149 ?_
      refine w_iinc dX6_take_150 (v := (l7 + (1 : Int32))) rfl rfl (by decide) (ls' := [some (.ref l0), none, none, none, some (.int l4), some (.int l5), some (.int l6), some (.int (l7 + (1 : Int32)))]) rfl ?_
      refine w_goto 108 dX6_take_153 (by decide) ?_
      exact (ih _ _ _ _ _ _ _ hf).to ⟨rfl, rfl, rfl, rfl, rfl, trivial⟩
def fX6_take_b193 (N : Nat) (l0 : Nat) (h : eH) : Option (Int32 × eH) :=
  (p_Z 5 h l0 10 (1 : Int32)).bind fun h1 =>
  some ((0 : Int32), h1)
theorem pX6_take_b193 {w : eW} {d : Nat} (hd : 5 ≤ d + 1) {N : Nat} {l0 : Nat} {h : eH} {q} (hf : fX6_take_b193 N l0 h = some q) : wp w (d + 1) YX6_take 193 [some (.ref l0), none, none, none, none, none, none, none] [] h (e_is (e_rn c_I q)) := by
  unfold fX6_take_b193 at hf
  refine w_aload_n dX6_take_193 rfl rfl ?_
  refine w_iconst dX6_take_194 (v := 1) (by decide) ?_
  obtain ⟨h1, b2, hf⟩ := Option.bind_eq_some_iff.mp hf
  refine SX6_131 b2 dX6_take_195 rfl ?_
  refine w_iconst dX6_take_198 (v := 0) (by decide) ?_
  cases hf
  exact w_iret dX6_take_199 rfl rfl rfl
def fX6_take_b81 (N : Nat) : Nat → Nat → Int32 → Int32 → Int32 → eH → Option (Int32 × eH)
  | 0, _, _, _, _, _ => none
  | n + 1, l0, l4, l5, l6, h =>
    if (10 : Int32) ≤ l6 then
      (g_A 5 h l0 3).bind fun a2 =>
      (r_I 100 h a2 (9 : Int32)).bind fun x4 =>
      if x4 ≤ 0 then
        fX6_take_b193 N l0 h
      else
        (g_A 5 h l0 1).bind fun a7 =>
        (g_A 5 h l0 2).bind fun a9 =>
        (r_I 100 h a9 (9 : Int32)).bind fun x11 =>
        (k_ok 5 h l0).bind fun _ =>
        (fX6_word l0 (9 : Int32) (0 : Int32) h).bind fun q14 =>
        (q_V 100 q14.2 a7 x11 (.int (q14.1 >>> ((4 : Int32) &&& 31)))).bind fun h15 =>
        fX6_take_b193 N l0 h15
    else
      if l6 = (6 : Int32) then
        fX6_take_b156 N (fX6_take_b81 N n) l0 l4 l5 l6 h
      else
        if ¬ l6 = (8 : Int32) then
          fX6_take_b108 N (fX6_take_b81 N n) N l0 l4 l5 l6 (0 : Int32) h
        else
          fX6_take_b156 N (fX6_take_b81 N n) l0 l4 l5 l6 h
theorem pX6_take_b81 {w : eW} {d : Nat} (hd : 5 ≤ d + 1) {N : Nat} : ∀ (n : Nat) l0 l4 l5 l6 h q, fX6_take_b81 N n l0 l4 l5 l6 h = some q → wp w (d + 1) YX6_take 81 [some (.ref l0), none, none, none, some (.int l4), some (.int l5), some (.int l6), none] [] h (e_is (e_rn c_I q)) := by
  intro n
  induction n with
  | zero => intro l0 l4 l5 l6 h q hf; simp [fX6_take_b81] at hf
  | succ n ih =>
    intro l0 l4 l5 l6 h q hf
    rw [fX6_take_b81] at hf
    refine w_iload dX6_take_81 rfl ?_
    refine w_bipush dX6_take_83 (v := 10) (by decide) ?_
    refine w_icmp_ge 162 dX6_take_85 (by decide) (fun c1 => ?_) (fun c1 => ?_)
    · replace hf := (if_pos (show (10 : Int32) ≤ l6 from c1)).symm.trans hf
      refine w_aload_n dX6_take_162 rfl rfl ?_
      obtain ⟨a2, b3, hf⟩ := Option.bind_eq_some_iff.mp hf
      refine GX6_21 b3 dX6_take_163 rfl ?_
      refine w_bipush dX6_take_166 (v := 9) (by decide) ?_
      obtain ⟨x4, b5, hf⟩ := Option.bind_eq_some_iff.mp hf
      refine x_rI b5 dX6_take_168 ?_
      refine w_if_le 193 dX6_take_169 (by decide) (fun c6 => ?_) (fun c6 => ?_)
      · replace hf := (if_pos (show x4 ≤ 0 from c6)).symm.trans hf
        exact (pX6_take_b193 hd hf).to ⟨rfl, trivial⟩
      · replace hf := (if_neg (show ¬ (x4 ≤ 0) from c6)).symm.trans hf
        refine w_aload_n dX6_take_172 rfl rfl ?_
        obtain ⟨a7, b8, hf⟩ := Option.bind_eq_some_iff.mp hf
        refine GX6_15 b8 dX6_take_173 rfl ?_
        refine w_aload_n dX6_take_176 rfl rfl ?_
        obtain ⟨a9, b10, hf⟩ := Option.bind_eq_some_iff.mp hf
        refine GX6_18 b10 dX6_take_177 rfl ?_
        refine w_bipush dX6_take_180 (v := 9) (by decide) ?_
        obtain ⟨x11, b12, hf⟩ := Option.bind_eq_some_iff.mp hf
        refine x_rI b12 dX6_take_182 ?_
        refine w_aload_n dX6_take_183 rfl rfl ?_
        refine w_bipush dX6_take_184 (v := 9) (by decide) ?_
        refine w_iconst dX6_take_186 (v := 0) (by decide) ?_
        obtain ⟨_, b13, hf⟩ := Option.bind_eq_some_iff.mp hf
        refine x_cnI hf (e_stV (Yc := YX6_word) (ci := 5) (av := [.int (9 : Int32), .int (0 : Int32)]) (st := [.int x11, .ref a7]) dX6_take_187 q2229 mX6_word rfl (k_ok_some b13).1 (k_ok_some b13).2) mX6_word.2.2.1 mX6_word.2.2.2.2.1 (Nat.le_of_ble_eq_true rfl) (Nat.le_of_ble_eq_true rfl) (fun q hq => pX6_word (by omega) hq) (fun q14 hf => ?_)
        refine w_iconst dX6_take_190 (v := 4) (by decide) ?_
        refine w_ishr dX6_take_191 ?_
        obtain ⟨h15, b16, hf⟩ := Option.bind_eq_some_iff.mp hf
        refine x_qI b16 dX6_take_192 ?_
        exact (pX6_take_b193 hd hf).to ⟨rfl, trivial⟩
    · replace hf := (if_neg (show ¬ ((10 : Int32) ≤ l6) from c1)).symm.trans hf
      refine w_iload dX6_take_88 rfl ?_
      refine w_bipush dX6_take_90 (v := 6) (by decide) ?_
      refine w_icmp_eq 156 dX6_take_92 (by decide) (fun c17 => ?_) (fun c17 => ?_)
      · replace hf := (if_pos (show l6 = (6 : Int32) from c17)).symm.trans hf
        exact (pX6_take_b156 hd ih hf).to ⟨rfl, rfl, rfl, rfl, trivial⟩
      · replace hf := (if_neg (show ¬ (l6 = (6 : Int32)) from c17)).symm.trans hf
        refine w_iload dX6_take_95 rfl ?_
        refine w_bipush dX6_take_97 (v := 8) (by decide) ?_
        refine w_icmp_ne 105 dX6_take_99 (by decide) (fun c18 => ?_) (fun c18 => ?_)
        · replace hf := (if_pos (show ¬ l6 = (8 : Int32) from c18)).symm.trans hf
          refine w_iconst dX6_take_105 (v := 0) (by decide) ?_
          refine w_istore dX6_take_106 (by decide) (ls' := [some (.ref l0), none, none, none, some (.int l4), some (.int l5), some (.int l6), some (.int (0 : Int32))]) rfl ?_
          exact (pX6_take_b108 hd ih N _ _ _ _ _ _ _ hf).to ⟨rfl, rfl, rfl, rfl, rfl, trivial⟩
        · replace hf := (if_neg (show ¬ (¬ l6 = (8 : Int32)) from (fun z => z c18))).symm.trans hf
          refine w_goto 156 dX6_take_102 (by decide) ?_
          exact (pX6_take_b156 hd ih hf).to ⟨rfl, rfl, rfl, rfl, trivial⟩
def fX6_take_b55 (N : Nat) : Nat → Nat → Int32 → Int32 → eH → Option (Int32 × eH)
  | 0, _, _, _, _ => none
  | n + 1, l0, l4, l5, h =>
    if l4 < (8388608 : Int32) then
      fX6_take_b81 N N l0 l4 l5 (2 : Int32) h
    else
      fX6_take_b55 N n l0 (l4 >>> ((1 : Int32) &&& 31)) (l5 + l5) h
theorem pX6_take_b55 {w : eW} {d : Nat} (hd : 5 ≤ d + 1) {N : Nat} : ∀ (n : Nat) l0 l4 l5 h q, fX6_take_b55 N n l0 l4 l5 h = some q → wp w (d + 1) YX6_take 55 [some (.ref l0), none, none, none, some (.int l4), some (.int l5), none, none] [] h (e_is (e_rn c_I q)) := by
  intro n
  induction n with
  | zero => intro l0 l4 l5 h q hf; simp [fX6_take_b55] at hf
  | succ n ih =>
    intro l0 l4 l5 h q hf
    rw [fX6_take_b55] at hf
    refine w_iload dX6_take_55 rfl ?_
    refine w_ldc dX6_take_57 q3944 ?_
    refine w_icmp_lt 78 dX6_take_59 (by decide) (fun c1 => ?_) (fun c1 => ?_)
    · replace hf := (if_pos (show l4 < (8388608 : Int32) from c1)).symm.trans hf
      refine w_iconst dX6_take_78 (v := 2) (by decide) ?_
      refine w_istore dX6_take_79 (by decide) (ls' := [some (.ref l0), none, none, none, some (.int l4), some (.int l5), some (.int (2 : Int32)), none]) rfl ?_
      exact (pX6_take_b81 hd N _ _ _ _ _ _ hf).to ⟨rfl, rfl, rfl, rfl, trivial⟩
    · replace hf := (if_neg (show ¬ (l4 < (8388608 : Int32)) from c1)).symm.trans hf
      refine w_iload dX6_take_62 rfl ?_
      refine w_iconst dX6_take_64 (v := 1) (by decide) ?_
      refine w_ishr dX6_take_65 ?_
      refine w_istore dX6_take_66 (by decide) (ls' := [some (.ref l0), none, none, none, some (.int (l4 >>> ((1 : Int32) &&& 31))), some (.int l5), none, none]) rfl ?_
      refine w_iload dX6_take_68 rfl ?_
      refine w_iload dX6_take_70 rfl ?_
      refine w_iadd dX6_take_72 ?_
      refine w_istore dX6_take_73 (by decide) (ls' := [some (.ref l0), none, none, none, some (.int (l4 >>> ((1 : Int32) &&& 31))), some (.int (l5 + l5)), none, none]) rfl ?_
      refine w_goto 55 dX6_take_75 (by decide) ?_
      exact (ih _ _ _ _ _ hf).to ⟨rfl, rfl, rfl, trivial⟩
def fX6_take_b42 (N : Nat) (l0 : Nat) (s0 : Nat) (s1 : Int32) (h : eH) : Option (Int32 × eH) :=
  (p_V 5 h s0 6 (.int s1)).bind fun h1 =>
  (g_I 5 h1 l0 6).bind fun x3 =>
  fX6_take_b55 N N l0 x3 (16 : Int32) h1
theorem pX6_take_b42 {w : eW} {d : Nat} (hd : 5 ≤ d + 1) {N : Nat} {l0 : Nat} {s0 : Nat} {s1 : Int32} {h : eH} {q} (hf : fX6_take_b42 N l0 s0 s1 h = some q) : wp w (d + 1) YX6_take 42 [some (.ref l0), none, none, none, none, none, none, none] [.int s1, .ref s0] h (e_is (e_rn c_I q)) := by
  unfold fX6_take_b42 at hf
  obtain ⟨h1, b2, hf⟩ := Option.bind_eq_some_iff.mp hf
  refine SX6_125 b2 dX6_take_42 rfl ?_
  refine w_aload_n dX6_take_45 rfl rfl ?_
  obtain ⟨x3, b4, hf⟩ := Option.bind_eq_some_iff.mp hf
  refine GX6_125 b4 dX6_take_46 rfl ?_
  refine w_istore dX6_take_49 (by decide) (ls' := [some (.ref l0), none, none, none, some (.int x3), none, none, none]) rfl ?_
  refine w_bipush dX6_take_51 (v := 16) (by decide) ?_
  refine w_istore dX6_take_53 (by decide) (ls' := [some (.ref l0), none, none, none, some (.int x3), some (.int (16 : Int32)), none, none]) rfl ?_
  exact (pX6_take_b55 hd N _ _ _ _ _ hf).to ⟨rfl, rfl, rfl, trivial⟩
def fX6_take (N : Nat) (this : Nat) (p0 : Nat) (p1 : Int32) (h : eH) : Option (Int32 × eH) :=
  (k_ok 5 h this).bind fun _ =>
  (fX6_check N this p0 h).bind fun q2 =>
  if q2.1 = 0 then
    (k_ok 5 q2.2 this).bind fun _ =>
    (fX6_word this (0 : Int32) (1 : Int32) q2.2).bind fun q5 =>
    (p_V 5 q5.2 this 7 (.int (q5.1 >>> ((4 : Int32) &&& 31)))).bind fun h6 =>
    if p1 ≤ 0 then
      (g_I 5 h6 this 7).bind fun x9 =>
      fX6_take_b42 N this this (m_minI x9 (134217727 : Int32)) h6
    else
      fX6_take_b42 N this this p1 h6
  else
    some (q2.1, q2.2)
theorem pX6_take {w : eW} {d : Nat} (hd : 5 ≤ d) {N : Nat} {this : Nat} {p0 : Nat} {p1 : Int32} {h : eH} {q} (hf : fX6_take N this p0 p1 h = some q) : wm w d YX6_take [.ref this, .ref p0, .int p1] h (e_is (e_rn c_I q)) := by
  obtain ⟨d, rfl⟩ : ∃ e, d = e + 1 := ⟨d - 1, by omega⟩
  show wp w (d + 1) YX6_take 0 [some (.ref this), some (.ref p0), some (.int p1), none, none, none, none, none] [] h _
  unfold fX6_take at hf
  refine w_aload_n dX6_take_0 rfl rfl ?_
  refine w_aload_n dX6_take_1 rfl rfl ?_
  obtain ⟨_, b1, hf⟩ := Option.bind_eq_some_iff.mp hf
  refine x_cnI hf (e_stV (Yc := YX6_check) (ci := 5) (av := [.ref p0]) (st := []) dX6_take_2 q3941 mX6_check rfl (k_ok_some b1).1 (k_ok_some b1).2) mX6_check.2.2.1 mX6_check.2.2.2.2.1 (Nat.le_of_ble_eq_true rfl) (Nat.le_of_ble_eq_true rfl) (fun q hq => pX6_check (by omega) hq) (fun q2 hf => ?_)
  refine w_istore_n dX6_take_5 rfl (by decide) (ls' := [some (.ref this), some (.ref p0), some (.int p1), some (.int q2.1), none, none, none, none]) rfl ?_
  refine w_iload_n dX6_take_6 rfl rfl ?_
  refine w_if_eq 12 dX6_take_7 (by decide) (fun c3 => ?_) (fun c3 => ?_)
  · replace hf := (if_pos (show q2.1 = 0 from c3)).symm.trans hf
    refine w_aload_n dX6_take_12 rfl rfl ?_
    refine w_aload_n dX6_take_13 rfl rfl ?_
    refine w_iconst dX6_take_14 (v := 0) (by decide) ?_
    refine w_iconst dX6_take_15 (v := 1) (by decide) ?_
    obtain ⟨_, b4, hf⟩ := Option.bind_eq_some_iff.mp hf
    refine x_cnI hf (e_stV (Yc := YX6_word) (ci := 5) (av := [.int (0 : Int32), .int (1 : Int32)]) (st := [.ref this]) dX6_take_16 q2229 mX6_word rfl (k_ok_some b4).1 (k_ok_some b4).2) mX6_word.2.2.1 mX6_word.2.2.2.2.1 (Nat.le_of_ble_eq_true rfl) (Nat.le_of_ble_eq_true rfl) (fun q hq => pX6_word (by omega) hq) (fun q5 hf => ?_)
    refine w_iconst dX6_take_19 (v := 4) (by decide) ?_
    refine w_ishr dX6_take_20 ?_
    obtain ⟨h6, b7, hf⟩ := Option.bind_eq_some_iff.mp hf
    refine SX6_116 b7 dX6_take_21 rfl ?_
    refine w_aload_n dX6_take_24 rfl rfl ?_
    refine w_iload_n dX6_take_25 rfl rfl ?_
    refine w_if_le 33 dX6_take_26 (by decide) (fun c8 => ?_) (fun c8 => ?_)
    · replace hf := (if_pos (show p1 ≤ 0 from c8)).symm.trans hf
      refine w_aload_n dX6_take_33 rfl rfl ?_
      obtain ⟨x9, b10, hf⟩ := Option.bind_eq_some_iff.mp hf
      refine GX6_116 b10 dX6_take_34 rfl ?_
      refine w_ldc dX6_take_37 q3942 ?_
      refine x_minI dX6_take_39 q3943 q2930 q478 q2931 (Nat.le_of_ble_eq_true rfl) ?_
      exact (pX6_take_b42 hd hf).to ⟨rfl, trivial⟩
    · replace hf := (if_neg (show ¬ (p1 ≤ 0) from c8)).symm.trans hf
      refine w_iload_n dX6_take_29 rfl rfl ?_
      refine w_goto 42 dX6_take_30 (by decide) ?_
      exact (pX6_take_b42 hd hf).to ⟨rfl, trivial⟩
  · replace hf := (if_neg (show ¬ (q2.1 = 0) from c3)).symm.trans hf
    refine w_iload_n dX6_take_10 rfl rfl ?_
    cases hf
    exact w_iret dX6_take_11 rfl rfl rfl
abbrev cX5_find : ByteArray := prog_9_method_4_code
def yX5_find : MethodName := ⟨RX5, "find", "(II)I"⟩
def YX5_find : eY := (yX5_find, cX5_find, 5, (Option.some FieldType.int), [])
theorem mX5_find : e_mv YX5_find RX5 2 := ⟨q3931, q3932, q3933, by decide, by decide +kernel, (e_sig (by decide +kernel))⟩
theorem dX5_find_0 : decode cX5_find 0 = .ok (.iload_n 2, 1) := dc_28 (by decide +kernel)
theorem dX5_find_1 : decode cX5_find 1 = .ok (.ifCond .le 7, 3) := dc_158 (a := 0) (b := 7) (v := 7) (by decide +kernel)
theorem dX5_find_4 : decode cX5_find 4 = .ok (.iload_n 2, 1) := dc_28 (by decide +kernel)
theorem dX5_find_5 : decode cX5_find 5 = .ok (.goto 21, 3) := dc_167 (a := 0) (b := 21) (v := 21) (by decide +kernel)
theorem dX5_find_8 : decode cX5_find 8 = .ok (.aload_n 0, 1) := dc_42 (by decide +kernel)
theorem dX5_find_9 : decode cX5_find 9 = .ok (.getfield 11, 3) := dc_180 (a := 0) (b := 11) (n := 11) (by decide +kernel)
theorem dX5_find_12 : decode cX5_find 12 = .ok (.iload_n 1, 1) := dc_27 (by decide +kernel)
theorem dX5_find_13 : decode cX5_find 13 = .ok (.aaload, 1) := dc_50 (by decide +kernel)
theorem dX5_find_14 : decode cX5_find 14 = .ok (.bipush 7, 2) := dc_16 (a := 7) (v := 7) (by decide +kernel)
theorem dX5_find_16 : decode cX5_find 16 = .ok (.invokevirtual 61, 3) := dc_182 (a := 0) (b := 61) (n := 61) (by decide +kernel)
theorem dX5_find_19 : decode cX5_find 19 = .ok (.iconst 4, 1) := dc_7 (by decide +kernel)
theorem dX5_find_20 : decode cX5_find 20 = .ok (.ishr, 1) := dc_122 (by decide +kernel)
theorem dX5_find_21 : decode cX5_find 21 = .ok (.ldc 65, 2) := dc_18 (a := 65) (by decide +kernel)
theorem dX5_find_23 : decode cX5_find 23 = .ok (.invokestatic 66, 3) := dc_184 (a := 0) (b := 66) (n := 66) (by decide +kernel)
theorem dX5_find_26 : decode cX5_find 26 = .ok (.istore_n 3, 1) := dc_62 (by decide +kernel)
theorem dX5_find_27 : decode cX5_find 27 = .ok (.iconst 0, 1) := dc_3 (by decide +kernel)
theorem dX5_find_28 : decode cX5_find 28 = .ok (.istore 4, 2) := dc_54 (a := 4) (by decide +kernel)
theorem dX5_find_30 : decode cX5_find 30 = .ok (.iload 4, 2) := dc_21 (a := 4) (by decide +kernel)
theorem dX5_find_32 : decode cX5_find 32 = .ok (.aload_n 0, 1) := dc_42 (by decide +kernel)
theorem dX5_find_33 : decode cX5_find 33 = .ok (.getfield 39, 3) := dc_180 (a := 0) (b := 39) (n := 39) (by decide +kernel)
theorem dX5_find_36 : decode cX5_find 36 = .ok (.if_icmp .ge 37, 3) := dc_162 (a := 0) (b := 37) (v := 37) (by decide +kernel)
theorem dX5_find_39 : decode cX5_find 39 = .ok (.aload_n 0, 1) := dc_42 (by decide +kernel)
theorem dX5_find_40 : decode cX5_find 40 = .ok (.getfield 23, 3) := dc_180 (a := 0) (b := 23) (n := 23) (by decide +kernel)
theorem dX5_find_43 : decode cX5_find 43 = .ok (.iload 4, 2) := dc_21 (a := 4) (by decide +kernel)
theorem dX5_find_45 : decode cX5_find 45 = .ok (.iaload, 1) := dc_46 (by decide +kernel)
theorem dX5_find_46 : decode cX5_find 46 = .ok (.iload_n 1, 1) := dc_27 (by decide +kernel)
theorem dX5_find_47 : decode cX5_find 47 = .ok (.if_icmp .ne 20, 3) := dc_160 (a := 0) (b := 20) (v := 20) (by decide +kernel)
theorem dX5_find_50 : decode cX5_find 50 = .ok (.aload_n 0, 1) := dc_42 (by decide +kernel)
theorem dX5_find_51 : decode cX5_find 51 = .ok (.getfield 19, 3) := dc_180 (a := 0) (b := 19) (n := 19) (by decide +kernel)
theorem dX5_find_54 : decode cX5_find 54 = .ok (.iload 4, 2) := dc_21 (a := 4) (by decide +kernel)
theorem dX5_find_56 : decode cX5_find 56 = .ok (.aaload, 1) := dc_50 (by decide +kernel)
theorem dX5_find_57 : decode cX5_find 57 = .ok (.getfield 72, 3) := dc_180 (a := 0) (b := 72) (n := 72) (by decide +kernel)
theorem dX5_find_60 : decode cX5_find 60 = .ok (.iload_n 3, 1) := dc_29 (by decide +kernel)
theorem dX5_find_61 : decode cX5_find 61 = .ok (.if_icmp .ne 6, 3) := dc_160 (a := 0) (b := 6) (v := 6) (by decide +kernel)
theorem dX5_find_64 : decode cX5_find 64 = .ok (.iload 4, 2) := dc_21 (a := 4) (by decide +kernel)
theorem dX5_find_66 : decode cX5_find 66 = .ok (.ireturn, 1) := dc_172 (by decide +kernel)
theorem dX5_find_67 : decode cX5_find 67 = .ok (.iinc 4 1, 3) := dc_132 (a := 4) (b := 1) (v := 1) (by decide +kernel)
theorem dX5_find_70 : decode cX5_find 70 = .ok (.goto (-40), 3) := dc_167 (a := 255) (b := 216) (v := -40) (by decide +kernel)
theorem dX5_find_73 : decode cX5_find 73 = .ok (.aload_n 0, 1) := dc_42 (by decide +kernel)
theorem dX5_find_74 : decode cX5_find 74 = .ok (.getfield 39, 3) := dc_180 (a := 0) (b := 39) (n := 39) (by decide +kernel)
theorem dX5_find_77 : decode cX5_find 77 = .ok (.bipush 100, 2) := dc_16 (a := 100) (v := 100) (by decide +kernel)
theorem dX5_find_79 : decode cX5_find 79 = .ok (.if_icmp .ne 5, 3) := dc_160 (a := 0) (b := 5) (v := 5) (by decide +kernel)
theorem dX5_find_82 : decode cX5_find 82 = .ok (.iconst (-1), 1) := dc_2 (by decide +kernel)
theorem dX5_find_83 : decode cX5_find 83 = .ok (.ireturn, 1) := dc_172 (by decide +kernel)
theorem dX5_find_84 : decode cX5_find 84 = .ok (.aload_n 0, 1) := dc_42 (by decide +kernel)
theorem dX5_find_85 : decode cX5_find 85 = .ok (.getfield 19, 3) := dc_180 (a := 0) (b := 19) (n := 19) (by decide +kernel)
theorem dX5_find_88 : decode cX5_find 88 = .ok (.aload_n 0, 1) := dc_42 (by decide +kernel)
theorem dX5_find_89 : decode cX5_find 89 = .ok (.getfield 39, 3) := dc_180 (a := 0) (b := 39) (n := 39) (by decide +kernel)
theorem dX5_find_92 : decode cX5_find 92 = .ok (.aaload, 1) := dc_50 (by decide +kernel)
theorem dX5_find_93 : decode cX5_find 93 = .ok (.ifnonnull 19, 3) := dc_199 (a := 0) (b := 19) (v := 19) (by decide +kernel)
theorem dX5_find_96 : decode cX5_find 96 = .ok (.aload_n 0, 1) := dc_42 (by decide +kernel)
theorem dX5_find_97 : decode cX5_find 97 = .ok (.getfield 19, 3) := dc_180 (a := 0) (b := 19) (n := 19) (by decide +kernel)
theorem dX5_find_100 : decode cX5_find 100 = .ok (.aload_n 0, 1) := dc_42 (by decide +kernel)
theorem dX5_find_101 : decode cX5_find 101 = .ok (.getfield 39, 3) := dc_180 (a := 0) (b := 39) (n := 39) (by decide +kernel)
theorem dX5_find_104 : decode cX5_find 104 = .ok (.new 17, 3) := dc_187 (a := 0) (b := 17) (n := 17) (by decide +kernel)
theorem dX5_find_107 : decode cX5_find 107 = .ok (.dup, 1) := dc_89 (by decide +kernel)
theorem dX5_find_108 : decode cX5_find 108 = .ok (.invokespecial 34, 3) := dc_183 (a := 0) (b := 34) (n := 34) (by decide +kernel)
theorem dX5_find_111 : decode cX5_find 111 = .ok (.aastore, 1) := dc_83 (by decide +kernel)
theorem dX5_find_112 : decode cX5_find 112 = .ok (.aload_n 0, 1) := dc_42 (by decide +kernel)
theorem dX5_find_113 : decode cX5_find 113 = .ok (.getfield 19, 3) := dc_180 (a := 0) (b := 19) (n := 19) (by decide +kernel)
theorem dX5_find_116 : decode cX5_find 116 = .ok (.aload_n 0, 1) := dc_42 (by decide +kernel)
theorem dX5_find_117 : decode cX5_find 117 = .ok (.getfield 39, 3) := dc_180 (a := 0) (b := 39) (n := 39) (by decide +kernel)
theorem dX5_find_120 : decode cX5_find 120 = .ok (.aaload, 1) := dc_50 (by decide +kernel)
theorem dX5_find_121 : decode cX5_find 121 = .ok (.aload_n 0, 1) := dc_42 (by decide +kernel)
theorem dX5_find_122 : decode cX5_find 122 = .ok (.getfield 11, 3) := dc_180 (a := 0) (b := 11) (n := 11) (by decide +kernel)
theorem dX5_find_125 : decode cX5_find 125 = .ok (.iload_n 1, 1) := dc_27 (by decide +kernel)
theorem dX5_find_126 : decode cX5_find 126 = .ok (.aaload, 1) := dc_50 (by decide +kernel)
theorem dX5_find_127 : decode cX5_find 127 = .ok (.iload_n 3, 1) := dc_29 (by decide +kernel)
theorem dX5_find_128 : decode cX5_find 128 = .ok (.invokevirtual 75, 3) := dc_182 (a := 0) (b := 75) (n := 75) (by decide +kernel)
theorem dX5_find_131 : decode cX5_find 131 = .ok (.istore 4, 2) := dc_54 (a := 4) (by decide +kernel)
theorem dX5_find_133 : decode cX5_find 133 = .ok (.aload_n 0, 1) := dc_42 (by decide +kernel)
theorem dX5_find_134 : decode cX5_find 134 = .ok (.getfield 23, 3) := dc_180 (a := 0) (b := 23) (n := 23) (by decide +kernel)
theorem dX5_find_137 : decode cX5_find 137 = .ok (.aload_n 0, 1) := dc_42 (by decide +kernel)
theorem dX5_find_138 : decode cX5_find 138 = .ok (.getfield 39, 3) := dc_180 (a := 0) (b := 39) (n := 39) (by decide +kernel)
theorem dX5_find_141 : decode cX5_find 141 = .ok (.iload_n 1, 1) := dc_27 (by decide +kernel)
theorem dX5_find_142 : decode cX5_find 142 = .ok (.iastore, 1) := dc_79 (by decide +kernel)
theorem dX5_find_143 : decode cX5_find 143 = .ok (.aload_n 0, 1) := dc_42 (by decide +kernel)
theorem dX5_find_144 : decode cX5_find 144 = .ok (.dup, 1) := dc_89 (by decide +kernel)
theorem dX5_find_145 : decode cX5_find 145 = .ok (.getfield 39, 3) := dc_180 (a := 0) (b := 39) (n := 39) (by decide +kernel)
theorem dX5_find_148 : decode cX5_find 148 = .ok (.dup_x1, 1) := dc_90 (by decide +kernel)
theorem dX5_find_149 : decode cX5_find 149 = .ok (.iconst 1, 1) := dc_4 (by decide +kernel)
theorem dX5_find_150 : decode cX5_find 150 = .ok (.iadd, 1) := dc_96 (by decide +kernel)
theorem dX5_find_151 : decode cX5_find 151 = .ok (.putfield 39, 3) := dc_181 (a := 0) (b := 39) (n := 39) (by decide +kernel)
theorem dX5_find_154 : decode cX5_find 154 = .ok (.ireturn, 1) := dc_172 (by decide +kernel)
theorem GX5_39 {w : eW} {d : Nat} {Y : eY} {pc : Nat} {ls : eL} {st : List Value} {h : eH} {Q : eO → eH → Prop} {a : Nat} {x : Int32} (hf : g_I 4 h a 3 = some x) (hd : decode Y.2.1 pc = .ok (.getfield 39, 3)) (hY : Y.1.cls = RX5) (kk : wp w d Y (pc + 3) ls (.int x :: st) h Q) : wp w d Y pc ls (.ref a :: st) h Q := x_gI (ci := 4) (k := 3) hf hd rfl (by decide) (by rw [hY]; exact q589) kk
def fX5_find_b67 (N : Nat) (k30 : Nat → Int32 → Int32 → Int32 → eH → Option (Int32 × eH)) (l0 : Nat) (l1 : Int32) (l3 : Int32) (l4 : Int32) (h : eH) : Option (Int32 × eH) :=
  k30 l0 l1 l3 (l4 + (1 : Int32)) h
theorem pX5_find_b67 {w : eW} {d : Nat} (hd : 6 ≤ d + 1) {N : Nat} {k30 : Nat → Int32 → Int32 → Int32 → eH → Option (Int32 × eH)} (hk30 : ∀ l0 l1 l3 l4 h q, k30 l0 l1 l3 l4 h = some q → wp w (d + 1) YX5_find 30 [some (.ref l0), some (.int l1), none, some (.int l3), some (.int l4)] [] h (e_is (e_rn c_I q))) {l0 : Nat} {l1 : Int32} {l3 : Int32} {l4 : Int32} {h : eH} {q} (hf : fX5_find_b67 N k30 l0 l1 l3 l4 h = some q) : wp w (d + 1) YX5_find 67 [some (.ref l0), some (.int l1), none, some (.int l3), some (.int l4)] [] h (e_is (e_rn c_I q)) := by
  unfold fX5_find_b67 at hf
  refine w_iinc dX5_find_67 (v := (l4 + (1 : Int32))) rfl rfl (by decide) (ls' := [some (.ref l0), some (.int l1), none, some (.int l3), some (.int (l4 + (1 : Int32)))]) rfl ?_
  refine w_goto 30 dX5_find_70 (by decide) ?_
  exact (hk30 _ _ _ _ _ _ hf).to ⟨rfl, rfl, rfl, rfl, trivial⟩
def fX5_find_b112 (N : Nat) (l0 : Nat) (l1 : Int32) (l3 : Int32) (h : eH) : Option (Int32 × eH) :=
  (g_A 4 h l0 1).bind fun a1 =>
  (g_I 4 h l0 3).bind fun x3 =>
  (r_A 105 h a1 x3).bind fun a5 =>
  (g_A 4 h l0 0).bind fun a7 =>
  (r_A 106 h a7 l1).bind fun a9 =>
  (k_ok 5 h a5).bind fun _ =>
  (fX6_take N a5 a9 l3 h).bind fun q12 =>
  (g_A 4 q12.2 l0 2).bind fun a13 =>
  (g_I 4 q12.2 l0 3).bind fun x15 =>
  (q_V 100 q12.2 a13 x15 (.int l1)).bind fun h17 =>
  (g_I 4 h17 l0 3).bind fun x19 =>
  (p_V 4 h17 l0 3 (.int (x19 + (1 : Int32)))).bind fun h21 =>
  some (x19, h21)
theorem pX5_find_b112 {w : eW} {d : Nat} (hd : 6 ≤ d + 1) {N : Nat} {l0 : Nat} {l1 : Int32} {l3 : Int32} {h : eH} {q} (hf : fX5_find_b112 N l0 l1 l3 h = some q) : wp w (d + 1) YX5_find 112 [some (.ref l0), some (.int l1), none, some (.int l3), none] [] h (e_is (e_rn c_I q)) := by
  unfold fX5_find_b112 at hf
  refine w_aload_n dX5_find_112 rfl rfl ?_
  obtain ⟨a1, b2, hf⟩ := Option.bind_eq_some_iff.mp hf
  refine GX5_19 b2 dX5_find_113 rfl ?_
  refine w_aload_n dX5_find_116 rfl rfl ?_
  obtain ⟨x3, b4, hf⟩ := Option.bind_eq_some_iff.mp hf
  refine GX5_39 b4 dX5_find_117 rfl ?_
  obtain ⟨a5, b6, hf⟩ := Option.bind_eq_some_iff.mp hf
  refine x_rA (c := 105) (by decide) b6 dX5_find_120 ?_
  refine w_aload_n dX5_find_121 rfl rfl ?_
  obtain ⟨a7, b8, hf⟩ := Option.bind_eq_some_iff.mp hf
  refine GX5_11 b8 dX5_find_122 rfl ?_
  refine w_iload_n dX5_find_125 rfl rfl ?_
  obtain ⟨a9, b10, hf⟩ := Option.bind_eq_some_iff.mp hf
  refine x_rA (c := 106) (by decide) b10 dX5_find_126 ?_
  refine w_iload_n dX5_find_127 rfl rfl ?_
  obtain ⟨_, b11, hf⟩ := Option.bind_eq_some_iff.mp hf
  refine x_cnI hf (e_stV (Yc := YX6_take) (ci := 5) (av := [.ref a9, .int l3]) (st := []) dX5_find_128 q3937 mX6_take rfl (k_ok_some b11).1 (k_ok_some b11).2) mX6_take.2.2.1 mX6_take.2.2.2.2.1 (Nat.le_of_ble_eq_true rfl) (Nat.le_of_ble_eq_true rfl) (fun q hq => pX6_take (by omega) hq) (fun q12 hf => ?_)
  refine w_istore dX5_find_131 (by decide) (ls' := [some (.ref l0), some (.int l1), none, some (.int l3), some (.int q12.1)]) rfl ?_
  refine w_aload_n dX5_find_133 rfl rfl ?_
  obtain ⟨a13, b14, hf⟩ := Option.bind_eq_some_iff.mp hf
  refine GX5_23 b14 dX5_find_134 rfl ?_
  refine w_aload_n dX5_find_137 rfl rfl ?_
  obtain ⟨x15, b16, hf⟩ := Option.bind_eq_some_iff.mp hf
  refine GX5_39 b16 dX5_find_138 rfl ?_
  refine w_iload_n dX5_find_141 rfl rfl ?_
  obtain ⟨h17, b18, hf⟩ := Option.bind_eq_some_iff.mp hf
  refine x_qI b18 dX5_find_142 ?_
  refine w_aload_n dX5_find_143 rfl rfl ?_
  refine w_dup dX5_find_144 rfl ?_
  obtain ⟨x19, b20, hf⟩ := Option.bind_eq_some_iff.mp hf
  refine GX5_39 b20 dX5_find_145 rfl ?_
  refine w_dup_x1 dX5_find_148 rfl rfl ?_
  refine w_iconst dX5_find_149 (v := 1) (by decide) ?_
  refine w_iadd dX5_find_150 ?_
  obtain ⟨h21, b22, hf⟩ := Option.bind_eq_some_iff.mp hf
  refine SX5_39 b22 dX5_find_151 rfl ?_
  cases hf
  exact w_iret dX5_find_154 rfl rfl rfl
def fX5_find_b30 (N : Nat) : Nat → Nat → Int32 → Int32 → Int32 → eH → Option (Int32 × eH)
  | 0, _, _, _, _, _ => none
  | n + 1, l0, l1, l3, l4, h =>
    (g_I 4 h l0 3).bind fun x1 =>
    if x1 ≤ l4 then
      (g_I 4 h l0 3).bind fun x4 =>
      if ¬ x4 = (100 : Int32) then
        (g_A 4 h l0 1).bind fun a7 =>
        (g_I 4 h l0 3).bind fun x9 =>
        (r_O 105 h a7 x9).bind fun a11 =>
        match a11 with
        | none =>
          (g_A 4 h l0 1).bind fun a14 =>
          (g_I 4 h l0 3).bind fun x16 =>
          (n_obj 5 188 11 tyX6 h).bind fun q18 =>
          (fX6_init q18.1 q18.2).bind fun q20 =>
          (q_A 105 5 q20.2 a14 x16 q18.1).bind fun h21 =>
          fX5_find_b112 N l0 l1 l3 h21
        | some a13 =>
          fX5_find_b112 N l0 l1 l3 h
      else
        some ((-1 : Int32), h)
    else
      (g_A 4 h l0 2).bind fun a23 =>
      (r_I 100 h a23 l4).bind fun x25 =>
      if ¬ x25 = l1 then
        fX5_find_b67 N (fX5_find_b30 N n) l0 l1 l3 l4 h
      else
        (g_A 4 h l0 1).bind fun a28 =>
        (r_A 105 h a28 l4).bind fun a30 =>
        (g_I 5 h a30 6).bind fun x32 =>
        if ¬ x32 = l3 then
          fX5_find_b67 N (fX5_find_b30 N n) l0 l1 l3 l4 h
        else
          some (l4, h)
theorem pX5_find_b30 {w : eW} {d : Nat} (hd : 6 ≤ d + 1) {N : Nat} : ∀ (n : Nat) l0 l1 l3 l4 h q, fX5_find_b30 N n l0 l1 l3 l4 h = some q → wp w (d + 1) YX5_find 30 [some (.ref l0), some (.int l1), none, some (.int l3), some (.int l4)] [] h (e_is (e_rn c_I q)) := by
  intro n
  induction n with
  | zero => intro l0 l1 l3 l4 h q hf; simp [fX5_find_b30] at hf
  | succ n ih =>
    intro l0 l1 l3 l4 h q hf
    rw [fX5_find_b30] at hf
    refine w_iload dX5_find_30 rfl ?_
    refine w_aload_n dX5_find_32 rfl rfl ?_
    obtain ⟨x1, b2, hf⟩ := Option.bind_eq_some_iff.mp hf
    refine GX5_39 b2 dX5_find_33 rfl ?_
    refine w_icmp_ge 73 dX5_find_36 (by decide) (fun c3 => ?_) (fun c3 => ?_)
    · replace hf := (if_pos (show x1 ≤ l4 from c3)).symm.trans hf
      refine w_aload_n dX5_find_73 rfl rfl ?_
      obtain ⟨x4, b5, hf⟩ := Option.bind_eq_some_iff.mp hf
      refine GX5_39 b5 dX5_find_74 rfl ?_
      refine w_bipush dX5_find_77 (v := 100) (by decide) ?_
      refine w_icmp_ne 84 dX5_find_79 (by decide) (fun c6 => ?_) (fun c6 => ?_)
      · replace hf := (if_pos (show ¬ x4 = (100 : Int32) from c6)).symm.trans hf
        refine w_aload_n dX5_find_84 rfl rfl ?_
        obtain ⟨a7, b8, hf⟩ := Option.bind_eq_some_iff.mp hf
        refine GX5_19 b8 dX5_find_85 rfl ?_
        refine w_aload_n dX5_find_88 rfl rfl ?_
        obtain ⟨x9, b10, hf⟩ := Option.bind_eq_some_iff.mp hf
        refine GX5_39 b10 dX5_find_89 rfl ?_
        obtain ⟨a11, b12, hf⟩ := Option.bind_eq_some_iff.mp hf
        refine x_rO (c := 105) (by decide) b12 dX5_find_92 ?_
        cases a11 with
        | none =>
          refine w_ifnonnullN dX5_find_93 ?_
          refine w_aload_n dX5_find_96 rfl rfl ?_
          obtain ⟨a14, b15, hf⟩ := Option.bind_eq_some_iff.mp hf
          refine GX5_19 b15 dX5_find_97 rfl ?_
          refine w_aload_n dX5_find_100 rfl rfl ?_
          obtain ⟨x16, b17, hf⟩ := Option.bind_eq_some_iff.mp hf
          refine GX5_39 b17 dX5_find_101 rfl ?_
          obtain ⟨q18, b19, hf⟩ := Option.bind_eq_some_iff.mp hf
          refine x_new (ci := 5) (g := 188) b19 dX5_find_104 rfl tyX6_ok q534 q536 q431 ?_
          refine w_dup dX5_find_107 rfl ?_
          refine x_cnV hf (e_stIN (Yc := YX6_init) (b := q18.1) (av := []) (st := [.ref q18.1, .int x16, .ref a14]) dX5_find_108 q537 mX6_init) (e_mi.cd mX6_init) mX6_init.2.2.2.2.2.1 (Nat.le_of_ble_eq_true rfl) (Nat.le_of_ble_eq_true rfl) (fun q hq => pX6_init (by omega) hq) (fun q20 hf => ?_)
          obtain ⟨h21, b22, hf⟩ := Option.bind_eq_some_iff.mp hf
          refine x_qA (c := 105) (cb := 5) (by decide) rfl rfl b22 dX5_find_111 ?_
          exact (pX5_find_b112 hd hf).to ⟨rfl, rfl, rfl, trivial⟩
        | some a13 =>
          refine w_ifnonnull 112 dX5_find_93 (by decide) ?_
          exact (pX5_find_b112 hd hf).to ⟨rfl, rfl, rfl, trivial⟩
      · replace hf := (if_neg (show ¬ (¬ x4 = (100 : Int32)) from (fun z => z c6))).symm.trans hf
        refine w_iconst dX5_find_82 (v := -1) (by decide) ?_
        cases hf
        exact w_iret dX5_find_83 rfl rfl rfl
    · replace hf := (if_neg (show ¬ (x1 ≤ l4) from c3)).symm.trans hf
      refine w_aload_n dX5_find_39 rfl rfl ?_
      obtain ⟨a23, b24, hf⟩ := Option.bind_eq_some_iff.mp hf
      refine GX5_23 b24 dX5_find_40 rfl ?_
      refine w_iload dX5_find_43 rfl ?_
      obtain ⟨x25, b26, hf⟩ := Option.bind_eq_some_iff.mp hf
      refine x_rI b26 dX5_find_45 ?_
      refine w_iload_n dX5_find_46 rfl rfl ?_
      refine w_icmp_ne 67 dX5_find_47 (by decide) (fun c27 => ?_) (fun c27 => ?_)
      · replace hf := (if_pos (show ¬ x25 = l1 from c27)).symm.trans hf
        exact (pX5_find_b67 hd ih hf).to ⟨rfl, rfl, rfl, rfl, trivial⟩
      · replace hf := (if_neg (show ¬ (¬ x25 = l1) from (fun z => z c27))).symm.trans hf
        refine w_aload_n dX5_find_50 rfl rfl ?_
        obtain ⟨a28, b29, hf⟩ := Option.bind_eq_some_iff.mp hf
        refine GX5_19 b29 dX5_find_51 rfl ?_
        refine w_iload dX5_find_54 rfl ?_
        obtain ⟨a30, b31, hf⟩ := Option.bind_eq_some_iff.mp hf
        refine x_rA (c := 105) (by decide) b31 dX5_find_56 ?_
        obtain ⟨x32, b33, hf⟩ := Option.bind_eq_some_iff.mp hf
        refine GX5_72 b33 dX5_find_57 rfl ?_
        refine w_iload_n dX5_find_60 rfl rfl ?_
        refine w_icmp_ne 67 dX5_find_61 (by decide) (fun c34 => ?_) (fun c34 => ?_)
        · replace hf := (if_pos (show ¬ x32 = l3 from c34)).symm.trans hf
          exact (pX5_find_b67 hd ih hf).to ⟨rfl, rfl, rfl, rfl, trivial⟩
        · replace hf := (if_neg (show ¬ (¬ x32 = l3) from (fun z => z c34))).symm.trans hf
          refine w_iload dX5_find_64 rfl ?_
          cases hf
          exact w_iret dX5_find_66 rfl rfl rfl
def fX5_find_b26 (N : Nat) (l0 : Nat) (l1 : Int32) (s0 : Int32) (h : eH) : Option (Int32 × eH) :=
  fX5_find_b30 N N l0 l1 s0 (0 : Int32) h
theorem pX5_find_b26 {w : eW} {d : Nat} (hd : 6 ≤ d + 1) {N : Nat} {l0 : Nat} {l1 : Int32} {s0 : Int32} {h : eH} {q} (hf : fX5_find_b26 N l0 l1 s0 h = some q) : wp w (d + 1) YX5_find 26 [some (.ref l0), some (.int l1), none, none, none] [.int s0] h (e_is (e_rn c_I q)) := by
  unfold fX5_find_b26 at hf
  refine w_istore_n dX5_find_26 rfl (by decide) (ls' := [some (.ref l0), some (.int l1), none, some (.int s0), none]) rfl ?_
  refine w_iconst dX5_find_27 (v := 0) (by decide) ?_
  refine w_istore dX5_find_28 (by decide) (ls' := [some (.ref l0), some (.int l1), none, some (.int s0), some (.int (0 : Int32))]) rfl ?_
  exact (pX5_find_b30 hd N _ _ _ _ _ _ hf).to ⟨rfl, rfl, rfl, rfl, trivial⟩
def fX5_find (N : Nat) (this : Nat) (p0 : Int32) (p1 : Int32) (h : eH) : Option (Int32 × eH) :=
  if p1 ≤ 0 then
    (g_A 4 h this 0).bind fun a2 =>
    (r_A 106 h a2 p0).bind fun a4 =>
    (k_ok 1 h a4).bind fun _ =>
    (fX2_whole a4 (7 : Int32) h).bind fun q7 =>
    fX5_find_b26 N this p0 (m_minI (q7.1 >>> ((4 : Int32) &&& 31)) (134217727 : Int32)) q7.2
  else
    fX5_find_b26 N this p0 p1 h
theorem pX5_find {w : eW} {d : Nat} (hd : 6 ≤ d) {N : Nat} {this : Nat} {p0 : Int32} {p1 : Int32} {h : eH} {q} (hf : fX5_find N this p0 p1 h = some q) : wm w d YX5_find [.ref this, .int p0, .int p1] h (e_is (e_rn c_I q)) := by
  obtain ⟨d, rfl⟩ : ∃ e, d = e + 1 := ⟨d - 1, by omega⟩
  show wp w (d + 1) YX5_find 0 [some (.ref this), some (.int p0), some (.int p1), none, none] [] h _
  unfold fX5_find at hf
  refine w_iload_n dX5_find_0 rfl rfl ?_
  refine w_if_le 8 dX5_find_1 (by decide) (fun c1 => ?_) (fun c1 => ?_)
  · replace hf := (if_pos (show p1 ≤ 0 from c1)).symm.trans hf
    refine w_aload_n dX5_find_8 rfl rfl ?_
    obtain ⟨a2, b3, hf⟩ := Option.bind_eq_some_iff.mp hf
    refine GX5_11 b3 dX5_find_9 rfl ?_
    refine w_iload_n dX5_find_12 rfl rfl ?_
    obtain ⟨a4, b5, hf⟩ := Option.bind_eq_some_iff.mp hf
    refine x_rA (c := 106) (by decide) b5 dX5_find_13 ?_
    refine w_bipush dX5_find_14 (v := 7) (by decide) ?_
    obtain ⟨_, b6, hf⟩ := Option.bind_eq_some_iff.mp hf
    refine x_cnI hf (e_stV (Yc := YX2_whole) (ci := 1) (av := [.int (7 : Int32)]) (st := []) dX5_find_16 q3934 mX2_whole rfl (k_ok_some b6).1 (k_ok_some b6).2) mX2_whole.2.2.1 mX2_whole.2.2.2.2.1 (Nat.le_of_ble_eq_true rfl) (Nat.le_of_ble_eq_true rfl) (fun q hq => pX2_whole (by omega) hq) (fun q7 hf => ?_)
    refine w_iconst dX5_find_19 (v := 4) (by decide) ?_
    refine w_ishr dX5_find_20 ?_
    refine w_ldc dX5_find_21 q3935 ?_
    refine x_minI dX5_find_23 q3936 q2930 q478 q2931 (Nat.le_of_ble_eq_true rfl) ?_
    exact (pX5_find_b26 hd hf).to ⟨rfl, rfl, trivial⟩
  · replace hf := (if_neg (show ¬ (p1 ≤ 0) from c1)).symm.trans hf
    refine w_iload_n dX5_find_4 rfl rfl ?_
    refine w_goto 26 dX5_find_5 (by decide) ?_
    exact (pX5_find_b26 hd hf).to ⟨rfl, rfl, trivial⟩
abbrev cX3_newFont : ByteArray := prog_26_method_56_code
def yX3_newFont : MethodName := ⟨RX3, "newFont", "(Z)V"⟩
def YX3_newFont : eY := (yX3_newFont, cX3_newFont, 6, none, [])
theorem mX3_newFont : e_mv YX3_newFont RX3 1 := ⟨q3924, qs194, q3925, by decide, by decide +kernel, (e_sig (by decide +kernel))⟩
theorem dX3_newFont_0 : decode cX3_newFont 0 = .ok (.aload_n 0, 1) := dc_42 (by decide +kernel)
theorem dX3_newFont_1 : decode cX3_newFont 1 = .ok (.getfield 45, 3) := dc_180 (a := 0) (b := 45) (n := 45) (by decide +kernel)
theorem dX3_newFont_4 : decode cX3_newFont 4 = .ok (.invokevirtual 744, 3) := dc_182 (a := 2) (b := 232) (n := 744) (by decide +kernel)
theorem dX3_newFont_7 : decode cX3_newFont 7 = .ok (.istore_n 2, 1) := dc_61 (by decide +kernel)
theorem dX3_newFont_8 : decode cX3_newFont 8 = .ok (.aload_n 0, 1) := dc_42 (by decide +kernel)
theorem dX3_newFont_9 : decode cX3_newFont 9 = .ok (.getfield 45, 3) := dc_180 (a := 0) (b := 45) (n := 45) (by decide +kernel)
theorem dX3_newFont_12 : decode cX3_newFont 12 = .ok (.invokevirtual 747, 3) := dc_182 (a := 2) (b := 235) (n := 747) (by decide +kernel)
theorem dX3_newFont_15 : decode cX3_newFont 15 = .ok (.aload_n 0, 1) := dc_42 (by decide +kernel)
theorem dX3_newFont_16 : decode cX3_newFont 16 = .ok (.getfield 45, 3) := dc_180 (a := 0) (b := 45) (n := 45) (by decide +kernel)
theorem dX3_newFont_19 : decode cX3_newFont 19 = .ok (.bipush 15, 2) := dc_16 (a := 15) (v := 15) (by decide +kernel)
theorem dX3_newFont_21 : decode cX3_newFont 21 = .ok (.invokevirtual 404, 3) := dc_182 (a := 1) (b := 148) (n := 404) (by decide +kernel)
theorem dX3_newFont_24 : decode cX3_newFont 24 = .ok (.istore_n 3, 1) := dc_62 (by decide +kernel)
theorem dX3_newFont_25 : decode cX3_newFont 25 = .ok (.aload_n 0, 1) := dc_42 (by decide +kernel)
theorem dX3_newFont_26 : decode cX3_newFont 26 = .ok (.getfield 14, 3) := dc_180 (a := 0) (b := 14) (n := 14) (by decide +kernel)
theorem dX3_newFont_29 : decode cX3_newFont 29 = .ok (.aload_n 0, 1) := dc_42 (by decide +kernel)
theorem dX3_newFont_30 : decode cX3_newFont 30 = .ok (.getfield 23, 3) := dc_180 (a := 0) (b := 23) (n := 23) (by decide +kernel)
theorem dX3_newFont_33 : decode cX3_newFont 33 = .ok (.getfield 763, 3) := dc_180 (a := 2) (b := 251) (n := 763) (by decide +kernel)
theorem dX3_newFont_36 : decode cX3_newFont 36 = .ok (.iload_n 3, 1) := dc_29 (by decide +kernel)
theorem dX3_newFont_37 : decode cX3_newFont 37 = .ok (.aaload, 1) := dc_50 (by decide +kernel)
theorem dX3_newFont_38 : decode cX3_newFont 38 = .ok (.ifnull 7, 3) := dc_198 (a := 0) (b := 7) (v := 7) (by decide +kernel)
theorem dX3_newFont_41 : decode cX3_newFont 41 = .ok (.iconst 1, 1) := dc_4 (by decide +kernel)
theorem dX3_newFont_42 : decode cX3_newFont 42 = .ok (.goto 4, 3) := dc_167 (a := 0) (b := 4) (v := 4) (by decide +kernel)
theorem dX3_newFont_45 : decode cX3_newFont 45 = .ok (.iconst 0, 1) := dc_3 (by decide +kernel)
theorem dX3_newFont_46 : decode cX3_newFont 46 = .ok (.bipush 14, 2) := dc_16 (a := 14) (v := 14) (by decide +kernel)
theorem dX3_newFont_48 : decode cX3_newFont 48 = .ok (.invokevirtual 289, 3) := dc_182 (a := 1) (b := 33) (n := 289) (by decide +kernel)
theorem dX3_newFont_51 : decode cX3_newFont 51 = .ok (.iconst 0, 1) := dc_3 (by decide +kernel)
theorem dX3_newFont_52 : decode cX3_newFont 52 = .ok (.istore 4, 2) := dc_54 (a := 4) (by decide +kernel)
theorem dX3_newFont_54 : decode cX3_newFont 54 = .ok (.aload_n 0, 1) := dc_42 (by decide +kernel)
theorem dX3_newFont_55 : decode cX3_newFont 55 = .ok (.getfield 45, 3) := dc_180 (a := 0) (b := 45) (n := 45) (by decide +kernel)
theorem dX3_newFont_58 : decode cX3_newFont 58 = .ok (.ldc_w 767, 3) := dc_19 (a := 2) (b := 255) (n := 767) (by decide +kernel)
theorem dX3_newFont_61 : decode cX3_newFont 61 = .ok (.invokevirtual 412, 3) := dc_182 (a := 1) (b := 156) (n := 412) (by decide +kernel)
theorem dX3_newFont_64 : decode cX3_newFont 64 = .ok (.ifCond .eq 39, 3) := dc_153 (a := 0) (b := 39) (v := 39) (by decide +kernel)
theorem dX3_newFont_67 : decode cX3_newFont 67 = .ok (.aload_n 0, 1) := dc_42 (by decide +kernel)
theorem dX3_newFont_68 : decode cX3_newFont 68 = .ok (.getfield 45, 3) := dc_180 (a := 0) (b := 45) (n := 45) (by decide +kernel)
theorem dX3_newFont_71 : decode cX3_newFont 71 = .ok (.invokevirtual 418, 3) := dc_182 (a := 1) (b := 162) (n := 418) (by decide +kernel)
theorem dX3_newFont_74 : decode cX3_newFont 74 = .ok (.istore 4, 2) := dc_54 (a := 4) (by decide +kernel)
theorem dX3_newFont_76 : decode cX3_newFont 76 = .ok (.aload_n 0, 1) := dc_42 (by decide +kernel)
theorem dX3_newFont_77 : decode cX3_newFont 77 = .ok (.getfield 14, 3) := dc_180 (a := 0) (b := 14) (n := 14) (by decide +kernel)
theorem dX3_newFont_80 : decode cX3_newFont 80 = .ok (.iload 4, 2) := dc_21 (a := 4) (by decide +kernel)
theorem dX3_newFont_82 : decode cX3_newFont 82 = .ok (.ifCond .le 15, 3) := dc_158 (a := 0) (b := 15) (v := 15) (by decide +kernel)
theorem dX3_newFont_85 : decode cX3_newFont 85 = .ok (.iload 4, 2) := dc_21 (a := 4) (by decide +kernel)
theorem dX3_newFont_87 : decode cX3_newFont 87 = .ok (.ldc_w 769, 3) := dc_19 (a := 3) (b := 1) (n := 769) (by decide +kernel)
theorem dX3_newFont_90 : decode cX3_newFont 90 = .ok (.if_icmp .gt 7, 3) := dc_163 (a := 0) (b := 7) (v := 7) (by decide +kernel)
theorem dX3_newFont_93 : decode cX3_newFont 93 = .ok (.iconst 1, 1) := dc_4 (by decide +kernel)
theorem dX3_newFont_94 : decode cX3_newFont 94 = .ok (.goto 4, 3) := dc_167 (a := 0) (b := 4) (v := 4) (by decide +kernel)
theorem dX3_newFont_97 : decode cX3_newFont 97 = .ok (.iconst 0, 1) := dc_3 (by decide +kernel)
theorem dX3_newFont_98 : decode cX3_newFont 98 = .ok (.bipush 7, 2) := dc_16 (a := 7) (v := 7) (by decide +kernel)
theorem dX3_newFont_100 : decode cX3_newFont 100 = .ok (.invokevirtual 289, 3) := dc_182 (a := 1) (b := 33) (n := 289) (by decide +kernel)
theorem dX3_newFont_103 : decode cX3_newFont 103 = .ok (.aload_n 0, 1) := dc_42 (by decide +kernel)
theorem dX3_newFont_104 : decode cX3_newFont 104 = .ok (.getfield 23, 3) := dc_180 (a := 0) (b := 23) (n := 23) (by decide +kernel)
theorem dX3_newFont_107 : decode cX3_newFont 107 = .ok (.iload_n 3, 1) := dc_29 (by decide +kernel)
theorem dX3_newFont_108 : decode cX3_newFont 108 = .ok (.iload 4, 2) := dc_21 (a := 4) (by decide +kernel)
theorem dX3_newFont_110 : decode cX3_newFont 110 = .ok (.invokevirtual 770, 3) := dc_182 (a := 3) (b := 2) (n := 770) (by decide +kernel)
theorem dX3_newFont_113 : decode cX3_newFont 113 = .ok (.istore 5, 2) := dc_54 (a := 5) (by decide +kernel)
theorem dX3_newFont_115 : decode cX3_newFont 115 = .ok (.aload_n 0, 1) := dc_42 (by decide +kernel)
theorem dX3_newFont_116 : decode cX3_newFont 116 = .ok (.getfield 14, 3) := dc_180 (a := 0) (b := 14) (n := 14) (by decide +kernel)
theorem dX3_newFont_119 : decode cX3_newFont 119 = .ok (.iload 5, 2) := dc_21 (a := 5) (by decide +kernel)
theorem dX3_newFont_121 : decode cX3_newFont 121 = .ok (.iconst (-1), 1) := dc_2 (by decide +kernel)
theorem dX3_newFont_122 : decode cX3_newFont 122 = .ok (.if_icmp .eq 7, 3) := dc_159 (a := 0) (b := 7) (v := 7) (by decide +kernel)
theorem dX3_newFont_125 : decode cX3_newFont 125 = .ok (.iconst 1, 1) := dc_4 (by decide +kernel)
theorem dX3_newFont_126 : decode cX3_newFont 126 = .ok (.goto 4, 3) := dc_167 (a := 0) (b := 4) (v := 4) (by decide +kernel)
theorem dX3_newFont_129 : decode cX3_newFont 129 = .ok (.iconst 0, 1) := dc_3 (by decide +kernel)
theorem dX3_newFont_130 : decode cX3_newFont 130 = .ok (.iconst 2, 1) := dc_5 (by decide +kernel)
theorem dX3_newFont_131 : decode cX3_newFont 131 = .ok (.invokevirtual 289, 3) := dc_182 (a := 1) (b := 33) (n := 289) (by decide +kernel)
theorem dX3_newFont_134 : decode cX3_newFont 134 = .ok (.aload_n 0, 1) := dc_42 (by decide +kernel)
theorem dX3_newFont_135 : decode cX3_newFont 135 = .ok (.getfield 53, 3) := dc_180 (a := 0) (b := 53) (n := 53) (by decide +kernel)
theorem dX3_newFont_138 : decode cX3_newFont 138 = .ok (.iload_n 2, 1) := dc_28 (by decide +kernel)
theorem dX3_newFont_139 : decode cX3_newFont 139 = .ok (.iconst 5, 1) := dc_8 (by decide +kernel)
theorem dX3_newFont_140 : decode cX3_newFont 140 = .ok (.iload 5, 2) := dc_21 (a := 5) (by decide +kernel)
theorem dX3_newFont_142 : decode cX3_newFont 142 = .ok (.iload_n 1, 1) := dc_27 (by decide +kernel)
theorem dX3_newFont_143 : decode cX3_newFont 143 = .ok (.invokevirtual 750, 3) := dc_182 (a := 2) (b := 238) (n := 750) (by decide +kernel)
theorem dX3_newFont_146 : decode cX3_newFont 146 = .ok (.return_, 1) := dc_177 (by decide +kernel)
theorem GX3_763 {w : eW} {d : Nat} {Y : eY} {pc : Nat} {ls : eL} {st : List Value} {h : eH} {Q : eO → eH → Prop} {a : Nat} {x : Nat} (hf : g_A 4 h a 0 = some x) (hd : decode Y.2.1 pc = .ok (.getfield 763, 3)) (hY : Y.1.cls = RX3) (kk : wp w d Y (pc + 3) ls (.ref x :: st) h Q) : wp w d Y pc ls (.ref a :: st) h Q := x_gAN (ci := 4) (k := 0) hf hd rfl (by decide) (by rw [hY]; exact q585) kk
def fX3_newFont_b130 (N : Nat) (rE : Nat → Int32 → eH → Option ((Unit ⊕ Nat) × eH)) (rN : Nat → eH → Option ((Int32 ⊕ Nat) × eH)) (l0 : Nat) (l1 : Int32) (l2 : Int32) (l5 : Int32) (s0 : Nat) (s1 : Int32) (h : eH) : Option ((Unit ⊕ Nat) × eH) :=
  (k_ok 3 h s0).bind fun _ =>
  t_B (fX4_want s0 s1 (2 : Int32) h) fun x2 h3 =>
  (g_A 2 h3 l0 6).bind fun a4 =>
  (k_ok 8 h3 a4).bind fun _ =>
  (fX9_mean N a4 l2 (5 : Int32) l5 l1 h3).bind fun q7 =>
  some (.inl (), q7.2)
theorem pX3_newFont_b130 {w : eW} {d : Nat} {dr : Nat} (hd : dr + 18 ≤ d + 1) (hdr : 12 ≤ dr) {N : Nat} {rE : Nat → Int32 → eH → Option ((Unit ⊕ Nat) × eH)} {rN : Nat → eH → Option ((Int32 ⊕ Nat) × eH)} (hrE : ∀ a t0 h q, rE a t0 h = some q → wm w dr YX8_expand [.ref a, .int t0] h (e_is (e_rt c_V q))) (hrN : ∀ a h q, rN a h = some q → wm w dr YX8_number [.ref a] h (e_is (e_rt c_I q))) {l0 : Nat} {l1 : Int32} {l2 : Int32} {l5 : Int32} {s0 : Nat} {s1 : Int32} {h : eH} {q} (hf : fX3_newFont_b130 N rE rN l0 l1 l2 l5 s0 s1 h = some q) : wp w (d + 1) YX3_newFont 130 [some (.ref l0), some (.int l1), some (.int l2), none, none, some (.int l5)] [.int s1, .ref s0] h (e_is (e_rt c_V q)) := by
  unfold fX3_newFont_b130 at hf
  refine w_iconst dX3_newFont_130 (v := 2) (by decide) ?_
  obtain ⟨_, b1, hf⟩ := Option.bind_eq_some_iff.mp hf
  refine x_ctV hf (e_stV (Yc := YX4_want) (ci := 3) (av := [.int s1, .int (2 : Int32)]) (st := []) dX3_newFont_131 q2846 mX4_want rfl (k_ok_some b1).1 (k_ok_some b1).2) mX4_want.2.2.1 mX4_want.2.2.2.2.1 (Nat.le_of_ble_eq_true rfl) (Nat.le_of_ble_eq_true rfl) rfl (fun q hq => pX4_want (by omega) hq) (fun x2 h3 hf => ?_)
  refine w_aload_n dX3_newFont_134 rfl rfl ?_
  obtain ⟨a4, b5, hf⟩ := Option.bind_eq_some_iff.mp hf
  refine GX3_53 b5 dX3_newFont_135 rfl ?_
  refine w_iload_n dX3_newFont_138 rfl rfl ?_
  refine w_iconst dX3_newFont_139 (v := 5) (by decide) ?_
  refine w_iload dX3_newFont_140 rfl ?_
  refine w_iload_n dX3_newFont_142 rfl rfl ?_
  obtain ⟨_, b6, hf⟩ := Option.bind_eq_some_iff.mp hf
  refine x_cnV hf (e_stV (Yc := YX9_mean) (ci := 8) (av := [.int l2, .int (5 : Int32), .int l5, .int l1]) (st := []) dX3_newFont_143 q3921 mX9_mean rfl (k_ok_some b6).1 (k_ok_some b6).2) mX9_mean.2.2.1 mX9_mean.2.2.2.2.1 (Nat.le_of_ble_eq_true rfl) (Nat.le_of_ble_eq_true rfl) (fun q hq => pX9_mean (by omega) hq) (fun q7 hf => ?_)
  cases hf
  exact w_vret dX3_newFont_146 rfl rfl
def fX3_newFont_b103 (N : Nat) (rE : Nat → Int32 → eH → Option ((Unit ⊕ Nat) × eH)) (rN : Nat → eH → Option ((Int32 ⊕ Nat) × eH)) (l0 : Nat) (l1 : Int32) (l2 : Int32) (l3 : Int32) (l4 : Int32) (h : eH) : Option ((Unit ⊕ Nat) × eH) :=
  (g_A 2 h l0 1).bind fun a1 =>
  (k_ok 4 h a1).bind fun _ =>
  (fX5_find N a1 l3 l4 h).bind fun q4 =>
  (g_A 2 q4.2 l0 0).bind fun a5 =>
  if q4.1 = (-1 : Int32) then
    fX3_newFont_b130 N rE rN l0 l1 l2 q4.1 a5 (0 : Int32) q4.2
  else
    fX3_newFont_b130 N rE rN l0 l1 l2 q4.1 a5 (1 : Int32) q4.2
theorem pX3_newFont_b103 {w : eW} {d : Nat} {dr : Nat} (hd : dr + 18 ≤ d + 1) (hdr : 12 ≤ dr) {N : Nat} {rE : Nat → Int32 → eH → Option ((Unit ⊕ Nat) × eH)} {rN : Nat → eH → Option ((Int32 ⊕ Nat) × eH)} (hrE : ∀ a t0 h q, rE a t0 h = some q → wm w dr YX8_expand [.ref a, .int t0] h (e_is (e_rt c_V q))) (hrN : ∀ a h q, rN a h = some q → wm w dr YX8_number [.ref a] h (e_is (e_rt c_I q))) {l0 : Nat} {l1 : Int32} {l2 : Int32} {l3 : Int32} {l4 : Int32} {h : eH} {q} (hf : fX3_newFont_b103 N rE rN l0 l1 l2 l3 l4 h = some q) : wp w (d + 1) YX3_newFont 103 [some (.ref l0), some (.int l1), some (.int l2), some (.int l3), some (.int l4), none] [] h (e_is (e_rt c_V q)) := by
  unfold fX3_newFont_b103 at hf
  refine w_aload_n dX3_newFont_103 rfl rfl ?_
  obtain ⟨a1, b2, hf⟩ := Option.bind_eq_some_iff.mp hf
  refine GX3_23 b2 dX3_newFont_104 rfl ?_
  refine w_iload_n dX3_newFont_107 rfl rfl ?_
  refine w_iload dX3_newFont_108 rfl ?_
  obtain ⟨_, b3, hf⟩ := Option.bind_eq_some_iff.mp hf
  refine x_cnI hf (e_stV (Yc := YX5_find) (ci := 4) (av := [.int l3, .int l4]) (st := []) dX3_newFont_110 q3930 mX5_find rfl (k_ok_some b3).1 (k_ok_some b3).2) mX5_find.2.2.1 mX5_find.2.2.2.2.1 (Nat.le_of_ble_eq_true rfl) (Nat.le_of_ble_eq_true rfl) (fun q hq => pX5_find (by omega) hq) (fun q4 hf => ?_)
  refine w_istore dX3_newFont_113 (by decide) (ls' := [some (.ref l0), some (.int l1), some (.int l2), some (.int l3), some (.int l4), some (.int q4.1)]) rfl ?_
  refine w_aload_n dX3_newFont_115 rfl rfl ?_
  obtain ⟨a5, b6, hf⟩ := Option.bind_eq_some_iff.mp hf
  refine GX3_14 b6 dX3_newFont_116 rfl ?_
  refine w_iload dX3_newFont_119 rfl ?_
  refine w_iconst dX3_newFont_121 (v := -1) (by decide) ?_
  refine w_icmp_eq 129 dX3_newFont_122 (by decide) (fun c7 => ?_) (fun c7 => ?_)
  · replace hf := (if_pos (show q4.1 = (-1 : Int32) from c7)).symm.trans hf
    refine w_iconst dX3_newFont_129 (v := 0) (by decide) ?_
    exact (pX3_newFont_b130 hd hdr hrE hrN hf).to ⟨rfl, rfl, rfl, rfl, trivial⟩
  · replace hf := (if_neg (show ¬ (q4.1 = (-1 : Int32)) from c7)).symm.trans hf
    refine w_iconst dX3_newFont_125 (v := 1) (by decide) ?_
    refine w_goto 130 dX3_newFont_126 (by decide) ?_
    exact (pX3_newFont_b130 hd hdr hrE hrN hf).to ⟨rfl, rfl, rfl, rfl, trivial⟩
def fX3_newFont_b98 (N : Nat) (rE : Nat → Int32 → eH → Option ((Unit ⊕ Nat) × eH)) (rN : Nat → eH → Option ((Int32 ⊕ Nat) × eH)) (l0 : Nat) (l1 : Int32) (l2 : Int32) (l3 : Int32) (l4 : Int32) (s0 : Nat) (s1 : Int32) (h : eH) : Option ((Unit ⊕ Nat) × eH) :=
  (k_ok 3 h s0).bind fun _ =>
  t_B (fX4_want s0 s1 (7 : Int32) h) fun x2 h3 =>
  fX3_newFont_b103 N rE rN l0 l1 l2 l3 l4 h3
theorem pX3_newFont_b98 {w : eW} {d : Nat} {dr : Nat} (hd : dr + 18 ≤ d + 1) (hdr : 12 ≤ dr) {N : Nat} {rE : Nat → Int32 → eH → Option ((Unit ⊕ Nat) × eH)} {rN : Nat → eH → Option ((Int32 ⊕ Nat) × eH)} (hrE : ∀ a t0 h q, rE a t0 h = some q → wm w dr YX8_expand [.ref a, .int t0] h (e_is (e_rt c_V q))) (hrN : ∀ a h q, rN a h = some q → wm w dr YX8_number [.ref a] h (e_is (e_rt c_I q))) {l0 : Nat} {l1 : Int32} {l2 : Int32} {l3 : Int32} {l4 : Int32} {s0 : Nat} {s1 : Int32} {h : eH} {q} (hf : fX3_newFont_b98 N rE rN l0 l1 l2 l3 l4 s0 s1 h = some q) : wp w (d + 1) YX3_newFont 98 [some (.ref l0), some (.int l1), some (.int l2), some (.int l3), some (.int l4), none] [.int s1, .ref s0] h (e_is (e_rt c_V q)) := by
  unfold fX3_newFont_b98 at hf
  refine w_bipush dX3_newFont_98 (v := 7) (by decide) ?_
  obtain ⟨_, b1, hf⟩ := Option.bind_eq_some_iff.mp hf
  refine x_ctV hf (e_stV (Yc := YX4_want) (ci := 3) (av := [.int s1, .int (7 : Int32)]) (st := []) dX3_newFont_100 q2846 mX4_want rfl (k_ok_some b1).1 (k_ok_some b1).2) mX4_want.2.2.1 mX4_want.2.2.2.2.1 (Nat.le_of_ble_eq_true rfl) (Nat.le_of_ble_eq_true rfl) rfl (fun q hq => pX4_want (by omega) hq) (fun x2 h3 hf => ?_)
  exact (pX3_newFont_b103 hd hdr hrE hrN hf).to ⟨rfl, rfl, rfl, rfl, rfl, trivial⟩
def fX3_newFont_b97 (N : Nat) (rE : Nat → Int32 → eH → Option ((Unit ⊕ Nat) × eH)) (rN : Nat → eH → Option ((Int32 ⊕ Nat) × eH)) (l0 : Nat) (l1 : Int32) (l2 : Int32) (l3 : Int32) (l4 : Int32) (s0 : Nat) (h : eH) : Option ((Unit ⊕ Nat) × eH) :=
  fX3_newFont_b98 N rE rN l0 l1 l2 l3 l4 s0 (0 : Int32) h
theorem pX3_newFont_b97 {w : eW} {d : Nat} {dr : Nat} (hd : dr + 18 ≤ d + 1) (hdr : 12 ≤ dr) {N : Nat} {rE : Nat → Int32 → eH → Option ((Unit ⊕ Nat) × eH)} {rN : Nat → eH → Option ((Int32 ⊕ Nat) × eH)} (hrE : ∀ a t0 h q, rE a t0 h = some q → wm w dr YX8_expand [.ref a, .int t0] h (e_is (e_rt c_V q))) (hrN : ∀ a h q, rN a h = some q → wm w dr YX8_number [.ref a] h (e_is (e_rt c_I q))) {l0 : Nat} {l1 : Int32} {l2 : Int32} {l3 : Int32} {l4 : Int32} {s0 : Nat} {h : eH} {q} (hf : fX3_newFont_b97 N rE rN l0 l1 l2 l3 l4 s0 h = some q) : wp w (d + 1) YX3_newFont 97 [some (.ref l0), some (.int l1), some (.int l2), some (.int l3), some (.int l4), none] [.ref s0] h (e_is (e_rt c_V q)) := by
  unfold fX3_newFont_b97 at hf
  refine w_iconst dX3_newFont_97 (v := 0) (by decide) ?_
  exact (pX3_newFont_b98 hd hdr hrE hrN hf).to ⟨rfl, rfl, rfl, rfl, rfl, trivial⟩
def fX3_newFont_b46 (N : Nat) (rE : Nat → Int32 → eH → Option ((Unit ⊕ Nat) × eH)) (rN : Nat → eH → Option ((Int32 ⊕ Nat) × eH)) (l0 : Nat) (l1 : Int32) (l2 : Int32) (l3 : Int32) (s0 : Nat) (s1 : Int32) (h : eH) : Option ((Unit ⊕ Nat) × eH) :=
  (k_ok 3 h s0).bind fun _ =>
  t_B (fX4_want s0 s1 (14 : Int32) h) fun x2 h3 =>
  (g_A 2 h3 l0 5).bind fun a4 =>
  (k_ok 7 h3 a4).bind fun _ =>
  t_B (fX8_keyword N rE a4 1000000111 h3) fun x7 h8 =>
  if x7 = 0 then
    fX3_newFont_b103 N rE rN l0 l1 l2 l3 (0 : Int32) h8
  else
    (g_A 2 h8 l0 5).bind fun a10 =>
    (k_ok 7 h8 a10).bind fun _ =>
    t_B (fX8_dimension N rE rN a10 h8) fun x13 h14 =>
    (g_A 2 h14 l0 0).bind fun a15 =>
    if x13 ≤ 0 then
      fX3_newFont_b97 N rE rN l0 l1 l2 l3 x13 a15 h14
    else
      if (134217727 : Int32) < x13 then
        fX3_newFont_b97 N rE rN l0 l1 l2 l3 x13 a15 h14
      else
        fX3_newFont_b98 N rE rN l0 l1 l2 l3 x13 a15 (1 : Int32) h14
theorem pX3_newFont_b46 {w : eW} {d : Nat} {dr : Nat} (hd : dr + 18 ≤ d + 1) (hdr : 12 ≤ dr) {N : Nat} {rE : Nat → Int32 → eH → Option ((Unit ⊕ Nat) × eH)} {rN : Nat → eH → Option ((Int32 ⊕ Nat) × eH)} (hrE : ∀ a t0 h q, rE a t0 h = some q → wm w dr YX8_expand [.ref a, .int t0] h (e_is (e_rt c_V q))) (hrN : ∀ a h q, rN a h = some q → wm w dr YX8_number [.ref a] h (e_is (e_rt c_I q))) {l0 : Nat} {l1 : Int32} {l2 : Int32} {l3 : Int32} {s0 : Nat} {s1 : Int32} {h : eH} {q} (hf : fX3_newFont_b46 N rE rN l0 l1 l2 l3 s0 s1 h = some q) : wp w (d + 1) YX3_newFont 46 [some (.ref l0), some (.int l1), some (.int l2), some (.int l3), none, none] [.int s1, .ref s0] h (e_is (e_rt c_V q)) := by
  unfold fX3_newFont_b46 at hf
  refine w_bipush dX3_newFont_46 (v := 14) (by decide) ?_
  obtain ⟨_, b1, hf⟩ := Option.bind_eq_some_iff.mp hf
  refine x_ctV hf (e_stV (Yc := YX4_want) (ci := 3) (av := [.int s1, .int (14 : Int32)]) (st := []) dX3_newFont_48 q2846 mX4_want rfl (k_ok_some b1).1 (k_ok_some b1).2) mX4_want.2.2.1 mX4_want.2.2.2.2.1 (Nat.le_of_ble_eq_true rfl) (Nat.le_of_ble_eq_true rfl) rfl (fun q hq => pX4_want (by omega) hq) (fun x2 h3 hf => ?_)
  refine w_iconst dX3_newFont_51 (v := 0) (by decide) ?_
  refine w_istore dX3_newFont_52 (by decide) (ls' := [some (.ref l0), some (.int l1), some (.int l2), some (.int l3), some (.int (0 : Int32)), none]) rfl ?_
  refine w_aload_n dX3_newFont_54 rfl rfl ?_
  obtain ⟨a4, b5, hf⟩ := Option.bind_eq_some_iff.mp hf
  refine GX3_45 b5 dX3_newFont_55 rfl ?_
  refine x_ldcSw (k := 11) dX3_newFont_58 rfl ?_
  obtain ⟨_, b6, hf⟩ := Option.bind_eq_some_iff.mp hf
  refine x_ctI hf (e_stVN (Yc := YX8_keyword) (ci := 7) (av := [.ref 1000000111]) (st := []) dX3_newFont_61 q3927 mX8_keyword rfl (k_ok_some b6).1 (k_ok_some b6).2) mX8_keyword.2.2.1 mX8_keyword.2.2.2.2.1 (Nat.le_of_ble_eq_true rfl) (Nat.le_of_ble_eq_true rfl) rfl (fun q hq => pX8_keyword (by omega) hdr hrE hq) (fun x7 h8 hf => ?_)
  refine w_if_eq 103 dX3_newFont_64 (by decide) (fun c9 => ?_) (fun c9 => ?_)
  · replace hf := (if_pos (show x7 = 0 from c9)).symm.trans hf
    exact (pX3_newFont_b103 hd hdr hrE hrN hf).to ⟨rfl, rfl, rfl, rfl, rfl, trivial⟩
  · replace hf := (if_neg (show ¬ (x7 = 0) from c9)).symm.trans hf
    refine w_aload_n dX3_newFont_67 rfl rfl ?_
    obtain ⟨a10, b11, hf⟩ := Option.bind_eq_some_iff.mp hf
    refine GX3_45 b11 dX3_newFont_68 rfl ?_
    obtain ⟨_, b12, hf⟩ := Option.bind_eq_some_iff.mp hf
    refine x_ctI hf (e_stVN (Yc := YX8_dimension) (ci := 7) (av := []) (st := []) dX3_newFont_71 q3928 mX8_dimension rfl (k_ok_some b12).1 (k_ok_some b12).2) mX8_dimension.2.2.1 mX8_dimension.2.2.2.2.1 (Nat.le_of_ble_eq_true rfl) (Nat.le_of_ble_eq_true rfl) rfl (fun q hq => pX8_dimension (by omega) hdr hrE hrN hq) (fun x13 h14 hf => ?_)
    refine w_istore dX3_newFont_74 (by decide) (ls' := [some (.ref l0), some (.int l1), some (.int l2), some (.int l3), some (.int x13), none]) rfl ?_
    refine w_aload_n dX3_newFont_76 rfl rfl ?_
    obtain ⟨a15, b16, hf⟩ := Option.bind_eq_some_iff.mp hf
    refine GX3_14 b16 dX3_newFont_77 rfl ?_
    refine w_iload dX3_newFont_80 rfl ?_
    refine w_if_le 97 dX3_newFont_82 (by decide) (fun c17 => ?_) (fun c17 => ?_)
    · replace hf := (if_pos (show x13 ≤ 0 from c17)).symm.trans hf
      exact (pX3_newFont_b97 hd hdr hrE hrN hf).to ⟨rfl, rfl, rfl, rfl, rfl, trivial⟩
    · replace hf := (if_neg (show ¬ (x13 ≤ 0) from c17)).symm.trans hf
      refine w_iload dX3_newFont_85 rfl ?_
      refine w_ldc_w dX3_newFont_87 q3929 ?_
      refine w_icmp_gt 97 dX3_newFont_90 (by decide) (fun c18 => ?_) (fun c18 => ?_)
      · replace hf := (if_pos (show (134217727 : Int32) < x13 from c18)).symm.trans hf
        exact (pX3_newFont_b97 hd hdr hrE hrN hf).to ⟨rfl, rfl, rfl, rfl, rfl, trivial⟩
      · replace hf := (if_neg (show ¬ ((134217727 : Int32) < x13) from c18)).symm.trans hf
        refine w_iconst dX3_newFont_93 (v := 1) (by decide) ?_
        refine w_goto 98 dX3_newFont_94 (by decide) ?_
        exact (pX3_newFont_b98 hd hdr hrE hrN hf).to ⟨rfl, rfl, rfl, rfl, rfl, trivial⟩
def fX3_newFont (N : Nat) (rE : Nat → Int32 → eH → Option ((Unit ⊕ Nat) × eH)) (rN : Nat → eH → Option ((Int32 ⊕ Nat) × eH)) (this : Nat) (p0 : Int32) (h : eH) : Option ((Unit ⊕ Nat) × eH) :=
  (g_A 2 h this 5).bind fun a1 =>
  (k_ok 7 h a1).bind fun _ =>
  t_B (fX8_target N a1 h) fun x4 h5 =>
  (g_A 2 h5 this 5).bind fun a6 =>
  (k_ok 7 h5 a6).bind fun _ =>
  t_B (fX8_equals N rE a6 h5) fun x9 h10 =>
  (g_A 2 h10 this 5).bind fun a11 =>
  (k_ok 7 h10 a11).bind fun _ =>
  t_B (fX8_within rN a11 (15 : Int32) h10) fun x14 h15 =>
  (g_A 2 h15 this 0).bind fun a16 =>
  (g_A 2 h15 this 1).bind fun a18 =>
  (g_A 4 h15 a18 0).bind fun a20 =>
  (r_O 106 h15 a20 x14).bind fun a22 =>
  match a22 with
  | none =>
    fX3_newFont_b46 N rE rN this p0 x4 x14 a16 (0 : Int32) h15
  | some a24 =>
    fX3_newFont_b46 N rE rN this p0 x4 x14 a16 (1 : Int32) h15
theorem pX3_newFont {w : eW} {d : Nat} {dr : Nat} (hd : dr + 18 ≤ d) (hdr : 12 ≤ dr) {N : Nat} {rE : Nat → Int32 → eH → Option ((Unit ⊕ Nat) × eH)} {rN : Nat → eH → Option ((Int32 ⊕ Nat) × eH)} (hrE : ∀ a t0 h q, rE a t0 h = some q → wm w dr YX8_expand [.ref a, .int t0] h (e_is (e_rt c_V q))) (hrN : ∀ a h q, rN a h = some q → wm w dr YX8_number [.ref a] h (e_is (e_rt c_I q))) {this : Nat} {p0 : Int32} {h : eH} {q} (hf : fX3_newFont N rE rN this p0 h = some q) : wm w d YX3_newFont [.ref this, .int p0] h (e_is (e_rt c_V q)) := by
  obtain ⟨d, rfl⟩ : ∃ e, d = e + 1 := ⟨d - 1, by omega⟩
  show wp w (d + 1) YX3_newFont 0 [some (.ref this), some (.int p0), none, none, none, none] [] h _
  unfold fX3_newFont at hf
  refine w_aload_n dX3_newFont_0 rfl rfl ?_
  obtain ⟨a1, b2, hf⟩ := Option.bind_eq_some_iff.mp hf
  refine GX3_45 b2 dX3_newFont_1 rfl ?_
  obtain ⟨_, b3, hf⟩ := Option.bind_eq_some_iff.mp hf
  refine x_ctI hf (e_stVN (Yc := YX8_target) (ci := 7) (av := []) (st := []) dX3_newFont_4 q3916 mX8_target rfl (k_ok_some b3).1 (k_ok_some b3).2) mX8_target.2.2.1 mX8_target.2.2.2.2.1 (Nat.le_of_ble_eq_true rfl) (Nat.le_of_ble_eq_true rfl) rfl (fun q hq => pX8_target (by omega) hq) (fun x4 h5 hf => ?_)
  refine w_istore_n dX3_newFont_7 rfl (by decide) (ls' := [some (.ref this), some (.int p0), some (.int x4), none, none, none]) rfl ?_
  refine w_aload_n dX3_newFont_8 rfl rfl ?_
  obtain ⟨a6, b7, hf⟩ := Option.bind_eq_some_iff.mp hf
  refine GX3_45 b7 dX3_newFont_9 rfl ?_
  obtain ⟨_, b8, hf⟩ := Option.bind_eq_some_iff.mp hf
  refine x_ctV hf (e_stVN (Yc := YX8_equals) (ci := 7) (av := []) (st := []) dX3_newFont_12 q3917 mX8_equals rfl (k_ok_some b8).1 (k_ok_some b8).2) mX8_equals.2.2.1 mX8_equals.2.2.2.2.1 (Nat.le_of_ble_eq_true rfl) (Nat.le_of_ble_eq_true rfl) rfl (fun q hq => pX8_equals (by omega) hdr hrE hq) (fun x9 h10 hf => ?_)
  refine w_aload_n dX3_newFont_15 rfl rfl ?_
  obtain ⟨a11, b12, hf⟩ := Option.bind_eq_some_iff.mp hf
  refine GX3_45 b12 dX3_newFont_16 rfl ?_
  refine w_bipush dX3_newFont_19 (v := 15) (by decide) ?_
  obtain ⟨_, b13, hf⟩ := Option.bind_eq_some_iff.mp hf
  refine x_ctI hf (e_stVN (Yc := YX8_within) (ci := 7) (av := [.int (15 : Int32)]) (st := []) dX3_newFont_21 q3892 mX8_within rfl (k_ok_some b13).1 (k_ok_some b13).2) mX8_within.2.2.1 mX8_within.2.2.2.2.1 (Nat.le_of_ble_eq_true rfl) (Nat.le_of_ble_eq_true rfl) rfl (fun q hq => pX8_within (by omega) hdr hrN hq) (fun x14 h15 hf => ?_)
  refine w_istore_n dX3_newFont_24 rfl (by decide) (ls' := [some (.ref this), some (.int p0), some (.int x4), some (.int x14), none, none]) rfl ?_
  refine w_aload_n dX3_newFont_25 rfl rfl ?_
  obtain ⟨a16, b17, hf⟩ := Option.bind_eq_some_iff.mp hf
  refine GX3_14 b17 dX3_newFont_26 rfl ?_
  refine w_aload_n dX3_newFont_29 rfl rfl ?_
  obtain ⟨a18, b19, hf⟩ := Option.bind_eq_some_iff.mp hf
  refine GX3_23 b19 dX3_newFont_30 rfl ?_
  obtain ⟨a20, b21, hf⟩ := Option.bind_eq_some_iff.mp hf
  refine GX3_763 b21 dX3_newFont_33 rfl ?_
  refine w_iload_n dX3_newFont_36 rfl rfl ?_
  obtain ⟨a22, b23, hf⟩ := Option.bind_eq_some_iff.mp hf
  refine x_rO (c := 106) (by decide) b23 dX3_newFont_37 ?_
  cases a22 with
  | none =>
    refine w_ifnullN 45 dX3_newFont_38 (by decide) ?_
    refine w_iconst dX3_newFont_45 (v := 0) (by decide) ?_
    exact (pX3_newFont_b46 hd hdr hrE hrN hf).to ⟨rfl, rfl, rfl, rfl, trivial⟩
  | some a24 =>
    refine w_ifnull dX3_newFont_38 ?_
    refine w_iconst dX3_newFont_41 (v := 1) (by decide) ?_
    refine w_goto 46 dX3_newFont_42 (by decide) ?_
    exact (pX3_newFont_b46 hd hdr hrE hrN hf).to ⟨rfl, rfl, rfl, rfl, trivial⟩
abbrev cX8_counter : ByteArray := prog_4_method_60_code
def yX8_counter : MethodName := ⟨RX8, "counter", "(J)I"⟩
def YX8_counter : eY := (yX8_counter, cX8_counter, 3, (Option.some FieldType.int), [])
theorem mX8_counter : e_mv YX8_counter RX8 1 := ⟨q3959, qs197, q3960, by decide, by decide +kernel, (e_sig (by decide +kernel))⟩
theorem dX8_counter_0 : decode cX8_counter 0 = .ok (.aload_n 0, 1) := dc_42 (by decide +kernel)
theorem dX8_counter_1 : decode cX8_counter 1 = .ok (.getfield 51, 3) := dc_180 (a := 0) (b := 51) (n := 51) (by decide +kernel)
theorem dX8_counter_4 : decode cX8_counter 4 = .ok (.lload_n 1, 1) := dc_31 (by decide +kernel)
theorem dX8_counter_5 : decode cX8_counter 5 = .ok (.ldc2_w 349, 3) := dc_20 (a := 1) (b := 93) (n := 349) (by decide +kernel)
theorem dX8_counter_8 : decode cX8_counter 8 = .ok (.lcmp, 1) := dc_148 (by decide +kernel)
theorem dX8_counter_9 : decode cX8_counter 9 = .ok (.ifCond .gt 15, 3) := dc_157 (a := 0) (b := 15) (v := 15) (by decide +kernel)
theorem dX8_counter_12 : decode cX8_counter 12 = .ok (.lload_n 1, 1) := dc_31 (by decide +kernel)
theorem dX8_counter_13 : decode cX8_counter 13 = .ok (.ldc2_w 518, 3) := dc_20 (a := 2) (b := 6) (n := 518) (by decide +kernel)
theorem dX8_counter_16 : decode cX8_counter 16 = .ok (.lcmp, 1) := dc_148 (by decide +kernel)
theorem dX8_counter_17 : decode cX8_counter 17 = .ok (.ifCond .lt 7, 3) := dc_155 (a := 0) (b := 7) (v := 7) (by decide +kernel)
theorem dX8_counter_20 : decode cX8_counter 20 = .ok (.iconst 1, 1) := dc_4 (by decide +kernel)
theorem dX8_counter_21 : decode cX8_counter 21 = .ok (.goto 4, 3) := dc_167 (a := 0) (b := 4) (v := 4) (by decide +kernel)
theorem dX8_counter_24 : decode cX8_counter 24 = .ok (.iconst 0, 1) := dc_3 (by decide +kernel)
theorem dX8_counter_25 : decode cX8_counter 25 = .ok (.bipush 7, 2) := dc_16 (a := 7) (v := 7) (by decide +kernel)
theorem dX8_counter_27 : decode cX8_counter 27 = .ok (.invokevirtual 145, 3) := dc_182 (a := 0) (b := 145) (n := 145) (by decide +kernel)
theorem dX8_counter_30 : decode cX8_counter 30 = .ok (.lload_n 1, 1) := dc_31 (by decide +kernel)
theorem dX8_counter_31 : decode cX8_counter 31 = .ok (.l2i, 1) := dc_136 (by decide +kernel)
theorem dX8_counter_32 : decode cX8_counter 32 = .ok (.ireturn, 1) := dc_172 (by decide +kernel)
def fX8_counter_b25 (l1 : Int64) (s0 : Nat) (s1 : Int32) (h : eH) : Option ((Int32 ⊕ Nat) × eH) :=
  (k_ok 3 h s0).bind fun _ =>
  t_B (fX4_want s0 s1 (7 : Int32) h) fun x2 h3 =>
  some (.inl (l1).toInt32, h3)
theorem pX8_counter_b25 {w : eW} {d : Nat} (hd : 8 ≤ d + 1) {l1 : Int64} {s0 : Nat} {s1 : Int32} {h : eH} {q} (hf : fX8_counter_b25 l1 s0 s1 h = some q) : wp w (d + 1) YX8_counter 25 [none, some (.long l1), none] [.int s1, .ref s0] h (e_is (e_rt c_I q)) := by
  unfold fX8_counter_b25 at hf
  refine w_bipush dX8_counter_25 (v := 7) (by decide) ?_
  obtain ⟨_, b1, hf⟩ := Option.bind_eq_some_iff.mp hf
  refine x_ctV hf (e_stV (Yc := YX4_want) (ci := 3) (av := [.int s1, .int (7 : Int32)]) (st := []) dX8_counter_27 q2500 mX4_want rfl (k_ok_some b1).1 (k_ok_some b1).2) mX4_want.2.2.1 mX4_want.2.2.2.2.1 (Nat.le_of_ble_eq_true rfl) (Nat.le_of_ble_eq_true rfl) rfl (fun q hq => pX4_want (by omega) hq) (fun x2 h3 hf => ?_)
  refine w_lload_n dX8_counter_30 rfl rfl ?_
  refine w_l2i dX8_counter_31 ?_
  cases hf
  exact w_iret dX8_counter_32 rfl rfl rfl
def fX8_counter_b24 (l1 : Int64) (s0 : Nat) (h : eH) : Option ((Int32 ⊕ Nat) × eH) :=
  fX8_counter_b25 l1 s0 (0 : Int32) h
theorem pX8_counter_b24 {w : eW} {d : Nat} (hd : 8 ≤ d + 1) {l1 : Int64} {s0 : Nat} {h : eH} {q} (hf : fX8_counter_b24 l1 s0 h = some q) : wp w (d + 1) YX8_counter 24 [none, some (.long l1), none] [.ref s0] h (e_is (e_rt c_I q)) := by
  unfold fX8_counter_b24 at hf
  refine w_iconst dX8_counter_24 (v := 0) (by decide) ?_
  exact (pX8_counter_b25 hd hf).to ⟨rfl, trivial⟩
def fX8_counter (this : Nat) (p0 : Int64) (h : eH) : Option ((Int32 ⊕ Nat) × eH) :=
  (g_A 7 h this 0).bind fun a1 =>
  if 0 < (lg_cmp p0 (2147483647 : Int64)) then
    fX8_counter_b24 p0 a1 h
  else
    if (lg_cmp p0 (-2147483647 : Int64)) < 0 then
      fX8_counter_b24 p0 a1 h
    else
      fX8_counter_b25 p0 a1 (1 : Int32) h
theorem pX8_counter {w : eW} {d : Nat} (hd : 8 ≤ d) {this : Nat} {p0 : Int64} {h : eH} {q} (hf : fX8_counter this p0 h = some q) : wm w d YX8_counter [.ref this, .long p0] h (e_is (e_rt c_I q)) := by
  obtain ⟨d, rfl⟩ : ∃ e, d = e + 1 := ⟨d - 1, by omega⟩
  show wp w (d + 1) YX8_counter 0 [some (.ref this), some (.long p0), none] [] h _
  unfold fX8_counter at hf
  refine w_aload_n dX8_counter_0 rfl rfl ?_
  obtain ⟨a1, b2, hf⟩ := Option.bind_eq_some_iff.mp hf
  refine GX8_51 b2 dX8_counter_1 rfl ?_
  refine w_lload_n dX8_counter_4 rfl rfl ?_
  refine w_ldc2 dX8_counter_5 q2606 ?_
  refine w_lcmp dX8_counter_8 ?_
  refine w_if_gt 24 dX8_counter_9 (by decide) (fun c3 => ?_) (fun c3 => ?_)
  · replace hf := (if_pos (show 0 < (lg_cmp p0 (2147483647 : Int64)) from c3)).symm.trans hf
    exact (pX8_counter_b24 hd hf).to ⟨rfl, trivial⟩
  · replace hf := (if_neg (show ¬ (0 < (lg_cmp p0 (2147483647 : Int64))) from c3)).symm.trans hf
    refine w_lload_n dX8_counter_12 rfl rfl ?_
    refine w_ldc2 dX8_counter_13 q3961 ?_
    refine w_lcmp dX8_counter_16 ?_
    refine w_if_lt 24 dX8_counter_17 (by decide) (fun c4 => ?_) (fun c4 => ?_)
    · replace hf := (if_pos (show (lg_cmp p0 (-2147483647 : Int64)) < 0 from c4)).symm.trans hf
      exact (pX8_counter_b24 hd hf).to ⟨rfl, trivial⟩
    · replace hf := (if_neg (show ¬ ((lg_cmp p0 (-2147483647 : Int64)) < 0) from c4)).symm.trans hf
      refine w_iconst dX8_counter_20 (v := 1) (by decide) ?_
      refine w_goto 25 dX8_counter_21 (by decide) ?_
      exact (pX8_counter_b25 hd hf).to ⟨rfl, trivial⟩
abbrev cX8_more : ByteArray := prog_4_method_53_code
def yX8_more : MethodName := ⟨RX8, "more", "(I)I"⟩
def YX8_more : eY := (yX8_more, cX8_more, 2, (Option.some FieldType.int), [])
theorem mX8_more : e_mv YX8_more RX8 1 := ⟨q3974, qs200, q3975, by decide, by decide +kernel, (e_sig (by decide +kernel))⟩
theorem dX8_more_0 : decode cX8_more 0 = .ok (.aload_n 0, 1) := dc_42 (by decide +kernel)
theorem dX8_more_1 : decode cX8_more 1 = .ok (.getfield 51, 3) := dc_180 (a := 0) (b := 51) (n := 51) (by decide +kernel)
theorem dX8_more_4 : decode cX8_more 4 = .ok (.iload_n 1, 1) := dc_27 (by decide +kernel)
theorem dX8_more_5 : decode cX8_more 5 = .ok (.ifCond .lt 7, 3) := dc_155 (a := 0) (b := 7) (v := 7) (by decide +kernel)
theorem dX8_more_8 : decode cX8_more 8 = .ok (.iconst 1, 1) := dc_4 (by decide +kernel)
theorem dX8_more_9 : decode cX8_more 9 = .ok (.goto 4, 3) := dc_167 (a := 0) (b := 4) (v := 4) (by decide +kernel)
theorem dX8_more_12 : decode cX8_more 12 = .ok (.iconst 0, 1) := dc_3 (by decide +kernel)
theorem dX8_more_13 : decode cX8_more 13 = .ok (.bipush 7, 2) := dc_16 (a := 7) (v := 7) (by decide +kernel)
theorem dX8_more_15 : decode cX8_more 15 = .ok (.invokevirtual 145, 3) := dc_182 (a := 0) (b := 145) (n := 145) (by decide +kernel)
theorem dX8_more_18 : decode cX8_more 18 = .ok (.iload_n 1, 1) := dc_27 (by decide +kernel)
theorem dX8_more_19 : decode cX8_more 19 = .ok (.ireturn, 1) := dc_172 (by decide +kernel)
def fX8_more_b13 (l1 : Int32) (s0 : Nat) (s1 : Int32) (h : eH) : Option ((Int32 ⊕ Nat) × eH) :=
  (k_ok 3 h s0).bind fun _ =>
  t_B (fX4_want s0 s1 (7 : Int32) h) fun x2 h3 =>
  some (.inl l1, h3)
theorem pX8_more_b13 {w : eW} {d : Nat} (hd : 8 ≤ d + 1) {l1 : Int32} {s0 : Nat} {s1 : Int32} {h : eH} {q} (hf : fX8_more_b13 l1 s0 s1 h = some q) : wp w (d + 1) YX8_more 13 [none, some (.int l1)] [.int s1, .ref s0] h (e_is (e_rt c_I q)) := by
  unfold fX8_more_b13 at hf
  refine w_bipush dX8_more_13 (v := 7) (by decide) ?_
  obtain ⟨_, b1, hf⟩ := Option.bind_eq_some_iff.mp hf
  refine x_ctV hf (e_stV (Yc := YX4_want) (ci := 3) (av := [.int s1, .int (7 : Int32)]) (st := []) dX8_more_15 q2500 mX4_want rfl (k_ok_some b1).1 (k_ok_some b1).2) mX4_want.2.2.1 mX4_want.2.2.2.2.1 (Nat.le_of_ble_eq_true rfl) (Nat.le_of_ble_eq_true rfl) rfl (fun q hq => pX4_want (by omega) hq) (fun x2 h3 hf => ?_)
  refine w_iload_n dX8_more_18 rfl rfl ?_
  cases hf
  exact w_iret dX8_more_19 rfl rfl rfl
def fX8_more (this : Nat) (p0 : Int32) (h : eH) : Option ((Int32 ⊕ Nat) × eH) :=
  (g_A 7 h this 0).bind fun a1 =>
  if p0 < 0 then
    fX8_more_b13 p0 a1 (0 : Int32) h
  else
    fX8_more_b13 p0 a1 (1 : Int32) h
theorem pX8_more {w : eW} {d : Nat} (hd : 8 ≤ d) {this : Nat} {p0 : Int32} {h : eH} {q} (hf : fX8_more this p0 h = some q) : wm w d YX8_more [.ref this, .int p0] h (e_is (e_rt c_I q)) := by
  obtain ⟨d, rfl⟩ : ∃ e, d = e + 1 := ⟨d - 1, by omega⟩
  show wp w (d + 1) YX8_more 0 [some (.ref this), some (.int p0)] [] h _
  unfold fX8_more at hf
  refine w_aload_n dX8_more_0 rfl rfl ?_
  obtain ⟨a1, b2, hf⟩ := Option.bind_eq_some_iff.mp hf
  refine GX8_51 b2 dX8_more_1 rfl ?_
  refine w_iload_n dX8_more_4 rfl rfl ?_
  refine w_if_lt 12 dX8_more_5 (by decide) (fun c3 => ?_) (fun c3 => ?_)
  · replace hf := (if_pos (show p0 < 0 from c3)).symm.trans hf
    refine w_iconst dX8_more_12 (v := 0) (by decide) ?_
    exact (pX8_more_b13 hd hf).to ⟨rfl, trivial⟩
  · replace hf := (if_neg (show ¬ (p0 < 0) from c3)).symm.trans hf
    refine w_iconst dX8_more_8 (v := 1) (by decide) ?_
    refine w_goto 13 dX8_more_9 (by decide) ?_
    exact (pX8_more_b13 hd hf).to ⟨rfl, trivial⟩
abbrev cX8_stretch : ByteArray := prog_4_method_52_code
def yX8_stretch : MethodName := ⟨RX8, "stretch", "()I"⟩
def YX8_stretch : eY := (yX8_stretch, cX8_stretch, 10, (Option.some FieldType.int), [])
theorem mX8_stretch : e_mv YX8_stretch RX8 0 := ⟨q3970, qs199, q3971, by decide, by decide +kernel, (e_sig (by decide +kernel))⟩
theorem dX8_stretch_0 : decode cX8_stretch 0 = .ok (.aload_n 0, 1) := dc_42 (by decide +kernel)
theorem dX8_stretch_1 : decode cX8_stretch 1 = .ok (.invokevirtual 463, 3) := dc_182 (a := 1) (b := 207) (n := 463) (by decide +kernel)
theorem dX8_stretch_4 : decode cX8_stretch 4 = .ok (.istore_n 1, 1) := dc_60 (by decide +kernel)
theorem dX8_stretch_5 : decode cX8_stretch 5 = .ok (.aload_n 0, 1) := dc_42 (by decide +kernel)
theorem dX8_stretch_6 : decode cX8_stretch 6 = .ok (.getfield 459, 3) := dc_180 (a := 1) (b := 203) (n := 459) (by decide +kernel)
theorem dX8_stretch_9 : decode cX8_stretch 9 = .ok (.istore_n 2, 1) := dc_61 (by decide +kernel)
theorem dX8_stretch_10 : decode cX8_stretch 10 = .ok (.aload_n 0, 1) := dc_42 (by decide +kernel)
theorem dX8_stretch_11 : decode cX8_stretch 11 = .ok (.iconst 0, 1) := dc_3 (by decide +kernel)
theorem dX8_stretch_12 : decode cX8_stretch 12 = .ok (.putfield 480, 3) := dc_181 (a := 1) (b := 224) (n := 480) (by decide +kernel)
theorem dX8_stretch_15 : decode cX8_stretch 15 = .ok (.aload_n 0, 1) := dc_42 (by decide +kernel)
theorem dX8_stretch_16 : decode cX8_stretch 16 = .ok (.iload_n 1, 1) := dc_27 (by decide +kernel)
theorem dX8_stretch_17 : decode cX8_stretch 17 = .ok (.invokevirtual 269, 3) := dc_182 (a := 1) (b := 13) (n := 269) (by decide +kernel)
theorem dX8_stretch_20 : decode cX8_stretch 20 = .ok (.ifCond .eq 14, 3) := dc_153 (a := 0) (b := 14) (v := 14) (by decide +kernel)
theorem dX8_stretch_23 : decode cX8_stretch 23 = .ok (.aload_n 0, 1) := dc_42 (by decide +kernel)
theorem dX8_stretch_24 : decode cX8_stretch 24 = .ok (.aload_n 0, 1) := dc_42 (by decide +kernel)
theorem dX8_stretch_25 : decode cX8_stretch 25 = .ok (.iload_n 1, 1) := dc_27 (by decide +kernel)
theorem dX8_stretch_26 : decode cX8_stretch 26 = .ok (.iload_n 2, 1) := dc_28 (by decide +kernel)
theorem dX8_stretch_27 : decode cX8_stretch 27 = .ok (.invokevirtual 466, 3) := dc_182 (a := 1) (b := 210) (n := 466) (by decide +kernel)
theorem dX8_stretch_30 : decode cX8_stretch 30 = .ok (.invokevirtual 483, 3) := dc_182 (a := 1) (b := 227) (n := 483) (by decide +kernel)
theorem dX8_stretch_33 : decode cX8_stretch 33 = .ok (.ireturn, 1) := dc_172 (by decide +kernel)
theorem dX8_stretch_34 : decode cX8_stretch 34 = .ok (.aload_n 0, 1) := dc_42 (by decide +kernel)
theorem dX8_stretch_35 : decode cX8_stretch 35 = .ok (.iload_n 1, 1) := dc_27 (by decide +kernel)
theorem dX8_stretch_36 : decode cX8_stretch 36 = .ok (.invokevirtual 470, 3) := dc_182 (a := 1) (b := 214) (n := 470) (by decide +kernel)
theorem dX8_stretch_39 : decode cX8_stretch 39 = .ok (.aload_n 0, 1) := dc_42 (by decide +kernel)
theorem dX8_stretch_40 : decode cX8_stretch 40 = .ok (.getfield 389, 3) := dc_180 (a := 1) (b := 133) (n := 389) (by decide +kernel)
theorem dX8_stretch_43 : decode cX8_stretch 43 = .ok (.lstore_n 3, 1) := dc_66 (by decide +kernel)
theorem dX8_stretch_44 : decode cX8_stretch 44 = .ok (.aload_n 0, 1) := dc_42 (by decide +kernel)
theorem dX8_stretch_45 : decode cX8_stretch 45 = .ok (.getfield 393, 3) := dc_180 (a := 1) (b := 137) (n := 393) (by decide +kernel)
theorem dX8_stretch_48 : decode cX8_stretch 48 = .ok (.lstore 5, 2) := dc_55 (a := 5) (by decide +kernel)
theorem dX8_stretch_50 : decode cX8_stretch 50 = .ok (.aload_n 0, 1) := dc_42 (by decide +kernel)
theorem dX8_stretch_51 : decode cX8_stretch 51 = .ok (.ldc_w 486, 3) := dc_19 (a := 1) (b := 230) (n := 486) (by decide +kernel)
theorem dX8_stretch_54 : decode cX8_stretch 54 = .ok (.invokevirtual 419, 3) := dc_182 (a := 1) (b := 163) (n := 419) (by decide +kernel)
theorem dX8_stretch_57 : decode cX8_stretch 57 = .ok (.ifCond .ne 46, 3) := dc_154 (a := 0) (b := 46) (v := 46) (by decide +kernel)
theorem dX8_stretch_60 : decode cX8_stretch 60 = .ok (.aload_n 0, 1) := dc_42 (by decide +kernel)
theorem dX8_stretch_61 : decode cX8_stretch 61 = .ok (.lload_n 3, 1) := dc_33 (by decide +kernel)
theorem dX8_stretch_62 : decode cX8_stretch 62 = .ok (.putfield 389, 3) := dc_181 (a := 1) (b := 133) (n := 389) (by decide +kernel)
theorem dX8_stretch_65 : decode cX8_stretch 65 = .ok (.aload_n 0, 1) := dc_42 (by decide +kernel)
theorem dX8_stretch_66 : decode cX8_stretch 66 = .ok (.lload 5, 2) := dc_22 (a := 5) (by decide +kernel)
theorem dX8_stretch_68 : decode cX8_stretch 68 = .ok (.putfield 393, 3) := dc_181 (a := 1) (b := 137) (n := 393) (by decide +kernel)
theorem dX8_stretch_71 : decode cX8_stretch 71 = .ok (.aload_n 0, 1) := dc_42 (by decide +kernel)
theorem dX8_stretch_72 : decode cX8_stretch 72 = .ok (.invokevirtual 472, 3) := dc_182 (a := 1) (b := 216) (n := 472) (by decide +kernel)
theorem dX8_stretch_75 : decode cX8_stretch 75 = .ok (.lstore 7, 2) := dc_55 (a := 7) (by decide +kernel)
theorem dX8_stretch_77 : decode cX8_stretch 77 = .ok (.aload_n 0, 1) := dc_42 (by decide +kernel)
theorem dX8_stretch_78 : decode cX8_stretch 78 = .ok (.iconst 0, 1) := dc_3 (by decide +kernel)
theorem dX8_stretch_79 : decode cX8_stretch 79 = .ok (.putfield 480, 3) := dc_181 (a := 1) (b := 224) (n := 480) (by decide +kernel)
theorem dX8_stretch_82 : decode cX8_stretch 82 = .ok (.aload_n 0, 1) := dc_42 (by decide +kernel)
theorem dX8_stretch_83 : decode cX8_stretch 83 = .ok (.aload_n 0, 1) := dc_42 (by decide +kernel)
theorem dX8_stretch_84 : decode cX8_stretch 84 = .ok (.iload_n 2, 1) := dc_28 (by decide +kernel)
theorem dX8_stretch_85 : decode cX8_stretch 85 = .ok (.ifCond .eq 9, 3) := dc_153 (a := 0) (b := 9) (v := 9) (by decide +kernel)
theorem dX8_stretch_88 : decode cX8_stretch 88 = .ok (.lload 7, 2) := dc_22 (a := 7) (by decide +kernel)
theorem dX8_stretch_90 : decode cX8_stretch 90 = .ok (.lneg, 1) := dc_117 (by decide +kernel)
theorem dX8_stretch_91 : decode cX8_stretch 91 = .ok (.goto 5, 3) := dc_167 (a := 0) (b := 5) (v := 5) (by decide +kernel)
theorem dX8_stretch_94 : decode cX8_stretch 94 = .ok (.lload 7, 2) := dc_22 (a := 7) (by decide +kernel)
theorem dX8_stretch_96 : decode cX8_stretch 96 = .ok (.invokevirtual 476, 3) := dc_182 (a := 1) (b := 220) (n := 476) (by decide +kernel)
theorem dX8_stretch_99 : decode cX8_stretch 99 = .ok (.invokevirtual 483, 3) := dc_182 (a := 1) (b := 227) (n := 483) (by decide +kernel)
theorem dX8_stretch_102 : decode cX8_stretch 102 = .ok (.ireturn, 1) := dc_172 (by decide +kernel)
theorem dX8_stretch_103 : decode cX8_stretch 103 = .ok (.iconst 1, 1) := dc_4 (by decide +kernel)
theorem dX8_stretch_104 : decode cX8_stretch 104 = .ok (.istore 7, 2) := dc_54 (a := 7) (by decide +kernel)
theorem dX8_stretch_106 : decode cX8_stretch 106 = .ok (.iload 7, 2) := dc_21 (a := 7) (by decide +kernel)
theorem dX8_stretch_108 : decode cX8_stretch 108 = .ok (.iconst 3, 1) := dc_6 (by decide +kernel)
theorem dX8_stretch_109 : decode cX8_stretch 109 = .ok (.if_icmp .ge 19, 3) := dc_162 (a := 0) (b := 19) (v := 19) (by decide +kernel)
theorem dX8_stretch_112 : decode cX8_stretch 112 = .ok (.aload_n 0, 1) := dc_42 (by decide +kernel)
theorem dX8_stretch_113 : decode cX8_stretch 113 = .ok (.ldc_w 488, 3) := dc_19 (a := 1) (b := 232) (n := 488) (by decide +kernel)
theorem dX8_stretch_116 : decode cX8_stretch 116 = .ok (.invokevirtual 419, 3) := dc_182 (a := 1) (b := 163) (n := 419) (by decide +kernel)
theorem dX8_stretch_119 : decode cX8_stretch 119 = .ok (.ifCond .eq 9, 3) := dc_153 (a := 0) (b := 9) (v := 9) (by decide +kernel)
theorem dX8_stretch_122 : decode cX8_stretch 122 = .ok (.iinc 7 1, 3) := dc_132 (a := 7) (b := 1) (v := 1) (by decide +kernel)
theorem dX8_stretch_125 : decode cX8_stretch 125 = .ok (.goto (-19), 3) := dc_167 (a := 255) (b := 237) (v := -19) (by decide +kernel)
theorem dX8_stretch_128 : decode cX8_stretch 128 = .ok (.aload_n 0, 1) := dc_42 (by decide +kernel)
theorem dX8_stretch_129 : decode cX8_stretch 129 = .ok (.invokevirtual 456, 3) := dc_182 (a := 1) (b := 200) (n := 456) (by decide +kernel)
theorem dX8_stretch_132 : decode cX8_stretch 132 = .ok (.aload_n 0, 1) := dc_42 (by decide +kernel)
theorem dX8_stretch_133 : decode cX8_stretch 133 = .ok (.ldc2_w 490, 3) := dc_20 (a := 1) (b := 234) (n := 490) (by decide +kernel)
theorem dX8_stretch_136 : decode cX8_stretch 136 = .ok (.lload_n 3, 1) := dc_33 (by decide +kernel)
theorem dX8_stretch_137 : decode cX8_stretch 137 = .ok (.lload 5, 2) := dc_22 (a := 5) (by decide +kernel)
theorem dX8_stretch_139 : decode cX8_stretch 139 = .ok (.invokevirtual 407, 3) := dc_182 (a := 1) (b := 151) (n := 407) (by decide +kernel)
theorem dX8_stretch_142 : decode cX8_stretch 142 = .ok (.aload_n 0, 1) := dc_42 (by decide +kernel)
theorem dX8_stretch_143 : decode cX8_stretch 143 = .ok (.iload 7, 2) := dc_21 (a := 7) (by decide +kernel)
theorem dX8_stretch_145 : decode cX8_stretch 145 = .ok (.putfield 480, 3) := dc_181 (a := 1) (b := 224) (n := 480) (by decide +kernel)
theorem dX8_stretch_148 : decode cX8_stretch 148 = .ok (.lload_n 3, 1) := dc_33 (by decide +kernel)
theorem dX8_stretch_149 : decode cX8_stretch 149 = .ok (.ldc2_w 415, 3) := dc_20 (a := 1) (b := 159) (n := 415) (by decide +kernel)
theorem dX8_stretch_152 : decode cX8_stretch 152 = .ok (.lload 5, 2) := dc_22 (a := 5) (by decide +kernel)
theorem dX8_stretch_154 : decode cX8_stretch 154 = .ok (.invokestatic 411, 3) := dc_184 (a := 1) (b := 155) (n := 411) (by decide +kernel)
theorem dX8_stretch_157 : decode cX8_stretch 157 = .ok (.lstore 8, 2) := dc_55 (a := 8) (by decide +kernel)
theorem dX8_stretch_159 : decode cX8_stretch 159 = .ok (.aload_n 0, 1) := dc_42 (by decide +kernel)
theorem dX8_stretch_160 : decode cX8_stretch 160 = .ok (.aload_n 0, 1) := dc_42 (by decide +kernel)
theorem dX8_stretch_161 : decode cX8_stretch 161 = .ok (.iload_n 2, 1) := dc_28 (by decide +kernel)
theorem dX8_stretch_162 : decode cX8_stretch 162 = .ok (.ifCond .eq 9, 3) := dc_153 (a := 0) (b := 9) (v := 9) (by decide +kernel)
theorem dX8_stretch_165 : decode cX8_stretch 165 = .ok (.lload 8, 2) := dc_22 (a := 8) (by decide +kernel)
theorem dX8_stretch_167 : decode cX8_stretch 167 = .ok (.lneg, 1) := dc_117 (by decide +kernel)
theorem dX8_stretch_168 : decode cX8_stretch 168 = .ok (.goto 5, 3) := dc_167 (a := 0) (b := 5) (v := 5) (by decide +kernel)
theorem dX8_stretch_171 : decode cX8_stretch 171 = .ok (.lload 8, 2) := dc_22 (a := 8) (by decide +kernel)
theorem dX8_stretch_173 : decode cX8_stretch 173 = .ok (.invokevirtual 476, 3) := dc_182 (a := 1) (b := 220) (n := 476) (by decide +kernel)
theorem dX8_stretch_176 : decode cX8_stretch 176 = .ok (.invokevirtual 483, 3) := dc_182 (a := 1) (b := 227) (n := 483) (by decide +kernel)
theorem dX8_stretch_179 : decode cX8_stretch 179 = .ok (.ireturn, 1) := dc_172 (by decide +kernel)
theorem SX8_480 {w : eW} {d : Nat} {Y : eY} {pc : Nat} {ls : eL} {st : List Value} {h : eH} {Q : eO → eH → Prop} {a : Nat} {h' : eH} {x : Int32} (hf : p_V 7 h a 28 (.int x) = some h') (hd : decode Y.2.1 pc = .ok (.putfield 480, 3)) (hY : Y.1.cls = RX8) (kk : wp w d Y (pc + 3) ls st h' Q) : wp w d Y pc ls (.int x :: .ref a :: st) h Q := x_pI (ci := 7) (k := 28) hf hd rfl (by decide) (by rw [hY]; exact q866) rfl rfl kk
def fX8_stretch_b96 (N : Nat) (rE : Nat → Int32 → eH → Option ((Unit ⊕ Nat) × eH)) (rN : Nat → eH → Option ((Int32 ⊕ Nat) × eH)) (s0 : Nat) (s1 : Nat) (s2 : Int64) (h : eH) : Option ((Int32 ⊕ Nat) × eH) :=
  (k_ok 7 h s1).bind fun _ =>
  t_B (fX8_size s1 s2 h) fun x2 h3 =>
  (k_ok 7 h3 s0).bind fun _ =>
  t_B (fX8_more s0 x2 h3) fun x5 h6 =>
  some (.inl x5, h6)
theorem pX8_stretch_b96 {w : eW} {d : Nat} {dr : Nat} (hd : dr + 17 ≤ d + 1) (hdr : 12 ≤ dr) {N : Nat} {rE : Nat → Int32 → eH → Option ((Unit ⊕ Nat) × eH)} {rN : Nat → eH → Option ((Int32 ⊕ Nat) × eH)} (hrE : ∀ a t0 h q, rE a t0 h = some q → wm w dr YX8_expand [.ref a, .int t0] h (e_is (e_rt c_V q))) (hrN : ∀ a h q, rN a h = some q → wm w dr YX8_number [.ref a] h (e_is (e_rt c_I q))) {s0 : Nat} {s1 : Nat} {s2 : Int64} {h : eH} {q} (hf : fX8_stretch_b96 N rE rN s0 s1 s2 h = some q) : wp w (d + 1) YX8_stretch 96 [none, none, none, none, none, none, none, none, none, none] [.long s2, .ref s1, .ref s0] h (e_is (e_rt c_I q)) := by
  unfold fX8_stretch_b96 at hf
  obtain ⟨_, b1, hf⟩ := Option.bind_eq_some_iff.mp hf
  refine x_ctI hf (e_stV (Yc := YX8_size) (ci := 7) (av := [.long s2]) (st := [.ref s0]) dX8_stretch_96 q2778 mX8_size rfl (k_ok_some b1).1 (k_ok_some b1).2) mX8_size.2.2.1 mX8_size.2.2.2.2.1 (Nat.le_of_ble_eq_true rfl) (Nat.le_of_ble_eq_true rfl) rfl (fun q hq => pX8_size (by omega) hq) (fun x2 h3 hf => ?_)
  obtain ⟨_, b4, hf⟩ := Option.bind_eq_some_iff.mp hf
  refine x_ctI hf (e_stV (Yc := YX8_more) (ci := 7) (av := [.int x2]) (st := []) dX8_stretch_99 q3972 mX8_more rfl (k_ok_some b4).1 (k_ok_some b4).2) mX8_more.2.2.1 mX8_more.2.2.2.2.1 (Nat.le_of_ble_eq_true rfl) (Nat.le_of_ble_eq_true rfl) rfl (fun q hq => pX8_more (by omega) hq) (fun x5 h6 hf => ?_)
  cases hf
  exact w_iret dX8_stretch_102 rfl rfl rfl
def fX8_stretch_b173 (N : Nat) (rE : Nat → Int32 → eH → Option ((Unit ⊕ Nat) × eH)) (rN : Nat → eH → Option ((Int32 ⊕ Nat) × eH)) (s0 : Nat) (s1 : Nat) (s2 : Int64) (h : eH) : Option ((Int32 ⊕ Nat) × eH) :=
  (k_ok 7 h s1).bind fun _ =>
  t_B (fX8_size s1 s2 h) fun x2 h3 =>
  (k_ok 7 h3 s0).bind fun _ =>
  t_B (fX8_more s0 x2 h3) fun x5 h6 =>
  some (.inl x5, h6)
theorem pX8_stretch_b173 {w : eW} {d : Nat} {dr : Nat} (hd : dr + 17 ≤ d + 1) (hdr : 12 ≤ dr) {N : Nat} {rE : Nat → Int32 → eH → Option ((Unit ⊕ Nat) × eH)} {rN : Nat → eH → Option ((Int32 ⊕ Nat) × eH)} (hrE : ∀ a t0 h q, rE a t0 h = some q → wm w dr YX8_expand [.ref a, .int t0] h (e_is (e_rt c_V q))) (hrN : ∀ a h q, rN a h = some q → wm w dr YX8_number [.ref a] h (e_is (e_rt c_I q))) {s0 : Nat} {s1 : Nat} {s2 : Int64} {h : eH} {q} (hf : fX8_stretch_b173 N rE rN s0 s1 s2 h = some q) : wp w (d + 1) YX8_stretch 173 [none, none, none, none, none, none, none, none, none, none] [.long s2, .ref s1, .ref s0] h (e_is (e_rt c_I q)) := by
  unfold fX8_stretch_b173 at hf
  obtain ⟨_, b1, hf⟩ := Option.bind_eq_some_iff.mp hf
  refine x_ctI hf (e_stV (Yc := YX8_size) (ci := 7) (av := [.long s2]) (st := [.ref s0]) dX8_stretch_173 q2778 mX8_size rfl (k_ok_some b1).1 (k_ok_some b1).2) mX8_size.2.2.1 mX8_size.2.2.2.2.1 (Nat.le_of_ble_eq_true rfl) (Nat.le_of_ble_eq_true rfl) rfl (fun q hq => pX8_size (by omega) hq) (fun x2 h3 hf => ?_)
  obtain ⟨_, b4, hf⟩ := Option.bind_eq_some_iff.mp hf
  refine x_ctI hf (e_stV (Yc := YX8_more) (ci := 7) (av := [.int x2]) (st := []) dX8_stretch_176 q3972 mX8_more rfl (k_ok_some b4).1 (k_ok_some b4).2) mX8_more.2.2.1 mX8_more.2.2.2.2.1 (Nat.le_of_ble_eq_true rfl) (Nat.le_of_ble_eq_true rfl) rfl (fun q hq => pX8_more (by omega) hq) (fun x5 h6 hf => ?_)
  cases hf
  exact w_iret dX8_stretch_179 rfl rfl rfl
def fX8_stretch_b128 (N : Nat) (rE : Nat → Int32 → eH → Option ((Unit ⊕ Nat) × eH)) (rN : Nat → eH → Option ((Int32 ⊕ Nat) × eH)) (l0 : Nat) (l2 : Int32) (l3 : Int64) (l5 : Int64) (l7 : Int32) (h : eH) : Option ((Int32 ⊕ Nat) × eH) :=
  (k_ok 7 h l0).bind fun _ =>
  t_B (fX8_dropSpace N rE l0 h) fun x2 h3 =>
  (k_ok 7 h3 l0).bind fun _ =>
  t_B (fX8_below l0 (16384 : Int64) l3 l5 h3) fun x5 h6 =>
  (p_V 7 h6 l0 28 (.int l7)).bind fun h7 =>
  (fX8_nearest l3 (65536 : Int64) l5 h7).bind fun q9 =>
  if l2 = 0 then
    fX8_stretch_b173 N rE rN l0 l0 q9.1 q9.2
  else
    fX8_stretch_b173 N rE rN l0 l0 (-q9.1) q9.2
theorem pX8_stretch_b128 {w : eW} {d : Nat} {dr : Nat} (hd : dr + 17 ≤ d + 1) (hdr : 12 ≤ dr) {N : Nat} {rE : Nat → Int32 → eH → Option ((Unit ⊕ Nat) × eH)} {rN : Nat → eH → Option ((Int32 ⊕ Nat) × eH)} (hrE : ∀ a t0 h q, rE a t0 h = some q → wm w dr YX8_expand [.ref a, .int t0] h (e_is (e_rt c_V q))) (hrN : ∀ a h q, rN a h = some q → wm w dr YX8_number [.ref a] h (e_is (e_rt c_I q))) {l0 : Nat} {l2 : Int32} {l3 : Int64} {l5 : Int64} {l7 : Int32} {h : eH} {q} (hf : fX8_stretch_b128 N rE rN l0 l2 l3 l5 l7 h = some q) : wp w (d + 1) YX8_stretch 128 [some (.ref l0), none, some (.int l2), some (.long l3), none, some (.long l5), none, some (.int l7), none, none] [] h (e_is (e_rt c_I q)) := by
  unfold fX8_stretch_b128 at hf
  refine w_aload_n dX8_stretch_128 rfl rfl ?_
  obtain ⟨_, b1, hf⟩ := Option.bind_eq_some_iff.mp hf
  refine x_ctV hf (e_stV (Yc := YX8_dropSpace) (ci := 7) (av := []) (st := []) dX8_stretch_129 q2774 mX8_dropSpace rfl (k_ok_some b1).1 (k_ok_some b1).2) mX8_dropSpace.2.2.1 mX8_dropSpace.2.2.2.2.1 (Nat.le_of_ble_eq_true rfl) (Nat.le_of_ble_eq_true rfl) rfl (fun q hq => pX8_dropSpace (by omega) hdr hrE hq) (fun x2 h3 hf => ?_)
  refine w_aload_n dX8_stretch_132 rfl rfl ?_
  refine w_ldc2 dX8_stretch_133 q3978 ?_
  refine w_lload_n dX8_stretch_136 rfl rfl ?_
  refine w_lload dX8_stretch_137 rfl ?_
  obtain ⟨_, b4, hf⟩ := Option.bind_eq_some_iff.mp hf
  refine x_ctV hf (e_stV (Yc := YX8_below) (ci := 7) (av := [.long (16384 : Int64), .long l3, .long l5]) (st := []) dX8_stretch_139 q2734 mX8_below rfl (k_ok_some b4).1 (k_ok_some b4).2) mX8_below.2.2.1 mX8_below.2.2.2.2.1 (Nat.le_of_ble_eq_true rfl) (Nat.le_of_ble_eq_true rfl) rfl (fun q hq => pX8_below (by omega) hq) (fun x5 h6 hf => ?_)
  refine w_aload_n dX8_stretch_142 rfl rfl ?_
  refine w_iload dX8_stretch_143 rfl ?_
  obtain ⟨h7, b8, hf⟩ := Option.bind_eq_some_iff.mp hf
  refine SX8_480 b8 dX8_stretch_145 rfl ?_
  refine w_lload_n dX8_stretch_148 rfl rfl ?_
  refine w_ldc2 dX8_stretch_149 q2741 ?_
  refine w_lload dX8_stretch_152 rfl ?_
  refine x_cnJ hf (e_stS (Yc := YX8_nearest) (av := [.long l3, .long (65536 : Int64), .long l5]) (st := []) dX8_stretch_154 q2738 mX8_nearest) mX8_nearest.2.2.1 mX8_nearest.2.2.2.2.1 (Nat.le_of_ble_eq_true rfl) (Nat.le_of_ble_eq_true rfl) (fun q hq => pX8_nearest (by omega) hq) (fun q9 hf => ?_)
  refine w_lstore dX8_stretch_157 (by decide) (ls' := [some (.ref l0), none, some (.int l2), some (.long l3), none, some (.long l5), none, some (.int l7), some (.long q9.1), none]) rfl ?_
  refine w_aload_n dX8_stretch_159 rfl rfl ?_
  refine w_aload_n dX8_stretch_160 rfl rfl ?_
  refine w_iload_n dX8_stretch_161 rfl rfl ?_
  refine w_if_eq 171 dX8_stretch_162 (by decide) (fun c10 => ?_) (fun c10 => ?_)
  · replace hf := (if_pos (show l2 = 0 from c10)).symm.trans hf
    refine w_lload dX8_stretch_171 rfl ?_
    exact (pX8_stretch_b173 hd hdr hrE hrN hf).to trivial
  · replace hf := (if_neg (show ¬ (l2 = 0) from c10)).symm.trans hf
    refine w_lload dX8_stretch_165 rfl ?_
    refine w_lneg dX8_stretch_167 ?_
    refine w_goto 173 dX8_stretch_168 (by decide) ?_
    exact (pX8_stretch_b173 hd hdr hrE hrN hf).to trivial
def fX8_stretch_b106 (N : Nat) (rE : Nat → Int32 → eH → Option ((Unit ⊕ Nat) × eH)) (rN : Nat → eH → Option ((Int32 ⊕ Nat) × eH)) : Nat → Nat → Int32 → Int64 → Int64 → Int32 → eH → Option ((Int32 ⊕ Nat) × eH)
  | 0, _, _, _, _, _, _ => none
  | n + 1, l0, l2, l3, l5, l7, h =>
    if (3 : Int32) ≤ l7 then
      fX8_stretch_b128 N rE rN l0 l2 l3 l5 l7 h
    else
      (k_ok 7 h l0).bind fun _ =>
      t_B (fX8_keyword N rE l0 1000000115 h) fun x3 h4 =>
      if x3 = 0 then
        fX8_stretch_b128 N rE rN l0 l2 l3 l5 l7 h4
      else
        fX8_stretch_b106 N rE rN n l0 l2 l3 l5 (l7 + (1 : Int32)) h4
theorem pX8_stretch_b106 {w : eW} {d : Nat} {dr : Nat} (hd : dr + 17 ≤ d + 1) (hdr : 12 ≤ dr) {N : Nat} {rE : Nat → Int32 → eH → Option ((Unit ⊕ Nat) × eH)} {rN : Nat → eH → Option ((Int32 ⊕ Nat) × eH)} (hrE : ∀ a t0 h q, rE a t0 h = some q → wm w dr YX8_expand [.ref a, .int t0] h (e_is (e_rt c_V q))) (hrN : ∀ a h q, rN a h = some q → wm w dr YX8_number [.ref a] h (e_is (e_rt c_I q))) : ∀ (n : Nat) l0 l2 l3 l5 l7 h q, fX8_stretch_b106 N rE rN n l0 l2 l3 l5 l7 h = some q → wp w (d + 1) YX8_stretch 106 [some (.ref l0), none, some (.int l2), some (.long l3), none, some (.long l5), none, some (.int l7), none, none] [] h (e_is (e_rt c_I q)) := by
  intro n
  induction n with
  | zero => intro l0 l2 l3 l5 l7 h q hf; simp [fX8_stretch_b106] at hf
  | succ n ih =>
    intro l0 l2 l3 l5 l7 h q hf
    rw [fX8_stretch_b106] at hf
    refine w_iload dX8_stretch_106 rfl ?_
    refine w_iconst dX8_stretch_108 (v := 3) (by decide) ?_
    refine w_icmp_ge 128 dX8_stretch_109 (by decide) (fun c1 => ?_) (fun c1 => ?_)
    · replace hf := (if_pos (show (3 : Int32) ≤ l7 from c1)).symm.trans hf
      exact (pX8_stretch_b128 hd hdr hrE hrN hf).to ⟨rfl, rfl, rfl, rfl, rfl, trivial⟩
    · replace hf := (if_neg (show ¬ ((3 : Int32) ≤ l7) from c1)).symm.trans hf
      refine w_aload_n dX8_stretch_112 rfl rfl ?_
      refine x_ldcSw (k := 15) dX8_stretch_113 rfl ?_
      obtain ⟨_, b2, hf⟩ := Option.bind_eq_some_iff.mp hf
      refine x_ctI hf (e_stV (Yc := YX8_keyword) (ci := 7) (av := [.ref 1000000115]) (st := []) dX8_stretch_116 q2743 mX8_keyword rfl (k_ok_some b2).1 (k_ok_some b2).2) mX8_keyword.2.2.1 mX8_keyword.2.2.2.2.1 (Nat.le_of_ble_eq_true rfl) (Nat.le_of_ble_eq_true rfl) rfl (fun q hq => pX8_keyword (by omega) hdr hrE hq) (fun x3 h4 hf => ?_)
      refine w_if_eq 128 dX8_stretch_119 (by decide) (fun c5 => ?_) (fun c5 => ?_)
      · replace hf := (if_pos (show x3 = 0 from c5)).symm.trans hf
        exact (pX8_stretch_b128 hd hdr hrE hrN hf).to ⟨rfl, rfl, rfl, rfl, rfl, trivial⟩
      · replace hf := (if_neg (show ¬ (x3 = 0) from c5)).symm.trans hf
        refine w_iinc dX8_stretch_122 (v := (l7 + (1 : Int32))) rfl rfl (by decide) (ls' := [some (.ref l0), none, some (.int l2), some (.long l3), none, some (.long l5), none, some (.int (l7 + (1 : Int32))), none, none]) rfl ?_
        refine w_goto 106 dX8_stretch_125 (by decide) ?_
        exact (ih _ _ _ _ _ _ _ hf).to ⟨rfl, rfl, rfl, rfl, rfl, trivial⟩
def fX8_stretch (N : Nat) (rE : Nat → Int32 → eH → Option ((Unit ⊕ Nat) × eH)) (rN : Nat → eH → Option ((Int32 ⊕ Nat) × eH)) (this : Nat) (h : eH) : Option ((Int32 ⊕ Nat) × eH) :=
  (k_ok 7 h this).bind fun _ =>
  t_B (fX8_signed N rE this h) fun x2 h3 =>
  (g_I 7 h3 this 27).bind fun x4 =>
  (p_V 7 h3 this 28 (.int (0 : Int32))).bind fun h6 =>
  (k_ok 7 h6 this).bind fun _ =>
  (fX8_isSized this x2 h6).bind fun q9 =>
  if q9.1 = 0 then
    (k_ok 7 q9.2 this).bind fun _ =>
    t_B (fX8_factor N rE rN this x2 q9.2) fun x12 h13 =>
    (g_J 7 h13 this 25).bind fun x14 =>
    (g_J 7 h13 this 26).bind fun x16 =>
    (k_ok 7 h13 this).bind fun _ =>
    t_B (fX8_keyword N rE this 1000000114 h13) fun x19 h20 =>
    if ¬ x19 = 0 then
      fX8_stretch_b106 N rE rN N this x4 x14 x16 (1 : Int32) h20
    else
      (p_V 7 h20 this 25 (.long x14)).bind fun h22 =>
      (p_V 7 h22 this 26 (.long x16)).bind fun h24 =>
      (k_ok 7 h24 this).bind fun _ =>
      t_B (fX8_united N rE rN this h24) fun x27 h28 =>
      (p_V 7 h28 this 28 (.int (0 : Int32))).bind fun h29 =>
      if x4 = 0 then
        fX8_stretch_b96 N rE rN this this x27 h29
      else
        fX8_stretch_b96 N rE rN this this (-x27) h29
  else
    (k_ok 7 q9.2 this).bind fun _ =>
    t_B (fX8_dimension_2 N rE rN this x2 x4 q9.2) fun x33 h34 =>
    (k_ok 7 h34 this).bind fun _ =>
    t_B (fX8_more this x33 h34) fun x36 h37 =>
    some (.inl x36, h37)
theorem pX8_stretch {w : eW} {d : Nat} {dr : Nat} (hd : dr + 17 ≤ d) (hdr : 12 ≤ dr) {N : Nat} {rE : Nat → Int32 → eH → Option ((Unit ⊕ Nat) × eH)} {rN : Nat → eH → Option ((Int32 ⊕ Nat) × eH)} (hrE : ∀ a t0 h q, rE a t0 h = some q → wm w dr YX8_expand [.ref a, .int t0] h (e_is (e_rt c_V q))) (hrN : ∀ a h q, rN a h = some q → wm w dr YX8_number [.ref a] h (e_is (e_rt c_I q))) {this : Nat} {h : eH} {q} (hf : fX8_stretch N rE rN this h = some q) : wm w d YX8_stretch [.ref this] h (e_is (e_rt c_I q)) := by
  obtain ⟨d, rfl⟩ : ∃ e, d = e + 1 := ⟨d - 1, by omega⟩
  show wp w (d + 1) YX8_stretch 0 [some (.ref this), none, none, none, none, none, none, none, none, none] [] h _
  unfold fX8_stretch at hf
  refine w_aload_n dX8_stretch_0 rfl rfl ?_
  obtain ⟨_, b1, hf⟩ := Option.bind_eq_some_iff.mp hf
  refine x_ctI hf (e_stV (Yc := YX8_signed) (ci := 7) (av := []) (st := []) dX8_stretch_1 q2714 mX8_signed rfl (k_ok_some b1).1 (k_ok_some b1).2) mX8_signed.2.2.1 mX8_signed.2.2.2.2.1 (Nat.le_of_ble_eq_true rfl) (Nat.le_of_ble_eq_true rfl) rfl (fun q hq => pX8_signed (by omega) hdr hrE hq) (fun x2 h3 hf => ?_)
  refine w_istore_n dX8_stretch_4 rfl (by decide) (ls' := [some (.ref this), some (.int x2), none, none, none, none, none, none, none, none]) rfl ?_
  refine w_aload_n dX8_stretch_5 rfl rfl ?_
  obtain ⟨x4, b5, hf⟩ := Option.bind_eq_some_iff.mp hf
  refine GX8_459 b5 dX8_stretch_6 rfl ?_
  refine w_istore_n dX8_stretch_9 rfl (by decide) (ls' := [some (.ref this), some (.int x2), some (.int x4), none, none, none, none, none, none, none]) rfl ?_
  refine w_aload_n dX8_stretch_10 rfl rfl ?_
  refine w_iconst dX8_stretch_11 (v := 0) (by decide) ?_
  obtain ⟨h6, b7, hf⟩ := Option.bind_eq_some_iff.mp hf
  refine SX8_480 b7 dX8_stretch_12 rfl ?_
  refine w_aload_n dX8_stretch_15 rfl rfl ?_
  refine w_iload_n dX8_stretch_16 rfl rfl ?_
  obtain ⟨_, b8, hf⟩ := Option.bind_eq_some_iff.mp hf
  refine x_cnI hf (e_stV (Yc := YX8_isSized) (ci := 7) (av := [.int x2]) (st := []) dX8_stretch_17 q2615 mX8_isSized rfl (k_ok_some b8).1 (k_ok_some b8).2) mX8_isSized.2.2.1 mX8_isSized.2.2.2.2.1 (Nat.le_of_ble_eq_true rfl) (Nat.le_of_ble_eq_true rfl) (fun q hq => pX8_isSized (by omega) hq) (fun q9 hf => ?_)
  refine w_if_eq 34 dX8_stretch_20 (by decide) (fun c10 => ?_) (fun c10 => ?_)
  · replace hf := (if_pos (show q9.1 = 0 from c10)).symm.trans hf
    refine w_aload_n dX8_stretch_34 rfl rfl ?_
    refine w_iload_n dX8_stretch_35 rfl rfl ?_
    obtain ⟨_, b11, hf⟩ := Option.bind_eq_some_iff.mp hf
    refine x_ctV hf (e_stV (Yc := YX8_factor) (ci := 7) (av := [.int x2]) (st := []) dX8_stretch_36 q2722 mX8_factor rfl (k_ok_some b11).1 (k_ok_some b11).2) mX8_factor.2.2.1 mX8_factor.2.2.2.2.1 (Nat.le_of_ble_eq_true rfl) (Nat.le_of_ble_eq_true rfl) rfl (fun q hq => pX8_factor (by omega) hdr hrE hrN hq) (fun x12 h13 hf => ?_)
    refine w_aload_n dX8_stretch_39 rfl rfl ?_
    obtain ⟨x14, b15, hf⟩ := Option.bind_eq_some_iff.mp hf
    refine GX8_389 b15 dX8_stretch_40 rfl ?_
    refine w_lstore_n dX8_stretch_43 rfl (by decide) (ls' := [some (.ref this), some (.int x2), some (.int x4), some (.long x14), none, none, none, none, none, none]) rfl ?_
    refine w_aload_n dX8_stretch_44 rfl rfl ?_
    obtain ⟨x16, b17, hf⟩ := Option.bind_eq_some_iff.mp hf
    refine GX8_393 b17 dX8_stretch_45 rfl ?_
    refine w_lstore dX8_stretch_48 (by decide) (ls' := [some (.ref this), some (.int x2), some (.int x4), some (.long x14), none, some (.long x16), none, none, none, none]) rfl ?_
    refine w_aload_n dX8_stretch_50 rfl rfl ?_
    refine x_ldcSw (k := 14) dX8_stretch_51 rfl ?_
    obtain ⟨_, b18, hf⟩ := Option.bind_eq_some_iff.mp hf
    refine x_ctI hf (e_stV (Yc := YX8_keyword) (ci := 7) (av := [.ref 1000000114]) (st := []) dX8_stretch_54 q2743 mX8_keyword rfl (k_ok_some b18).1 (k_ok_some b18).2) mX8_keyword.2.2.1 mX8_keyword.2.2.2.2.1 (Nat.le_of_ble_eq_true rfl) (Nat.le_of_ble_eq_true rfl) rfl (fun q hq => pX8_keyword (by omega) hdr hrE hq) (fun x19 h20 hf => ?_)
    refine w_if_ne 103 dX8_stretch_57 (by decide) (fun c21 => ?_) (fun c21 => ?_)
    · replace hf := (if_pos (show ¬ x19 = 0 from c21)).symm.trans hf
      refine w_iconst dX8_stretch_103 (v := 1) (by decide) ?_
      refine w_istore dX8_stretch_104 (by decide) (ls' := [some (.ref this), some (.int x2), some (.int x4), some (.long x14), none, some (.long x16), none, some (.int (1 : Int32)), none, none]) rfl ?_
      exact (pX8_stretch_b106 hd hdr hrE hrN N _ _ _ _ _ _ _ hf).to ⟨rfl, rfl, rfl, rfl, rfl, trivial⟩
    · replace hf := (if_neg (show ¬ (¬ x19 = 0) from (fun z => z c21))).symm.trans hf
      refine w_aload_n dX8_stretch_60 rfl rfl ?_
      refine w_lload_n dX8_stretch_61 rfl rfl ?_
      obtain ⟨h22, b23, hf⟩ := Option.bind_eq_some_iff.mp hf
      refine SX8_389 b23 dX8_stretch_62 rfl ?_
      refine w_aload_n dX8_stretch_65 rfl rfl ?_
      refine w_lload dX8_stretch_66 rfl ?_
      obtain ⟨h24, b25, hf⟩ := Option.bind_eq_some_iff.mp hf
      refine SX8_393 b25 dX8_stretch_68 rfl ?_
      refine w_aload_n dX8_stretch_71 rfl rfl ?_
      obtain ⟨_, b26, hf⟩ := Option.bind_eq_some_iff.mp hf
      refine x_ctJ hf (e_stV (Yc := YX8_united) (ci := 7) (av := []) (st := []) dX8_stretch_72 q2729 mX8_united rfl (k_ok_some b26).1 (k_ok_some b26).2) mX8_united.2.2.1 mX8_united.2.2.2.2.1 (Nat.le_of_ble_eq_true rfl) (Nat.le_of_ble_eq_true rfl) rfl (fun q hq => pX8_united (by omega) hdr hrE hrN hq) (fun x27 h28 hf => ?_)
      refine w_lstore dX8_stretch_75 (by decide) (ls' := [some (.ref this), some (.int x2), some (.int x4), some (.long x14), none, some (.long x16), none, some (.long x27), none, none]) rfl ?_
      refine w_aload_n dX8_stretch_77 rfl rfl ?_
      refine w_iconst dX8_stretch_78 (v := 0) (by decide) ?_
      obtain ⟨h29, b30, hf⟩ := Option.bind_eq_some_iff.mp hf
      refine SX8_480 b30 dX8_stretch_79 rfl ?_
      refine w_aload_n dX8_stretch_82 rfl rfl ?_
      refine w_aload_n dX8_stretch_83 rfl rfl ?_
      refine w_iload_n dX8_stretch_84 rfl rfl ?_
      refine w_if_eq 94 dX8_stretch_85 (by decide) (fun c31 => ?_) (fun c31 => ?_)
      · replace hf := (if_pos (show x4 = 0 from c31)).symm.trans hf
        refine w_lload dX8_stretch_94 rfl ?_
        exact (pX8_stretch_b96 hd hdr hrE hrN hf).to trivial
      · replace hf := (if_neg (show ¬ (x4 = 0) from c31)).symm.trans hf
        refine w_lload dX8_stretch_88 rfl ?_
        refine w_lneg dX8_stretch_90 ?_
        refine w_goto 96 dX8_stretch_91 (by decide) ?_
        exact (pX8_stretch_b96 hd hdr hrE hrN hf).to trivial
  · replace hf := (if_neg (show ¬ (q9.1 = 0) from c10)).symm.trans hf
    refine w_aload_n dX8_stretch_23 rfl rfl ?_
    refine w_aload_n dX8_stretch_24 rfl rfl ?_
    refine w_iload_n dX8_stretch_25 rfl rfl ?_
    refine w_iload_n dX8_stretch_26 rfl rfl ?_
    obtain ⟨_, b32, hf⟩ := Option.bind_eq_some_iff.mp hf
    refine x_ctI hf (e_stV (Yc := YX8_dimension_2) (ci := 7) (av := [.int x2, .int x4]) (st := [.ref this]) dX8_stretch_27 q2718 mX8_dimension_2 rfl (k_ok_some b32).1 (k_ok_some b32).2) mX8_dimension_2.2.2.1 mX8_dimension_2.2.2.2.2.1 (Nat.le_of_ble_eq_true rfl) (Nat.le_of_ble_eq_true rfl) rfl (fun q hq => pX8_dimension_2 (by omega) hdr hrE hrN hq) (fun x33 h34 hf => ?_)
    obtain ⟨_, b35, hf⟩ := Option.bind_eq_some_iff.mp hf
    refine x_ctI hf (e_stV (Yc := YX8_more) (ci := 7) (av := [.int x33]) (st := []) dX8_stretch_30 q3972 mX8_more rfl (k_ok_some b35).1 (k_ok_some b35).2) mX8_more.2.2.1 mX8_more.2.2.2.2.1 (Nat.le_of_ble_eq_true rfl) (Nat.le_of_ble_eq_true rfl) rfl (fun q hq => pX8_more (by omega) hq) (fun x36 h37 hf => ?_)
    cases hf
    exact w_iret dX8_stretch_33 rfl rfl rfl
